set_option maxHeartbeats 400000 in
theorem t_rnum (l : Launch) (E : y_E) (G : y_G) (σ : y_S) (sz : Nat) (ρ : y_S) (most : Int) (hL : lgV ρ G σ) (hA9 : 0 ≤ σ 26 1 ∧ σ 26 1 ≤ 900) (hmr : 0 ≤ most ∧ most ≤ 1000) (hF : ∀ t : Nat, 90 ≤ t → t < 100 → G.1 t = none) (hN : rNu ρ (σ 26 1) most = none) : gCtB l yX7_number cX7_number 4 (some .int) ({ frames := 6, cells := 1, slots := 8, locals := 150 }) E [.ref (G.2.2 26), .int (jI most)] G σ sz (fun _ _ _ => False) (thW G σ 1 (rNp ρ (σ 26 1) most)) 1 8 := by
  refine g_metB (by decide) (Nat.le_of_ble_eq_true rfl) ?_
  intro p e s m below meth c ls CF het hr hlocks hnm hK hM0 hA hl
  have hx := CF.1
  have hb := CF.2.1
  have hts := CF.2.2.2.2
  have hl : lv_has ls 4 [(0, .ref (G.2.2 26)), (1, .int (jI most))] := hl
  have hO := hL.1
  have hn := hO.n
  have htp := hO.tp
  have hr1 := nxR_r ρ (σ 26 1 + 1)
  have hr2 := nxR_r ρ (σ 26 1 + 1 + 1)
  have hz2 : nxR ρ (σ 26 1 + 2) = nxR ρ (σ 26 1 + 1 + 1) := (by rw [show σ 26 1 + 2 = σ 26 1 + 1 + 1 by omega])
  rcases rNu_n hN with ⟨c1, e1⟩ | ⟨c1, c2, e1⟩ | ⟨c1, c2, c3, e1⟩ | ⟨c1, c2, c3, c4, c5, c6, e1⟩
  · refine lv_aload_n hx hb dX7_number_0 rfl (lv_at hl 0 rfl) ?_
    refine lv_bipush (v := jI 32) hx hb dX7_number_1 (by decide) ?_
    refine W.widen (k := 1 - (1)) (n := 8 - (8)) (show 0 ≤ 1 - (1) by omega) (show 0 ≤ 8 - (8) by omega) ?_
    exact g_upT (g_passE (by omega) (by omega) het hlocks hM0 hA (g_runVT (As := [.int (jI 32)]) (rest := []) CF (t_rsign l E G σ _ ρ 32 hL (by omega) (by decide) c1) (cwV 1 hts (lw_V q706 q708 qs19 q67 q709) rfl rfl rfl (by decide +kernel) ⟨(show 4 + 1 ≤ 6 by omega), (show 8 + (2 + 11) + (94) ≤ 150 by omega)⟩) ⟨gP_blind, g_recv hK hM0 (hL.2.1.1 26 _ rfl) rfl, (g_pre hK hM0).2⟩ rfl rfl hl.1 rfl (lv_room (Nat.le_of_ble_eq_true rfl)) dX7_number_3 ⟨(show 1 - (1) + (1) ≤ 1 by omega), (show 8 - (8) + (8) ≤ 8 by omega)⟩) (fun x G' τ' q => (by rw [e1]; exact q)))
  · unfold dgR at c2
    refine lv_aload_n hx hb dX7_number_0 rfl (lv_at hl 0 rfl) ?_
    refine lv_bipush (v := jI 32) hx hb dX7_number_1 (by decide) ?_
    refine g_callv hM0 hA (g_runV (As := [.int (jI 32)]) (rest := []) CF hK hM0 (hL.2.1.1 26 _ rfl) rfl (l_rsign l E _ _ _ ρ 32 hL (by omega) (by first | omega | assumption | (refine ⟨?_, ?_⟩ <;> omega)) c1) (cwV 1 hts (lw_V q706 q708 qs19 q67 q709) rfl rfl rfl (by decide +kernel) ⟨(show 1 + 1 ≤ 6 by omega), (show 8 + (2 + 11) + (20) ≤ 150 by omega)⟩) rfl hl.1 rfl (Nat.le_of_ble_eq_true rfl) dX7_number_3 ⟨(show 0 + 0 ≤ 1 by omega), (show 0 + 0 ≤ 8 by omega)⟩) (fun H locs hM1 => ?_)
    have hL1 : lgV ρ G (up2 σ 26 1 (σ 26 1 + 1)) := hL.i26
    refine lv_aload_n hx hb dX7_number_6 rfl (lv_at hl 0 rfl) ?_
    refine g_calli (r := (if 48 ≤ nxR ρ ((up2 σ 26 1 (σ 26 1 + 1)) 26 1) ∧ nxR ρ ((up2 σ 26 1 (σ 26 1 + 1)) 26 1) ≤ 57 then 1 else 0)) hM1 hA (g_runV (As := []) (rest := []) CF hK hM1 (hL1.2.1.1 26 _ rfl) rfl (l_rdigit l E _ _ _ ρ  hL1 (show 0 ≤ σ 26 1 + 1 ∧ σ 26 1 + 1 ≤ 1000 by omega)) (cwV 0 hts (lw_V q734 q736 qs21 q67 q737) rfl rfl rfl (by decide +kernel) ⟨(show 1 + 1 ≤ 6 by omega), (show 8 + (1 + 11) + (20) ≤ 150 by omega)⟩) rfl hl.1 rfl (Nat.le_of_ble_eq_true rfl) dX7_number_7 ⟨(show 0 + 0 ≤ 1 by omega), (show 0 + 0 ≤ 8 by omega)⟩) (fun H locs hM2 => ?_)
    refine x_top (b := (if 48 ≤ nxR ρ (σ 26 1 + 1) ∧ nxR ρ (σ 26 1 + 1) ≤ 57 then 1 else 0)) rfl ?_
    refine x_bif_ne (tgt := 26) hx hb dX7_number_10 (by decide) (fun b10 => ?_) (fun b10 => ?_)
    · exfalso; omega
    · refine g_new CF hK hM2 hA 98 (hF 98 (by decide) (by decide)) (ci := 9) rfl rfl q631 q632 q80 (show 0 + 1 ≤ 1 by omega) (show 0 + 8 ≤ 8 by omega) dX7_number_13 (fun H a98 hM3 => ?_)
      refine lv_dup hx hb dX7_number_16 rfl ?_
      refine lv_iconst (v := jI 1) hx hb dX7_number_17 rfl ?_
      refine lv_aload_n hx hb dX7_number_18 rfl (lv_at hl 0 rfl) ?_
      refine g_geti CF hK hM3 26 (hL1.2.1.1 26 _ rfl) 1 1 rfl rfl (by decide) (Or.inl (hts _ q197)) (fun _ h => h) rfl dX7_number_19 ?_
      refine x_top (b := σ 26 1 + 1) rfl ?_
      refine g_callv hM3 hA (g_runI (As := [.int (jI 1), .int (jI (σ 26 1 + 1))]) (rest := [.ref a98]) CF hK hM3 (l_wrong l E _ _ _ 98 1 (σ 26 1 + 1) rfl (by decide) (by have f0 := (show R32 (σ 26 1 + 1) from hM3.r 26 1); first | omega | assumption | (refine ⟨?_, ?_⟩ <;> omega)) (by have f0 := (show R32 (σ 26 1 + 1) from hM3.r 26 1); first | omega | assumption | (refine ⟨?_, ?_⟩ <;> omega))) (cwI 2 hts (lw_meth q670) rfl rfl rfl (hts _ q80) (hts _ q668) (hts _ q669) rfl (by decide +kernel) ⟨(show 3 + 1 ≤ 6 by omega), (show 8 + (3 + 11) + (72) ≤ 150 by omega)⟩) rfl hl.1 rfl (Nat.le_of_ble_eq_true rfl) dX7_number_22 ⟨(show 1 + 0 ≤ 1 by omega), (show 8 + 0 ≤ 8 by omega)⟩) (fun H locs hM4 => ?_)
      exact g_upT (W.widen (show 1 ≤ 1 by omega) (show 8 ≤ 8 by omega) (g_athr CF het hlocks hM4 (by rw [e1]; exact thW_mk (fun t _ _ => ⟨rfl, rfl, fun _ => rfl, fun z => (by first | (rw [up2_n _ _ _ z, up2_n _ _ _ z]; done) | rw [up2_n _ _ _ z])⟩) (by omega)) dX7_number_25))
  · unfold dgR at c2
    refine lv_aload_n hx hb dX7_number_0 rfl (lv_at hl 0 rfl) ?_
    refine lv_bipush (v := jI 32) hx hb dX7_number_1 (by decide) ?_
    refine g_callv hM0 hA (g_runV (As := [.int (jI 32)]) (rest := []) CF hK hM0 (hL.2.1.1 26 _ rfl) rfl (l_rsign l E _ _ _ ρ 32 hL (by omega) (by first | omega | assumption | (refine ⟨?_, ?_⟩ <;> omega)) c1) (cwV 1 hts (lw_V q706 q708 qs19 q67 q709) rfl rfl rfl (by decide +kernel) ⟨(show 1 + 1 ≤ 6 by omega), (show 8 + (2 + 11) + (20) ≤ 150 by omega)⟩) rfl hl.1 rfl (Nat.le_of_ble_eq_true rfl) dX7_number_3 ⟨(show 0 + 0 ≤ 1 by omega), (show 0 + 0 ≤ 8 by omega)⟩) (fun H locs hM5 => ?_)
    have hL1 : lgV ρ G (up2 σ 26 1 (σ 26 1 + 1)) := hL.i26
    refine lv_aload_n hx hb dX7_number_6 rfl (lv_at hl 0 rfl) ?_
    refine g_calli (r := (if 48 ≤ nxR ρ ((up2 σ 26 1 (σ 26 1 + 1)) 26 1) ∧ nxR ρ ((up2 σ 26 1 (σ 26 1 + 1)) 26 1) ≤ 57 then 1 else 0)) hM5 hA (g_runV (As := []) (rest := []) CF hK hM5 (hL1.2.1.1 26 _ rfl) rfl (l_rdigit l E _ _ _ ρ  hL1 (show 0 ≤ σ 26 1 + 1 ∧ σ 26 1 + 1 ≤ 1000 by omega)) (cwV 0 hts (lw_V q734 q736 qs21 q67 q737) rfl rfl rfl (by decide +kernel) ⟨(show 1 + 1 ≤ 6 by omega), (show 8 + (1 + 11) + (20) ≤ 150 by omega)⟩) rfl hl.1 rfl (Nat.le_of_ble_eq_true rfl) dX7_number_7 ⟨(show 0 + 0 ≤ 1 by omega), (show 0 + 0 ≤ 8 by omega)⟩) (fun H locs hM6 => ?_)
    refine x_top (b := (if 48 ≤ nxR ρ (σ 26 1 + 1) ∧ nxR ρ (σ 26 1 + 1) ≤ 57 then 1 else 0)) rfl ?_
    refine x_bif_ne (tgt := 26) hx hb dX7_number_10 (by decide) (fun b10 => ?_) (fun b10 => ?_)
    · refine lv_iconst (v := jI 0) hx hb dX7_number_26 rfl ?_
      refine lv_istore_n (lv' := [(2, .int (jI 0)), (0, .ref (G.2.2 26)), (1, .int (jI most))]) hx hb dX7_number_27 rfl hl (by decide) rfl (fun ls hl => ?_)
      refine lv_iconst (v := jI 0) hx hb dX7_number_28 rfl ?_
      refine lv_istore_n (lv' := [(3, .int (jI 0)), (2, .int (jI 0)), (0, .ref (G.2.2 26)), (1, .int (jI most))]) hx hb dX7_number_29 rfl hl (by decide) rfl (fun ls hl => ?_)
      refine lv_iload_n hx hb dX7_number_30 rfl (lv_at hl 0 rfl) ?_
      refine lv_iconst (v := jI 2) hx hb dX7_number_31 rfl ?_
      refine x_icmp_ge (tgt := 97) hx hb dX7_number_32 (by decide) (by omega) (by omega) (fun b32 => ?_) (fun b32 => ?_)
      · exfalso; omega
      · refine lv_aload_n hx hb dX7_number_35 rfl (lv_at hl 2 rfl) ?_
        refine g_calli (r := (if 48 ≤ nxR ρ ((up2 σ 26 1 (σ 26 1 + 1)) 26 1) ∧ nxR ρ ((up2 σ 26 1 (σ 26 1 + 1)) 26 1) ≤ 57 then 1 else 0)) hM6 hA (g_runV (As := []) (rest := []) CF hK hM6 (hL1.2.1.1 26 _ rfl) rfl (l_rdigit l E _ _ _ ρ  hL1 (by first | (show 0 ≤ σ 26 1 + 1 + 1 ∧ σ 26 1 + 1 + 1 ≤ 1000; omega) | (show 0 ≤ σ 26 1 + 1 ∧ σ 26 1 + 1 ≤ 1000; omega))) (cwV 0 hts (lw_V q734 q736 qs21 q67 q737) rfl rfl rfl (by decide +kernel) ⟨(show 1 + 1 ≤ 6 by omega), (show 8 + (1 + 11) + (20) ≤ 150 by omega)⟩) rfl hl.1 rfl (Nat.le_of_ble_eq_true rfl) dX7_number_36 ⟨(show 0 + 0 ≤ 1 by omega), (show 0 + 0 ≤ 8 by omega)⟩) (fun H locs hM7 => ?_)
        refine x_top (b := (if 48 ≤ nxR ρ (σ 26 1 + 1) ∧ nxR ρ (σ 26 1 + 1) ≤ 57 then 1 else 0)) rfl ?_
        refine x_bif_eq (tgt := 97) hx hb dX7_number_39 (by decide) (fun b39 => ?_) (fun b39 => ?_)
        · exfalso; omega
        · refine lv_iload_n hx hb dX7_number_42 rfl (lv_at hl 0 rfl) ?_
          refine x_if_eq (tgt := 50) hx hb dX7_number_43 (by decide) (by omega) (fun b43 => ?_) (fun b43 => ?_)
          · refine lv_bipush (v := jI 10) hx hb dX7_number_50 (by decide) ?_
            refine lv_iload_n hx hb dX7_number_52 rfl (lv_at hl 1 rfl) ?_
            refine x_imul hx hb dX7_number_53 ?_
            refine lv_aload_n hx hb dX7_number_54 rfl (lv_at hl 2 rfl) ?_
            refine g_calli (r := nxR ρ ((up2 σ 26 1 (σ 26 1 + 1)) 26 1)) hM7 hA (g_runV (As := []) (rest := [.int (jI (10 * 0))]) CF hK hM7 (hL1.2.1.1 26 _ rfl) rfl (l_rnext l E _ _ _ ρ  hL1 (by first | (show 0 ≤ σ 26 1 + 1 + 1 ∧ σ 26 1 + 1 + 1 ≤ 1000; omega) | (show 0 ≤ σ 26 1 + 1 ∧ σ 26 1 + 1 ≤ 1000; omega))) (cwV 0 hts (lw_V q627 q629 qs15 q67 q630) rfl rfl rfl (by decide +kernel) ⟨(show 0 + 1 ≤ 6 by omega), (show 8 + (1 + 11) + (0) ≤ 150 by omega)⟩) rfl hl.1 rfl (Nat.le_of_ble_eq_true rfl) dX7_number_55 ⟨(show 0 + 0 ≤ 1 by omega), (show 0 + 0 ≤ 8 by omega)⟩) (fun H locs hM8 => ?_)
            refine x_top (b := nxR ρ (σ 26 1 + 1)) rfl ?_
            refine x_iadd hx hb dX7_number_58 ?_
            refine lv_bipush (v := jI 48) hx hb dX7_number_59 (by decide) ?_
            refine x_isub hx hb dX7_number_61 ?_
            refine lv_istore_n (lv' := [(2, .int (jI (((10 * 0) + (nxR ρ (σ 26 1 + 1))) - 48))), (3, .int (jI 0)), (0, .ref (G.2.2 26)), (1, .int (jI most))]) hx hb dX7_number_62 rfl hl (by decide) rfl (fun ls hl => ?_)
            refine lv_iload_n hx hb dX7_number_63 rfl (lv_at hl 0 rfl) ?_
            refine lv_iload_n hx hb dX7_number_64 rfl (lv_at hl 3 rfl) ?_
            have fa9 := nxR_r ρ (σ 26 1 + 1)
            refine x_icmp_le (tgt := 81) hx hb dX7_number_65 (by decide) (by have f0 := nxR_r ρ (σ 26 1 + 1); omega) (by omega) (fun b65 => ?_) (fun b65 => ?_)
            · exfalso; omega
            · refine g_new CF hK hM8 hA 98 (hF 98 (by decide) (by decide)) (ci := 9) rfl rfl q631 q632 q80 (show 0 + 1 ≤ 1 by omega) (show 0 + 8 ≤ 8 by omega) dX7_number_68 (fun H a98 hM10 => ?_)
              refine lv_dup hx hb dX7_number_71 rfl ?_
              refine lv_iconst (v := jI 1) hx hb dX7_number_72 rfl ?_
              refine lv_aload_n hx hb dX7_number_73 rfl (lv_at hl 2 rfl) ?_
              refine g_geti CF hK hM10 26 (hL1.2.1.1 26 _ rfl) 1 1 rfl rfl (by decide) (Or.inl (hts _ q197)) (fun _ h => h) rfl dX7_number_74 ?_
              refine x_top (b := σ 26 1 + 1) rfl ?_
              refine g_callv hM10 hA (g_runI (As := [.int (jI 1), .int (jI (σ 26 1 + 1))]) (rest := [.ref a98]) CF hK hM10 (l_wrong l E _ _ _ 98 1 (σ 26 1 + 1) rfl (by decide) (by have f0 := (show R32 (σ 26 1 + 1) from hM10.r 26 1); first | omega | assumption | (refine ⟨?_, ?_⟩ <;> omega)) (by have f0 := (show R32 (σ 26 1 + 1) from hM10.r 26 1); first | omega | assumption | (refine ⟨?_, ?_⟩ <;> omega))) (cwI 2 hts (lw_meth q670) rfl rfl rfl (hts _ q80) (hts _ q668) (hts _ q669) rfl (by decide +kernel) ⟨(show 3 + 1 ≤ 6 by omega), (show 8 + (3 + 11) + (72) ≤ 150 by omega)⟩) rfl hl.1 rfl (Nat.le_of_ble_eq_true rfl) dX7_number_77 ⟨(show 1 + 0 ≤ 1 by omega), (show 8 + 0 ≤ 8 by omega)⟩) (fun H locs hM11 => ?_)
              exact g_upT (W.widen (show 1 ≤ 1 by omega) (show 8 ≤ 8 by omega) (g_athr CF het hlocks hM11 (by rw [e1]; exact thW_mk (fun t _ _ => ⟨rfl, rfl, fun _ => rfl, fun z => (by first | (rw [up2_n _ _ _ z, up2_n _ _ _ z]; done) | rw [up2_n _ _ _ z])⟩) (by omega)) dX7_number_80))
          · exfalso; omega
    · exfalso; omega
  · unfold dgR at c2 c4
    refine lv_aload_n hx hb dX7_number_0 rfl (lv_at hl 0 rfl) ?_
    refine lv_bipush (v := jI 32) hx hb dX7_number_1 (by decide) ?_
    refine g_callv hM0 hA (g_runV (As := [.int (jI 32)]) (rest := []) CF hK hM0 (hL.2.1.1 26 _ rfl) rfl (l_rsign l E _ _ _ ρ 32 hL (by omega) (by first | omega | assumption | (refine ⟨?_, ?_⟩ <;> omega)) c1) (cwV 1 hts (lw_V q706 q708 qs19 q67 q709) rfl rfl rfl (by decide +kernel) ⟨(show 1 + 1 ≤ 6 by omega), (show 8 + (2 + 11) + (20) ≤ 150 by omega)⟩) rfl hl.1 rfl (Nat.le_of_ble_eq_true rfl) dX7_number_3 ⟨(show 0 + 0 ≤ 1 by omega), (show 0 + 0 ≤ 8 by omega)⟩) (fun H locs hM12 => ?_)
    have hL1 : lgV ρ G (up2 σ 26 1 (σ 26 1 + 1)) := hL.i26
    refine lv_aload_n hx hb dX7_number_6 rfl (lv_at hl 0 rfl) ?_
    refine g_calli (r := (if 48 ≤ nxR ρ ((up2 σ 26 1 (σ 26 1 + 1)) 26 1) ∧ nxR ρ ((up2 σ 26 1 (σ 26 1 + 1)) 26 1) ≤ 57 then 1 else 0)) hM12 hA (g_runV (As := []) (rest := []) CF hK hM12 (hL1.2.1.1 26 _ rfl) rfl (l_rdigit l E _ _ _ ρ  hL1 (show 0 ≤ σ 26 1 + 1 ∧ σ 26 1 + 1 ≤ 1000 by omega)) (cwV 0 hts (lw_V q734 q736 qs21 q67 q737) rfl rfl rfl (by decide +kernel) ⟨(show 1 + 1 ≤ 6 by omega), (show 8 + (1 + 11) + (20) ≤ 150 by omega)⟩) rfl hl.1 rfl (Nat.le_of_ble_eq_true rfl) dX7_number_7 ⟨(show 0 + 0 ≤ 1 by omega), (show 0 + 0 ≤ 8 by omega)⟩) (fun H locs hM13 => ?_)
    refine x_top (b := (if 48 ≤ nxR ρ (σ 26 1 + 1) ∧ nxR ρ (σ 26 1 + 1) ≤ 57 then 1 else 0)) rfl ?_
    refine x_bif_ne (tgt := 26) hx hb dX7_number_10 (by decide) (fun b10 => ?_) (fun b10 => ?_)
    · refine lv_iconst (v := jI 0) hx hb dX7_number_26 rfl ?_
      refine lv_istore_n (lv' := [(2, .int (jI 0)), (0, .ref (G.2.2 26)), (1, .int (jI most))]) hx hb dX7_number_27 rfl hl (by decide) rfl (fun ls hl => ?_)
      refine lv_iconst (v := jI 0) hx hb dX7_number_28 rfl ?_
      refine lv_istore_n (lv' := [(3, .int (jI 0)), (2, .int (jI 0)), (0, .ref (G.2.2 26)), (1, .int (jI most))]) hx hb dX7_number_29 rfl hl (by decide) rfl (fun ls hl => ?_)
      refine lv_iload_n hx hb dX7_number_30 rfl (lv_at hl 0 rfl) ?_
      refine lv_iconst (v := jI 2) hx hb dX7_number_31 rfl ?_
      refine x_icmp_ge (tgt := 97) hx hb dX7_number_32 (by decide) (by omega) (by omega) (fun b32 => ?_) (fun b32 => ?_)
      · exfalso; omega
      · refine lv_aload_n hx hb dX7_number_35 rfl (lv_at hl 2 rfl) ?_
        refine g_calli (r := (if 48 ≤ nxR ρ ((up2 σ 26 1 (σ 26 1 + 1)) 26 1) ∧ nxR ρ ((up2 σ 26 1 (σ 26 1 + 1)) 26 1) ≤ 57 then 1 else 0)) hM13 hA (g_runV (As := []) (rest := []) CF hK hM13 (hL1.2.1.1 26 _ rfl) rfl (l_rdigit l E _ _ _ ρ  hL1 (by first | (show 0 ≤ σ 26 1 + 1 + 1 ∧ σ 26 1 + 1 + 1 ≤ 1000; omega) | (show 0 ≤ σ 26 1 + 1 ∧ σ 26 1 + 1 ≤ 1000; omega))) (cwV 0 hts (lw_V q734 q736 qs21 q67 q737) rfl rfl rfl (by decide +kernel) ⟨(show 1 + 1 ≤ 6 by omega), (show 8 + (1 + 11) + (20) ≤ 150 by omega)⟩) rfl hl.1 rfl (Nat.le_of_ble_eq_true rfl) dX7_number_36 ⟨(show 0 + 0 ≤ 1 by omega), (show 0 + 0 ≤ 8 by omega)⟩) (fun H locs hM14 => ?_)
        refine x_top (b := (if 48 ≤ nxR ρ (σ 26 1 + 1) ∧ nxR ρ (σ 26 1 + 1) ≤ 57 then 1 else 0)) rfl ?_
        refine x_bif_eq (tgt := 97) hx hb dX7_number_39 (by decide) (fun b39 => ?_) (fun b39 => ?_)
        · exfalso; omega
        · refine lv_iload_n hx hb dX7_number_42 rfl (lv_at hl 0 rfl) ?_
          refine x_if_eq (tgt := 50) hx hb dX7_number_43 (by decide) (by omega) (fun b43 => ?_) (fun b43 => ?_)
          · refine lv_bipush (v := jI 10) hx hb dX7_number_50 (by decide) ?_
            refine lv_iload_n hx hb dX7_number_52 rfl (lv_at hl 1 rfl) ?_
            refine x_imul hx hb dX7_number_53 ?_
            refine lv_aload_n hx hb dX7_number_54 rfl (lv_at hl 2 rfl) ?_
            refine g_calli (r := nxR ρ ((up2 σ 26 1 (σ 26 1 + 1)) 26 1)) hM14 hA (g_runV (As := []) (rest := [.int (jI (10 * 0))]) CF hK hM14 (hL1.2.1.1 26 _ rfl) rfl (l_rnext l E _ _ _ ρ  hL1 (by first | (show 0 ≤ σ 26 1 + 1 + 1 ∧ σ 26 1 + 1 + 1 ≤ 1000; omega) | (show 0 ≤ σ 26 1 + 1 ∧ σ 26 1 + 1 ≤ 1000; omega))) (cwV 0 hts (lw_V q627 q629 qs15 q67 q630) rfl rfl rfl (by decide +kernel) ⟨(show 0 + 1 ≤ 6 by omega), (show 8 + (1 + 11) + (0) ≤ 150 by omega)⟩) rfl hl.1 rfl (Nat.le_of_ble_eq_true rfl) dX7_number_55 ⟨(show 0 + 0 ≤ 1 by omega), (show 0 + 0 ≤ 8 by omega)⟩) (fun H locs hM15 => ?_)
            refine x_top (b := nxR ρ (σ 26 1 + 1)) rfl ?_
            refine x_iadd hx hb dX7_number_58 ?_
            refine lv_bipush (v := jI 48) hx hb dX7_number_59 (by decide) ?_
            refine x_isub hx hb dX7_number_61 ?_
            refine lv_istore_n (lv' := [(2, .int (jI (((10 * 0) + (nxR ρ (σ 26 1 + 1))) - 48))), (3, .int (jI 0)), (0, .ref (G.2.2 26)), (1, .int (jI most))]) hx hb dX7_number_62 rfl hl (by decide) rfl (fun ls hl => ?_)
            refine lv_iload_n hx hb dX7_number_63 rfl (lv_at hl 0 rfl) ?_
            refine lv_iload_n hx hb dX7_number_64 rfl (lv_at hl 3 rfl) ?_
            have fa16 := nxR_r ρ (σ 26 1 + 1)
            refine x_icmp_le (tgt := 81) hx hb dX7_number_65 (by decide) (by have f0 := nxR_r ρ (σ 26 1 + 1); omega) (by omega) (fun b65 => ?_) (fun b65 => ?_)
            · refine lv_aload_n hx hb dX7_number_81 rfl (lv_at hl 2 rfl) ?_
              refine lv_dup hx hb dX7_number_82 rfl ?_
              refine g_geti CF hK hM15 26 (hL1.2.1.1 26 _ rfl) 1 1 rfl rfl (by decide) (Or.inl (hts _ q197)) (fun _ h => h) rfl dX7_number_83 ?_
              refine x_top (b := σ 26 1 + 1) rfl ?_
              refine lv_iconst (v := jI 1) hx hb dX7_number_86 rfl ?_
              refine x_iadd hx hb dX7_number_87 ?_
              refine g_puti CF hK hM15 26 (by decide) (hL1.2.1.1 26 _ rfl) 1 1 rfl rfl (by decide) (Or.inl (hts _ q197)) (fun _ h => h) (Or.inl rfl) rfl (v := (σ 26 1 + 1) + 1) rfl rfl (by have f0 := (show R32 (σ 26 1 + 1) from hM15.r 26 1); omega) dX7_number_88 (fun H locs hM17 => ?_)
              have hL2 : lgV ρ G (up2 (up2 σ 26 1 (σ 26 1 + 1)) 26 1 ((σ 26 1 + 1) + 1)) := hL1.i26
              refine x_iinc (lv' := [(3, .int (jI (0 + 1))), (2, .int (jI (((10 * 0) + (nxR ρ (σ 26 1 + 1))) - 48))), (0, .ref (G.2.2 26)), (1, .int (jI most))]) hx hb dX7_number_91 hl (k := 1) rfl (by decide) rfl (fun ls hl => ?_)
              refine lv_goto (tgt := 30) hx hb dX7_number_94 (by decide) ?_
              refine lv_iload_n hx hb dX7_number_30 rfl (lv_at hl 0 rfl) ?_
              refine lv_iconst (v := jI 2) hx hb dX7_number_31 rfl ?_
              refine x_icmp_ge (tgt := 97) hx hb dX7_number_32 (by decide) (by omega) (by omega) (fun b32 => ?_) (fun b32 => ?_)
              · exfalso; omega
              · refine lv_aload_n hx hb dX7_number_35 rfl (lv_at hl 2 rfl) ?_
                refine g_calli (r := (if 48 ≤ nxR ρ ((up2 (up2 σ 26 1 (σ 26 1 + 1)) 26 1 ((σ 26 1 + 1) + 1)) 26 1) ∧ nxR ρ ((up2 (up2 σ 26 1 (σ 26 1 + 1)) 26 1 ((σ 26 1 + 1) + 1)) 26 1) ≤ 57 then 1 else 0)) hM17 hA (g_runV (As := []) (rest := []) CF hK hM17 (hL2.2.1.1 26 _ rfl) rfl (l_rdigit l E _ _ _ ρ  hL2 (by first | (show 0 ≤ σ 26 1 + 1 + 1 ∧ σ 26 1 + 1 + 1 ≤ 1000; omega) | (show 0 ≤ σ 26 1 + 1 ∧ σ 26 1 + 1 ≤ 1000; omega))) (cwV 0 hts (lw_V q734 q736 qs21 q67 q737) rfl rfl rfl (by decide +kernel) ⟨(show 1 + 1 ≤ 6 by omega), (show 8 + (1 + 11) + (20) ≤ 150 by omega)⟩) rfl hl.1 rfl (Nat.le_of_ble_eq_true rfl) dX7_number_36 ⟨(show 0 + 0 ≤ 1 by omega), (show 0 + 0 ≤ 8 by omega)⟩) (fun H locs hM18 => ?_)
                refine x_top (b := (if 48 ≤ nxR ρ ((σ 26 1 + 1) + 1) ∧ nxR ρ ((σ 26 1 + 1) + 1) ≤ 57 then 1 else 0)) rfl ?_
                refine x_bif_eq (tgt := 97) hx hb dX7_number_39 (by decide) (fun b39 => ?_) (fun b39 => ?_)
                · exfalso; omega
                · refine lv_iload_n hx hb dX7_number_42 rfl (lv_at hl 0 rfl) ?_
                  refine x_if_eq (tgt := 50) hx hb dX7_number_43 (by decide) (by omega) (fun b43 => ?_) (fun b43 => ?_)
                  · exfalso; omega
                  · refine lv_iload_n hx hb dX7_number_46 rfl (lv_at hl 1 rfl) ?_
                    refine x_if_le (tgt := 97) hx hb dX7_number_47 (by decide) (by have f0 := nxR_r ρ (σ 26 1 + 1); omega) (fun b47 => ?_) (fun b47 => ?_)
                    · exfalso; omega
                    · refine lv_bipush (v := jI 10) hx hb dX7_number_50 (by decide) ?_
                      refine lv_iload_n hx hb dX7_number_52 rfl (lv_at hl 1 rfl) ?_
                      refine x_imul hx hb dX7_number_53 ?_
                      refine lv_aload_n hx hb dX7_number_54 rfl (lv_at hl 2 rfl) ?_
                      refine g_calli (r := nxR ρ ((up2 (up2 σ 26 1 (σ 26 1 + 1)) 26 1 ((σ 26 1 + 1) + 1)) 26 1)) hM18 hA (g_runV (As := []) (rest := [.int (jI (10 * (((10 * 0) + (nxR ρ (σ 26 1 + 1))) - 48)))]) CF hK hM18 (hL2.2.1.1 26 _ rfl) rfl (l_rnext l E _ _ _ ρ  hL2 (by first | (show 0 ≤ σ 26 1 + 1 + 1 ∧ σ 26 1 + 1 + 1 ≤ 1000; omega) | (show 0 ≤ σ 26 1 + 1 ∧ σ 26 1 + 1 ≤ 1000; omega))) (cwV 0 hts (lw_V q627 q629 qs15 q67 q630) rfl rfl rfl (by decide +kernel) ⟨(show 0 + 1 ≤ 6 by omega), (show 8 + (1 + 11) + (0) ≤ 150 by omega)⟩) rfl hl.1 rfl (Nat.le_of_ble_eq_true rfl) dX7_number_55 ⟨(show 0 + 0 ≤ 1 by omega), (show 0 + 0 ≤ 8 by omega)⟩) (fun H locs hM19 => ?_)
                      refine x_top (b := nxR ρ ((σ 26 1 + 1) + 1)) rfl ?_
                      refine x_iadd hx hb dX7_number_58 ?_
                      refine lv_bipush (v := jI 48) hx hb dX7_number_59 (by decide) ?_
                      refine x_isub hx hb dX7_number_61 ?_
                      refine lv_istore_n (lv' := [(2, .int (jI (((10 * (((10 * 0) + (nxR ρ (σ 26 1 + 1))) - 48)) + (nxR ρ ((σ 26 1 + 1) + 1))) - 48))), (3, .int (jI (0 + 1))), (0, .ref (G.2.2 26)), (1, .int (jI most))]) hx hb dX7_number_62 rfl hl (by decide) rfl (fun ls hl => ?_)
                      refine lv_iload_n hx hb dX7_number_63 rfl (lv_at hl 0 rfl) ?_
                      refine lv_iload_n hx hb dX7_number_64 rfl (lv_at hl 3 rfl) ?_
                      have fa20 := nxR_r ρ ((σ 26 1 + 1) + 1)
                      refine x_icmp_le (tgt := 81) hx hb dX7_number_65 (by decide) (by have f0 := nxR_r ρ (σ 26 1 + 1); have f1 := nxR_r ρ ((σ 26 1 + 1) + 1); omega) (by omega) (fun b65 => ?_) (fun b65 => ?_)
                      · exfalso; omega
                      · refine g_new CF hK hM19 hA 98 (hF 98 (by decide) (by decide)) (ci := 9) rfl rfl q631 q632 q80 (show 0 + 1 ≤ 1 by omega) (show 0 + 8 ≤ 8 by omega) dX7_number_68 (fun H a98 hM21 => ?_)
                        refine lv_dup hx hb dX7_number_71 rfl ?_
                        refine lv_iconst (v := jI 1) hx hb dX7_number_72 rfl ?_
                        refine lv_aload_n hx hb dX7_number_73 rfl (lv_at hl 2 rfl) ?_
                        refine g_geti CF hK hM21 26 (hL2.2.1.1 26 _ rfl) 1 1 rfl rfl (by decide) (Or.inl (hts _ q197)) (fun _ h => h) rfl dX7_number_74 ?_
                        refine x_top (b := (σ 26 1 + 1) + 1) rfl ?_
                        refine g_callv hM21 hA (g_runI (As := [.int (jI 1), .int (jI ((σ 26 1 + 1) + 1))]) (rest := [.ref a98]) CF hK hM21 (l_wrong l E _ _ _ 98 1 ((σ 26 1 + 1) + 1) rfl (by decide) (by have f0 := (show R32 ((σ 26 1 + 1) + 1) from hM21.r 26 1); first | omega | assumption | (refine ⟨?_, ?_⟩ <;> omega)) (by have f0 := (show R32 ((σ 26 1 + 1) + 1) from hM21.r 26 1); first | omega | assumption | (refine ⟨?_, ?_⟩ <;> omega))) (cwI 2 hts (lw_meth q670) rfl rfl rfl (hts _ q80) (hts _ q668) (hts _ q669) rfl (by decide +kernel) ⟨(show 3 + 1 ≤ 6 by omega), (show 8 + (3 + 11) + (72) ≤ 150 by omega)⟩) rfl hl.1 rfl (Nat.le_of_ble_eq_true rfl) dX7_number_77 ⟨(show 1 + 0 ≤ 1 by omega), (show 8 + 0 ≤ 8 by omega)⟩) (fun H locs hM22 => ?_)
                        exact g_upT (W.widen (show 1 ≤ 1 by omega) (show 8 ≤ 8 by omega) (g_athr CF het hlocks hM22 (by rw [e1]; exact thW_mk (fun t _ _ => ⟨rfl, rfl, fun _ => rfl, fun z => (by first | (rw [up2_n _ _ _ z, up2_n _ _ _ z]; done) | rw [up2_n _ _ _ z])⟩) (by omega)) dX7_number_80))
            · refine g_new CF hK hM15 hA 98 (hF 98 (by decide) (by decide)) (ci := 9) rfl rfl q631 q632 q80 (show 0 + 1 ≤ 1 by omega) (show 0 + 8 ≤ 8 by omega) dX7_number_68 (fun H a98 hM23 => ?_)
              refine lv_dup hx hb dX7_number_71 rfl ?_
              refine lv_iconst (v := jI 1) hx hb dX7_number_72 rfl ?_
              refine lv_aload_n hx hb dX7_number_73 rfl (lv_at hl 2 rfl) ?_
              refine g_geti CF hK hM23 26 (hL1.2.1.1 26 _ rfl) 1 1 rfl rfl (by decide) (Or.inl (hts _ q197)) (fun _ h => h) rfl dX7_number_74 ?_
              refine x_top (b := σ 26 1 + 1) rfl ?_
              refine g_callv hM23 hA (g_runI (As := [.int (jI 1), .int (jI (σ 26 1 + 1))]) (rest := [.ref a98]) CF hK hM23 (l_wrong l E _ _ _ 98 1 (σ 26 1 + 1) rfl (by decide) (by have f0 := (show R32 (σ 26 1 + 1) from hM23.r 26 1); first | omega | assumption | (refine ⟨?_, ?_⟩ <;> omega)) (by have f0 := (show R32 (σ 26 1 + 1) from hM23.r 26 1); first | omega | assumption | (refine ⟨?_, ?_⟩ <;> omega))) (cwI 2 hts (lw_meth q670) rfl rfl rfl (hts _ q80) (hts _ q668) (hts _ q669) rfl (by decide +kernel) ⟨(show 3 + 1 ≤ 6 by omega), (show 8 + (3 + 11) + (72) ≤ 150 by omega)⟩) rfl hl.1 rfl (Nat.le_of_ble_eq_true rfl) dX7_number_77 ⟨(show 1 + 0 ≤ 1 by omega), (show 8 + 0 ≤ 8 by omega)⟩) (fun H locs hM24 => ?_)
              exact g_upT (W.widen (show 1 ≤ 1 by omega) (show 8 ≤ 8 by omega) (g_athr CF het hlocks hM24 (by rw [e1]; exact thW_mk (fun t _ _ => ⟨rfl, rfl, fun _ => rfl, fun z => (by first | (rw [up2_n _ _ _ z, up2_n _ _ _ z]; done) | rw [up2_n _ _ _ z])⟩) (by omega)) dX7_number_80))
          · refine lv_iload_n hx hb dX7_number_46 rfl (lv_at hl 1 rfl) ?_
            refine x_if_le (tgt := 97) hx hb dX7_number_47 (by decide) (by omega) (fun b47 => ?_) (fun b47 => ?_)
            · exfalso; omega
            · refine lv_bipush (v := jI 10) hx hb dX7_number_50 (by decide) ?_
              refine lv_iload_n hx hb dX7_number_52 rfl (lv_at hl 1 rfl) ?_
              refine x_imul hx hb dX7_number_53 ?_
              refine lv_aload_n hx hb dX7_number_54 rfl (lv_at hl 2 rfl) ?_
              refine g_calli (r := nxR ρ ((up2 σ 26 1 (σ 26 1 + 1)) 26 1)) hM14 hA (g_runV (As := []) (rest := [.int (jI (10 * 0))]) CF hK hM14 (hL1.2.1.1 26 _ rfl) rfl (l_rnext l E _ _ _ ρ  hL1 (by first | (show 0 ≤ σ 26 1 + 1 + 1 ∧ σ 26 1 + 1 + 1 ≤ 1000; omega) | (show 0 ≤ σ 26 1 + 1 ∧ σ 26 1 + 1 ≤ 1000; omega))) (cwV 0 hts (lw_V q627 q629 qs15 q67 q630) rfl rfl rfl (by decide +kernel) ⟨(show 0 + 1 ≤ 6 by omega), (show 8 + (1 + 11) + (0) ≤ 150 by omega)⟩) rfl hl.1 rfl (Nat.le_of_ble_eq_true rfl) dX7_number_55 ⟨(show 0 + 0 ≤ 1 by omega), (show 0 + 0 ≤ 8 by omega)⟩) (fun H locs hM25 => ?_)
              refine x_top (b := nxR ρ (σ 26 1 + 1)) rfl ?_
              refine x_iadd hx hb dX7_number_58 ?_
              refine lv_bipush (v := jI 48) hx hb dX7_number_59 (by decide) ?_
              refine x_isub hx hb dX7_number_61 ?_
              refine lv_istore_n (lv' := [(2, .int (jI (((10 * 0) + (nxR ρ (σ 26 1 + 1))) - 48))), (3, .int (jI 0)), (0, .ref (G.2.2 26)), (1, .int (jI most))]) hx hb dX7_number_62 rfl hl (by decide) rfl (fun ls hl => ?_)
              refine lv_iload_n hx hb dX7_number_63 rfl (lv_at hl 0 rfl) ?_
              refine lv_iload_n hx hb dX7_number_64 rfl (lv_at hl 3 rfl) ?_
              have fa26 := nxR_r ρ (σ 26 1 + 1)
              refine x_icmp_le (tgt := 81) hx hb dX7_number_65 (by decide) (by have f0 := nxR_r ρ (σ 26 1 + 1); omega) (by omega) (fun b65 => ?_) (fun b65 => ?_)
              · exfalso; omega
              · refine g_new CF hK hM25 hA 98 (hF 98 (by decide) (by decide)) (ci := 9) rfl rfl q631 q632 q80 (show 0 + 1 ≤ 1 by omega) (show 0 + 8 ≤ 8 by omega) dX7_number_68 (fun H a98 hM27 => ?_)
                refine lv_dup hx hb dX7_number_71 rfl ?_
                refine lv_iconst (v := jI 1) hx hb dX7_number_72 rfl ?_
                refine lv_aload_n hx hb dX7_number_73 rfl (lv_at hl 2 rfl) ?_
                refine g_geti CF hK hM27 26 (hL1.2.1.1 26 _ rfl) 1 1 rfl rfl (by decide) (Or.inl (hts _ q197)) (fun _ h => h) rfl dX7_number_74 ?_
                refine x_top (b := σ 26 1 + 1) rfl ?_
                refine g_callv hM27 hA (g_runI (As := [.int (jI 1), .int (jI (σ 26 1 + 1))]) (rest := [.ref a98]) CF hK hM27 (l_wrong l E _ _ _ 98 1 (σ 26 1 + 1) rfl (by decide) (by have f0 := (show R32 (σ 26 1 + 1) from hM27.r 26 1); first | omega | assumption | (refine ⟨?_, ?_⟩ <;> omega)) (by have f0 := (show R32 (σ 26 1 + 1) from hM27.r 26 1); first | omega | assumption | (refine ⟨?_, ?_⟩ <;> omega))) (cwI 2 hts (lw_meth q670) rfl rfl rfl (hts _ q80) (hts _ q668) (hts _ q669) rfl (by decide +kernel) ⟨(show 3 + 1 ≤ 6 by omega), (show 8 + (3 + 11) + (72) ≤ 150 by omega)⟩) rfl hl.1 rfl (Nat.le_of_ble_eq_true rfl) dX7_number_77 ⟨(show 1 + 0 ≤ 1 by omega), (show 8 + 0 ≤ 8 by omega)⟩) (fun H locs hM28 => ?_)
                exact g_upT (W.widen (show 1 ≤ 1 by omega) (show 8 ≤ 8 by omega) (g_athr CF het hlocks hM28 (by rw [e1]; exact thW_mk (fun t _ _ => ⟨rfl, rfl, fun _ => rfl, fun z => (by first | (rw [up2_n _ _ _ z, up2_n _ _ _ z]; done) | rw [up2_n _ _ _ z])⟩) (by omega)) dX7_number_80))
    · exfalso; omega
