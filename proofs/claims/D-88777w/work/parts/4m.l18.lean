set_option maxHeartbeats 2000000 in
theorem l_probing (l : Launch) (E : y_E) (Go : y_G) (σ : y_S) (sz : Nat) (ρ : y_S) (hL : lgR E ρ Go σ) : gCt l yX1_probing cX1_probing 6 (some .int) ({ frames := 7, cells := 242, slots := 72963, locals := 171 }) E [.ref (Go.2.2 60)] Go σ sz (lPo E (oProbing ρ)) 242 72963 := by
  refine g_met (by decide) (Nat.le_of_ble_eq_true rfl) ?_
  intro p e s m below meth c ls CF hr hlocks hnm hK hM0 hA hl
  have hx := CF.1
  have hb := CF.2.1
  have hts := CF.2.2.2.2
  have hl : lv_has ls 6 [(0, .ref (Go.2.2 60))] := hl
  obtain ⟨G, hGe⟩ : ∃ g : y_G, g = (drK Go.1, Go.2) := ⟨_, rfl⟩
  have hM0 := hM0.dr
  have hL := hL.dr
  rw [← hGe] at hM0 hL
  have hF : ∀ t : Nat, 90 ≤ t → t < 100 → G.1 t = none := fun t a b => (by rw [hGe]; exact drK_0 a b)
  have hl := lv_cast hl (b := [(0, .ref (G.2.2 60))]) (by rw [hGe])
  obtain ⟨hO, hS, ⟨hm1, hm2, hm3, hm4, hm5⟩, hX, hD, hZ⟩ := id hL
  have hn := hO.n
  have hh := hO.h48
  refine lv_aload_n hx hb dX1_probing_0 rfl (lv_at hl 0 rfl) ?_
  refine g_getr CF hK hM0 60 (hL.2.1.1 60 _ rfl) 30 30 rfl rfl (by decide) (Or.inl (hts _ q319)) (fun _ h => h) rfl (G.2.2 30) (hL.2.1.2.1 30 30 rfl) dX1_probing_1 ?_
  refine g_callPV hM0 hA (g_runV (As := []) (rest := []) CF hK hM0 (hL.2.1.1 30 _ rfl) rfl (j_clear l E _ _ _ 30 65 (ρ 60 48) (fun i => G.2.2 (3000 + i.toNat))  (hL.2.1.1 30 _ rfl) (by decide) ⟨hL.2.2.2.2.2, hL.2.1.1 0 _ rfl⟩ (hL.2.2.2.2.1.2.2.1.1) (by omega)) (cwV 0 hts (lw_V q982 q983 q984 q70 q985) rfl rfl rfl (by decide +kernel) ⟨Nat.le_of_ble_eq_true rfl, Nat.le_of_ble_eq_true rfl⟩) rfl hl.1 rfl (Nat.le_of_ble_eq_true rfl) dX1_probing_4 ⟨Nat.le_of_ble_eq_true rfl, Nat.le_of_ble_eq_true rfl⟩) (fun G9 τc H locs hp hM1 => ?_)
  obtain ⟨rf, rfl, hrf, hτc, hls⟩ := hp
  refine lv_aload_n hx hb dX1_probing_7 rfl (lv_at hl 0 rfl) ?_
  refine lv_iconst (v := jI 0) hx hb dX1_probing_8 rfl ?_
  refine g_puti CF hK hM1 60 (by decide) (hL.2.1.1 60 _ rfl) 31 31 rfl rfl (by decide) (Or.inl (hts _ q320)) (fun _ h => h) (Or.inl rfl) rfl (v := 0) rfl rfl (by omega) dX1_probing_9 (fun H locs hM2 => ?_)
  obtain ⟨σz, hsz⟩ : ∃ z : y_S, z = up2 τc 60 31 0 := ⟨_, rfl⟩
  obtain ⟨Gz, hGz⟩ : ∃ g : y_G, g = (drH G.1, rf, G.2.2) := ⟨_, rfl⟩
  have hMz : gM E (gA Go sz) Gz σz s.heap H locs := (by rw [hGz, hsz]; exact hM2.drh)
  have hIz : pbI (ρ 44) 0 Gz σz Gz σz := (by rw [hGz, hsz]; exact pbI_0 hF hls)
  have hZb : pbZ G σ Gz σz := (by rw [hGz, hsz]; exact ⟨fun t h => drH_n h, rfl, fun t h => funext (fun k => hrf t k h), fun t a b => (by rw [up2_n _ _ _ b]; exact hτc t a), fun k h => (by rw [up2_s, up1_n _ _ h, hτc 60 (by decide)]), up2_ss _ _ _ _⟩)
  have hWz : lgW ρ Gz σz := lgW_z hL.w hZb
  have hz0 : gZr E 0 = some (Gz.2.2 0) := (by rw [hZb.2.1]; exact hL.2.2.2.2.2)
  have hg6 : Gz.2.2 60 = G.2.2 60 := (by rw [hZb.2.1])
  have hLb := hL
  obtain ⟨G, hGn⟩ : ∃ g : y_G, g = Gz := ⟨_, rfl⟩
  have hMy : gM E (gA Go sz) G σz s.heap H locs := (by rw [hGn]; exact hMz)
  have hI : pbI (ρ 44) 0 Gz σz G σz := (by rw [hGn]; exact hIz)
  have hF := hI.2.1
  have hW := hI.w hWz
  have hl := lv_cast hl (b := [(0, .ref (G.2.2 60))]) (by rw [hGn, hg6])
  refine lv_aload_n hx hb dX1_probing_12 rfl (lv_at hl 0 rfl) ?_
  refine g_getr CF hK hMy 60 (hW.2.1.1 60 _ rfl) 30 30 rfl rfl (by decide) (Or.inl (hts _ q319)) (fun _ h => h) rfl (G.2.2 30) (hW.2.1.2.1 30 30 rfl) dX1_probing_13 ?_
  refine g_new CF hK hMy hA 90 (hF 90 (by decide) (by decide)) (ci := 15) rfl rfl q986 q987 q88 (Nat.le_of_ble_eq_true rfl) (Nat.le_of_ble_eq_true rfl) dX1_probing_16 (fun H a90 hM3 => ?_)
  refine lv_dup hx hb dX1_probing_19 rfl ?_
  refine lv_null hx hb dX1_probing_20 ?_
  refine lv_iconst (v := jI 0) hx hb dX1_probing_21 rfl ?_
  refine g_callv hM3 hA (g_runI (As := [.null, .int (jI 0)]) (rest := [.ref a90, .ref (G.2.2 30)]) CF hK hM3 (l_hinit l E _ _ _ 90 none 0 rfl (by decide) (by first | omega | assumption | (refine ⟨?_, ?_⟩ <;> omega))) (cwI 2 hts (lw_meth q990) rfl rfl rfl (hts _ q88) (hts _ q988) (hts _ q989) rfl (by decide +kernel) ⟨Nat.le_of_ble_eq_true rfl, Nat.le_of_ble_eq_true rfl⟩) rfl hl.1 rfl (Nat.le_of_ble_eq_true rfl) dX1_probing_22 ⟨Nat.le_of_ble_eq_true rfl, Nat.le_of_ble_eq_true rfl⟩) (fun H locs hM4 => ?_)
  refine g_callPI hM4 hA (g_runV (As := [.ref a90]) (rest := []) CF hK hM4 (show upT G.1 90 (some (.inl 15)) 30 = some (.inl 16) from hW.2.1.1 30 _ rfl) rfl (j_add l E _ _ _ 30 65 99 (((0 : Nat) : Int)) (fun i => upT G.2.2 90 a90 (3000 + i.toNat)) 90 15 a90  (show upT G.1 90 (some (.inl 15)) 30 = some (.inl 16) from hW.2.1.1 30 _ rfl) (hF 99 (by decide) (by decide)) (by decide) (by decide) (fun i h0 h1 y hy => ⟨3000 + i.toNat, 15, (show upT G.1 90 _ (3000 + i.toNat) = _ by rw [upT_n _ _ (by omega)]; exact (hI.2.2.2.1 i.toNat (by omega)).1), Option.some.inj hy⟩) ⟨(show gZr E 0 = some (G.2.2 0) by rw [hz0, hI.ad (by unfold pbT; decide)]), hW.2.1.1 0 _ rfl⟩ (hI.2.2.1.tr (G' := (upT G.1 90 (some (.inl 15)), up2 (upT G.2.1 90 (fun _ => none)) 90 0 none, upT G.2.2 90 a90)) (τ' := up2 (up2 (upT σz 90 ((fun _ => 0))) 90 2 1) 90 1 0) ⟨rfl, rfl, rfl, rfl⟩ rfl rfl rfl rfl (fun i a b => upT_n _ _ (by omega))) (by omega) ⟨rfl, rfl⟩) (cwV 1 hts (lw_V q932 q785 q786 q70 q787) rfl rfl rfl (by decide +kernel) ⟨Nat.le_of_ble_eq_true rfl, Nat.le_of_ble_eq_true rfl⟩) rfl hl.1 rfl (Nat.le_of_ble_eq_true rfl) dX1_probing_25 ⟨Nat.le_of_ble_eq_true rfl, Nat.le_of_ble_eq_true rfl⟩) (fun rr G6 τ6 H locs hp hM5 => ?_)
  obtain ⟨rfl, hp⟩ := hp
  refine lv_pop hx hb dX1_probing_28 rfl ?_
  have hI2 := pbI_add (f := (ρ 44)) hI (by omega) rfl rfl hp
  obtain ⟨Gn, hGn⟩ : ∃ g : y_G, g = rtG (sw 90 (3000 + 0)) G6 := ⟨_, rfl⟩
  obtain ⟨τn, hτn⟩ : ∃ g : y_S, g = rtS (sw 90 (3000 + 0)) τ6 := ⟨_, rfl⟩
  rw [← hGn, ← hτn] at hI2
  have hM7 : gM E (gA Go sz) Gn τn s.heap H locs := (by rw [hGn, hτn]; exact hM5.rt sw_i (sw_n (by decide) (by omega)))
  have hr0 : Gn.2.2 60 = G.2.2 60 := (hI2.ad (by unfold pbT; decide)).trans (hI.ad (by unfold pbT; decide)).symm
  have hl := lv_cast hl (b := [(0, .ref (Gn.2.2 60))]) (by rw [hr0])
  obtain ⟨G, hG9⟩ : ∃ g : y_G, g = Gn := ⟨_, rfl⟩
  rw [← hG9] at hM7 hI2 hl
  have hI := hI2
  have hF := hI.2.1
  have hW := hI.w hWz
  refine lv_aload_n hx hb dX1_probing_29 rfl (lv_at hl 0 rfl) ?_
  refine g_getr CF hK hM7 60 (hW.2.1.1 60 _ rfl) 3 3 rfl rfl (by decide) (Or.inl (hts _ q288)) (fun _ h => h) rfl (G.2.2 3) (hW.2.1.2.1 3 3 rfl) dX1_probing_30 ?_
  refine lv_astore_n (lv' := [(1, .ref (G.2.2 3)), (0, .ref (G.2.2 60))]) hx hb dX1_probing_33 rfl hl (by decide) rfl (fun ls hl => ?_)
  refine lv_aload_n hx hb dX1_probing_34 rfl (lv_at hl 0 rfl) ?_
  refine g_alen CF hK hM7 3 (hW.2.1.1 3 _ rfl) (by decide) dX1_probing_35 ?_
  refine x_top (b := ((12 * (ρ 60 0).toNat : Nat) : Int)) rfl ?_
  refine lv_istore_n (lv' := [(2, .int (jI (((12 * (ρ 60 0).toNat : Nat) : Int)))), (1, .ref (G.2.2 3)), (0, .ref (G.2.2 60))]) hx hb dX1_probing_36 rfl hl (by decide) rfl (fun ls hl => ?_)
  refine lv_iconst (v := jI 0) hx hb dX1_probing_37 rfl ?_
  refine lv_istore_n (lv' := [(3, .int (jI 0)), (2, .int (jI (((12 * (ρ 60 0).toNat : Nat) : Int)))), (1, .ref (G.2.2 3)), (0, .ref (G.2.2 60))]) hx hb dX1_probing_38 rfl hl (by decide) rfl (fun ls hl => ?_)
  have c39 : ∀ (n39 : Nat) (j : Nat) (cn : Nat) (G : y_G) (τ : y_S) (H : Heap) (locs : List Loc) (ls : Array Slot), (j ≤ 12 * (ρ 60 0).toNat) → ((cn : Int) = (prP (ρ 4) (ρ 44) (cJ (ρ 60 0) j)).1) → (pbI (prP (ρ 4) (ρ 44) (cJ (ρ 60 0) j)).2 (1 + 4 * cn) Gz σz G τ) → (12 * (ρ 60 0).toNat - j < n39) → gM E (gA Go sz) G τ s.heap H locs → lv_has ls 6 [(0, .ref (G.2.2 60)), (1, .ref (G.2.2 3)), (2, .int (jI (((12 * (ρ 60 0).toNat : Nat) : Int)))), (3, .int (jI ((j : Int))))] → W p l e ({ frames := 7, cells := 242, slots := 72963, locals := 171 } : Room) s m ([.ref (Go.2.2 60)] : List Value).toArray below meth c H locs (2 * (1 + 4 * cn)) (603 * (1 + 4 * cn)) (MQ below (gQ E Go sz (lPo E (oProbing ρ))) ([.ref (Go.2.2 60)] : List Value).toArray s 242 72963 (gA Go sz)) (F0 m 39 ls []) := by
    intro n39
    induction n39 with
    | zero => intro j cn G τ H locs ls hj hcn hI hmu; exact absurd hmu (Nat.not_lt_zero _)
    | succ n39 ih39 =>
      intro j cn G τ H locs ls hj hcn hI hmu39 hM8 hl
      have hW := hI.w hWz
      have hF := hI.2.1
      have hc30 := prP_30 (ρ 4) (ρ 44) hn.1 hn.2 hj
      refine lv_iload_n hx hb dX1_probing_39 rfl (lv_at hl 3 rfl) ?_
      refine lv_iload_n hx hb dX1_probing_40 rfl (lv_at hl 2 rfl) ?_
      refine x_icmp_ge (tgt := 111) hx hb dX1_probing_41 (by decide) (by omega) (by omega) (fun b41 => ?_) (fun b41 => ?_)
      · refine lv_aload_n hx hb dX1_probing_111 rfl (lv_at hl 0 rfl) ?_
        refine g_getr CF hK hM8 60 (hW.2.1.1 60 _ rfl) 30 30 rfl rfl (by decide) (Or.inl (hts _ q319)) (fun _ h => h) rfl (G.2.2 30) (hW.2.1.2.1 30 30 rfl) dX1_probing_112 ?_
        refine g_calli (r := τ 30 2) hM8 hA (g_runV (As := []) (rest := []) CF hK hM8 (hW.2.1.1 30 _ rfl) rfl (j_size l E _ _ _ 30  (hW.2.1.1 30 _ rfl)) (cwV 0 hts (lw_V q479 q480 q481 q70 q482) rfl rfl rfl (by decide +kernel) ⟨Nat.le_of_ble_eq_true rfl, Nat.le_of_ble_eq_true rfl⟩) rfl hl.1 rfl (Nat.le_of_ble_eq_true rfl) dX1_probing_115 ⟨(by show 2 * (1 + 4 * cn) + 0 ≤ 242; omega), (by show 603 * (1 + 4 * cn) + 0 ≤ 72963; omega)⟩) (fun H locs hM9 => ?_)
        refine x_top (b := 1 + 4 * (prb ρ 72).1) (by rw [hI.2.2.1.1, prP_J hn, show 12 * (ρ 60 0).toNat = j by omega]; omega) ?_
        exact g_iret CF hr hlocks hM9 (lPo_i rfl (lgR_prob hLb hZb (N := 1 + 4 * cn) (by rw [prP_J hn, show 12 * (ρ 60 0).toNat = j by omega]; omega) (by rw [prP_J hn, show 12 * (ρ 60 0).toNat = j by omega]; exact hI))) (by omega) (by omega) dX1_probing_118
      · refine lv_aload_n hx hb dX1_probing_44 rfl (lv_at hl 1 rfl) ?_
        refine lv_iload_n hx hb dX1_probing_45 rfl (lv_at hl 3 rfl) ?_
        refine g_aaldc CF hK hM8 3 (hW.2.1.1 3 _ rfl) (by decide) rfl (i := (j : Int)) (by omega) (by omega) (by omega) (hW.2.1.at hW.1.n.1 hW.1.n.2 (by omega)) dX1_probing_46 (fun hCe => ?_) (fun hCe => ?_)
        · refine lv_astore (lv' := [(4, .ref (G.2.2 (cT ((j : Int) / ρ 60 0) ((j : Int) % ρ 60 0)))), (0, .ref (G.2.2 60)), (1, .ref (G.2.2 3)), (2, .int (jI (((12 * (ρ 60 0).toNat : Nat) : Int)))), (3, .int (jI ((j : Int))))]) hx hb dX1_probing_47 hl (by decide) rfl (fun ls hl => ?_)
          refine lv_aload hx hb dX1_probing_49 (lv_at hl 0 rfl) ?_
          refine lv_ifnull hx hb dX1_probing_51 ?_
          refine lv_aload hx hb dX1_probing_54 (lv_at hl 0 rfl) ?_
          refine g_calli (r := (if ρ 4 (6 * ((j : Int) / ρ 60 0) + ((j : Int) % ρ 60 0)) ≠ -1 then 1 else 0)) hM8 hA (g_runV (As := []) (rest := []) CF hK hM8 (hW.2.1.1 _ _ (lKd_c hW.1.n.2 hCe)) rfl (l_isDead l E _ _ _ ρ ((j : Int) / ρ 60 0) ((j : Int) % ρ 60 0)  hW (by first | omega | assumption | (refine ⟨?_, ?_⟩ <;> omega))) (cwV 0 hts (lw_V q408 q409 q410 q71 q411) rfl rfl rfl (by decide +kernel) ⟨Nat.le_of_ble_eq_true rfl, Nat.le_of_ble_eq_true rfl⟩) rfl hl.1 rfl (Nat.le_of_ble_eq_true rfl) dX1_probing_56 ⟨(by show 2 * (1 + 4 * cn) + 0 ≤ 242; omega), (by show 603 * (1 + 4 * cn) + 0 ≤ 72963; omega)⟩) (fun H locs hM10 => ?_)
          refine x_bif_eq (tgt := 65) hx hb dX1_probing_59 (by decide) (fun b59 => ?_) (fun b59 => ?_)
          · have hx5 := cell_ix hCe hn.2
            have hpl := hO.p _ hx5.2.2.1 hx5.2.2.2
            have hal : ρ 4 (6 * ((j : Int) / ρ 60 0) + (j : Int) % ρ 60 0) < 0 := (by omega)
            have hc31 := prP_30 (ρ 4) (ρ 44) hn.1 hn.2 (show j + 1 ≤ 12 * (ρ 60 0).toNat by omega)
            rw [cJ_y hCe, prP_a, if_pos hal] at hc31
            have hc32 : (prP (ρ 4) (ρ 44) (cJ (ρ 60 0) j)).1 + 1 ≤ 30 := hc31.2
            have hcx := cT_ix hn.2 hCe
            refine lv_bipush (v := jI (-2)) hx hb dX1_probing_65 (by decide) ?_
            refine lv_istore (lv' := [(5, .int (jI ((-2)))), (4, .ref (G.2.2 (cT ((j : Int) / ρ 60 0) ((j : Int) % ρ 60 0)))), (0, .ref (G.2.2 60)), (1, .ref (G.2.2 3)), (2, .int (jI (((12 * (ρ 60 0).toNat : Nat) : Int)))), (3, .int (jI ((j : Int))))]) hx hb dX1_probing_67 hl (by decide) rfl (fun ls hl => ?_)
            have c69 : ∀ (n69 : Nat) (m1 : Int) (w : Nat) (G : y_G) (τ1 : y_S) (H : Heap) (locs : List Loc) (ls : Array Slot), ((m1 = -2 ∧ w = 0) ∨ (m1 = -1 ∧ w = 1) ∨ (m1 = 0 ∧ w = 2) ∨ (m1 = 1 ∧ w = 2) ∨ (m1 = 2 ∧ w = 3) ∨ (m1 = 3 ∧ w = 4)) → (pbI (up1 (prP (ρ 4) (ρ 44) (cJ (ρ 60 0) j)).2 (cn : Int) (6 * ((j : Int) / ρ 60 0) + (j : Int) % ρ 60 0)) (1 + 4 * cn + w) Gz σz G τ1) → ((3 - m1).toNat < n69) → gM E (gA Go sz) G τ1 s.heap H locs → lv_has ls 6 [(0, .ref (G.2.2 60)), (1, .ref (G.2.2 3)), (2, .int (jI (((12 * (ρ 60 0).toNat : Nat) : Int)))), (3, .int (jI ((j : Int)))), (4, .ref (G.2.2 (cT ((j : Int) / ρ 60 0) ((j : Int) % ρ 60 0)))), (5, .int (jI m1))] → W p l e ({ frames := 7, cells := 242, slots := 72963, locals := 171 } : Room) s m ([.ref (Go.2.2 60)] : List Value).toArray below meth c H locs (2 * (1 + 4 * cn + w)) (603 * (1 + 4 * cn + w)) (MQ below (gQ E Go sz (lPo E (oProbing ρ))) ([.ref (Go.2.2 60)] : List Value).toArray s 242 72963 (gA Go sz)) (F0 m 69 ls []) := by
              intro n69
              induction n69 with
              | zero => intro m1 w G τ1 H locs ls hmw hI1 hmu; exact absurd hmu (Nat.not_lt_zero _)
              | succ n69 ih69 =>
                intro m1 w G τ1 H locs ls hmw hI1 hmu69 hM11 hl
                have hI := hI1
                have hW := hI.w hWz
                have hF := hI.2.1
                refine lv_iload hx hb dX1_probing_69 (lv_at hl 5 rfl) ?_
                refine lv_iconst (v := jI 3) hx hb dX1_probing_71 rfl ?_
                refine x_icmp_ge (tgt := 105) hx hb dX1_probing_72 (by decide) (by omega) (by omega) (fun b72 => ?_) (fun b72 => ?_)
                · have hw4 : w = 4 := (by omega)
                  refine x_room (c' := 2 * (1 + 4 * (cn + 1))) (s' := 603 * (1 + 4 * (cn + 1))) (by omega) (by omega) ?_
                  refine x_iinc (lv' := [(3, .int (jI (((j : Int)) + 1))), (0, .ref (G.2.2 60)), (1, .ref (G.2.2 3)), (2, .int (jI (((12 * (ρ 60 0).toNat : Nat) : Int)))), (4, .ref (G.2.2 (cT ((j : Int) / ρ 60 0) ((j : Int) % ρ 60 0)))), (5, .int (jI m1))]) hx hb dX1_probing_105 hl (k := 3) rfl (by decide) rfl (fun ls hl => ?_)
                  refine lv_goto (tgt := 39) hx hb dX1_probing_108 (by decide) ?_
                  exact ih39  ((j + 1)) ((cn + 1)) G τ1 _ _ _ (by first | omega | assumption | rfl) (by rw [cJ_y hCe, prP_a, if_pos hal]; show ((cn + 1 : Nat) : Int) = _ + 1; omega) (by rw [cJ_y hCe, prP_a, if_pos hal]; show pbI (up1 _ _ _) _ _ _ _ _; rw [← hcn, show 1 + 4 * (cn + 1) = 1 + 4 * cn + w by omega]; exact hI1) (by omega) hM11 (lv_sub hl [1, 2, 3, 0] rfl)
                · refine lv_iload hx hb dX1_probing_75 (lv_at hl 5 rfl) ?_
                  refine x_if_eq (tgt := 99) hx hb dX1_probing_77 (by decide) (by omega) (fun b77 => ?_) (fun b77 => ?_)
                  · refine x_iinc (lv' := [(5, .int (jI (m1 + 1))), (0, .ref (G.2.2 60)), (1, .ref (G.2.2 3)), (2, .int (jI (((12 * (ρ 60 0).toNat : Nat) : Int)))), (3, .int (jI ((j : Int)))), (4, .ref (G.2.2 (cT ((j : Int) / ρ 60 0) ((j : Int) % ρ 60 0))))]) hx hb dX1_probing_99 hl (k := 5) rfl (by decide) rfl (fun ls hl => ?_)
                    refine lv_goto (tgt := 69) hx hb dX1_probing_102 (by decide) ?_
                    exact ih69  (m1 + 1) w G τ1 _ _ _ (by first | omega | assumption | rfl) hI1 (by omega) hM11 (lv_sub hl [1, 2, 3, 4, 5, 0] rfl)
                  · refine lv_aload_n hx hb dX1_probing_80 rfl (lv_at hl 0 rfl) ?_
                    refine g_getr CF hK hM11 60 (hW.2.1.1 60 _ rfl) 30 30 rfl rfl (by decide) (Or.inl (hts _ q319)) (fun _ h => h) rfl (G.2.2 30) (hW.2.1.2.1 30 30 rfl) dX1_probing_81 ?_
                    refine g_new CF hK hM11 hA 90 (hF 90 (by decide) (by decide)) (ci := 15) rfl rfl q986 q987 q88 (by show 2 * (1 + 4 * cn + w) + 1 ≤ 242; omega) (by show 603 * (1 + 4 * cn + w) + 3 ≤ 72963; omega) dX1_probing_84 (fun H a90 hM12 => ?_)
                    refine lv_dup hx hb dX1_probing_87 rfl ?_
                    refine lv_aload hx hb dX1_probing_88 (lv_at hl 4 rfl) ?_
                    refine lv_iload hx hb dX1_probing_90 (lv_at hl 5 rfl) ?_
                    refine g_callv hM12 hA (g_runI (As := [.ref (G.2.2 (cT ((j : Int) / ρ 60 0) ((j : Int) % ρ 60 0))), .int (jI m1)]) (rest := [.ref a90, .ref (G.2.2 30)]) CF hK hM12 (l_hinit l E _ _ _ 90 (some (G.2.2 (cT ((j : Int) / ρ 60 0) ((j : Int) % ρ 60 0)))) m1 rfl (by decide) (by first | omega | assumption | (refine ⟨?_, ?_⟩ <;> omega))) (cwI 2 hts (lw_meth q990) rfl rfl rfl (hts _ q88) (hts _ q988) (hts _ q989) rfl (by decide +kernel) ⟨Nat.le_of_ble_eq_true rfl, Nat.le_of_ble_eq_true rfl⟩) rfl hl.1 rfl (Nat.le_of_ble_eq_true rfl) dX1_probing_92 ⟨(by show 2 * (1 + 4 * cn + w) + 1 + 0 ≤ 242; omega), (by show 603 * (1 + 4 * cn + w) + 3 + 0 ≤ 72963; omega)⟩) (fun H locs hM13 => ?_)
                    refine g_callPI hM13 hA (g_runV (As := [.ref a90]) (rest := []) CF hK hM13 (show upT G.1 90 (some (.inl 15)) 30 = some (.inl 16) from hW.2.1.1 30 _ rfl) rfl (j_add l E _ _ _ 30 65 99 (((1 + 4 * cn + w : Nat) : Int)) (fun i => upT G.2.2 90 a90 (3000 + i.toNat)) 90 15 a90  (show upT G.1 90 (some (.inl 15)) 30 = some (.inl 16) from hW.2.1.1 30 _ rfl) (hF 99 (by decide) (by decide)) (by decide) (by decide) (fun i h0 h1 y hy => ⟨3000 + i.toNat, 15, (show upT G.1 90 _ (3000 + i.toNat) = _ by rw [upT_n _ _ (by omega)]; exact (hI.2.2.2.1 i.toNat (by omega)).1), Option.some.inj hy⟩) ⟨(show gZr E 0 = some (G.2.2 0) by rw [hz0, hI.ad (by unfold pbT; decide)]), hW.2.1.1 0 _ rfl⟩ (hI.2.2.1.tr (G' := (upT G.1 90 (some (.inl 15)), up2 (upT G.2.1 90 (fun _ => none)) 90 0 (some (G.2.2 (cT ((j : Int) / ρ 60 0) ((j : Int) % ρ 60 0)))), upT G.2.2 90 a90)) (τ' := up2 (up2 (upT τ1 90 ((fun _ => 0))) 90 2 1) 90 1 m1) ⟨rfl, rfl, rfl, rfl⟩ rfl rfl rfl rfl (fun i a b => upT_n _ _ (by omega))) (by omega) ⟨rfl, rfl⟩) (cwV 1 hts (lw_V q932 q785 q786 q70 q787) rfl rfl rfl (by decide +kernel) ⟨Nat.le_of_ble_eq_true rfl, Nat.le_of_ble_eq_true rfl⟩) rfl hl.1 rfl (Nat.le_of_ble_eq_true rfl) dX1_probing_95 ⟨(by show 2 * (1 + 4 * cn + w) + 1 + 1 ≤ 242; omega), (by show 603 * (1 + 4 * cn + w) + 3 + 600 ≤ 72963; omega)⟩) (fun rr G15 τ15 H locs hp hM14 => ?_)
                    obtain ⟨rfl, hp⟩ := hp
                    refine lv_pop hx hb dX1_probing_98 rfl ?_
                    have hI2 := pbI_add (f := (up1 (prP (ρ 4) (ρ 44) (cJ (ρ 60 0) j)).2 (cn : Int) (6 * ((j : Int) / ρ 60 0) + (j : Int) % ρ 60 0))) hI (by omega) (show some (G.2.2 (cT ((j : Int) / ρ 60 0) ((j : Int) % ρ 60 0))) = _ by rw [if_neg (by omega), show (((1 + 4 * cn + w : Nat) : Int) - 1) / 4 = (cn : Int) by omega, up1_s]; exact congrArg some (hI.ad (by unfold pbT; omega))) (show m1 = _ by rw [if_neg (by omega), show (((1 + 4 * cn + w : Nat) : Int) - 1) % 4 = (w : Int) by omega]; unfold moF; split <;> omega) hp
                    obtain ⟨Gn, hGn⟩ : ∃ g : y_G, g = rtG (sw 90 (3000 + (1 + 4 * cn + w))) G15 := ⟨_, rfl⟩
                    obtain ⟨τn, hτn⟩ : ∃ g : y_S, g = rtS (sw 90 (3000 + (1 + 4 * cn + w))) τ15 := ⟨_, rfl⟩
                    rw [← hGn, ← hτn] at hI2
                    have hM16 : gM E (gA Go sz) Gn τn s.heap H locs := (by rw [hGn, hτn]; exact hM14.rt sw_i (sw_n (by decide) (by omega)))
                    have hr0 : Gn.2.2 60 = G.2.2 60 := (hI2.ad (by unfold pbT; decide)).trans (hI.ad (by unfold pbT; decide)).symm
                    have hr1 : Gn.2.2 3 = G.2.2 3 := (hI2.ad (by unfold pbT; decide)).trans (hI.ad (by unfold pbT; decide)).symm
                    have hr2 : Gn.2.2 (cT ((j : Int) / ρ 60 0) ((j : Int) % ρ 60 0)) = G.2.2 (cT ((j : Int) / ρ 60 0) ((j : Int) % ρ 60 0)) := (hI2.ad (by unfold pbT; omega)).trans (hI.ad (by unfold pbT; omega)).symm
                    have hl := lv_cast hl (b := [(0, .ref (Gn.2.2 60)), (1, .ref (Gn.2.2 3)), (2, .int (jI (((12 * (ρ 60 0).toNat : Nat) : Int)))), (3, .int (jI ((j : Int)))), (4, .ref (Gn.2.2 (cT ((j : Int) / ρ 60 0) ((j : Int) % ρ 60 0)))), (5, .int (jI m1))]) (by rw [hr0, hr1, hr2])
                    obtain ⟨G, hG9⟩ : ∃ g : y_G, g = Gn := ⟨_, rfl⟩
                    rw [← hG9] at hM16 hI2 hl
                    have hI := hI2
                    have hF := hI.2.1
                    have hW := hI.w hWz
                    refine x_room (c' := 2 * (1 + 4 * cn + (w + 1))) (s' := 603 * (1 + 4 * cn + (w + 1))) (by omega) (by show 603 * (1 + 4 * cn + w) + 3 + 0 + 600 = 603 * (1 + 4 * cn + (w + 1)); omega) ?_
                    refine x_iinc (lv' := [(5, .int (jI (m1 + 1))), (0, .ref (G.2.2 60)), (1, .ref (G.2.2 3)), (2, .int (jI (((12 * (ρ 60 0).toNat : Nat) : Int)))), (3, .int (jI ((j : Int)))), (4, .ref (G.2.2 (cT ((j : Int) / ρ 60 0) ((j : Int) % ρ 60 0))))]) hx hb dX1_probing_99 hl (k := 5) rfl (by decide) rfl (fun ls hl => ?_)
                    refine lv_goto (tgt := 69) hx hb dX1_probing_102 (by decide) ?_
                    exact ih69  (m1 + 1) ((w + 1)) G τn _ _ _ (by first | omega | assumption | rfl) hI2 (by omega) hM16 (lv_sub hl [1, 2, 3, 4, 5, 0] rfl)
            exact c69 _ ((-2)) 0 G τ _ _ _ (by first | omega | assumption | rfl) (hI.f (fun q hq q0 => up1_n _ _ (by omega))) (Nat.lt_succ_self _) hM10 (lv_sub hl [2, 3, 4, 5, 1, 0] rfl)
          · have hx5 := cell_ix hCe hn.2
            have hpl := hO.p _ hx5.2.2.1 hx5.2.2.2
            refine lv_goto (tgt := 105) hx hb dX1_probing_62 (by decide) ?_
            refine x_iinc (lv' := [(3, .int (jI (((j : Int)) + 1))), (4, .ref (G.2.2 (cT ((j : Int) / ρ 60 0) ((j : Int) % ρ 60 0)))), (0, .ref (G.2.2 60)), (1, .ref (G.2.2 3)), (2, .int (jI (((12 * (ρ 60 0).toNat : Nat) : Int))))]) hx hb dX1_probing_105 hl (k := 4) rfl (by decide) rfl (fun ls hl => ?_)
            refine lv_goto (tgt := 39) hx hb dX1_probing_108 (by decide) ?_
            exact ih39  ((j + 1)) cn G τ _ _ _ (by first | omega | assumption | rfl) (by first | (rw [cJ_n hCe]; exact hcn) | (rw [cJ_y hCe, prP_a, if_neg (show ¬ ρ 4 (6 * ((j : Int) / ρ 60 0) + (j : Int) % ρ 60 0) < 0 by omega)]; exact hcn)) (by first | (rw [cJ_n hCe]; exact hI) | (rw [cJ_y hCe, prP_a, if_neg (show ¬ ρ 4 (6 * ((j : Int) / ρ 60 0) + (j : Int) % ρ 60 0) < 0 by omega)]; exact hI)) (by omega) hM10 (lv_sub hl [2, 3, 4, 0] rfl)
        · refine lv_astoreN (lv' := [(4, .null), (0, .ref (G.2.2 60)), (1, .ref (G.2.2 3)), (2, .int (jI (((12 * (ρ 60 0).toNat : Nat) : Int)))), (3, .int (jI ((j : Int))))]) hx hb dX1_probing_47 hl (by decide) rfl (fun ls hl => ?_)
          refine lv_aloadN hx hb dX1_probing_49 (lv_at hl 0 rfl) ?_
          refine lv_ifnullN (tgt := 105) hx hb dX1_probing_51 (by decide) ?_
          refine x_iinc (lv' := [(3, .int (jI (((j : Int)) + 1))), (4, .null), (0, .ref (G.2.2 60)), (1, .ref (G.2.2 3)), (2, .int (jI (((12 * (ρ 60 0).toNat : Nat) : Int))))]) hx hb dX1_probing_105 hl (k := 4) rfl (by decide) rfl (fun ls hl => ?_)
          refine lv_goto (tgt := 39) hx hb dX1_probing_108 (by decide) ?_
          exact ih39  ((j + 1)) cn G τ _ _ _ (by first | omega | assumption | rfl) (by first | (rw [cJ_n hCe]; exact hcn) | (rw [cJ_y hCe, prP_a, if_neg (show ¬ ρ 4 (6 * ((j : Int) / ρ 60 0) + (j : Int) % ρ 60 0) < 0 by omega)]; exact hcn)) (by first | (rw [cJ_n hCe]; exact hI) | (rw [cJ_y hCe, prP_a, if_neg (show ¬ ρ 4 (6 * ((j : Int) / ρ 60 0) + (j : Int) % ρ 60 0) < 0 by omega)]; exact hI)) (by omega) hM8 (lv_sub hl [2, 3, 4, 0] rfl)
  exact c39 _ 0 0 G τn _ _ _ (by first | omega | assumption | rfl) rfl hI (Nat.lt_succ_self _) hM7 (lv_sub hl [3, 2, 1, 0] rfl)
