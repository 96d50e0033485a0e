set_option maxHeartbeats 400000 in
theorem l_setP (l : Launch) (E : y_E) (G : y_G) (σ : y_S) (sz : Nat) (ρ : y_S) (b : Nat) (l1 : Int) (i : Int) (hL : lgR E ρ G σ) (hCe : mCell (ρ 60 0) l1 i) : gCt l yX3_setting cX3_setting 2 (some .int) ({ frames := 0, cells := 0, slots := 0, locals := 0 }) E [.ref b, .ref (G.2.2 (cT l1 i))] G σ sz (gR (some (.int (jI (ρ 3 (6 * l1 + i))))) G σ) 0 0 := by
  refine g_met (by decide) (Nat.le_of_ble_eq_true rfl) ?_
  intro p e s m below meth c ls CF hr hlocks hnm hK hM0 hA hl
  have hx := CF.1
  have hb := CF.2.1
  have hts := CF.2.2.2.2
  have hl : lv_has ls 2 [(0, .ref b), (1, .ref (G.2.2 (cT l1 i)))] := hl
  obtain ⟨hO, hS, ⟨hm1, hm2, hm3, hm4, hm5⟩, hX, hD, hZ⟩ := id hL
  have hc5 := hm5 l1 i hCe
  refine lv_aload_n hx hb dX3_setting_0 rfl (lv_at hl 1 rfl) ?_
  refine g_geti CF hK hM0 (cT l1 i) (hL.2.1.1 _ _ (lKd_c hL.1.n.2 hCe)) 2 2 rfl rfl (by decide) (gLk.n hK q254) (fun _ h => h) rfl dX3_setting_1 ?_
  exact g_iret CF hr hlocks hM0 (g_pi hc5.2.2.1.symm) (by decide) (by decide) dX3_setting_4
set_option maxHeartbeats 400000 in
theorem l_offP (l : Launch) (E : y_E) (G : y_G) (σ : y_S) (sz : Nat) (b : Nat) (l1 : Int) (i : Int) : gCt l yX3_offset cX3_offset 2 (some .int) ({ frames := 0, cells := 0, slots := 0, locals := 0 }) E [.ref b, .ref (G.2.2 (cT l1 i))] G σ sz (gR (some (.int (jI 0))) G σ) 0 0 := by
  refine g_met (by decide) (Nat.le_of_ble_eq_true rfl) ?_
  intro p e s m below meth c ls CF hr hlocks hnm hK hM0 hA hl
  have hx := CF.1
  have hb := CF.2.1
  have hts := CF.2.2.2.2
  have hl : lv_has ls 2 [(0, .ref b), (1, .ref (G.2.2 (cT l1 i)))] := hl
  refine lv_iconst (v := jI 0) hx hb dX3_offset_0 rfl ?_
  exact g_iret CF hr hlocks hM0 (g_pi rfl) (by decide) (by decide) dX3_offset_1
set_option maxHeartbeats 400000 in
theorem l_warP (l : Launch) (E : y_E) (G : y_G) (σ : y_S) (sz : Nat) (b : Nat) : gCt l yX3_isWarm cX3_isWarm 1 (some .boolean) ({ frames := 0, cells := 0, slots := 0, locals := 0 }) E [.ref b] G σ sz (gR (some (.int (jI 0))) G σ) 0 0 := by
  refine g_met (by decide) (Nat.le_of_ble_eq_true rfl) ?_
  intro p e s m below meth c ls CF hr hlocks hnm hK hM0 hA hl
  have hx := CF.1
  have hb := CF.2.1
  have hts := CF.2.2.2.2
  have hl : lv_has ls 1 [(0, .ref b)] := hl
  refine lv_iconst (v := jI 0) hx hb dX3_isWarm_0 rfl ?_
  exact g_zret CF hr hlocks hM0 (by omega) (g_pi rfl) (by decide) (by decide) dX3_isWarm_1
set_option maxHeartbeats 400000 in
theorem l_warL (l : Launch) (E : y_E) (G : y_G) (σ : y_S) (sz : Nat) (b : Nat) : gCt l yX2_isWarm cX2_isWarm 1 (some .boolean) ({ frames := 0, cells := 0, slots := 0, locals := 0 }) E [.ref b] G σ sz (gR (some (.int (jI 1))) G σ) 0 0 := by
  refine g_met (by decide) (Nat.le_of_ble_eq_true rfl) ?_
  intro p e s m below meth c ls CF hr hlocks hnm hK hM0 hA hl
  have hx := CF.1
  have hb := CF.2.1
  have hts := CF.2.2.2.2
  have hl : lv_has ls 1 [(0, .ref b)] := hl
  refine lv_iconst (v := jI 1) hx hb dX2_isWarm_0 rfl ?_
  exact g_zret CF hr hlocks hM0 (by omega) (g_pi rfl) (by decide) (by decide) dX2_isWarm_1
set_option maxHeartbeats 400000 in
theorem l_offT (l : Launch) (E : y_E) (G : y_G) (σ : y_S) (sz : Nat) (ρ : y_S) (b : Nat) (l1 : Int) (i : Int) (hL : lgR E ρ G σ) (hCe : mCell (ρ 60 0) l1 i) : gCt l yX4_offset cX4_offset 2 (some .int) ({ frames := 0, cells := 0, slots := 0, locals := 0 }) E [.ref b, .ref (G.2.2 (cT l1 i))] G σ sz (gR (some (.int (jI (ρ 6 (6 * l1 + i))))) G σ) 0 0 := by
  refine g_met (by decide) (Nat.le_of_ble_eq_true rfl) ?_
  intro p e s m below meth c ls CF hr hlocks hnm hK hM0 hA hl
  have hx := CF.1
  have hb := CF.2.1
  have hts := CF.2.2.2.2
  have hl : lv_has ls 2 [(0, .ref b), (1, .ref (G.2.2 (cT l1 i)))] := hl
  obtain ⟨hO, hS, ⟨hm1, hm2, hm3, hm4, hm5⟩, hX, hD, hZ⟩ := id hL
  have hc5 := hm5 l1 i hCe
  refine lv_aload_n hx hb dX4_offset_0 rfl (lv_at hl 1 rfl) ?_
  refine g_geti CF hK hM0 (cT l1 i) (hL.2.1.1 _ _ (lKd_c hL.1.n.2 hCe)) 4 4 rfl rfl (by decide) (gLk.n hK q260) (fun _ h => h) rfl dX4_offset_1 ?_
  exact g_iret CF hr hlocks hM0 (g_pi hc5.2.2.2.2.1.symm) (by decide) (by decide) dX4_offset_4
set_option maxHeartbeats 400000 in
theorem l_warT6 (l : Launch) (E : y_E) (G : y_G) (σ : y_S) (sz : Nat) (ρ : y_S) (hL : lgR E ρ G σ) : gCt l yX4_isWarm cX4_isWarm 1 (some .boolean) ({ frames := 1, cells := 0, slots := 0, locals := 20 }) E [.ref (G.2.2 6)] G σ sz (gR (some (.int (jI 1))) G σ) 0 0 := by
  refine g_met (by decide) (Nat.le_of_ble_eq_true rfl) ?_
  intro p e s m below meth c ls CF hr hlocks hnm hK hM0 hA hl
  have hx := CF.1
  have hb := CF.2.1
  have hts := CF.2.2.2.2
  have hl : lv_has ls 1 [(0, .ref (G.2.2 6))] := hl
  refine lv_aload_n hx hb dX4_isWarm_0 rfl (lv_at hl 0 rfl) ?_
  refine g_calli (r := 0) hM0 hA (g_runSU (As := []) (rest := []) CF hK hM0 (hL.2.1.1 6 _ rfl) rfl (l_warP l E _ _ _ (G.2.2 6)  ) (g_cs 0 hts q446 q1473 q147 q447 q63 q448 rfl rfl (by decide +kernel) ⟨Nat.le_of_ble_eq_true rfl, Nat.le_of_ble_eq_true rfl⟩) rfl hl.1 rfl (Nat.le_of_ble_eq_true rfl) dX4_isWarm_1 ⟨Nat.le_of_ble_eq_true rfl, Nat.le_of_ble_eq_true rfl⟩) (fun H locs hM1 => ?_)
  refine x_if_ne (tgt := 11) hx hb dX4_isWarm_4 (by decide) (by omega) (fun b4 => ?_) (fun b4 => ?_)
  · exact absurd b4 (by decide)
  · refine lv_iconst (v := jI 1) hx hb dX4_isWarm_7 rfl ?_
    refine lv_goto (tgt := 12) hx hb dX4_isWarm_8 (by decide) ?_
    exact g_zret CF hr hlocks hM1 (by omega) (g_pi rfl) (by decide) (by decide) dX4_isWarm_12
set_option maxHeartbeats 400000 in
theorem l_warT7 (l : Launch) (E : y_E) (G : y_G) (σ : y_S) (sz : Nat) (ρ : y_S) (hL : lgR E ρ G σ) : gCt l yX4_isWarm cX4_isWarm 1 (some .boolean) ({ frames := 1, cells := 0, slots := 0, locals := 20 }) E [.ref (G.2.2 7)] G σ sz (gR (some (.int (jI 1))) G σ) 0 0 := by
  refine g_met (by decide) (Nat.le_of_ble_eq_true rfl) ?_
  intro p e s m below meth c ls CF hr hlocks hnm hK hM0 hA hl
  have hx := CF.1
  have hb := CF.2.1
  have hts := CF.2.2.2.2
  have hl : lv_has ls 1 [(0, .ref (G.2.2 7))] := hl
  refine lv_aload_n hx hb dX4_isWarm_0 rfl (lv_at hl 0 rfl) ?_
  refine g_calli (r := 0) hM0 hA (g_runSU (As := []) (rest := []) CF hK hM0 (hL.2.1.1 7 _ rfl) rfl (l_warP l E _ _ _ (G.2.2 7)  ) (g_cs 0 hts q446 q1473 q147 q447 q63 q448 rfl rfl (by decide +kernel) ⟨Nat.le_of_ble_eq_true rfl, Nat.le_of_ble_eq_true rfl⟩) rfl hl.1 rfl (Nat.le_of_ble_eq_true rfl) dX4_isWarm_1 ⟨Nat.le_of_ble_eq_true rfl, Nat.le_of_ble_eq_true rfl⟩) (fun H locs hM1 => ?_)
  refine x_if_ne (tgt := 11) hx hb dX4_isWarm_4 (by decide) (by omega) (fun b4 => ?_) (fun b4 => ?_)
  · exact absurd b4 (by decide)
  · refine lv_iconst (v := jI 1) hx hb dX4_isWarm_7 rfl ?_
    refine lv_goto (tgt := 12) hx hb dX4_isWarm_8 (by decide) ?_
    exact g_zret CF hr hlocks hM1 (by omega) (g_pi rfl) (by decide) (by decide) dX4_isWarm_12
set_option maxHeartbeats 400000 in
theorem l_offG (l : Launch) (E : y_E) (G : y_G) (σ : y_S) (sz : Nat) (ρ : y_S) (κ : y_S) (l1 : Int) (i : Int) (hL : lgR E ρ G σ) (hCe : mCell (ρ 60 0) l1 i) (hLk : lkK 7 ρ G σ κ) : gCt l yX5_offset cX5_offset 2 (some .int) ({ frames := 4, cells := 0, slots := 0, locals := 89 }) E [.ref (G.2.2 7), .ref (G.2.2 (cT l1 i))] G σ sz (gR (some (.int (jI (κ 9 (6 * l1 + i))))) G σ) 0 0 := by
  refine g_met (by decide) (Nat.le_of_ble_eq_true rfl) ?_
  intro p e s m below meth c ls CF hr hlocks hnm hK hM0 hA hl
  have hx := CF.1
  have hb := CF.2.1
  have hts := CF.2.2.2.2
  have hl : lv_has ls 2 [(0, .ref (G.2.2 7)), (1, .ref (G.2.2 (cT l1 i)))] := hl
  obtain ⟨hO, hS, ⟨hm1, hm2, hm3, hm4, hm5⟩, hX, hD, hZ⟩ := id hL
  have hn := hO.n
  have hck := lCk_c hn.2 hCe
  have hlk : κ 9 (6 * l1 + i) = mKn ρ (6 * l1 + i) (ρ 60 41) + (if some (G.2.2 (cT l1 i)) = G.2.1 7 3 then σ 7 4 else 0) := (hLk.2 _ hck).2
  have hrn := hO.rn
  refine lv_aload_n hx hb dX5_offset_0 rfl (lv_at hl 0 rfl) ?_
  refine g_getr CF hK hM0 7 (hL.2.1.1 7 _ rfl) 5 5 rfl rfl (by decide) (Or.inl (hts _ q158)) (fun _ h => h) rfl (G.2.2 60) (hL.2.1.th (t := 7) (k := 5) (by decide)) dX5_offset_1 ?_
  refine lv_aload_n hx hb dX5_offset_4 rfl (lv_at hl 1 rfl) ?_
  refine lv_aload_n hx hb dX5_offset_5 rfl (lv_at hl 0 rfl) ?_
  refine g_getr CF hK hM0 7 (hL.2.1.1 7 _ rfl) 5 5 rfl rfl (by decide) (Or.inl (hts _ q158)) (fun _ h => h) rfl (G.2.2 60) (hL.2.1.th (t := 7) (k := 5) (by decide)) dX5_offset_6 ?_
  refine g_getr CF hK hM0 60 (hL.2.1.1 60 _ rfl) 27 27 rfl rfl (by decide) (gLk.n hK q315) (fun _ h => h) rfl (G.2.2 27) (hL.2.1.2.1 27 27 rfl) dX5_offset_9 ?_
  refine g_calli (r := σ 27 2) hM0 hA (g_runV (As := []) (rest := [.ref (G.2.2 (cT l1 i)), .ref (G.2.2 60)]) CF hK hM0 (hL.2.1.1 27 _ rfl) rfl (j_size l E _ _ _ 27  (hL.2.1.1 27 _ rfl)) (cwV 0 hts (lw_V q501 q480 q481 q70 q482) rfl rfl rfl (by decide +kernel) ⟨Nat.le_of_ble_eq_true rfl, Nat.le_of_ble_eq_true rfl⟩) rfl hl.1 rfl (Nat.le_of_ble_eq_true rfl) dX5_offset_12 ⟨Nat.le_of_ble_eq_true rfl, Nat.le_of_ble_eq_true rfl⟩) (fun H locs hM1 => ?_)
  refine x_top (b := ρ 60 41) hD.1.1.1 ?_
  refine g_calli (r := mKn ρ (6 * l1 + i) (ρ 60 41)) hM1 hA (g_runVN (As := [.ref (G.2.2 (cT l1 i)), .int (jI (ρ 60 41))]) (rest := []) CF hK hM1 (hL.2.1.1 60 _ rfl) rfl (l_known l E _ _ _ ρ l1 i (ρ 60 41) hL hCe (by first | omega | assumption | (refine ⟨?_, ?_⟩ <;> omega))) ⟨va_cnB 2 hts (lw_meth q478) rfl rfl rfl (hK.2.2.1 _ q502 rfl) (hts _ q60) (by decide +kernel) ⟨Nat.le_of_ble_eq_true rfl, Nat.le_of_ble_eq_true rfl⟩, hts _ q477, hts _ qs2⟩ rfl hl.1 rfl (Nat.le_of_ble_eq_true rfl) dX5_offset_15 ⟨Nat.le_of_ble_eq_true rfl, Nat.le_of_ble_eq_true rfl⟩) (fun H locs hM2 => ?_)
  refine lv_aload_n hx hb dX5_offset_18 rfl (lv_at hl 1 rfl) ?_
  refine lv_aload_n hx hb dX5_offset_19 rfl (lv_at hl 0 rfl) ?_
  refine g_getq CF hK hM2 7 (hL.2.1.1 7 _ rfl) 3 3 rfl rfl (by decide) (Or.inl (hts _ q154)) (fun _ h => h) rfl (r := G.2.1 7 3) rfl dX5_offset_20 ?_
  refine lv_acmp_ne (rx := (some (G.2.2 (cT l1 i)))) (ry := (G.2.1 7 3)) (tgt := 33) hx hb dX5_offset_23 (by decide) (fun b23 => ?_) (fun b23 => ?_)
  · refine lv_iconst (v := jI 0) hx hb dX5_offset_33 rfl ?_
    refine x_iadd hx hb dX5_offset_34 ?_
    exact g_iret CF hr hlocks hM2 (g_pi (by rw [hlk]; first | rw [if_pos b23] | rw [if_neg b23])) (by decide) (by decide) dX5_offset_35
  · refine lv_aload_n hx hb dX5_offset_26 rfl (lv_at hl 0 rfl) ?_
    refine g_geti CF hK hM2 7 (hL.2.1.1 7 _ rfl) 4 4 rfl rfl (by decide) (Or.inl (hts _ q156)) (fun _ h => h) rfl dX5_offset_27 ?_
    refine lv_goto (tgt := 34) hx hb dX5_offset_30 (by decide) ?_
    refine x_iadd hx hb dX5_offset_34 ?_
    exact g_iret CF hr hlocks hM2 (g_pi (by rw [hlk]; first | rw [if_pos b23] | rw [if_neg b23])) (by decide) (by decide) dX5_offset_35
set_option maxHeartbeats 400000 in
theorem l_setA (l : Launch) (E : y_E) (G : y_G) (σ : y_S) (sz : Nat) (ρ : y_S) (κ : y_S) (l1 : Int) (i : Int) (hL : lgR E ρ G σ) (hCe : mCell (ρ 60 0) l1 i) (hLk : lkK 8 ρ G σ κ) : gCt l yX6_setting cX6_setting 2 (some .int) ({ frames := 0, cells := 0, slots := 0, locals := 0 }) E [.ref (G.2.2 8), .ref (G.2.2 (cT l1 i))] G σ sz (gR (some (.int (jI (κ 8 (6 * l1 + i))))) G σ) 0 0 := by
  refine g_met (by decide) (Nat.le_of_ble_eq_true rfl) ?_
  intro p e s m below meth c ls CF hr hlocks hnm hK hM0 hA hl
  have hx := CF.1
  have hb := CF.2.1
  have hts := CF.2.2.2.2
  have hl : lv_has ls 2 [(0, .ref (G.2.2 8)), (1, .ref (G.2.2 (cT l1 i)))] := hl
  obtain ⟨hO, hS, ⟨hm1, hm2, hm3, hm4, hm5⟩, hX, hD, hZ⟩ := id hL
  have hn := hO.n
  have hck := lCk_c hn.2 hCe
  have hc5 := hm5 l1 i hCe
  obtain ⟨q, hq0, hq1, hq2⟩ := id hLk
  have hRu := hD.1.2 q hq0
  have hrn := hO.rn
  have hmul : 0 ≤ l1 * ρ 60 0 ∧ l1 * ρ 60 0 ≤ 11 * ρ 60 0 := ⟨Int.mul_nonneg (by omega) (by omega), Int.mul_le_mul_of_nonneg_right (by omega) (by omega)⟩
  refine lv_aload_n hx hb dX6_setting_0 rfl (lv_at hl 0 rfl) ?_
  refine g_getr CF hK hM0 8 (hL.2.1.1 8 _ rfl) 1 1 rfl rfl (by decide) (Or.inl (hts _ q175)) (fun _ h => h) rfl (G.2.2 (1000 + 4 * q)) hq1 dX6_setting_1 ?_
  refine g_getr CF hK hM0 (1000 + 4 * q) hRu.1.1 3 3 rfl rfl (by decide) (gLk.n hK q914) (fun _ h => h) rfl (G.2.2 (1003 + 4 * q)) hRu.2.1.2.2.1 dX6_setting_4 ?_
  refine lv_aload_n hx hb dX6_setting_7 rfl (lv_at hl 1 rfl) ?_
  refine g_geti CF hK hM0 (cT l1 i) (hL.2.1.1 _ _ (lKd_c hL.1.n.2 hCe)) 0 0 rfl rfl (by decide) (gLk.n hK q246) (fun _ h => h) rfl dX6_setting_8 ?_
  refine x_top (b := l1) hc5.1 ?_
  refine lv_aload_n hx hb dX6_setting_11 rfl (lv_at hl 0 rfl) ?_
  refine g_getr CF hK hM0 8 (hL.2.1.1 8 _ rfl) 2 2 rfl rfl (by decide) (Or.inl (hts _ q177)) (fun _ h => h) rfl (G.2.2 60) (hL.2.1.th (t := 8) (k := 2) (by decide)) dX6_setting_12 ?_
  refine g_geti CF hK hM0 60 (hL.2.1.1 60 _ rfl) 2 2 rfl rfl (by decide) (gLk.n hK q283) (fun _ h => h) rfl dX6_setting_15 ?_
  refine x_top (b := ρ 60 0) hm1 ?_
  refine x_imul hx hb dX6_setting_18 ?_
  refine lv_aload_n hx hb dX6_setting_19 rfl (lv_at hl 1 rfl) ?_
  refine g_geti CF hK hM0 (cT l1 i) (hL.2.1.1 _ _ (lKd_c hL.1.n.2 hCe)) 1 1 rfl rfl (by decide) (gLk.n hK q250) (fun _ h => h) rfl dX6_setting_20 ?_
  refine x_top (b := i) hc5.2.1 ?_
  refine x_iadd hx hb dX6_setting_23 ?_
  refine g_iald CF hK hM0 (1003 + 4 * q) hRu.1.2.2.2 (i := (l1 * (ρ 60 0)) + i) (by omega) (by omega) (by omega) dX6_setting_24 ?_
  exact g_iret CF hr hlocks hM0 (g_pi (by rw [(hq2 _ hck).1, hRu.2.2.2.2 l1 i hCe])) (by decide) (by decide) dX6_setting_25
set_option maxHeartbeats 400000 in
theorem l_offA (l : Launch) (E : y_E) (G : y_G) (σ : y_S) (sz : Nat) (ρ : y_S) (κ : y_S) (l1 : Int) (i : Int) (hL : lgR E ρ G σ) (hCe : mCell (ρ 60 0) l1 i) (hLk : lkK 8 ρ G σ κ) : gCt l yX6_offset cX6_offset 2 (some .int) ({ frames := 4, cells := 0, slots := 0, locals := 89 }) E [.ref (G.2.2 8), .ref (G.2.2 (cT l1 i))] G σ sz (gR (some (.int (jI (κ 9 (6 * l1 + i))))) G σ) 0 0 := by
  refine g_met (by decide) (Nat.le_of_ble_eq_true rfl) ?_
  intro p e s m below meth c ls CF hr hlocks hnm hK hM0 hA hl
  have hx := CF.1
  have hb := CF.2.1
  have hts := CF.2.2.2.2
  have hl : lv_has ls 2 [(0, .ref (G.2.2 8)), (1, .ref (G.2.2 (cT l1 i)))] := hl
  obtain ⟨hO, hS, ⟨hm1, hm2, hm3, hm4, hm5⟩, hX, hD, hZ⟩ := id hL
  have hn := hO.n
  have hck := lCk_c hn.2 hCe
  obtain ⟨q, hq0, hq1, hq2⟩ := id hLk
  have hRu := hD.1.2 q hq0
  have hrn := hO.rn
  refine lv_aload_n hx hb dX6_offset_0 rfl (lv_at hl 0 rfl) ?_
  refine g_getr CF hK hM0 8 (hL.2.1.1 8 _ rfl) 2 2 rfl rfl (by decide) (Or.inl (hts _ q177)) (fun _ h => h) rfl (G.2.2 60) (hL.2.1.th (t := 8) (k := 2) (by decide)) dX6_offset_1 ?_
  refine lv_aload_n hx hb dX6_offset_4 rfl (lv_at hl 1 rfl) ?_
  refine lv_aload_n hx hb dX6_offset_5 rfl (lv_at hl 0 rfl) ?_
  refine g_getr CF hK hM0 8 (hL.2.1.1 8 _ rfl) 1 1 rfl rfl (by decide) (Or.inl (hts _ q175)) (fun _ h => h) rfl (G.2.2 (1000 + 4 * q)) hq1 dX6_offset_6 ?_
  refine g_geti CF hK hM0 (1000 + 4 * q) hRu.1.1 0 0 rfl rfl (by decide) (gLk.n hK q907) (fun _ h => h) rfl dX6_offset_9 ?_
  refine x_top (b := (q : Int)) hRu.2.2.1 ?_
  refine g_calli (r := mKn ρ (6 * l1 + i) ((q : Int))) hM0 hA (g_runVN (As := [.ref (G.2.2 (cT l1 i)), .int (jI ((q : Int)))]) (rest := []) CF hK hM0 (hL.2.1.1 60 _ rfl) rfl (l_known l E _ _ _ ρ l1 i ((q : Int)) hL hCe (by first | omega | assumption | (refine ⟨?_, ?_⟩ <;> omega))) ⟨va_cnB 2 hts (lw_meth q478) rfl rfl rfl (hK.2.2.1 _ q475 rfl) (hts _ q60) (by decide +kernel) ⟨Nat.le_of_ble_eq_true rfl, Nat.le_of_ble_eq_true rfl⟩, hts _ q477, hts _ qs2⟩ rfl hl.1 rfl (Nat.le_of_ble_eq_true rfl) dX6_offset_12 ⟨Nat.le_of_ble_eq_true rfl, Nat.le_of_ble_eq_true rfl⟩) (fun H locs hM1 => ?_)
  exact g_iret CF hr hlocks hM1 (g_pi (by rw [(hq2 _ hck).2])) (by decide) (by decide) dX6_offset_15
set_option maxHeartbeats 400000 in
theorem l_heatAt6 (l : Launch) (E : y_E) (G : y_G) (σ : y_S) (sz : Nat) (ρ : y_S) (κ : y_S) (l1 : Int) (i : Int) (hL : lgR E ρ G σ) (hκ : mSame [8, 9, 10] ρ κ) (hB : mBy κ) (hLk : lkK 6 ρ G σ κ) (hl1 : R32 l1) (hi : R32 i) : gCt l yX2_heatAt cX2_heatAt 4 (some .int) ({ frames := 3, cells := 0, slots := 0, locals := 65 }) E [.ref (G.2.2 6), .int (jI l1), .int (jI i)] G σ sz (gR (some (.int (jI (mHe κ l1 i)))) G σ) 0 0 := by
  refine g_met (by decide) (Nat.le_of_ble_eq_true rfl) ?_
  intro p e s m below meth c ls CF hr hlocks hnm hK hM0 hA hl
  have hx := CF.1
  have hb := CF.2.1
  have hts := CF.2.2.2.2
  have hl : lv_has ls 4 [(0, .ref (G.2.2 6)), (1, .int (jI l1)), (2, .int (jI i))] := hl
  obtain ⟨hO, hS, ⟨hm1, hm2, hm3, hm4, hm5⟩, hX, hD, hZ⟩ := id hL
  have hn := hO.n
  have e60 : κ 60 = ρ 60 := hκ 60 (by decide)
  have e4 : κ 4 = ρ 4 := hκ 4 (by decide)
  refine lv_aload_n hx hb dX2_heatAt_0 rfl (lv_at hl 0 rfl) ?_
  refine g_getr CF hK hM0 6 (hL.2.1.1 6 _ rfl) 0 0 rfl rfl (by decide) (Or.inl (hts _ q129)) (fun _ h => h) rfl (G.2.2 60) (hL.2.1.th (t := 6) (k := 0) (by decide)) dX2_heatAt_1 ?_
  refine lv_iload_n hx hb dX2_heatAt_4 rfl (lv_at hl 1 rfl) ?_
  refine lv_iload_n hx hb dX2_heatAt_5 rfl (lv_at hl 2 rfl) ?_
  refine g_callc hM0 hA (g_runVN (As := [.int (jI l1), .int (jI i)]) (rest := []) CF hK hM0 (hL.2.1.1 60 _ rfl) rfl (l_cellAt l E _ _ _ ρ l1 i hL (by first | omega | assumption | (refine ⟨?_, ?_⟩ <;> omega)) (by first | omega | assumption | (refine ⟨?_, ?_⟩ <;> omega))) ⟨va_cnB 2 hts (lw_meth q396) rfl rfl rfl (hK.2.2.1 _ q456 rfl) (hts _ q60) (by decide +kernel) ⟨Nat.le_of_ble_eq_true rfl, Nat.le_of_ble_eq_true rfl⟩, hts _ q395, hts _ qs0⟩ rfl hl.1 rfl (Nat.le_of_ble_eq_true rfl) dX2_heatAt_6 ⟨Nat.le_of_ble_eq_true rfl, Nat.le_of_ble_eq_true rfl⟩) (fun hCe H locs hM1 => ?_) (fun hCe H locs hM1 => ?_)
  · refine lv_astore_n (lv' := [(3, .ref (G.2.2 (cT l1 i))), (0, .ref (G.2.2 6)), (1, .int (jI l1)), (2, .int (jI i))]) hx hb dX2_heatAt_9 rfl hl (by decide) rfl (fun ls hl => ?_)
    refine lv_aload_n hx hb dX2_heatAt_10 rfl (lv_at hl 0 rfl) ?_
    refine lv_ifnonnull (tgt := 18) hx hb dX2_heatAt_11 (by decide) ?_
    have hck := lCk_c hn.2 hCe
    have hc5 := hm5 l1 i hCe
    have hpl := hO.p (6 * l1 + i) (by omega) (by omega)
    have hby := hB (6 * l1 + i) (by omega) (by omega)
    refine lv_aload_n hx hb dX2_heatAt_18 rfl (lv_at hl 0 rfl) ?_
    refine g_calli (r := (if ρ 4 (6 * l1 + i) ≠ -1 then 1 else 0)) hM1 hA (g_runV (As := []) (rest := []) CF hK hM1 (hL.2.1.1 _ _ (lKd_c hL.1.n.2 hCe)) rfl (l_isDead l E _ _ _ ρ l1 i  (hL.w) (by first | omega | assumption | (refine ⟨?_, ?_⟩ <;> omega))) (cwV 0 hts (lw_V q438 q409 q410 q71 q411) rfl rfl rfl (by decide +kernel) ⟨Nat.le_of_ble_eq_true rfl, Nat.le_of_ble_eq_true rfl⟩) rfl hl.1 rfl (Nat.le_of_ble_eq_true rfl) dX2_heatAt_19 ⟨Nat.le_of_ble_eq_true rfl, Nat.le_of_ble_eq_true rfl⟩) (fun H locs hM2 => ?_)
    refine x_bif_eq (tgt := 32) hx hb dX2_heatAt_22 (by decide) (fun b22 => ?_) (fun b22 => ?_)
    · refine lv_aload_n hx hb dX2_heatAt_32 rfl (lv_at hl 1 rfl) ?_
      refine lv_aload_n hx hb dX2_heatAt_33 rfl (lv_at hl 0 rfl) ?_
      refine g_calli (r := ρ 3 (6 * l1 + i)) hM2 hA (g_runU (As := [.ref (G.2.2 (cT l1 i))]) (rest := []) CF hK hM2 (hL.2.1.1 6 _ rfl) rfl (l_setP l E _ _ _ ρ (G.2.2 6) l1 i  hL (by first | omega | assumption | (refine ⟨?_, ?_⟩ <;> omega))) (g_cu 1 hts q457 q459 (va_Decl.abs (hK.2.2.1 _ q458 rfl)) (hts _ q467) q464 q63 q465 rfl rfl (by decide +kernel) ⟨Nat.le_of_ble_eq_true rfl, Nat.le_of_ble_eq_true rfl⟩) rfl hl.1 rfl (Nat.le_of_ble_eq_true rfl) dX2_heatAt_34 ⟨Nat.le_of_ble_eq_true rfl, Nat.le_of_ble_eq_true rfl⟩) (fun H locs hM3 => ?_)
      refine x_top (b := κ 8 (6 * l1 + i)) ((hLk _ hck).1.symm) ?_
      refine g_calli (r := if (κ 8 (6 * l1 + i)) < 96 - (κ 8 (6 * l1 + i)) then (κ 8 (6 * l1 + i)) else 96 - (κ 8 (6 * l1 + i))) hM3 hA (g_runSN (As := [.int (jI (κ 8 (6 * l1 + i)))]) (rest := []) CF hK hM3 (l_heat l E _ _ _  (κ 8 (6 * l1 + i)) (by first | omega | assumption | (refine ⟨?_, ?_⟩ <;> omega)) (by first | omega | assumption | (refine ⟨?_, ?_⟩ <;> omega))) ⟨va_cnB 1 hts (lw_meth q427) rfl rfl rfl (hK.2.2.1 _ q468 rfl) (hts _ q60) (by decide +kernel) ⟨Nat.le_of_ble_eq_true rfl, Nat.le_of_ble_eq_true rfl⟩, hts _ q426, trivial⟩ rfl hl.1 rfl (Nat.le_of_ble_eq_true rfl) dX2_heatAt_37 ⟨Nat.le_of_ble_eq_true rfl, Nat.le_of_ble_eq_true rfl⟩) (fun H locs hM4 => ?_)
      exact g_iret CF hr hlocks hM4 (g_pi (mHe_k e60 e4 hCe (by omega) (by omega))) (by decide) (by decide) dX2_heatAt_40
    · refine lv_aload_n hx hb dX2_heatAt_25 rfl (lv_at hl 0 rfl) ?_
      refine g_geti CF hK hM2 (cT l1 i) (hL.2.1.1 _ _ (lKd_c hL.1.n.2 hCe)) 3 3 rfl rfl (by decide) (gLk.n hK q258) (fun _ h => h) rfl dX2_heatAt_26 ?_
      refine x_top (b := ρ 4 (6 * l1 + i)) hc5.2.2.2.1 ?_
      refine lv_goto (tgt := 37) hx hb dX2_heatAt_29 (by decide) ?_
      refine g_calli (r := if (ρ 4 (6 * l1 + i)) < 96 - (ρ 4 (6 * l1 + i)) then (ρ 4 (6 * l1 + i)) else 96 - (ρ 4 (6 * l1 + i))) hM2 hA (g_runSN (As := [.int (jI (ρ 4 (6 * l1 + i)))]) (rest := []) CF hK hM2 (l_heat l E _ _ _  (ρ 4 (6 * l1 + i)) (by first | omega | assumption | (refine ⟨?_, ?_⟩ <;> omega)) (by first | omega | assumption | (refine ⟨?_, ?_⟩ <;> omega))) ⟨va_cnB 1 hts (lw_meth q427) rfl rfl rfl (hK.2.2.1 _ q468 rfl) (hts _ q60) (by decide +kernel) ⟨Nat.le_of_ble_eq_true rfl, Nat.le_of_ble_eq_true rfl⟩, hts _ q426, trivial⟩ rfl hl.1 rfl (Nat.le_of_ble_eq_true rfl) dX2_heatAt_37 ⟨Nat.le_of_ble_eq_true rfl, Nat.le_of_ble_eq_true rfl⟩) (fun H locs hM5 => ?_)
      exact g_iret CF hr hlocks hM5 (g_pi (mHe_k e60 e4 hCe (by omega) (by omega))) (by decide) (by decide) dX2_heatAt_40
  · refine lv_astore_nN (lv' := [(3, .null), (0, .ref (G.2.2 6)), (1, .int (jI l1)), (2, .int (jI i))]) hx hb dX2_heatAt_9 rfl hl (by decide) rfl (fun ls hl => ?_)
    refine lv_aload_nN hx hb dX2_heatAt_10 rfl (lv_at hl 0 rfl) ?_
    refine lv_ifnonnullN hx hb dX2_heatAt_11 ?_
    refine lv_iconst (v := jI 0) hx hb dX2_heatAt_14 rfl ?_
    refine lv_goto (tgt := 40) hx hb dX2_heatAt_15 (by decide) ?_
    exact g_iret CF hr hlocks hM1 (g_pi (mHe_0 e60 hCe)) (by decide) (by decide) dX2_heatAt_40
set_option maxHeartbeats 400000 in
theorem l_heatAt7 (l : Launch) (E : y_E) (G : y_G) (σ : y_S) (sz : Nat) (ρ : y_S) (κ : y_S) (l1 : Int) (i : Int) (hL : lgR E ρ G σ) (hκ : mSame [8, 9, 10] ρ κ) (hB : mBy κ) (hLk : lkK 7 ρ G σ κ) (hl1 : R32 l1) (hi : R32 i) : gCt l yX2_heatAt cX2_heatAt 4 (some .int) ({ frames := 3, cells := 0, slots := 0, locals := 65 }) E [.ref (G.2.2 7), .int (jI l1), .int (jI i)] G σ sz (gR (some (.int (jI (mHe κ l1 i)))) G σ) 0 0 := by
  refine g_met (by decide) (Nat.le_of_ble_eq_true rfl) ?_
  intro p e s m below meth c ls CF hr hlocks hnm hK hM0 hA hl
  have hx := CF.1
  have hb := CF.2.1
  have hts := CF.2.2.2.2
  have hl : lv_has ls 4 [(0, .ref (G.2.2 7)), (1, .int (jI l1)), (2, .int (jI i))] := hl
  obtain ⟨hO, hS, ⟨hm1, hm2, hm3, hm4, hm5⟩, hX, hD, hZ⟩ := id hL
  have hn := hO.n
  have e60 : κ 60 = ρ 60 := hκ 60 (by decide)
  have e4 : κ 4 = ρ 4 := hκ 4 (by decide)
  refine lv_aload_n hx hb dX2_heatAt_0 rfl (lv_at hl 0 rfl) ?_
  refine g_getr CF hK hM0 7 (hL.2.1.1 7 _ rfl) 0 0 rfl rfl (by decide) (Or.inl (hts _ q129)) (fun _ h => h) rfl (G.2.2 60) (hL.2.1.th (t := 7) (k := 0) (by decide)) dX2_heatAt_1 ?_
  refine lv_iload_n hx hb dX2_heatAt_4 rfl (lv_at hl 1 rfl) ?_
  refine lv_iload_n hx hb dX2_heatAt_5 rfl (lv_at hl 2 rfl) ?_
  refine g_callc hM0 hA (g_runVN (As := [.int (jI l1), .int (jI i)]) (rest := []) CF hK hM0 (hL.2.1.1 60 _ rfl) rfl (l_cellAt l E _ _ _ ρ l1 i hL (by first | omega | assumption | (refine ⟨?_, ?_⟩ <;> omega)) (by first | omega | assumption | (refine ⟨?_, ?_⟩ <;> omega))) ⟨va_cnB 2 hts (lw_meth q396) rfl rfl rfl (hK.2.2.1 _ q456 rfl) (hts _ q60) (by decide +kernel) ⟨Nat.le_of_ble_eq_true rfl, Nat.le_of_ble_eq_true rfl⟩, hts _ q395, hts _ qs0⟩ rfl hl.1 rfl (Nat.le_of_ble_eq_true rfl) dX2_heatAt_6 ⟨Nat.le_of_ble_eq_true rfl, Nat.le_of_ble_eq_true rfl⟩) (fun hCe H locs hM1 => ?_) (fun hCe H locs hM1 => ?_)
  · refine lv_astore_n (lv' := [(3, .ref (G.2.2 (cT l1 i))), (0, .ref (G.2.2 7)), (1, .int (jI l1)), (2, .int (jI i))]) hx hb dX2_heatAt_9 rfl hl (by decide) rfl (fun ls hl => ?_)
    refine lv_aload_n hx hb dX2_heatAt_10 rfl (lv_at hl 0 rfl) ?_
    refine lv_ifnonnull (tgt := 18) hx hb dX2_heatAt_11 (by decide) ?_
    have hck := lCk_c hn.2 hCe
    have hc5 := hm5 l1 i hCe
    have hpl := hO.p (6 * l1 + i) (by omega) (by omega)
    have hby := hB (6 * l1 + i) (by omega) (by omega)
    refine lv_aload_n hx hb dX2_heatAt_18 rfl (lv_at hl 0 rfl) ?_
    refine g_calli (r := (if ρ 4 (6 * l1 + i) ≠ -1 then 1 else 0)) hM1 hA (g_runV (As := []) (rest := []) CF hK hM1 (hL.2.1.1 _ _ (lKd_c hL.1.n.2 hCe)) rfl (l_isDead l E _ _ _ ρ l1 i  (hL.w) (by first | omega | assumption | (refine ⟨?_, ?_⟩ <;> omega))) (cwV 0 hts (lw_V q438 q409 q410 q71 q411) rfl rfl rfl (by decide +kernel) ⟨Nat.le_of_ble_eq_true rfl, Nat.le_of_ble_eq_true rfl⟩) rfl hl.1 rfl (Nat.le_of_ble_eq_true rfl) dX2_heatAt_19 ⟨Nat.le_of_ble_eq_true rfl, Nat.le_of_ble_eq_true rfl⟩) (fun H locs hM2 => ?_)
    refine x_bif_eq (tgt := 32) hx hb dX2_heatAt_22 (by decide) (fun b22 => ?_) (fun b22 => ?_)
    · refine lv_aload_n hx hb dX2_heatAt_32 rfl (lv_at hl 1 rfl) ?_
      refine lv_aload_n hx hb dX2_heatAt_33 rfl (lv_at hl 0 rfl) ?_
      refine g_calli (r := ρ 3 (6 * l1 + i)) hM2 hA (g_runU (As := [.ref (G.2.2 (cT l1 i))]) (rest := []) CF hK hM2 (hL.2.1.1 7 _ rfl) rfl (l_setP l E _ _ _ ρ (G.2.2 7) l1 i  hL (by first | omega | assumption | (refine ⟨?_, ?_⟩ <;> omega))) (g_cu 1 hts q457 q459 (va_Decl.abs (hK.2.2.1 _ q458 rfl)) (hts _ q463) q464 q63 q465 rfl rfl (by decide +kernel) ⟨Nat.le_of_ble_eq_true rfl, Nat.le_of_ble_eq_true rfl⟩) rfl hl.1 rfl (Nat.le_of_ble_eq_true rfl) dX2_heatAt_34 ⟨Nat.le_of_ble_eq_true rfl, Nat.le_of_ble_eq_true rfl⟩) (fun H locs hM3 => ?_)
      refine x_top (b := κ 8 (6 * l1 + i)) ((hLk.2 _ hck).1.symm) ?_
      refine g_calli (r := if (κ 8 (6 * l1 + i)) < 96 - (κ 8 (6 * l1 + i)) then (κ 8 (6 * l1 + i)) else 96 - (κ 8 (6 * l1 + i))) hM3 hA (g_runSN (As := [.int (jI (κ 8 (6 * l1 + i)))]) (rest := []) CF hK hM3 (l_heat l E _ _ _  (κ 8 (6 * l1 + i)) (by first | omega | assumption | (refine ⟨?_, ?_⟩ <;> omega)) (by first | omega | assumption | (refine ⟨?_, ?_⟩ <;> omega))) ⟨va_cnB 1 hts (lw_meth q427) rfl rfl rfl (hK.2.2.1 _ q468 rfl) (hts _ q60) (by decide +kernel) ⟨Nat.le_of_ble_eq_true rfl, Nat.le_of_ble_eq_true rfl⟩, hts _ q426, trivial⟩ rfl hl.1 rfl (Nat.le_of_ble_eq_true rfl) dX2_heatAt_37 ⟨Nat.le_of_ble_eq_true rfl, Nat.le_of_ble_eq_true rfl⟩) (fun H locs hM4 => ?_)
      exact g_iret CF hr hlocks hM4 (g_pi (mHe_k e60 e4 hCe (by omega) (by omega))) (by decide) (by decide) dX2_heatAt_40
    · refine lv_aload_n hx hb dX2_heatAt_25 rfl (lv_at hl 0 rfl) ?_
      refine g_geti CF hK hM2 (cT l1 i) (hL.2.1.1 _ _ (lKd_c hL.1.n.2 hCe)) 3 3 rfl rfl (by decide) (gLk.n hK q258) (fun _ h => h) rfl dX2_heatAt_26 ?_
      refine x_top (b := ρ 4 (6 * l1 + i)) hc5.2.2.2.1 ?_
      refine lv_goto (tgt := 37) hx hb dX2_heatAt_29 (by decide) ?_
      refine g_calli (r := if (ρ 4 (6 * l1 + i)) < 96 - (ρ 4 (6 * l1 + i)) then (ρ 4 (6 * l1 + i)) else 96 - (ρ 4 (6 * l1 + i))) hM2 hA (g_runSN (As := [.int (jI (ρ 4 (6 * l1 + i)))]) (rest := []) CF hK hM2 (l_heat l E _ _ _  (ρ 4 (6 * l1 + i)) (by first | omega | assumption | (refine ⟨?_, ?_⟩ <;> omega)) (by first | omega | assumption | (refine ⟨?_, ?_⟩ <;> omega))) ⟨va_cnB 1 hts (lw_meth q427) rfl rfl rfl (hK.2.2.1 _ q468 rfl) (hts _ q60) (by decide +kernel) ⟨Nat.le_of_ble_eq_true rfl, Nat.le_of_ble_eq_true rfl⟩, hts _ q426, trivial⟩ rfl hl.1 rfl (Nat.le_of_ble_eq_true rfl) dX2_heatAt_37 ⟨Nat.le_of_ble_eq_true rfl, Nat.le_of_ble_eq_true rfl⟩) (fun H locs hM5 => ?_)
      exact g_iret CF hr hlocks hM5 (g_pi (mHe_k e60 e4 hCe (by omega) (by omega))) (by decide) (by decide) dX2_heatAt_40
  · refine lv_astore_nN (lv' := [(3, .null), (0, .ref (G.2.2 7)), (1, .int (jI l1)), (2, .int (jI i))]) hx hb dX2_heatAt_9 rfl hl (by decide) rfl (fun ls hl => ?_)
    refine lv_aload_nN hx hb dX2_heatAt_10 rfl (lv_at hl 0 rfl) ?_
    refine lv_ifnonnullN hx hb dX2_heatAt_11 ?_
    refine lv_iconst (v := jI 0) hx hb dX2_heatAt_14 rfl ?_
    refine lv_goto (tgt := 40) hx hb dX2_heatAt_15 (by decide) ?_
    exact g_iret CF hr hlocks hM1 (g_pi (mHe_0 e60 hCe)) (by decide) (by decide) dX2_heatAt_40
set_option maxHeartbeats 400000 in
theorem l_heatAt8 (l : Launch) (E : y_E) (G : y_G) (σ : y_S) (sz : Nat) (ρ : y_S) (κ : y_S) (l1 : Int) (i : Int) (hL : lgR E ρ G σ) (hκ : mSame [8, 9, 10] ρ κ) (hB : mBy κ) (hLk : lkK 8 ρ G σ κ) (hl1 : R32 l1) (hi : R32 i) : gCt l yX2_heatAt cX2_heatAt 4 (some .int) ({ frames := 3, cells := 0, slots := 0, locals := 65 }) E [.ref (G.2.2 8), .int (jI l1), .int (jI i)] G σ sz (gR (some (.int (jI (mHe κ l1 i)))) G σ) 0 0 := by
  refine g_met (by decide) (Nat.le_of_ble_eq_true rfl) ?_
  intro p e s m below meth c ls CF hr hlocks hnm hK hM0 hA hl
  have hx := CF.1
  have hb := CF.2.1
  have hts := CF.2.2.2.2
  have hl : lv_has ls 4 [(0, .ref (G.2.2 8)), (1, .int (jI l1)), (2, .int (jI i))] := hl
  obtain ⟨hO, hS, ⟨hm1, hm2, hm3, hm4, hm5⟩, hX, hD, hZ⟩ := id hL
  have hn := hO.n
  have e60 : κ 60 = ρ 60 := hκ 60 (by decide)
  have e4 : κ 4 = ρ 4 := hκ 4 (by decide)
  refine lv_aload_n hx hb dX2_heatAt_0 rfl (lv_at hl 0 rfl) ?_
  refine g_getr CF hK hM0 8 (hL.2.1.1 8 _ rfl) 0 0 rfl rfl (by decide) (Or.inl (hts _ q129)) (fun _ h => h) rfl (G.2.2 60) (hL.2.1.th (t := 8) (k := 0) (by decide)) dX2_heatAt_1 ?_
  refine lv_iload_n hx hb dX2_heatAt_4 rfl (lv_at hl 1 rfl) ?_
  refine lv_iload_n hx hb dX2_heatAt_5 rfl (lv_at hl 2 rfl) ?_
  refine g_callc hM0 hA (g_runVN (As := [.int (jI l1), .int (jI i)]) (rest := []) CF hK hM0 (hL.2.1.1 60 _ rfl) rfl (l_cellAt l E _ _ _ ρ l1 i hL (by first | omega | assumption | (refine ⟨?_, ?_⟩ <;> omega)) (by first | omega | assumption | (refine ⟨?_, ?_⟩ <;> omega))) ⟨va_cnB 2 hts (lw_meth q396) rfl rfl rfl (hK.2.2.1 _ q456 rfl) (hts _ q60) (by decide +kernel) ⟨Nat.le_of_ble_eq_true rfl, Nat.le_of_ble_eq_true rfl⟩, hts _ q395, hts _ qs0⟩ rfl hl.1 rfl (Nat.le_of_ble_eq_true rfl) dX2_heatAt_6 ⟨Nat.le_of_ble_eq_true rfl, Nat.le_of_ble_eq_true rfl⟩) (fun hCe H locs hM1 => ?_) (fun hCe H locs hM1 => ?_)
  · refine lv_astore_n (lv' := [(3, .ref (G.2.2 (cT l1 i))), (0, .ref (G.2.2 8)), (1, .int (jI l1)), (2, .int (jI i))]) hx hb dX2_heatAt_9 rfl hl (by decide) rfl (fun ls hl => ?_)
    refine lv_aload_n hx hb dX2_heatAt_10 rfl (lv_at hl 0 rfl) ?_
    refine lv_ifnonnull (tgt := 18) hx hb dX2_heatAt_11 (by decide) ?_
    have hck := lCk_c hn.2 hCe
    have hc5 := hm5 l1 i hCe
    have hpl := hO.p (6 * l1 + i) (by omega) (by omega)
    have hby := hB (6 * l1 + i) (by omega) (by omega)
    refine lv_aload_n hx hb dX2_heatAt_18 rfl (lv_at hl 0 rfl) ?_
    refine g_calli (r := (if ρ 4 (6 * l1 + i) ≠ -1 then 1 else 0)) hM1 hA (g_runV (As := []) (rest := []) CF hK hM1 (hL.2.1.1 _ _ (lKd_c hL.1.n.2 hCe)) rfl (l_isDead l E _ _ _ ρ l1 i  (hL.w) (by first | omega | assumption | (refine ⟨?_, ?_⟩ <;> omega))) (cwV 0 hts (lw_V q438 q409 q410 q71 q411) rfl rfl rfl (by decide +kernel) ⟨Nat.le_of_ble_eq_true rfl, Nat.le_of_ble_eq_true rfl⟩) rfl hl.1 rfl (Nat.le_of_ble_eq_true rfl) dX2_heatAt_19 ⟨Nat.le_of_ble_eq_true rfl, Nat.le_of_ble_eq_true rfl⟩) (fun H locs hM2 => ?_)
    refine x_bif_eq (tgt := 32) hx hb dX2_heatAt_22 (by decide) (fun b22 => ?_) (fun b22 => ?_)
    · refine lv_aload_n hx hb dX2_heatAt_32 rfl (lv_at hl 1 rfl) ?_
      refine lv_aload_n hx hb dX2_heatAt_33 rfl (lv_at hl 0 rfl) ?_
      refine g_calli (r := κ 8 (6 * l1 + i)) hM2 hA (g_runU (As := [.ref (G.2.2 (cT l1 i))]) (rest := []) CF hK hM2 (hL.2.1.1 8 _ rfl) rfl (l_setA l E _ _ _ ρ κ l1 i  hL (by first | omega | assumption | (refine ⟨?_, ?_⟩ <;> omega)) hLk) (g_cu 1 hts q457 q459 (va_Decl.abs (hK.2.2.1 _ q458 rfl)) (hts _ q460) q461 q66 q462 rfl rfl (by decide +kernel) ⟨Nat.le_of_ble_eq_true rfl, Nat.le_of_ble_eq_true rfl⟩) rfl hl.1 rfl (Nat.le_of_ble_eq_true rfl) dX2_heatAt_34 ⟨Nat.le_of_ble_eq_true rfl, Nat.le_of_ble_eq_true rfl⟩) (fun H locs hM3 => ?_)
      refine g_calli (r := if (κ 8 (6 * l1 + i)) < 96 - (κ 8 (6 * l1 + i)) then (κ 8 (6 * l1 + i)) else 96 - (κ 8 (6 * l1 + i))) hM3 hA (g_runSN (As := [.int (jI (κ 8 (6 * l1 + i)))]) (rest := []) CF hK hM3 (l_heat l E _ _ _  (κ 8 (6 * l1 + i)) (by first | omega | assumption | (refine ⟨?_, ?_⟩ <;> omega)) (by first | omega | assumption | (refine ⟨?_, ?_⟩ <;> omega))) ⟨va_cnB 1 hts (lw_meth q427) rfl rfl rfl (hK.2.2.1 _ q468 rfl) (hts _ q60) (by decide +kernel) ⟨Nat.le_of_ble_eq_true rfl, Nat.le_of_ble_eq_true rfl⟩, hts _ q426, trivial⟩ rfl hl.1 rfl (Nat.le_of_ble_eq_true rfl) dX2_heatAt_37 ⟨Nat.le_of_ble_eq_true rfl, Nat.le_of_ble_eq_true rfl⟩) (fun H locs hM4 => ?_)
      exact g_iret CF hr hlocks hM4 (g_pi (mHe_k e60 e4 hCe (by omega) (by omega))) (by decide) (by decide) dX2_heatAt_40
    · refine lv_aload_n hx hb dX2_heatAt_25 rfl (lv_at hl 0 rfl) ?_
      refine g_geti CF hK hM2 (cT l1 i) (hL.2.1.1 _ _ (lKd_c hL.1.n.2 hCe)) 3 3 rfl rfl (by decide) (gLk.n hK q258) (fun _ h => h) rfl dX2_heatAt_26 ?_
      refine x_top (b := ρ 4 (6 * l1 + i)) hc5.2.2.2.1 ?_
      refine lv_goto (tgt := 37) hx hb dX2_heatAt_29 (by decide) ?_
      refine g_calli (r := if (ρ 4 (6 * l1 + i)) < 96 - (ρ 4 (6 * l1 + i)) then (ρ 4 (6 * l1 + i)) else 96 - (ρ 4 (6 * l1 + i))) hM2 hA (g_runSN (As := [.int (jI (ρ 4 (6 * l1 + i)))]) (rest := []) CF hK hM2 (l_heat l E _ _ _  (ρ 4 (6 * l1 + i)) (by first | omega | assumption | (refine ⟨?_, ?_⟩ <;> omega)) (by first | omega | assumption | (refine ⟨?_, ?_⟩ <;> omega))) ⟨va_cnB 1 hts (lw_meth q427) rfl rfl rfl (hK.2.2.1 _ q468 rfl) (hts _ q60) (by decide +kernel) ⟨Nat.le_of_ble_eq_true rfl, Nat.le_of_ble_eq_true rfl⟩, hts _ q426, trivial⟩ rfl hl.1 rfl (Nat.le_of_ble_eq_true rfl) dX2_heatAt_37 ⟨Nat.le_of_ble_eq_true rfl, Nat.le_of_ble_eq_true rfl⟩) (fun H locs hM5 => ?_)
      exact g_iret CF hr hlocks hM5 (g_pi (mHe_k e60 e4 hCe (by omega) (by omega))) (by decide) (by decide) dX2_heatAt_40
  · refine lv_astore_nN (lv' := [(3, .null), (0, .ref (G.2.2 8)), (1, .int (jI l1)), (2, .int (jI i))]) hx hb dX2_heatAt_9 rfl hl (by decide) rfl (fun ls hl => ?_)
    refine lv_aload_nN hx hb dX2_heatAt_10 rfl (lv_at hl 0 rfl) ?_
    refine lv_ifnonnullN hx hb dX2_heatAt_11 ?_
    refine lv_iconst (v := jI 0) hx hb dX2_heatAt_14 rfl ?_
    refine lv_goto (tgt := 40) hx hb dX2_heatAt_15 (by decide) ?_
    exact g_iret CF hr hlocks hM1 (g_pi (mHe_0 e60 hCe)) (by decide) (by decide) dX2_heatAt_40
set_option maxHeartbeats 400000 in
theorem l_lturn5 (l : Launch) (E : y_E) (G : y_G) (σ : y_S) (sz : Nat) (ρ : y_S) (κ : y_S) (l1 : Int) (i : Int) (hL : lgR E ρ G σ) (hCe : mCell (ρ 60 0) l1 i) (hκ : mSame [8, 9, 10] ρ κ) (hB : mBy κ) (hLk : lkK 5 ρ G σ κ) : gCt l yX2_turn cX2_turn 3 (some .int) ({ frames := 2, cells := 0, slots := 0, locals := 42 }) E [.ref (G.2.2 5), .ref (G.2.2 (cT l1 i))] G σ sz (gR (some (.int (jI (mTf κ 0 l1 i)))) G σ) 0 0 := by
  refine g_met (by decide) (Nat.le_of_ble_eq_true rfl) ?_
  intro p e s m below meth c ls CF hr hlocks hnm hK hM0 hA hl
  have hx := CF.1
  have hb := CF.2.1
  have hts := CF.2.2.2.2
  have hl : lv_has ls 3 [(0, .ref (G.2.2 5)), (1, .ref (G.2.2 (cT l1 i)))] := hl
  obtain ⟨hO, hS, ⟨hm1, hm2, hm3, hm4, hm5⟩, hX, hD, hZ⟩ := id hL
  have hn := hO.n
  have hck := lCk_c hn.2 hCe
  have hc5 := hm5 l1 i hCe
  have e60 : κ 60 = ρ 60 := hκ 60 (by decide)
  have e4 : κ 4 = ρ 4 := hκ 4 (by decide)
  have e7 : κ 60 7 = ρ 60 7 := (by rw [e60])
  have hpl := hO.p (6 * l1 + i) (by omega) (by omega)
  have hby := hB (6 * l1 + i) (by omega) (by omega)
  have hcr := hO.cr
  have hNκ : mN κ := (by rw [show mN κ = mN ρ by unfold mN; rw [e60]]; exact hn)
  have hPκ : mPl κ := mPl_same e4 hO.p
  refine lv_aload_n hx hb dX2_turn_0 rfl (lv_at hl 1 rfl) ?_
  refine g_calli (r := (if ρ 4 (6 * l1 + i) ≠ -1 then 1 else 0)) hM0 hA (g_runV (As := []) (rest := []) CF hK hM0 (hL.2.1.1 _ _ (lKd_c hL.1.n.2 hCe)) rfl (l_isDead l E _ _ _ ρ l1 i  (hL.w) hCe) (cwV 0 hts (lw_V q438 q409 q410 q71 q411) rfl rfl rfl (by decide +kernel) ⟨Nat.le_of_ble_eq_true rfl, Nat.le_of_ble_eq_true rfl⟩) rfl hl.1 rfl (Nat.le_of_ble_eq_true rfl) dX2_turn_1 ⟨Nat.le_of_ble_eq_true rfl, Nat.le_of_ble_eq_true rfl⟩) (fun H locs hM1 => ?_)
  refine x_bif_eq (tgt := 12) hx hb dX2_turn_4 (by decide) (fun b4 => ?_) (fun b4 => ?_)
  · refine lv_aload_n hx hb dX2_turn_12 rfl (lv_at hl 0 rfl) ?_
    refine g_calli (r := 0) hM1 hA (g_runU (As := []) (rest := []) CF hK hM1 (hL.2.1.1 5 _ rfl) rfl (l_warP l E _ _ _ (G.2.2 5)  ) (g_cu 0 hts q439 q441 (va_Decl.of (hts _ q440) (hts _ q451)) (hts _ q449) q447 q63 q448 rfl rfl (by decide +kernel) ⟨Nat.le_of_ble_eq_true rfl, Nat.le_of_ble_eq_true rfl⟩) rfl hl.1 rfl (Nat.le_of_ble_eq_true rfl) dX2_turn_13 ⟨Nat.le_of_ble_eq_true rfl, Nat.le_of_ble_eq_true rfl⟩) (fun H locs hM2 => ?_)
    refine x_if_eq (tgt := 59) hx hb dX2_turn_16 (by decide) (by omega) (fun b16 => ?_) (fun b16 => ?_)
    · refine lv_iconst (v := jI 0) hx hb dX2_turn_59 rfl ?_
      refine lv_istore_n (lv' := [(2, .int (jI 0)), (0, .ref (G.2.2 5)), (1, .ref (G.2.2 (cT l1 i)))]) hx hb dX2_turn_60 rfl hl (by decide) rfl (fun ls hl => ?_)
      refine lv_aload_n hx hb dX2_turn_61 rfl (lv_at hl 1 rfl) ?_
      refine lv_aload_n hx hb dX2_turn_62 rfl (lv_at hl 2 rfl) ?_
      refine g_calli (r := ρ 3 (6 * l1 + i)) hM2 hA (g_runU (As := [.ref (G.2.2 (cT l1 i))]) (rest := []) CF hK hM2 (hL.2.1.1 5 _ rfl) rfl (l_setP l E _ _ _ ρ (G.2.2 5) l1 i  hL hCe) (g_cu 1 hts q457 q459 (va_Decl.abs (hK.2.2.1 _ q458 rfl)) (hts _ q466) q464 q63 q465 rfl rfl (by decide +kernel) ⟨Nat.le_of_ble_eq_true rfl, Nat.le_of_ble_eq_true rfl⟩) rfl hl.1 rfl (Nat.le_of_ble_eq_true rfl) dX2_turn_63 ⟨Nat.le_of_ble_eq_true rfl, Nat.le_of_ble_eq_true rfl⟩) (fun H locs hM3 => ?_)
      refine x_top (b := κ 8 (6 * l1 + i)) ((hLk _ hck).symm) ?_
      refine lv_iload_n hx hb dX2_turn_66 rfl (lv_at hl 0 rfl) ?_
      refine x_iadd hx hb dX2_turn_67 ?_
      refine lv_aload_n hx hb dX2_turn_68 rfl (lv_at hl 1 rfl) ?_
      refine lv_aload_n hx hb dX2_turn_69 rfl (lv_at hl 2 rfl) ?_
      refine g_calli (r := 0) hM3 hA (g_runU (As := [.ref (G.2.2 (cT l1 i))]) (rest := [.int (jI ((κ 8 (6 * l1 + i)) + 0))]) CF hK hM3 (hL.2.1.1 5 _ rfl) rfl (l_offP l E _ _ _ (G.2.2 5) l1 i  ) (g_cu 1 hts q469 q471 (va_Decl.abs (hK.2.2.1 _ q470 rfl)) (hts _ q503) q504 q63 q505 rfl rfl (by decide +kernel) ⟨Nat.le_of_ble_eq_true rfl, Nat.le_of_ble_eq_true rfl⟩) rfl hl.1 rfl (Nat.le_of_ble_eq_true rfl) dX2_turn_70 ⟨Nat.le_of_ble_eq_true rfl, Nat.le_of_ble_eq_true rfl⟩) (fun H locs hM4 => ?_)
      refine x_iadd hx hb dX2_turn_73 ?_
      refine g_calli (r := (((κ 8 (6 * l1 + i)) + 0) + 0) % 96) hM4 hA (g_runSN (As := [.int (jI (((κ 8 (6 * l1 + i)) + 0) + 0))]) (rest := []) CF hK hM4 (l_whole l E _ _ _  (((κ 8 (6 * l1 + i)) + 0) + 0) (by first | omega | assumption | (refine ⟨?_, ?_⟩ <;> omega))) ⟨va_cnB 1 hts (lw_meth q98) rfl rfl rfl (hK.2.2.1 _ q509 rfl) (hts _ q60) (by decide +kernel) ⟨Nat.le_of_ble_eq_true rfl, Nat.le_of_ble_eq_true rfl⟩, hts _ q97, trivial⟩ rfl hl.1 rfl (Nat.le_of_ble_eq_true rfl) dX2_turn_74 ⟨Nat.le_of_ble_eq_true rfl, Nat.le_of_ble_eq_true rfl⟩) (fun H locs hM5 => ?_)
      exact g_iret CF hr hlocks hM5 (g_pi (by unfold mTf; rw [if_pos rfl]; unfold mTo; rw [e4, if_neg (by omega)]; omega)) (by decide) (by decide) dX2_turn_77
    · exact absurd rfl b16
  · refine lv_aload_n hx hb dX2_turn_7 rfl (lv_at hl 1 rfl) ?_
    refine g_geti CF hK hM1 (cT l1 i) (hL.2.1.1 _ _ (lKd_c hL.1.n.2 hCe)) 3 3 rfl rfl (by decide) (gLk.n hK q258) (fun _ h => h) rfl dX2_turn_8 ?_
    refine x_top (b := ρ 4 (6 * l1 + i)) hc5.2.2.2.1 ?_
    exact g_iret CF hr hlocks hM1 (g_pi (by unfold mTf; rw [if_pos rfl]; unfold mTo; rw [e4, if_pos (by omega)])) (by decide) (by decide) dX2_turn_11
set_option maxHeartbeats 400000 in
theorem l_lturn6 (l : Launch) (E : y_E) (G : y_G) (σ : y_S) (sz : Nat) (ρ : y_S) (κ : y_S) (l1 : Int) (i : Int) (hL : lgR E ρ G σ) (hCe : mCell (ρ 60 0) l1 i) (hκ : mSame [8, 9, 10] ρ κ) (hB : mBy κ) (hLk : lkK 6 ρ G σ κ) : gCt l yX2_turn cX2_turn 3 (some .int) ({ frames := 4, cells := 0, slots := 0, locals := 88 }) E [.ref (G.2.2 6), .ref (G.2.2 (cT l1 i))] G σ sz (gR (some (.int (jI (mTf κ 1 l1 i)))) G σ) 0 0 := by
  refine g_met (by decide) (Nat.le_of_ble_eq_true rfl) ?_
  intro p e s m below meth c ls CF hr hlocks hnm hK hM0 hA hl
  have hx := CF.1
  have hb := CF.2.1
  have hts := CF.2.2.2.2
  have hl : lv_has ls 3 [(0, .ref (G.2.2 6)), (1, .ref (G.2.2 (cT l1 i)))] := hl
  obtain ⟨hO, hS, ⟨hm1, hm2, hm3, hm4, hm5⟩, hX, hD, hZ⟩ := id hL
  have hn := hO.n
  have hck := lCk_c hn.2 hCe
  have hc5 := hm5 l1 i hCe
  have e60 : κ 60 = ρ 60 := hκ 60 (by decide)
  have e4 : κ 4 = ρ 4 := hκ 4 (by decide)
  have e7 : κ 60 7 = ρ 60 7 := (by rw [e60])
  have hpl := hO.p (6 * l1 + i) (by omega) (by omega)
  have hby := hB (6 * l1 + i) (by omega) (by omega)
  have hcr := hO.cr
  have hNκ : mN κ := (by rw [show mN κ = mN ρ by unfold mN; rw [e60]]; exact hn)
  have hPκ : mPl κ := mPl_same e4 hO.p
  refine lv_aload_n hx hb dX2_turn_0 rfl (lv_at hl 1 rfl) ?_
  refine g_calli (r := (if ρ 4 (6 * l1 + i) ≠ -1 then 1 else 0)) hM0 hA (g_runV (As := []) (rest := []) CF hK hM0 (hL.2.1.1 _ _ (lKd_c hL.1.n.2 hCe)) rfl (l_isDead l E _ _ _ ρ l1 i  (hL.w) hCe) (cwV 0 hts (lw_V q438 q409 q410 q71 q411) rfl rfl rfl (by decide +kernel) ⟨Nat.le_of_ble_eq_true rfl, Nat.le_of_ble_eq_true rfl⟩) rfl hl.1 rfl (Nat.le_of_ble_eq_true rfl) dX2_turn_1 ⟨Nat.le_of_ble_eq_true rfl, Nat.le_of_ble_eq_true rfl⟩) (fun H locs hM1 => ?_)
  refine x_bif_eq (tgt := 12) hx hb dX2_turn_4 (by decide) (fun b4 => ?_) (fun b4 => ?_)
  · refine lv_aload_n hx hb dX2_turn_12 rfl (lv_at hl 0 rfl) ?_
    refine g_calli (r := 1) hM1 hA (g_runU (As := []) (rest := []) CF hK hM1 (hL.2.1.1 6 _ rfl) rfl (l_warT6 l E _ _ _ ρ  hL) (g_cu 0 hts q439 q441 (va_Decl.of (hts _ q440) (hts _ q451)) (hts _ q450) q444 q64 q445 rfl rfl (by decide +kernel) ⟨Nat.le_of_ble_eq_true rfl, Nat.le_of_ble_eq_true rfl⟩) rfl hl.1 rfl (Nat.le_of_ble_eq_true rfl) dX2_turn_13 ⟨Nat.le_of_ble_eq_true rfl, Nat.le_of_ble_eq_true rfl⟩) (fun H locs hM2 => ?_)
    refine x_if_eq (tgt := 59) hx hb dX2_turn_16 (by decide) (by omega) (fun b16 => ?_) (fun b16 => ?_)
    · exact absurd b16 (by decide)
    · refine lv_aload_n hx hb dX2_turn_19 rfl (lv_at hl 0 rfl) ?_
      refine lv_aload_n hx hb dX2_turn_20 rfl (lv_at hl 1 rfl) ?_
      refine g_geti CF hK hM2 (cT l1 i) (hL.2.1.1 _ _ (lKd_c hL.1.n.2 hCe)) 0 0 rfl rfl (by decide) (gLk.n hK q247) (fun _ h => h) rfl dX2_turn_21 ?_
      refine x_top (b := l1) hc5.1 ?_
      refine lv_aload_n hx hb dX2_turn_24 rfl (lv_at hl 1 rfl) ?_
      refine g_geti CF hK hM2 (cT l1 i) (hL.2.1.1 _ _ (lKd_c hL.1.n.2 hCe)) 1 1 rfl rfl (by decide) (gLk.n hK q251) (fun _ h => h) rfl dX2_turn_25 ?_
      refine x_top (b := i) hc5.2.1 ?_
      refine lv_iconst (v := jI 2) hx hb dX2_turn_28 rfl ?_
      refine x_isub hx hb dX2_turn_29 ?_
      refine g_calli (r := mHe κ l1 (i - 2)) hM2 hA (g_runU (As := [.int (jI l1), .int (jI (i - 2))]) (rest := []) CF hK hM2 (hL.2.1.1 6 _ rfl) rfl (l_heatAt6 l E _ _ _ ρ κ l1 (i - 2) hL hκ hB hLk (by first | omega | assumption | (refine ⟨?_, ?_⟩ <;> omega)) (by first | omega | assumption | (refine ⟨?_, ?_⟩ <;> omega))) (g_cu 2 hts q452 q1474 (va_Decl.of (hts _ q454) (hts _ q455)) (g_selA hK.2.2.2.2 (by decide)) q454 q62 q455 rfl rfl (by decide +kernel) ⟨Nat.le_of_ble_eq_true rfl, Nat.le_of_ble_eq_true rfl⟩) rfl hl.1 rfl (Nat.le_of_ble_eq_true rfl) dX2_turn_30 ⟨Nat.le_of_ble_eq_true rfl, Nat.le_of_ble_eq_true rfl⟩) (fun H locs hM3 => ?_)
      refine lv_aload_n hx hb dX2_turn_33 rfl (lv_at hl 0 rfl) ?_
      refine lv_aload_n hx hb dX2_turn_34 rfl (lv_at hl 1 rfl) ?_
      refine g_geti CF hK hM3 (cT l1 i) (hL.2.1.1 _ _ (lKd_c hL.1.n.2 hCe)) 0 0 rfl rfl (by decide) (gLk.n hK q247) (fun _ h => h) rfl dX2_turn_35 ?_
      refine x_top (b := l1) hc5.1 ?_
      refine lv_aload_n hx hb dX2_turn_38 rfl (lv_at hl 1 rfl) ?_
      refine g_geti CF hK hM3 (cT l1 i) (hL.2.1.1 _ _ (lKd_c hL.1.n.2 hCe)) 1 1 rfl rfl (by decide) (gLk.n hK q251) (fun _ h => h) rfl dX2_turn_39 ?_
      refine x_top (b := i) hc5.2.1 ?_
      refine lv_iconst (v := jI 2) hx hb dX2_turn_42 rfl ?_
      refine x_iadd hx hb dX2_turn_43 ?_
      refine g_calli (r := mHe κ l1 (i + 2)) hM3 hA (g_runU (As := [.int (jI l1), .int (jI (i + 2))]) (rest := [.int (jI (mHe κ l1 (i - 2)))]) CF hK hM3 (hL.2.1.1 6 _ rfl) rfl (l_heatAt6 l E _ _ _ ρ κ l1 (i + 2) hL hκ hB hLk (by first | omega | assumption | (refine ⟨?_, ?_⟩ <;> omega)) (by first | omega | assumption | (refine ⟨?_, ?_⟩ <;> omega))) (g_cu 2 hts q452 q1474 (va_Decl.of (hts _ q454) (hts _ q455)) (g_selA hK.2.2.2.2 (by decide)) q454 q62 q455 rfl rfl (by decide +kernel) ⟨Nat.le_of_ble_eq_true rfl, Nat.le_of_ble_eq_true rfl⟩) rfl hl.1 rfl (Nat.le_of_ble_eq_true rfl) dX2_turn_44 ⟨Nat.le_of_ble_eq_true rfl, Nat.le_of_ble_eq_true rfl⟩) (fun H locs hM4 => ?_)
      refine x_iadd hx hb dX2_turn_47 ?_
      have g1 := mHe_r hNκ hPκ hB l1 (i - 2)
      have g2 := mHe_r hNκ hPκ hB l1 (i + 2)
      have g3 := tdiv_b (a := mHe κ l1 (i - 2) + mHe κ l1 (i + 2)) (d := ρ 60 7) (by omega) (by omega)
      refine lv_aload_n hx hb dX2_turn_48 rfl (lv_at hl 0 rfl) ?_
      refine g_getr CF hK hM4 6 (hL.2.1.1 6 _ rfl) 0 0 rfl rfl (by decide) (Or.inl (hts _ q129)) (fun _ h => h) rfl (G.2.2 60) (hL.2.1.th (t := 6) (k := 0) (by decide)) dX2_turn_49 ?_
      refine g_geti CF hK hM4 60 (hL.2.1.1 60 _ rfl) 4 4 rfl rfl (by decide) (gLk.n hK q289) (fun _ h => h) rfl dX2_turn_52 ?_
      refine x_top (b := ρ 60 7) hm2 ?_
      refine x_idiv hx hb dX2_turn_55 (by omega) (by omega) (by omega) ?_
      refine lv_goto (tgt := 60) hx hb dX2_turn_56 (by decide) ?_
      refine lv_istore_n (lv' := [(2, .int (jI (Int.tdiv ((mHe κ l1 (i - 2)) + (mHe κ l1 (i + 2))) (ρ 60 7)))), (0, .ref (G.2.2 6)), (1, .ref (G.2.2 (cT l1 i)))]) hx hb dX2_turn_60 rfl hl (by decide) rfl (fun ls hl => ?_)
      refine lv_aload_n hx hb dX2_turn_61 rfl (lv_at hl 1 rfl) ?_
      refine lv_aload_n hx hb dX2_turn_62 rfl (lv_at hl 2 rfl) ?_
      refine g_calli (r := ρ 3 (6 * l1 + i)) hM4 hA (g_runU (As := [.ref (G.2.2 (cT l1 i))]) (rest := []) CF hK hM4 (hL.2.1.1 6 _ rfl) rfl (l_setP l E _ _ _ ρ (G.2.2 6) l1 i  hL hCe) (g_cu 1 hts q457 q459 (va_Decl.abs (hK.2.2.1 _ q458 rfl)) (hts _ q467) q464 q63 q465 rfl rfl (by decide +kernel) ⟨Nat.le_of_ble_eq_true rfl, Nat.le_of_ble_eq_true rfl⟩) rfl hl.1 rfl (Nat.le_of_ble_eq_true rfl) dX2_turn_63 ⟨Nat.le_of_ble_eq_true rfl, Nat.le_of_ble_eq_true rfl⟩) (fun H locs hM5 => ?_)
      refine x_top (b := κ 8 (6 * l1 + i)) ((hLk _ hck).1.symm) ?_
      refine lv_iload_n hx hb dX2_turn_66 rfl (lv_at hl 0 rfl) ?_
      refine x_iadd hx hb dX2_turn_67 ?_
      refine lv_aload_n hx hb dX2_turn_68 rfl (lv_at hl 1 rfl) ?_
      refine lv_aload_n hx hb dX2_turn_69 rfl (lv_at hl 2 rfl) ?_
      refine g_calli (r := ρ 6 (6 * l1 + i)) hM5 hA (g_runU (As := [.ref (G.2.2 (cT l1 i))]) (rest := [.int (jI ((κ 8 (6 * l1 + i)) + (Int.tdiv ((mHe κ l1 (i - 2)) + (mHe κ l1 (i + 2))) (ρ 60 7))))]) CF hK hM5 (hL.2.1.1 6 _ rfl) rfl (l_offT l E _ _ _ ρ (G.2.2 6) l1 i  hL hCe) (g_cu 1 hts q469 q471 (va_Decl.abs (hK.2.2.1 _ q470 rfl)) (hts _ q506) q507 q64 q508 rfl rfl (by decide +kernel) ⟨Nat.le_of_ble_eq_true rfl, Nat.le_of_ble_eq_true rfl⟩) rfl hl.1 rfl (Nat.le_of_ble_eq_true rfl) dX2_turn_70 ⟨Nat.le_of_ble_eq_true rfl, Nat.le_of_ble_eq_true rfl⟩) (fun H locs hM6 => ?_)
      refine x_top (b := κ 9 (6 * l1 + i)) ((hLk _ hck).2.symm) ?_
      refine x_iadd hx hb dX2_turn_73 ?_
      refine g_calli (r := (((κ 8 (6 * l1 + i)) + (Int.tdiv ((mHe κ l1 (i - 2)) + (mHe κ l1 (i + 2))) (ρ 60 7))) + (κ 9 (6 * l1 + i))) % 96) hM6 hA (g_runSN (As := [.int (jI (((κ 8 (6 * l1 + i)) + (Int.tdiv ((mHe κ l1 (i - 2)) + (mHe κ l1 (i + 2))) (ρ 60 7))) + (κ 9 (6 * l1 + i))))]) (rest := []) CF hK hM6 (l_whole l E _ _ _  (((κ 8 (6 * l1 + i)) + (Int.tdiv ((mHe κ l1 (i - 2)) + (mHe κ l1 (i + 2))) (ρ 60 7))) + (κ 9 (6 * l1 + i))) (by first | omega | assumption | (refine ⟨?_, ?_⟩ <;> omega))) ⟨va_cnB 1 hts (lw_meth q98) rfl rfl rfl (hK.2.2.1 _ q509 rfl) (hts _ q60) (by decide +kernel) ⟨Nat.le_of_ble_eq_true rfl, Nat.le_of_ble_eq_true rfl⟩, hts _ q97, trivial⟩ rfl hl.1 rfl (Nat.le_of_ble_eq_true rfl) dX2_turn_74 ⟨Nat.le_of_ble_eq_true rfl, Nat.le_of_ble_eq_true rfl⟩) (fun H locs hM7 => ?_)
      exact g_iret CF hr hlocks hM7 (g_pi (by unfold mTf; rw [if_neg (by decide)]; unfold mTt; rw [e4, if_neg (by omega), e7])) (by decide) (by decide) dX2_turn_77
  · refine lv_aload_n hx hb dX2_turn_7 rfl (lv_at hl 1 rfl) ?_
    refine g_geti CF hK hM1 (cT l1 i) (hL.2.1.1 _ _ (lKd_c hL.1.n.2 hCe)) 3 3 rfl rfl (by decide) (gLk.n hK q258) (fun _ h => h) rfl dX2_turn_8 ?_
    refine x_top (b := ρ 4 (6 * l1 + i)) hc5.2.2.2.1 ?_
    exact g_iret CF hr hlocks hM1 (g_pi (by unfold mTf; rw [if_neg (by decide)]; unfold mTt; rw [e4, if_pos (by omega)])) (by decide) (by decide) dX2_turn_11
set_option maxHeartbeats 400000 in
theorem l_lturn7 (l : Launch) (E : y_E) (G : y_G) (σ : y_S) (sz : Nat) (ρ : y_S) (κ : y_S) (l1 : Int) (i : Int) (hL : lgR E ρ G σ) (hCe : mCell (ρ 60 0) l1 i) (hκ : mSame [8, 9, 10] ρ κ) (hB : mBy κ) (hLk : lkK 7 ρ G σ κ) : gCt l yX2_turn cX2_turn 3 (some .int) ({ frames := 5, cells := 0, slots := 0, locals := 110 }) E [.ref (G.2.2 7), .ref (G.2.2 (cT l1 i))] G σ sz (gR (some (.int (jI (mTf κ 1 l1 i)))) G σ) 0 0 := by
  refine g_met (by decide) (Nat.le_of_ble_eq_true rfl) ?_
  intro p e s m below meth c ls CF hr hlocks hnm hK hM0 hA hl
  have hx := CF.1
  have hb := CF.2.1
  have hts := CF.2.2.2.2
  have hl : lv_has ls 3 [(0, .ref (G.2.2 7)), (1, .ref (G.2.2 (cT l1 i)))] := hl
  obtain ⟨hO, hS, ⟨hm1, hm2, hm3, hm4, hm5⟩, hX, hD, hZ⟩ := id hL
  have hn := hO.n
  have hck := lCk_c hn.2 hCe
  have hc5 := hm5 l1 i hCe
  have e60 : κ 60 = ρ 60 := hκ 60 (by decide)
  have e4 : κ 4 = ρ 4 := hκ 4 (by decide)
  have e7 : κ 60 7 = ρ 60 7 := (by rw [e60])
  have hpl := hO.p (6 * l1 + i) (by omega) (by omega)
  have hby := hB (6 * l1 + i) (by omega) (by omega)
  have hcr := hO.cr
  have hNκ : mN κ := (by rw [show mN κ = mN ρ by unfold mN; rw [e60]]; exact hn)
  have hPκ : mPl κ := mPl_same e4 hO.p
  refine lv_aload_n hx hb dX2_turn_0 rfl (lv_at hl 1 rfl) ?_
  refine g_calli (r := (if ρ 4 (6 * l1 + i) ≠ -1 then 1 else 0)) hM0 hA (g_runV (As := []) (rest := []) CF hK hM0 (hL.2.1.1 _ _ (lKd_c hL.1.n.2 hCe)) rfl (l_isDead l E _ _ _ ρ l1 i  (hL.w) hCe) (cwV 0 hts (lw_V q438 q409 q410 q71 q411) rfl rfl rfl (by decide +kernel) ⟨Nat.le_of_ble_eq_true rfl, Nat.le_of_ble_eq_true rfl⟩) rfl hl.1 rfl (Nat.le_of_ble_eq_true rfl) dX2_turn_1 ⟨Nat.le_of_ble_eq_true rfl, Nat.le_of_ble_eq_true rfl⟩) (fun H locs hM1 => ?_)
  refine x_bif_eq (tgt := 12) hx hb dX2_turn_4 (by decide) (fun b4 => ?_) (fun b4 => ?_)
  · refine lv_aload_n hx hb dX2_turn_12 rfl (lv_at hl 0 rfl) ?_
    refine g_calli (r := 1) hM1 hA (g_runU (As := []) (rest := []) CF hK hM1 (hL.2.1.1 7 _ rfl) rfl (l_warT7 l E _ _ _ ρ  hL) (g_cu 0 hts q439 q441 (va_Decl.of (hts _ q440) (hts _ q451)) (hts _ q443) q444 q64 q445 rfl rfl (by decide +kernel) ⟨Nat.le_of_ble_eq_true rfl, Nat.le_of_ble_eq_true rfl⟩) rfl hl.1 rfl (Nat.le_of_ble_eq_true rfl) dX2_turn_13 ⟨Nat.le_of_ble_eq_true rfl, Nat.le_of_ble_eq_true rfl⟩) (fun H locs hM2 => ?_)
    refine x_if_eq (tgt := 59) hx hb dX2_turn_16 (by decide) (by omega) (fun b16 => ?_) (fun b16 => ?_)
    · exact absurd b16 (by decide)
    · refine lv_aload_n hx hb dX2_turn_19 rfl (lv_at hl 0 rfl) ?_
      refine lv_aload_n hx hb dX2_turn_20 rfl (lv_at hl 1 rfl) ?_
      refine g_geti CF hK hM2 (cT l1 i) (hL.2.1.1 _ _ (lKd_c hL.1.n.2 hCe)) 0 0 rfl rfl (by decide) (gLk.n hK q247) (fun _ h => h) rfl dX2_turn_21 ?_
      refine x_top (b := l1) hc5.1 ?_
      refine lv_aload_n hx hb dX2_turn_24 rfl (lv_at hl 1 rfl) ?_
      refine g_geti CF hK hM2 (cT l1 i) (hL.2.1.1 _ _ (lKd_c hL.1.n.2 hCe)) 1 1 rfl rfl (by decide) (gLk.n hK q251) (fun _ h => h) rfl dX2_turn_25 ?_
      refine x_top (b := i) hc5.2.1 ?_
      refine lv_iconst (v := jI 2) hx hb dX2_turn_28 rfl ?_
      refine x_isub hx hb dX2_turn_29 ?_
      refine g_calli (r := mHe κ l1 (i - 2)) hM2 hA (g_runU (As := [.int (jI l1), .int (jI (i - 2))]) (rest := []) CF hK hM2 (hL.2.1.1 7 _ rfl) rfl (l_heatAt7 l E _ _ _ ρ κ l1 (i - 2) hL hκ hB hLk (by first | omega | assumption | (refine ⟨?_, ?_⟩ <;> omega)) (by first | omega | assumption | (refine ⟨?_, ?_⟩ <;> omega))) (g_cu 2 hts q452 q1474 (va_Decl.of (hts _ q454) (hts _ q455)) (g_selA hK.2.2.2.2 (by decide)) q454 q62 q455 rfl rfl (by decide +kernel) ⟨Nat.le_of_ble_eq_true rfl, Nat.le_of_ble_eq_true rfl⟩) rfl hl.1 rfl (Nat.le_of_ble_eq_true rfl) dX2_turn_30 ⟨Nat.le_of_ble_eq_true rfl, Nat.le_of_ble_eq_true rfl⟩) (fun H locs hM3 => ?_)
      refine lv_aload_n hx hb dX2_turn_33 rfl (lv_at hl 0 rfl) ?_
      refine lv_aload_n hx hb dX2_turn_34 rfl (lv_at hl 1 rfl) ?_
      refine g_geti CF hK hM3 (cT l1 i) (hL.2.1.1 _ _ (lKd_c hL.1.n.2 hCe)) 0 0 rfl rfl (by decide) (gLk.n hK q247) (fun _ h => h) rfl dX2_turn_35 ?_
      refine x_top (b := l1) hc5.1 ?_
      refine lv_aload_n hx hb dX2_turn_38 rfl (lv_at hl 1 rfl) ?_
      refine g_geti CF hK hM3 (cT l1 i) (hL.2.1.1 _ _ (lKd_c hL.1.n.2 hCe)) 1 1 rfl rfl (by decide) (gLk.n hK q251) (fun _ h => h) rfl dX2_turn_39 ?_
      refine x_top (b := i) hc5.2.1 ?_
      refine lv_iconst (v := jI 2) hx hb dX2_turn_42 rfl ?_
      refine x_iadd hx hb dX2_turn_43 ?_
      refine g_calli (r := mHe κ l1 (i + 2)) hM3 hA (g_runU (As := [.int (jI l1), .int (jI (i + 2))]) (rest := [.int (jI (mHe κ l1 (i - 2)))]) CF hK hM3 (hL.2.1.1 7 _ rfl) rfl (l_heatAt7 l E _ _ _ ρ κ l1 (i + 2) hL hκ hB hLk (by first | omega | assumption | (refine ⟨?_, ?_⟩ <;> omega)) (by first | omega | assumption | (refine ⟨?_, ?_⟩ <;> omega))) (g_cu 2 hts q452 q1474 (va_Decl.of (hts _ q454) (hts _ q455)) (g_selA hK.2.2.2.2 (by decide)) q454 q62 q455 rfl rfl (by decide +kernel) ⟨Nat.le_of_ble_eq_true rfl, Nat.le_of_ble_eq_true rfl⟩) rfl hl.1 rfl (Nat.le_of_ble_eq_true rfl) dX2_turn_44 ⟨Nat.le_of_ble_eq_true rfl, Nat.le_of_ble_eq_true rfl⟩) (fun H locs hM4 => ?_)
      refine x_iadd hx hb dX2_turn_47 ?_
      have g1 := mHe_r hNκ hPκ hB l1 (i - 2)
      have g2 := mHe_r hNκ hPκ hB l1 (i + 2)
      have g3 := tdiv_b (a := mHe κ l1 (i - 2) + mHe κ l1 (i + 2)) (d := ρ 60 7) (by omega) (by omega)
      refine lv_aload_n hx hb dX2_turn_48 rfl (lv_at hl 0 rfl) ?_
      refine g_getr CF hK hM4 7 (hL.2.1.1 7 _ rfl) 0 0 rfl rfl (by decide) (Or.inl (hts _ q129)) (fun _ h => h) rfl (G.2.2 60) (hL.2.1.th (t := 7) (k := 0) (by decide)) dX2_turn_49 ?_
      refine g_geti CF hK hM4 60 (hL.2.1.1 60 _ rfl) 4 4 rfl rfl (by decide) (gLk.n hK q289) (fun _ h => h) rfl dX2_turn_52 ?_
      refine x_top (b := ρ 60 7) hm2 ?_
      refine x_idiv hx hb dX2_turn_55 (by omega) (by omega) (by omega) ?_
      refine lv_goto (tgt := 60) hx hb dX2_turn_56 (by decide) ?_
      refine lv_istore_n (lv' := [(2, .int (jI (Int.tdiv ((mHe κ l1 (i - 2)) + (mHe κ l1 (i + 2))) (ρ 60 7)))), (0, .ref (G.2.2 7)), (1, .ref (G.2.2 (cT l1 i)))]) hx hb dX2_turn_60 rfl hl (by decide) rfl (fun ls hl => ?_)
      refine lv_aload_n hx hb dX2_turn_61 rfl (lv_at hl 1 rfl) ?_
      refine lv_aload_n hx hb dX2_turn_62 rfl (lv_at hl 2 rfl) ?_
      refine g_calli (r := ρ 3 (6 * l1 + i)) hM4 hA (g_runU (As := [.ref (G.2.2 (cT l1 i))]) (rest := []) CF hK hM4 (hL.2.1.1 7 _ rfl) rfl (l_setP l E _ _ _ ρ (G.2.2 7) l1 i  hL hCe) (g_cu 1 hts q457 q459 (va_Decl.abs (hK.2.2.1 _ q458 rfl)) (hts _ q463) q464 q63 q465 rfl rfl (by decide +kernel) ⟨Nat.le_of_ble_eq_true rfl, Nat.le_of_ble_eq_true rfl⟩) rfl hl.1 rfl (Nat.le_of_ble_eq_true rfl) dX2_turn_63 ⟨Nat.le_of_ble_eq_true rfl, Nat.le_of_ble_eq_true rfl⟩) (fun H locs hM5 => ?_)
      refine x_top (b := κ 8 (6 * l1 + i)) ((hLk.2 _ hck).1.symm) ?_
      refine lv_iload_n hx hb dX2_turn_66 rfl (lv_at hl 0 rfl) ?_
      refine x_iadd hx hb dX2_turn_67 ?_
      refine lv_aload_n hx hb dX2_turn_68 rfl (lv_at hl 1 rfl) ?_
      refine lv_aload_n hx hb dX2_turn_69 rfl (lv_at hl 2 rfl) ?_
      refine g_calli (r := κ 9 (6 * l1 + i)) hM5 hA (g_runU (As := [.ref (G.2.2 (cT l1 i))]) (rest := [.int (jI ((κ 8 (6 * l1 + i)) + (Int.tdiv ((mHe κ l1 (i - 2)) + (mHe κ l1 (i + 2))) (ρ 60 7))))]) CF hK hM5 (hL.2.1.1 7 _ rfl) rfl (l_offG l E _ _ _ ρ κ l1 i  hL hCe hLk) (g_cu 1 hts q469 q471 (va_Decl.abs (hK.2.2.1 _ q470 rfl)) (hts _ q498) q499 q65 q500 rfl rfl (by decide +kernel) ⟨Nat.le_of_ble_eq_true rfl, Nat.le_of_ble_eq_true rfl⟩) rfl hl.1 rfl (Nat.le_of_ble_eq_true rfl) dX2_turn_70 ⟨Nat.le_of_ble_eq_true rfl, Nat.le_of_ble_eq_true rfl⟩) (fun H locs hM6 => ?_)
      refine x_iadd hx hb dX2_turn_73 ?_
      refine g_calli (r := (((κ 8 (6 * l1 + i)) + (Int.tdiv ((mHe κ l1 (i - 2)) + (mHe κ l1 (i + 2))) (ρ 60 7))) + (κ 9 (6 * l1 + i))) % 96) hM6 hA (g_runSN (As := [.int (jI (((κ 8 (6 * l1 + i)) + (Int.tdiv ((mHe κ l1 (i - 2)) + (mHe κ l1 (i + 2))) (ρ 60 7))) + (κ 9 (6 * l1 + i))))]) (rest := []) CF hK hM6 (l_whole l E _ _ _  (((κ 8 (6 * l1 + i)) + (Int.tdiv ((mHe κ l1 (i - 2)) + (mHe κ l1 (i + 2))) (ρ 60 7))) + (κ 9 (6 * l1 + i))) (by first | omega | assumption | (refine ⟨?_, ?_⟩ <;> omega))) ⟨va_cnB 1 hts (lw_meth q98) rfl rfl rfl (hK.2.2.1 _ q509 rfl) (hts _ q60) (by decide +kernel) ⟨Nat.le_of_ble_eq_true rfl, Nat.le_of_ble_eq_true rfl⟩, hts _ q97, trivial⟩ rfl hl.1 rfl (Nat.le_of_ble_eq_true rfl) dX2_turn_74 ⟨Nat.le_of_ble_eq_true rfl, Nat.le_of_ble_eq_true rfl⟩) (fun H locs hM7 => ?_)
      exact g_iret CF hr hlocks hM7 (g_pi (by unfold mTf; rw [if_neg (by decide)]; unfold mTt; rw [e4, if_neg (by omega), e7])) (by decide) (by decide) dX2_turn_77
  · refine lv_aload_n hx hb dX2_turn_7 rfl (lv_at hl 1 rfl) ?_
    refine g_geti CF hK hM1 (cT l1 i) (hL.2.1.1 _ _ (lKd_c hL.1.n.2 hCe)) 3 3 rfl rfl (by decide) (gLk.n hK q258) (fun _ h => h) rfl dX2_turn_8 ?_
    refine x_top (b := ρ 4 (6 * l1 + i)) hc5.2.2.2.1 ?_
    exact g_iret CF hr hlocks hM1 (g_pi (by unfold mTf; rw [if_neg (by decide)]; unfold mTt; rw [e4, if_pos (by omega)])) (by decide) (by decide) dX2_turn_11
set_option maxHeartbeats 400000 in
theorem l_lturn8 (l : Launch) (E : y_E) (G : y_G) (σ : y_S) (sz : Nat) (ρ : y_S) (κ : y_S) (l1 : Int) (i : Int) (hL : lgR E ρ G σ) (hCe : mCell (ρ 60 0) l1 i) (hκ : mSame [8, 9, 10] ρ κ) (hB : mBy κ) (hLk : lkK 8 ρ G σ κ) : gCt l yX2_turn cX2_turn 3 (some .int) ({ frames := 5, cells := 0, slots := 0, locals := 110 }) E [.ref (G.2.2 8), .ref (G.2.2 (cT l1 i))] G σ sz (gR (some (.int (jI (mTf κ 1 l1 i)))) G σ) 0 0 := by
  refine g_met (by decide) (Nat.le_of_ble_eq_true rfl) ?_
  intro p e s m below meth c ls CF hr hlocks hnm hK hM0 hA hl
  have hx := CF.1
  have hb := CF.2.1
  have hts := CF.2.2.2.2
  have hl : lv_has ls 3 [(0, .ref (G.2.2 8)), (1, .ref (G.2.2 (cT l1 i)))] := hl
  obtain ⟨hO, hS, ⟨hm1, hm2, hm3, hm4, hm5⟩, hX, hD, hZ⟩ := id hL
  have hn := hO.n
  have hck := lCk_c hn.2 hCe
  have hc5 := hm5 l1 i hCe
  have e60 : κ 60 = ρ 60 := hκ 60 (by decide)
  have e4 : κ 4 = ρ 4 := hκ 4 (by decide)
  have e7 : κ 60 7 = ρ 60 7 := (by rw [e60])
  have hpl := hO.p (6 * l1 + i) (by omega) (by omega)
  have hby := hB (6 * l1 + i) (by omega) (by omega)
  have hcr := hO.cr
  have hNκ : mN κ := (by rw [show mN κ = mN ρ by unfold mN; rw [e60]]; exact hn)
  have hPκ : mPl κ := mPl_same e4 hO.p
  refine lv_aload_n hx hb dX2_turn_0 rfl (lv_at hl 1 rfl) ?_
  refine g_calli (r := (if ρ 4 (6 * l1 + i) ≠ -1 then 1 else 0)) hM0 hA (g_runV (As := []) (rest := []) CF hK hM0 (hL.2.1.1 _ _ (lKd_c hL.1.n.2 hCe)) rfl (l_isDead l E _ _ _ ρ l1 i  (hL.w) hCe) (cwV 0 hts (lw_V q438 q409 q410 q71 q411) rfl rfl rfl (by decide +kernel) ⟨Nat.le_of_ble_eq_true rfl, Nat.le_of_ble_eq_true rfl⟩) rfl hl.1 rfl (Nat.le_of_ble_eq_true rfl) dX2_turn_1 ⟨Nat.le_of_ble_eq_true rfl, Nat.le_of_ble_eq_true rfl⟩) (fun H locs hM1 => ?_)
  refine x_bif_eq (tgt := 12) hx hb dX2_turn_4 (by decide) (fun b4 => ?_) (fun b4 => ?_)
  · refine lv_aload_n hx hb dX2_turn_12 rfl (lv_at hl 0 rfl) ?_
    refine g_calli (r := 1) hM1 hA (g_runU (As := []) (rest := []) CF hK hM1 (hL.2.1.1 8 _ rfl) rfl (l_warL l E _ _ _ (G.2.2 8)  ) (g_cu 0 hts q439 q441 (va_Decl.of (hts _ q440) (hts _ q451)) (hts _ q442) q440 q62 q451 rfl rfl (by decide +kernel) ⟨Nat.le_of_ble_eq_true rfl, Nat.le_of_ble_eq_true rfl⟩) rfl hl.1 rfl (Nat.le_of_ble_eq_true rfl) dX2_turn_13 ⟨Nat.le_of_ble_eq_true rfl, Nat.le_of_ble_eq_true rfl⟩) (fun H locs hM2 => ?_)
    refine x_if_eq (tgt := 59) hx hb dX2_turn_16 (by decide) (by omega) (fun b16 => ?_) (fun b16 => ?_)
    · exact absurd b16 (by decide)
    · refine lv_aload_n hx hb dX2_turn_19 rfl (lv_at hl 0 rfl) ?_
      refine lv_aload_n hx hb dX2_turn_20 rfl (lv_at hl 1 rfl) ?_
      refine g_geti CF hK hM2 (cT l1 i) (hL.2.1.1 _ _ (lKd_c hL.1.n.2 hCe)) 0 0 rfl rfl (by decide) (gLk.n hK q247) (fun _ h => h) rfl dX2_turn_21 ?_
      refine x_top (b := l1) hc5.1 ?_
      refine lv_aload_n hx hb dX2_turn_24 rfl (lv_at hl 1 rfl) ?_
      refine g_geti CF hK hM2 (cT l1 i) (hL.2.1.1 _ _ (lKd_c hL.1.n.2 hCe)) 1 1 rfl rfl (by decide) (gLk.n hK q251) (fun _ h => h) rfl dX2_turn_25 ?_
      refine x_top (b := i) hc5.2.1 ?_
      refine lv_iconst (v := jI 2) hx hb dX2_turn_28 rfl ?_
      refine x_isub hx hb dX2_turn_29 ?_
      refine g_calli (r := mHe κ l1 (i - 2)) hM2 hA (g_runU (As := [.int (jI l1), .int (jI (i - 2))]) (rest := []) CF hK hM2 (hL.2.1.1 8 _ rfl) rfl (l_heatAt8 l E _ _ _ ρ κ l1 (i - 2) hL hκ hB hLk (by first | omega | assumption | (refine ⟨?_, ?_⟩ <;> omega)) (by first | omega | assumption | (refine ⟨?_, ?_⟩ <;> omega))) (g_cu 2 hts q452 q1474 (va_Decl.of (hts _ q454) (hts _ q455)) (g_selA hK.2.2.2.2 (by decide)) q454 q62 q455 rfl rfl (by decide +kernel) ⟨Nat.le_of_ble_eq_true rfl, Nat.le_of_ble_eq_true rfl⟩) rfl hl.1 rfl (Nat.le_of_ble_eq_true rfl) dX2_turn_30 ⟨Nat.le_of_ble_eq_true rfl, Nat.le_of_ble_eq_true rfl⟩) (fun H locs hM3 => ?_)
      refine lv_aload_n hx hb dX2_turn_33 rfl (lv_at hl 0 rfl) ?_
      refine lv_aload_n hx hb dX2_turn_34 rfl (lv_at hl 1 rfl) ?_
      refine g_geti CF hK hM3 (cT l1 i) (hL.2.1.1 _ _ (lKd_c hL.1.n.2 hCe)) 0 0 rfl rfl (by decide) (gLk.n hK q247) (fun _ h => h) rfl dX2_turn_35 ?_
      refine x_top (b := l1) hc5.1 ?_
      refine lv_aload_n hx hb dX2_turn_38 rfl (lv_at hl 1 rfl) ?_
      refine g_geti CF hK hM3 (cT l1 i) (hL.2.1.1 _ _ (lKd_c hL.1.n.2 hCe)) 1 1 rfl rfl (by decide) (gLk.n hK q251) (fun _ h => h) rfl dX2_turn_39 ?_
      refine x_top (b := i) hc5.2.1 ?_
      refine lv_iconst (v := jI 2) hx hb dX2_turn_42 rfl ?_
      refine x_iadd hx hb dX2_turn_43 ?_
      refine g_calli (r := mHe κ l1 (i + 2)) hM3 hA (g_runU (As := [.int (jI l1), .int (jI (i + 2))]) (rest := [.int (jI (mHe κ l1 (i - 2)))]) CF hK hM3 (hL.2.1.1 8 _ rfl) rfl (l_heatAt8 l E _ _ _ ρ κ l1 (i + 2) hL hκ hB hLk (by first | omega | assumption | (refine ⟨?_, ?_⟩ <;> omega)) (by first | omega | assumption | (refine ⟨?_, ?_⟩ <;> omega))) (g_cu 2 hts q452 q1474 (va_Decl.of (hts _ q454) (hts _ q455)) (g_selA hK.2.2.2.2 (by decide)) q454 q62 q455 rfl rfl (by decide +kernel) ⟨Nat.le_of_ble_eq_true rfl, Nat.le_of_ble_eq_true rfl⟩) rfl hl.1 rfl (Nat.le_of_ble_eq_true rfl) dX2_turn_44 ⟨Nat.le_of_ble_eq_true rfl, Nat.le_of_ble_eq_true rfl⟩) (fun H locs hM4 => ?_)
      refine x_iadd hx hb dX2_turn_47 ?_
      have g1 := mHe_r hNκ hPκ hB l1 (i - 2)
      have g2 := mHe_r hNκ hPκ hB l1 (i + 2)
      have g3 := tdiv_b (a := mHe κ l1 (i - 2) + mHe κ l1 (i + 2)) (d := ρ 60 7) (by omega) (by omega)
      refine lv_aload_n hx hb dX2_turn_48 rfl (lv_at hl 0 rfl) ?_
      refine g_getr CF hK hM4 8 (hL.2.1.1 8 _ rfl) 0 0 rfl rfl (by decide) (Or.inl (hts _ q129)) (fun _ h => h) rfl (G.2.2 60) (hL.2.1.th (t := 8) (k := 0) (by decide)) dX2_turn_49 ?_
      refine g_geti CF hK hM4 60 (hL.2.1.1 60 _ rfl) 4 4 rfl rfl (by decide) (gLk.n hK q289) (fun _ h => h) rfl dX2_turn_52 ?_
      refine x_top (b := ρ 60 7) hm2 ?_
      refine x_idiv hx hb dX2_turn_55 (by omega) (by omega) (by omega) ?_
      refine lv_goto (tgt := 60) hx hb dX2_turn_56 (by decide) ?_
      refine lv_istore_n (lv' := [(2, .int (jI (Int.tdiv ((mHe κ l1 (i - 2)) + (mHe κ l1 (i + 2))) (ρ 60 7)))), (0, .ref (G.2.2 8)), (1, .ref (G.2.2 (cT l1 i)))]) hx hb dX2_turn_60 rfl hl (by decide) rfl (fun ls hl => ?_)
      refine lv_aload_n hx hb dX2_turn_61 rfl (lv_at hl 1 rfl) ?_
      refine lv_aload_n hx hb dX2_turn_62 rfl (lv_at hl 2 rfl) ?_
      refine g_calli (r := κ 8 (6 * l1 + i)) hM4 hA (g_runU (As := [.ref (G.2.2 (cT l1 i))]) (rest := []) CF hK hM4 (hL.2.1.1 8 _ rfl) rfl (l_setA l E _ _ _ ρ κ l1 i  hL hCe hLk) (g_cu 1 hts q457 q459 (va_Decl.abs (hK.2.2.1 _ q458 rfl)) (hts _ q460) q461 q66 q462 rfl rfl (by decide +kernel) ⟨Nat.le_of_ble_eq_true rfl, Nat.le_of_ble_eq_true rfl⟩) rfl hl.1 rfl (Nat.le_of_ble_eq_true rfl) dX2_turn_63 ⟨Nat.le_of_ble_eq_true rfl, Nat.le_of_ble_eq_true rfl⟩) (fun H locs hM5 => ?_)
      refine lv_iload_n hx hb dX2_turn_66 rfl (lv_at hl 0 rfl) ?_
      refine x_iadd hx hb dX2_turn_67 ?_
      refine lv_aload_n hx hb dX2_turn_68 rfl (lv_at hl 1 rfl) ?_
      refine lv_aload_n hx hb dX2_turn_69 rfl (lv_at hl 2 rfl) ?_
      refine g_calli (r := κ 9 (6 * l1 + i)) hM5 hA (g_runU (As := [.ref (G.2.2 (cT l1 i))]) (rest := [.int (jI ((κ 8 (6 * l1 + i)) + (Int.tdiv ((mHe κ l1 (i - 2)) + (mHe κ l1 (i + 2))) (ρ 60 7))))]) CF hK hM5 (hL.2.1.1 8 _ rfl) rfl (l_offA l E _ _ _ ρ κ l1 i  hL hCe hLk) (g_cu 1 hts q469 q471 (va_Decl.abs (hK.2.2.1 _ q470 rfl)) (hts _ q472) q473 q66 q474 rfl rfl (by decide +kernel) ⟨Nat.le_of_ble_eq_true rfl, Nat.le_of_ble_eq_true rfl⟩) rfl hl.1 rfl (Nat.le_of_ble_eq_true rfl) dX2_turn_70 ⟨Nat.le_of_ble_eq_true rfl, Nat.le_of_ble_eq_true rfl⟩) (fun H locs hM6 => ?_)
      refine x_iadd hx hb dX2_turn_73 ?_
      refine g_calli (r := (((κ 8 (6 * l1 + i)) + (Int.tdiv ((mHe κ l1 (i - 2)) + (mHe κ l1 (i + 2))) (ρ 60 7))) + (κ 9 (6 * l1 + i))) % 96) hM6 hA (g_runSN (As := [.int (jI (((κ 8 (6 * l1 + i)) + (Int.tdiv ((mHe κ l1 (i - 2)) + (mHe κ l1 (i + 2))) (ρ 60 7))) + (κ 9 (6 * l1 + i))))]) (rest := []) CF hK hM6 (l_whole l E _ _ _  (((κ 8 (6 * l1 + i)) + (Int.tdiv ((mHe κ l1 (i - 2)) + (mHe κ l1 (i + 2))) (ρ 60 7))) + (κ 9 (6 * l1 + i))) (by first | omega | assumption | (refine ⟨?_, ?_⟩ <;> omega))) ⟨va_cnB 1 hts (lw_meth q98) rfl rfl rfl (hK.2.2.1 _ q509 rfl) (hts _ q60) (by decide +kernel) ⟨Nat.le_of_ble_eq_true rfl, Nat.le_of_ble_eq_true rfl⟩, hts _ q97, trivial⟩ rfl hl.1 rfl (Nat.le_of_ble_eq_true rfl) dX2_turn_74 ⟨Nat.le_of_ble_eq_true rfl, Nat.le_of_ble_eq_true rfl⟩) (fun H locs hM7 => ?_)
      exact g_iret CF hr hlocks hM7 (g_pi (by unfold mTf; rw [if_neg (by decide)]; unfold mTt; rw [e4, if_neg (by omega), e7])) (by decide) (by decide) dX2_turn_77
  · refine lv_aload_n hx hb dX2_turn_7 rfl (lv_at hl 1 rfl) ?_
    refine g_geti CF hK hM1 (cT l1 i) (hL.2.1.1 _ _ (lKd_c hL.1.n.2 hCe)) 3 3 rfl rfl (by decide) (gLk.n hK q258) (fun _ h => h) rfl dX2_turn_8 ?_
    refine x_top (b := ρ 4 (6 * l1 + i)) hc5.2.2.2.1 ?_
    exact g_iret CF hr hlocks hM1 (g_pi (by unfold mTf; rw [if_neg (by decide)]; unfold mTt; rw [e4, if_pos (by omega)])) (by decide) (by decide) dX2_turn_11
set_option maxHeartbeats 400000 in
theorem l_go5 (l : Launch) (E : y_E) (G : y_G) (σ : y_S) (sz : Nat) (ρ : y_S) (κ : y_S) (t : Nat) (hL : lgR E ρ G σ) (hκ : mSame [8, 9, 10] ρ κ) (hB : mBy κ) (hLk : lkK 5 ρ G σ κ) (hTk : G.1 t = some (.inr (0, 6))) (hT0 : t ≠ 0) (hTt : ¬ lgT ρ t) (hT6 : t ≠ 60) (hT7 : t ≠ 7) (hRow : mLi (ρ 60 0) (σ t)) : gCt l yX2_go cX2_go 6 none ({ frames := 3, cells := 0, slots := 0, locals := 71 }) E [.ref (G.2.2 5), .ref (G.2.2 t)] G σ sz (gR none G (upT σ t (goR (ρ 60 0) (ρ 1) (ρ 2) (mTf κ 0) (σ t)))) 0 0 := by
  refine g_met (by decide) (Nat.le_of_ble_eq_true rfl) ?_
  intro p e s m below meth c ls CF hr hlocks hnm hK hM0 hA hl
  have hx := CF.1
  have hb := CF.2.1
  have hts := CF.2.2.2.2
  have hl : lv_has ls 6 [(0, .ref (G.2.2 5)), (1, .ref (G.2.2 t))] := hl
  obtain ⟨hO, hS, ⟨hm1, hm2, hm3, hm4, hm5⟩, hX, hD, hZ⟩ := id hL
  have hn := hO.n
  have e4 : κ 4 = ρ 4 := hκ 4 (by decide)
  have hPκ : mPl κ := mPl_same e4 hO.p
  refine lv_aload_n hx hb dX2_go_0 rfl (lv_at hl 0 rfl) ?_
  refine g_getr CF hK hM0 5 (hL.2.1.1 5 _ rfl) 0 0 rfl rfl (by decide) (Or.inl (hts _ q129)) (fun _ h => h) rfl (G.2.2 60) (hL.2.1.th (t := 5) (k := 0) (by decide)) dX2_go_1 ?_
  refine g_getr CF hK hM0 60 (hL.2.1.1 60 _ rfl) 3 3 rfl rfl (by decide) (gLk.n hK q287) (fun _ h => h) rfl (G.2.2 3) (hL.2.1.2.1 3 3 rfl) dX2_go_4 ?_
  refine lv_astore_n (lv' := [(2, .ref (G.2.2 3)), (0, .ref (G.2.2 5)), (1, .ref (G.2.2 t))]) hx hb dX2_go_7 rfl hl (by decide) rfl (fun ls hl => ?_)
  refine lv_aload_n hx hb dX2_go_8 rfl (lv_at hl 0 rfl) ?_
  refine g_alen CF hK hM0 3 (hL.2.1.1 3 _ rfl) (by decide) dX2_go_9 ?_
  refine lv_istore_n (lv' := [(3, .int (jI (((12 * (ρ 60 0).toNat : Nat) : Int)))), (2, .ref (G.2.2 3)), (0, .ref (G.2.2 5)), (1, .ref (G.2.2 t))]) hx hb dX2_go_10 rfl hl (by decide) rfl (fun ls hl => ?_)
  refine lv_iconst (v := jI 0) hx hb dX2_go_11 rfl ?_
  refine lv_istore (lv' := [(4, .int (jI 0)), (3, .int (jI (((12 * (ρ 60 0).toNat : Nat) : Int)))), (2, .ref (G.2.2 3)), (0, .ref (G.2.2 5)), (1, .ref (G.2.2 t))]) hx hb dX2_go_12 hl (by decide) rfl (fun ls hl => ?_)
  have c14 : ∀ (n14 : Nat) (j : Nat) (H : Heap) (locs : List Loc) (ls : Array Slot), (j ≤ 12 * (ρ 60 0).toNat) → (12 * (ρ 60 0).toNat - j < n14) → gM E (gA G sz) G (upT σ t (goJ (ρ 60 0) (ρ 1) (ρ 2) (mTf κ 0) (σ t) (cJ (ρ 60 0) j))) s.heap H locs → lv_has ls 6 [(0, .ref (G.2.2 5)), (1, .ref (G.2.2 t)), (2, .ref (G.2.2 3)), (3, .int (jI (((12 * (ρ 60 0).toNat : Nat) : Int)))), (4, .int (jI ((j : Int))))] → W p l e ({ frames := 3, cells := 0, slots := 0, locals := 71 } : Room) s m ([.ref (G.2.2 5), .ref (G.2.2 t)] : List Value).toArray below meth c H locs 0 0 (MQ below (gQ E G sz (gR none G (upT σ t (goR (ρ 60 0) (ρ 1) (ρ 2) (mTf κ 0) (σ t))))) ([.ref (G.2.2 5), .ref (G.2.2 t)] : List Value).toArray s 0 0 (gA G sz)) (F0 m 14 ls []) := by
    intro n14
    induction n14 with
    | zero => intro j H locs ls hj hmu; exact absurd hmu (Nat.not_lt_zero _)
    | succ n14 ih14 =>
      intro j H locs ls hj hmu14 hM1 hl
      have hL2 : lgR E ρ G (upT σ t (goJ (ρ 60 0) (ρ 1) (ρ 2) (mTf κ 0) (σ t) (cJ (ρ 60 0) j))) := hL.uT hTt hT6
      have hrj := goJ_r (c := ρ 1) (s := ρ 2) (tf := mTf κ 0) (cJ (ρ 60 0) j) _ hRow
      refine lv_iload hx hb dX2_go_14 (lv_at hl 4 rfl) ?_
      refine lv_iload_n hx hb dX2_go_16 rfl (lv_at hl 3 rfl) ?_
      refine x_icmp_ge (tgt := 56) hx hb dX2_go_17 (by decide) (by omega) (by omega) (fun b17 => ?_) (fun b17 => ?_)
      · exact g_vret CF hr hlocks hM1 (g_pv (by rw [goR_J hn.1 hn.2, show j = 12 * (ρ 60 0).toNat by omega])) (by decide) (by decide) dX2_go_56
      · refine lv_aload_n hx hb dX2_go_20 rfl (lv_at hl 2 rfl) ?_
        refine lv_iload hx hb dX2_go_21 (lv_at hl 4 rfl) ?_
        refine g_aaldc CF hK hM1 3 (hL.2.1.1 3 _ rfl) (by decide) rfl (i := (j : Int)) (by omega) (by omega) (by omega) (hL.2.1.at hL.1.n.1 hL.1.n.2 (by omega)) dX2_go_23 (fun hCe => ?_) (fun hCe => ?_)
        · refine lv_astore (lv' := [(5, .ref (G.2.2 (cT ((j : Int) / ρ 60 0) ((j : Int) % ρ 60 0)))), (0, .ref (G.2.2 5)), (1, .ref (G.2.2 t)), (2, .ref (G.2.2 3)), (3, .int (jI (((12 * (ρ 60 0).toNat : Nat) : Int)))), (4, .int (jI ((j : Int))))]) hx hb dX2_go_24 hl (by decide) rfl (fun ls hl => ?_)
          refine lv_aload hx hb dX2_go_26 (lv_at hl 0 rfl) ?_
          refine lv_ifnull hx hb dX2_go_28 ?_
          have hx5 := cell_ix hCe hn.2
          have htr := mTf_r (tr := 0) hPκ hB (l := (j : Int) / ρ 60 0) (i := (j : Int) % ρ 60 0) hx5.2.2.1 hx5.2.2.2
          have hLk2 := hLk.fr (upT_n σ (goJ (ρ 60 0) (ρ 1) (ρ 2) (mTf κ 0) (σ t) (cJ (ρ 60 0) j)) (Ne.symm hT7))
          refine lv_aload_n hx hb dX2_go_31 rfl (lv_at hl 1 rfl) ?_
          refine g_getr CF hK hM1 5 (hL.2.1.1 5 _ rfl) 0 0 rfl rfl (by decide) (Or.inl (hts _ q129)) (fun _ h => h) rfl (G.2.2 60) (hL.2.1.th (t := 5) (k := 0) (by decide)) dX2_go_32 ?_
          refine lv_aload_n hx hb dX2_go_35 rfl (lv_at hl 2 rfl) ?_
          refine lv_aload hx hb dX2_go_36 (lv_at hl 0 rfl) ?_
          refine g_geti CF hK hM1 (cT ((j : Int) / ρ 60 0) ((j : Int) % ρ 60 0)) (hL.2.1.1 _ _ (lKd_c hL.1.n.2 hCe)) 1 1 rfl rfl (by decide) (gLk.n hK q251) (fun _ h => h) rfl dX2_go_38 ?_
          refine x_top (b := (j : Int) % ρ 60 0) (hL2.2.2.1.2.2.2.2 _ _ hCe).2.1 ?_
          refine lv_aload_n hx hb dX2_go_41 rfl (lv_at hl 1 rfl) ?_
          refine lv_aload hx hb dX2_go_42 (lv_at hl 0 rfl) ?_
          refine g_calli (r := mTf κ 0 ((j : Int) / ρ 60 0) ((j : Int) % ρ 60 0)) hM1 hA (g_runU (As := [.ref (G.2.2 (cT ((j : Int) / ρ 60 0) ((j : Int) % ρ 60 0)))]) (rest := [.int (jI ((j : Int) % ρ 60 0)), .ref (G.2.2 t), .ref (G.2.2 60)]) CF hK hM1 (hL.2.1.1 5 _ rfl) rfl (l_lturn5 l E _ _ _ ρ κ ((j : Int) / ρ 60 0) ((j : Int) % ρ 60 0)  hL2 (by first | omega | assumption | (refine ⟨?_, ?_⟩ <;> omega)) hκ hB hLk2) (g_cu 1 hts q526 q1475 (va_Decl.abs (hK.2.2.1 _ q433 rfl)) (hts _ q1478) q436 q62 q437 rfl rfl (by decide +kernel) ⟨Nat.le_of_ble_eq_true rfl, Nat.le_of_ble_eq_true rfl⟩) rfl hl.1 rfl (Nat.le_of_ble_eq_true rfl) dX2_go_44 ⟨Nat.le_of_ble_eq_true rfl, Nat.le_of_ble_eq_true rfl⟩) (fun H locs hM2 => ?_)
          refine g_callv hM2 hA (g_runVN (As := [.ref (G.2.2 t), .int (jI ((j : Int) % ρ 60 0)), .int (jI (mTf κ 0 ((j : Int) / ρ 60 0) ((j : Int) % ρ 60 0)))]) (rest := []) CF hK hM2 (hL.2.1.1 60 _ rfl) rfl (l_turns l E _ _ _ ρ t ((j : Int) % ρ 60 0) (mTf κ 0 ((j : Int) / ρ 60 0) ((j : Int) % ρ 60 0)) hL2 hTk hT0 hTt hT6 (by first | omega | assumption | (refine ⟨?_, ?_⟩ <;> omega)) (by first | omega | assumption | (refine ⟨?_, ?_⟩ <;> omega)) (by rw [upT_s]; exact hrj _ (by omega) (by omega)) (by rw [upT_s]; exact hrj _ (by omega) (by omega)) (by first | omega | assumption | (refine ⟨?_, ?_⟩ <;> omega)) (by first | omega | assumption | (refine ⟨?_, ?_⟩ <;> omega))) ⟨va_cnB 3 hts (lw_meth q530) rfl rfl rfl (hK.2.2.1 _ q527 rfl) (hts _ q60) (by decide +kernel) ⟨Nat.le_of_ble_eq_true rfl, Nat.le_of_ble_eq_true rfl⟩, hts _ q529, hts _ qs4⟩ rfl hl.1 rfl (Nat.le_of_ble_eq_true rfl) dX2_go_47 ⟨Nat.le_of_ble_eq_true rfl, Nat.le_of_ble_eq_true rfl⟩) (fun H locs hM3 => ?_)
          have hM4 := gM_eq (σ' := upT σ t (tRow (ρ 1) (ρ 2) (goJ (ρ 60 0) (ρ 1) (ρ 2) (mTf κ 0) (σ t) (cJ (ρ 60 0) j)) ((j : Int) % ρ 60 0) (mTf κ 0 ((j : Int) / ρ 60 0) ((j : Int) % ρ 60 0)))) (by rw [upT_upT, upT_s]) hM3
          refine x_iinc (lv' := [(4, .int (jI (((j : Int)) + 1))), (5, .ref (G.2.2 (cT ((j : Int) / ρ 60 0) ((j : Int) % ρ 60 0)))), (0, .ref (G.2.2 5)), (1, .ref (G.2.2 t)), (2, .ref (G.2.2 3)), (3, .int (jI (((12 * (ρ 60 0).toNat : Nat) : Int))))]) hx hb dX2_go_50 hl (k := 5) rfl (by decide) rfl (fun ls hl => ?_)
          refine lv_goto (tgt := 14) hx hb dX2_go_53 (by decide) ?_
          exact ih14  ((j + 1)) _ _ _ (by first | omega | assumption | rfl) (by omega) (gM_eq (by rw [cJ_y hCe, goJ_a]) hM4) (lv_sub hl [2, 3, 4, 5, 0] rfl)
        · refine lv_astoreN (lv' := [(5, .null), (0, .ref (G.2.2 5)), (1, .ref (G.2.2 t)), (2, .ref (G.2.2 3)), (3, .int (jI (((12 * (ρ 60 0).toNat : Nat) : Int)))), (4, .int (jI ((j : Int))))]) hx hb dX2_go_24 hl (by decide) rfl (fun ls hl => ?_)
          refine lv_aloadN hx hb dX2_go_26 (lv_at hl 0 rfl) ?_
          refine lv_ifnullN (tgt := 50) hx hb dX2_go_28 (by decide) ?_
          refine x_iinc (lv' := [(4, .int (jI (((j : Int)) + 1))), (5, .null), (0, .ref (G.2.2 5)), (1, .ref (G.2.2 t)), (2, .ref (G.2.2 3)), (3, .int (jI (((12 * (ρ 60 0).toNat : Nat) : Int))))]) hx hb dX2_go_50 hl (k := 5) rfl (by decide) rfl (fun ls hl => ?_)
          refine lv_goto (tgt := 14) hx hb dX2_go_53 (by decide) ?_
          exact ih14  ((j + 1)) _ _ _ (by first | omega | assumption | rfl) (by omega) (gM_eq (by rw [cJ_n hCe]) hM1) (lv_sub hl [2, 3, 4, 5, 0] rfl)
  exact c14 _ 0 _ _ _ (by first | omega | assumption | rfl) (Nat.lt_succ_self _) (gM_eq (upT_self _ _).symm hM0) (lv_sub hl [3, 4, 2, 1, 0] rfl)
set_option maxHeartbeats 400000 in
theorem l_go6 (l : Launch) (E : y_E) (G : y_G) (σ : y_S) (sz : Nat) (ρ : y_S) (κ : y_S) (t : Nat) (hL : lgR E ρ G σ) (hκ : mSame [8, 9, 10] ρ κ) (hB : mBy κ) (hLk : lkK 6 ρ G σ κ) (hTk : G.1 t = some (.inr (0, 6))) (hT0 : t ≠ 0) (hTt : ¬ lgT ρ t) (hT6 : t ≠ 60) (hT7 : t ≠ 7) (hRow : mLi (ρ 60 0) (σ t)) : gCt l yX2_go cX2_go 6 none ({ frames := 5, cells := 0, slots := 0, locals := 110 }) E [.ref (G.2.2 6), .ref (G.2.2 t)] G σ sz (gR none G (upT σ t (goR (ρ 60 0) (ρ 1) (ρ 2) (mTf κ 1) (σ t)))) 0 0 := by
  refine g_met (by decide) (Nat.le_of_ble_eq_true rfl) ?_
  intro p e s m below meth c ls CF hr hlocks hnm hK hM0 hA hl
  have hx := CF.1
  have hb := CF.2.1
  have hts := CF.2.2.2.2
  have hl : lv_has ls 6 [(0, .ref (G.2.2 6)), (1, .ref (G.2.2 t))] := hl
  obtain ⟨hO, hS, ⟨hm1, hm2, hm3, hm4, hm5⟩, hX, hD, hZ⟩ := id hL
  have hn := hO.n
  have e4 : κ 4 = ρ 4 := hκ 4 (by decide)
  have hPκ : mPl κ := mPl_same e4 hO.p
  refine lv_aload_n hx hb dX2_go_0 rfl (lv_at hl 0 rfl) ?_
  refine g_getr CF hK hM0 6 (hL.2.1.1 6 _ rfl) 0 0 rfl rfl (by decide) (Or.inl (hts _ q129)) (fun _ h => h) rfl (G.2.2 60) (hL.2.1.th (t := 6) (k := 0) (by decide)) dX2_go_1 ?_
  refine g_getr CF hK hM0 60 (hL.2.1.1 60 _ rfl) 3 3 rfl rfl (by decide) (gLk.n hK q287) (fun _ h => h) rfl (G.2.2 3) (hL.2.1.2.1 3 3 rfl) dX2_go_4 ?_
  refine lv_astore_n (lv' := [(2, .ref (G.2.2 3)), (0, .ref (G.2.2 6)), (1, .ref (G.2.2 t))]) hx hb dX2_go_7 rfl hl (by decide) rfl (fun ls hl => ?_)
  refine lv_aload_n hx hb dX2_go_8 rfl (lv_at hl 0 rfl) ?_
  refine g_alen CF hK hM0 3 (hL.2.1.1 3 _ rfl) (by decide) dX2_go_9 ?_
  refine lv_istore_n (lv' := [(3, .int (jI (((12 * (ρ 60 0).toNat : Nat) : Int)))), (2, .ref (G.2.2 3)), (0, .ref (G.2.2 6)), (1, .ref (G.2.2 t))]) hx hb dX2_go_10 rfl hl (by decide) rfl (fun ls hl => ?_)
  refine lv_iconst (v := jI 0) hx hb dX2_go_11 rfl ?_
  refine lv_istore (lv' := [(4, .int (jI 0)), (3, .int (jI (((12 * (ρ 60 0).toNat : Nat) : Int)))), (2, .ref (G.2.2 3)), (0, .ref (G.2.2 6)), (1, .ref (G.2.2 t))]) hx hb dX2_go_12 hl (by decide) rfl (fun ls hl => ?_)
  have c14 : ∀ (n14 : Nat) (j : Nat) (H : Heap) (locs : List Loc) (ls : Array Slot), (j ≤ 12 * (ρ 60 0).toNat) → (12 * (ρ 60 0).toNat - j < n14) → gM E (gA G sz) G (upT σ t (goJ (ρ 60 0) (ρ 1) (ρ 2) (mTf κ 1) (σ t) (cJ (ρ 60 0) j))) s.heap H locs → lv_has ls 6 [(0, .ref (G.2.2 6)), (1, .ref (G.2.2 t)), (2, .ref (G.2.2 3)), (3, .int (jI (((12 * (ρ 60 0).toNat : Nat) : Int)))), (4, .int (jI ((j : Int))))] → W p l e ({ frames := 5, cells := 0, slots := 0, locals := 110 } : Room) s m ([.ref (G.2.2 6), .ref (G.2.2 t)] : List Value).toArray below meth c H locs 0 0 (MQ below (gQ E G sz (gR none G (upT σ t (goR (ρ 60 0) (ρ 1) (ρ 2) (mTf κ 1) (σ t))))) ([.ref (G.2.2 6), .ref (G.2.2 t)] : List Value).toArray s 0 0 (gA G sz)) (F0 m 14 ls []) := by
    intro n14
    induction n14 with
    | zero => intro j H locs ls hj hmu; exact absurd hmu (Nat.not_lt_zero _)
    | succ n14 ih14 =>
      intro j H locs ls hj hmu14 hM1 hl
      have hL2 : lgR E ρ G (upT σ t (goJ (ρ 60 0) (ρ 1) (ρ 2) (mTf κ 1) (σ t) (cJ (ρ 60 0) j))) := hL.uT hTt hT6
      have hrj := goJ_r (c := ρ 1) (s := ρ 2) (tf := mTf κ 1) (cJ (ρ 60 0) j) _ hRow
      refine lv_iload hx hb dX2_go_14 (lv_at hl 4 rfl) ?_
      refine lv_iload_n hx hb dX2_go_16 rfl (lv_at hl 3 rfl) ?_
      refine x_icmp_ge (tgt := 56) hx hb dX2_go_17 (by decide) (by omega) (by omega) (fun b17 => ?_) (fun b17 => ?_)
      · exact g_vret CF hr hlocks hM1 (g_pv (by rw [goR_J hn.1 hn.2, show j = 12 * (ρ 60 0).toNat by omega])) (by decide) (by decide) dX2_go_56
      · refine lv_aload_n hx hb dX2_go_20 rfl (lv_at hl 2 rfl) ?_
        refine lv_iload hx hb dX2_go_21 (lv_at hl 4 rfl) ?_
        refine g_aaldc CF hK hM1 3 (hL.2.1.1 3 _ rfl) (by decide) rfl (i := (j : Int)) (by omega) (by omega) (by omega) (hL.2.1.at hL.1.n.1 hL.1.n.2 (by omega)) dX2_go_23 (fun hCe => ?_) (fun hCe => ?_)
        · refine lv_astore (lv' := [(5, .ref (G.2.2 (cT ((j : Int) / ρ 60 0) ((j : Int) % ρ 60 0)))), (0, .ref (G.2.2 6)), (1, .ref (G.2.2 t)), (2, .ref (G.2.2 3)), (3, .int (jI (((12 * (ρ 60 0).toNat : Nat) : Int)))), (4, .int (jI ((j : Int))))]) hx hb dX2_go_24 hl (by decide) rfl (fun ls hl => ?_)
          refine lv_aload hx hb dX2_go_26 (lv_at hl 0 rfl) ?_
          refine lv_ifnull hx hb dX2_go_28 ?_
          have hx5 := cell_ix hCe hn.2
          have htr := mTf_r (tr := 1) hPκ hB (l := (j : Int) / ρ 60 0) (i := (j : Int) % ρ 60 0) hx5.2.2.1 hx5.2.2.2
          have hLk2 := hLk.fr (upT_n σ (goJ (ρ 60 0) (ρ 1) (ρ 2) (mTf κ 1) (σ t) (cJ (ρ 60 0) j)) (Ne.symm hT7))
          refine lv_aload_n hx hb dX2_go_31 rfl (lv_at hl 1 rfl) ?_
          refine g_getr CF hK hM1 6 (hL.2.1.1 6 _ rfl) 0 0 rfl rfl (by decide) (Or.inl (hts _ q129)) (fun _ h => h) rfl (G.2.2 60) (hL.2.1.th (t := 6) (k := 0) (by decide)) dX2_go_32 ?_
          refine lv_aload_n hx hb dX2_go_35 rfl (lv_at hl 2 rfl) ?_
          refine lv_aload hx hb dX2_go_36 (lv_at hl 0 rfl) ?_
          refine g_geti CF hK hM1 (cT ((j : Int) / ρ 60 0) ((j : Int) % ρ 60 0)) (hL.2.1.1 _ _ (lKd_c hL.1.n.2 hCe)) 1 1 rfl rfl (by decide) (gLk.n hK q251) (fun _ h => h) rfl dX2_go_38 ?_
          refine x_top (b := (j : Int) % ρ 60 0) (hL2.2.2.1.2.2.2.2 _ _ hCe).2.1 ?_
          refine lv_aload_n hx hb dX2_go_41 rfl (lv_at hl 1 rfl) ?_
          refine lv_aload hx hb dX2_go_42 (lv_at hl 0 rfl) ?_
          refine g_calli (r := mTf κ 1 ((j : Int) / ρ 60 0) ((j : Int) % ρ 60 0)) hM1 hA (g_runU (As := [.ref (G.2.2 (cT ((j : Int) / ρ 60 0) ((j : Int) % ρ 60 0)))]) (rest := [.int (jI ((j : Int) % ρ 60 0)), .ref (G.2.2 t), .ref (G.2.2 60)]) CF hK hM1 (hL.2.1.1 6 _ rfl) rfl (l_lturn6 l E _ _ _ ρ κ ((j : Int) / ρ 60 0) ((j : Int) % ρ 60 0)  hL2 (by first | omega | assumption | (refine ⟨?_, ?_⟩ <;> omega)) hκ hB hLk2) (g_cu 1 hts q526 q1475 (va_Decl.abs (hK.2.2.1 _ q433 rfl)) (hts _ q1479) q436 q62 q437 rfl rfl (by decide +kernel) ⟨Nat.le_of_ble_eq_true rfl, Nat.le_of_ble_eq_true rfl⟩) rfl hl.1 rfl (Nat.le_of_ble_eq_true rfl) dX2_go_44 ⟨Nat.le_of_ble_eq_true rfl, Nat.le_of_ble_eq_true rfl⟩) (fun H locs hM2 => ?_)
          refine g_callv hM2 hA (g_runVN (As := [.ref (G.2.2 t), .int (jI ((j : Int) % ρ 60 0)), .int (jI (mTf κ 1 ((j : Int) / ρ 60 0) ((j : Int) % ρ 60 0)))]) (rest := []) CF hK hM2 (hL.2.1.1 60 _ rfl) rfl (l_turns l E _ _ _ ρ t ((j : Int) % ρ 60 0) (mTf κ 1 ((j : Int) / ρ 60 0) ((j : Int) % ρ 60 0)) hL2 hTk hT0 hTt hT6 (by first | omega | assumption | (refine ⟨?_, ?_⟩ <;> omega)) (by first | omega | assumption | (refine ⟨?_, ?_⟩ <;> omega)) (by rw [upT_s]; exact hrj _ (by omega) (by omega)) (by rw [upT_s]; exact hrj _ (by omega) (by omega)) (by first | omega | assumption | (refine ⟨?_, ?_⟩ <;> omega)) (by first | omega | assumption | (refine ⟨?_, ?_⟩ <;> omega))) ⟨va_cnB 3 hts (lw_meth q530) rfl rfl rfl (hK.2.2.1 _ q527 rfl) (hts _ q60) (by decide +kernel) ⟨Nat.le_of_ble_eq_true rfl, Nat.le_of_ble_eq_true rfl⟩, hts _ q529, hts _ qs4⟩ rfl hl.1 rfl (Nat.le_of_ble_eq_true rfl) dX2_go_47 ⟨Nat.le_of_ble_eq_true rfl, Nat.le_of_ble_eq_true rfl⟩) (fun H locs hM3 => ?_)
          have hM4 := gM_eq (σ' := upT σ t (tRow (ρ 1) (ρ 2) (goJ (ρ 60 0) (ρ 1) (ρ 2) (mTf κ 1) (σ t) (cJ (ρ 60 0) j)) ((j : Int) % ρ 60 0) (mTf κ 1 ((j : Int) / ρ 60 0) ((j : Int) % ρ 60 0)))) (by rw [upT_upT, upT_s]) hM3
          refine x_iinc (lv' := [(4, .int (jI (((j : Int)) + 1))), (5, .ref (G.2.2 (cT ((j : Int) / ρ 60 0) ((j : Int) % ρ 60 0)))), (0, .ref (G.2.2 6)), (1, .ref (G.2.2 t)), (2, .ref (G.2.2 3)), (3, .int (jI (((12 * (ρ 60 0).toNat : Nat) : Int))))]) hx hb dX2_go_50 hl (k := 5) rfl (by decide) rfl (fun ls hl => ?_)
          refine lv_goto (tgt := 14) hx hb dX2_go_53 (by decide) ?_
          exact ih14  ((j + 1)) _ _ _ (by first | omega | assumption | rfl) (by omega) (gM_eq (by rw [cJ_y hCe, goJ_a]) hM4) (lv_sub hl [2, 3, 4, 5, 0] rfl)
        · refine lv_astoreN (lv' := [(5, .null), (0, .ref (G.2.2 6)), (1, .ref (G.2.2 t)), (2, .ref (G.2.2 3)), (3, .int (jI (((12 * (ρ 60 0).toNat : Nat) : Int)))), (4, .int (jI ((j : Int))))]) hx hb dX2_go_24 hl (by decide) rfl (fun ls hl => ?_)
          refine lv_aloadN hx hb dX2_go_26 (lv_at hl 0 rfl) ?_
          refine lv_ifnullN (tgt := 50) hx hb dX2_go_28 (by decide) ?_
          refine x_iinc (lv' := [(4, .int (jI (((j : Int)) + 1))), (5, .null), (0, .ref (G.2.2 6)), (1, .ref (G.2.2 t)), (2, .ref (G.2.2 3)), (3, .int (jI (((12 * (ρ 60 0).toNat : Nat) : Int))))]) hx hb dX2_go_50 hl (k := 5) rfl (by decide) rfl (fun ls hl => ?_)
          refine lv_goto (tgt := 14) hx hb dX2_go_53 (by decide) ?_
          exact ih14  ((j + 1)) _ _ _ (by first | omega | assumption | rfl) (by omega) (gM_eq (by rw [cJ_n hCe]) hM1) (lv_sub hl [2, 3, 4, 5, 0] rfl)
  exact c14 _ 0 _ _ _ (by first | omega | assumption | rfl) (Nat.lt_succ_self _) (gM_eq (upT_self _ _).symm hM0) (lv_sub hl [3, 4, 2, 1, 0] rfl)
set_option maxHeartbeats 400000 in
theorem l_go7 (l : Launch) (E : y_E) (G : y_G) (σ : y_S) (sz : Nat) (ρ : y_S) (κ : y_S) (t : Nat) (hL : lgR E ρ G σ) (hκ : mSame [8, 9, 10] ρ κ) (hB : mBy κ) (hLk : lkK 7 ρ G σ κ) (hTk : G.1 t = some (.inr (0, 6))) (hT0 : t ≠ 0) (hTt : ¬ lgT ρ t) (hT6 : t ≠ 60) (hT7 : t ≠ 7) (hRow : mLi (ρ 60 0) (σ t)) : gCt l yX2_go cX2_go 6 none ({ frames := 6, cells := 0, slots := 0, locals := 132 }) E [.ref (G.2.2 7), .ref (G.2.2 t)] G σ sz (gR none G (upT σ t (goR (ρ 60 0) (ρ 1) (ρ 2) (mTf κ 1) (σ t)))) 0 0 := by
  refine g_met (by decide) (Nat.le_of_ble_eq_true rfl) ?_
  intro p e s m below meth c ls CF hr hlocks hnm hK hM0 hA hl
  have hx := CF.1
  have hb := CF.2.1
  have hts := CF.2.2.2.2
  have hl : lv_has ls 6 [(0, .ref (G.2.2 7)), (1, .ref (G.2.2 t))] := hl
  obtain ⟨hO, hS, ⟨hm1, hm2, hm3, hm4, hm5⟩, hX, hD, hZ⟩ := id hL
  have hn := hO.n
  have e4 : κ 4 = ρ 4 := hκ 4 (by decide)
  have hPκ : mPl κ := mPl_same e4 hO.p
  refine lv_aload_n hx hb dX2_go_0 rfl (lv_at hl 0 rfl) ?_
  refine g_getr CF hK hM0 7 (hL.2.1.1 7 _ rfl) 0 0 rfl rfl (by decide) (Or.inl (hts _ q129)) (fun _ h => h) rfl (G.2.2 60) (hL.2.1.th (t := 7) (k := 0) (by decide)) dX2_go_1 ?_
  refine g_getr CF hK hM0 60 (hL.2.1.1 60 _ rfl) 3 3 rfl rfl (by decide) (gLk.n hK q287) (fun _ h => h) rfl (G.2.2 3) (hL.2.1.2.1 3 3 rfl) dX2_go_4 ?_
  refine lv_astore_n (lv' := [(2, .ref (G.2.2 3)), (0, .ref (G.2.2 7)), (1, .ref (G.2.2 t))]) hx hb dX2_go_7 rfl hl (by decide) rfl (fun ls hl => ?_)
  refine lv_aload_n hx hb dX2_go_8 rfl (lv_at hl 0 rfl) ?_
  refine g_alen CF hK hM0 3 (hL.2.1.1 3 _ rfl) (by decide) dX2_go_9 ?_
  refine lv_istore_n (lv' := [(3, .int (jI (((12 * (ρ 60 0).toNat : Nat) : Int)))), (2, .ref (G.2.2 3)), (0, .ref (G.2.2 7)), (1, .ref (G.2.2 t))]) hx hb dX2_go_10 rfl hl (by decide) rfl (fun ls hl => ?_)
  refine lv_iconst (v := jI 0) hx hb dX2_go_11 rfl ?_
  refine lv_istore (lv' := [(4, .int (jI 0)), (3, .int (jI (((12 * (ρ 60 0).toNat : Nat) : Int)))), (2, .ref (G.2.2 3)), (0, .ref (G.2.2 7)), (1, .ref (G.2.2 t))]) hx hb dX2_go_12 hl (by decide) rfl (fun ls hl => ?_)
  have c14 : ∀ (n14 : Nat) (j : Nat) (H : Heap) (locs : List Loc) (ls : Array Slot), (j ≤ 12 * (ρ 60 0).toNat) → (12 * (ρ 60 0).toNat - j < n14) → gM E (gA G sz) G (upT σ t (goJ (ρ 60 0) (ρ 1) (ρ 2) (mTf κ 1) (σ t) (cJ (ρ 60 0) j))) s.heap H locs → lv_has ls 6 [(0, .ref (G.2.2 7)), (1, .ref (G.2.2 t)), (2, .ref (G.2.2 3)), (3, .int (jI (((12 * (ρ 60 0).toNat : Nat) : Int)))), (4, .int (jI ((j : Int))))] → W p l e ({ frames := 6, cells := 0, slots := 0, locals := 132 } : Room) s m ([.ref (G.2.2 7), .ref (G.2.2 t)] : List Value).toArray below meth c H locs 0 0 (MQ below (gQ E G sz (gR none G (upT σ t (goR (ρ 60 0) (ρ 1) (ρ 2) (mTf κ 1) (σ t))))) ([.ref (G.2.2 7), .ref (G.2.2 t)] : List Value).toArray s 0 0 (gA G sz)) (F0 m 14 ls []) := by
    intro n14
    induction n14 with
    | zero => intro j H locs ls hj hmu; exact absurd hmu (Nat.not_lt_zero _)
    | succ n14 ih14 =>
      intro j H locs ls hj hmu14 hM1 hl
      have hL2 : lgR E ρ G (upT σ t (goJ (ρ 60 0) (ρ 1) (ρ 2) (mTf κ 1) (σ t) (cJ (ρ 60 0) j))) := hL.uT hTt hT6
      have hrj := goJ_r (c := ρ 1) (s := ρ 2) (tf := mTf κ 1) (cJ (ρ 60 0) j) _ hRow
      refine lv_iload hx hb dX2_go_14 (lv_at hl 4 rfl) ?_
      refine lv_iload_n hx hb dX2_go_16 rfl (lv_at hl 3 rfl) ?_
      refine x_icmp_ge (tgt := 56) hx hb dX2_go_17 (by decide) (by omega) (by omega) (fun b17 => ?_) (fun b17 => ?_)
      · exact g_vret CF hr hlocks hM1 (g_pv (by rw [goR_J hn.1 hn.2, show j = 12 * (ρ 60 0).toNat by omega])) (by decide) (by decide) dX2_go_56
      · refine lv_aload_n hx hb dX2_go_20 rfl (lv_at hl 2 rfl) ?_
        refine lv_iload hx hb dX2_go_21 (lv_at hl 4 rfl) ?_
        refine g_aaldc CF hK hM1 3 (hL.2.1.1 3 _ rfl) (by decide) rfl (i := (j : Int)) (by omega) (by omega) (by omega) (hL.2.1.at hL.1.n.1 hL.1.n.2 (by omega)) dX2_go_23 (fun hCe => ?_) (fun hCe => ?_)
        · refine lv_astore (lv' := [(5, .ref (G.2.2 (cT ((j : Int) / ρ 60 0) ((j : Int) % ρ 60 0)))), (0, .ref (G.2.2 7)), (1, .ref (G.2.2 t)), (2, .ref (G.2.2 3)), (3, .int (jI (((12 * (ρ 60 0).toNat : Nat) : Int)))), (4, .int (jI ((j : Int))))]) hx hb dX2_go_24 hl (by decide) rfl (fun ls hl => ?_)
          refine lv_aload hx hb dX2_go_26 (lv_at hl 0 rfl) ?_
          refine lv_ifnull hx hb dX2_go_28 ?_
          have hx5 := cell_ix hCe hn.2
          have htr := mTf_r (tr := 1) hPκ hB (l := (j : Int) / ρ 60 0) (i := (j : Int) % ρ 60 0) hx5.2.2.1 hx5.2.2.2
          have hLk2 := hLk.fr (upT_n σ (goJ (ρ 60 0) (ρ 1) (ρ 2) (mTf κ 1) (σ t) (cJ (ρ 60 0) j)) (Ne.symm hT7))
          refine lv_aload_n hx hb dX2_go_31 rfl (lv_at hl 1 rfl) ?_
          refine g_getr CF hK hM1 7 (hL.2.1.1 7 _ rfl) 0 0 rfl rfl (by decide) (Or.inl (hts _ q129)) (fun _ h => h) rfl (G.2.2 60) (hL.2.1.th (t := 7) (k := 0) (by decide)) dX2_go_32 ?_
          refine lv_aload_n hx hb dX2_go_35 rfl (lv_at hl 2 rfl) ?_
          refine lv_aload hx hb dX2_go_36 (lv_at hl 0 rfl) ?_
          refine g_geti CF hK hM1 (cT ((j : Int) / ρ 60 0) ((j : Int) % ρ 60 0)) (hL.2.1.1 _ _ (lKd_c hL.1.n.2 hCe)) 1 1 rfl rfl (by decide) (gLk.n hK q251) (fun _ h => h) rfl dX2_go_38 ?_
          refine x_top (b := (j : Int) % ρ 60 0) (hL2.2.2.1.2.2.2.2 _ _ hCe).2.1 ?_
          refine lv_aload_n hx hb dX2_go_41 rfl (lv_at hl 1 rfl) ?_
          refine lv_aload hx hb dX2_go_42 (lv_at hl 0 rfl) ?_
          refine g_calli (r := mTf κ 1 ((j : Int) / ρ 60 0) ((j : Int) % ρ 60 0)) hM1 hA (g_runU (As := [.ref (G.2.2 (cT ((j : Int) / ρ 60 0) ((j : Int) % ρ 60 0)))]) (rest := [.int (jI ((j : Int) % ρ 60 0)), .ref (G.2.2 t), .ref (G.2.2 60)]) CF hK hM1 (hL.2.1.1 7 _ rfl) rfl (l_lturn7 l E _ _ _ ρ κ ((j : Int) / ρ 60 0) ((j : Int) % ρ 60 0)  hL2 (by first | omega | assumption | (refine ⟨?_, ?_⟩ <;> omega)) hκ hB hLk2) (g_cu 1 hts q526 q1475 (va_Decl.abs (hK.2.2.1 _ q433 rfl)) (hts _ q1477) q436 q62 q437 rfl rfl (by decide +kernel) ⟨Nat.le_of_ble_eq_true rfl, Nat.le_of_ble_eq_true rfl⟩) rfl hl.1 rfl (Nat.le_of_ble_eq_true rfl) dX2_go_44 ⟨Nat.le_of_ble_eq_true rfl, Nat.le_of_ble_eq_true rfl⟩) (fun H locs hM2 => ?_)
          refine g_callv hM2 hA (g_runVN (As := [.ref (G.2.2 t), .int (jI ((j : Int) % ρ 60 0)), .int (jI (mTf κ 1 ((j : Int) / ρ 60 0) ((j : Int) % ρ 60 0)))]) (rest := []) CF hK hM2 (hL.2.1.1 60 _ rfl) rfl (l_turns l E _ _ _ ρ t ((j : Int) % ρ 60 0) (mTf κ 1 ((j : Int) / ρ 60 0) ((j : Int) % ρ 60 0)) hL2 hTk hT0 hTt hT6 (by first | omega | assumption | (refine ⟨?_, ?_⟩ <;> omega)) (by first | omega | assumption | (refine ⟨?_, ?_⟩ <;> omega)) (by rw [upT_s]; exact hrj _ (by omega) (by omega)) (by rw [upT_s]; exact hrj _ (by omega) (by omega)) (by first | omega | assumption | (refine ⟨?_, ?_⟩ <;> omega)) (by first | omega | assumption | (refine ⟨?_, ?_⟩ <;> omega))) ⟨va_cnB 3 hts (lw_meth q530) rfl rfl rfl (hK.2.2.1 _ q527 rfl) (hts _ q60) (by decide +kernel) ⟨Nat.le_of_ble_eq_true rfl, Nat.le_of_ble_eq_true rfl⟩, hts _ q529, hts _ qs4⟩ rfl hl.1 rfl (Nat.le_of_ble_eq_true rfl) dX2_go_47 ⟨Nat.le_of_ble_eq_true rfl, Nat.le_of_ble_eq_true rfl⟩) (fun H locs hM3 => ?_)
          have hM4 := gM_eq (σ' := upT σ t (tRow (ρ 1) (ρ 2) (goJ (ρ 60 0) (ρ 1) (ρ 2) (mTf κ 1) (σ t) (cJ (ρ 60 0) j)) ((j : Int) % ρ 60 0) (mTf κ 1 ((j : Int) / ρ 60 0) ((j : Int) % ρ 60 0)))) (by rw [upT_upT, upT_s]) hM3
          refine x_iinc (lv' := [(4, .int (jI (((j : Int)) + 1))), (5, .ref (G.2.2 (cT ((j : Int) / ρ 60 0) ((j : Int) % ρ 60 0)))), (0, .ref (G.2.2 7)), (1, .ref (G.2.2 t)), (2, .ref (G.2.2 3)), (3, .int (jI (((12 * (ρ 60 0).toNat : Nat) : Int))))]) hx hb dX2_go_50 hl (k := 5) rfl (by decide) rfl (fun ls hl => ?_)
          refine lv_goto (tgt := 14) hx hb dX2_go_53 (by decide) ?_
          exact ih14  ((j + 1)) _ _ _ (by first | omega | assumption | rfl) (by omega) (gM_eq (by rw [cJ_y hCe, goJ_a]) hM4) (lv_sub hl [2, 3, 4, 5, 0] rfl)
        · refine lv_astoreN (lv' := [(5, .null), (0, .ref (G.2.2 7)), (1, .ref (G.2.2 t)), (2, .ref (G.2.2 3)), (3, .int (jI (((12 * (ρ 60 0).toNat : Nat) : Int)))), (4, .int (jI ((j : Int))))]) hx hb dX2_go_24 hl (by decide) rfl (fun ls hl => ?_)
          refine lv_aloadN hx hb dX2_go_26 (lv_at hl 0 rfl) ?_
          refine lv_ifnullN (tgt := 50) hx hb dX2_go_28 (by decide) ?_
          refine x_iinc (lv' := [(4, .int (jI (((j : Int)) + 1))), (5, .null), (0, .ref (G.2.2 7)), (1, .ref (G.2.2 t)), (2, .ref (G.2.2 3)), (3, .int (jI (((12 * (ρ 60 0).toNat : Nat) : Int))))]) hx hb dX2_go_50 hl (k := 5) rfl (by decide) rfl (fun ls hl => ?_)
          refine lv_goto (tgt := 14) hx hb dX2_go_53 (by decide) ?_
          exact ih14  ((j + 1)) _ _ _ (by first | omega | assumption | rfl) (by omega) (gM_eq (by rw [cJ_n hCe]) hM1) (lv_sub hl [2, 3, 4, 5, 0] rfl)
  exact c14 _ 0 _ _ _ (by first | omega | assumption | rfl) (Nat.lt_succ_self _) (gM_eq (upT_self _ _).symm hM0) (lv_sub hl [3, 4, 2, 1, 0] rfl)
set_option maxHeartbeats 400000 in
theorem l_go8 (l : Launch) (E : y_E) (G : y_G) (σ : y_S) (sz : Nat) (ρ : y_S) (κ : y_S) (t : Nat) (hL : lgR E ρ G σ) (hκ : mSame [8, 9, 10] ρ κ) (hB : mBy κ) (hLk : lkK 8 ρ G σ κ) (hTk : G.1 t = some (.inr (0, 6))) (hT0 : t ≠ 0) (hTt : ¬ lgT ρ t) (hT6 : t ≠ 60) (hT7 : t ≠ 7) (hRow : mLi (ρ 60 0) (σ t)) : gCt l yX2_go cX2_go 6 none ({ frames := 6, cells := 0, slots := 0, locals := 132 }) E [.ref (G.2.2 8), .ref (G.2.2 t)] G σ sz (gR none G (upT σ t (goR (ρ 60 0) (ρ 1) (ρ 2) (mTf κ 1) (σ t)))) 0 0 := by
  refine g_met (by decide) (Nat.le_of_ble_eq_true rfl) ?_
  intro p e s m below meth c ls CF hr hlocks hnm hK hM0 hA hl
  have hx := CF.1
  have hb := CF.2.1
  have hts := CF.2.2.2.2
  have hl : lv_has ls 6 [(0, .ref (G.2.2 8)), (1, .ref (G.2.2 t))] := hl
  obtain ⟨hO, hS, ⟨hm1, hm2, hm3, hm4, hm5⟩, hX, hD, hZ⟩ := id hL
  have hn := hO.n
  have e4 : κ 4 = ρ 4 := hκ 4 (by decide)
  have hPκ : mPl κ := mPl_same e4 hO.p
  refine lv_aload_n hx hb dX2_go_0 rfl (lv_at hl 0 rfl) ?_
  refine g_getr CF hK hM0 8 (hL.2.1.1 8 _ rfl) 0 0 rfl rfl (by decide) (Or.inl (hts _ q129)) (fun _ h => h) rfl (G.2.2 60) (hL.2.1.th (t := 8) (k := 0) (by decide)) dX2_go_1 ?_
  refine g_getr CF hK hM0 60 (hL.2.1.1 60 _ rfl) 3 3 rfl rfl (by decide) (gLk.n hK q287) (fun _ h => h) rfl (G.2.2 3) (hL.2.1.2.1 3 3 rfl) dX2_go_4 ?_
  refine lv_astore_n (lv' := [(2, .ref (G.2.2 3)), (0, .ref (G.2.2 8)), (1, .ref (G.2.2 t))]) hx hb dX2_go_7 rfl hl (by decide) rfl (fun ls hl => ?_)
  refine lv_aload_n hx hb dX2_go_8 rfl (lv_at hl 0 rfl) ?_
  refine g_alen CF hK hM0 3 (hL.2.1.1 3 _ rfl) (by decide) dX2_go_9 ?_
  refine lv_istore_n (lv' := [(3, .int (jI (((12 * (ρ 60 0).toNat : Nat) : Int)))), (2, .ref (G.2.2 3)), (0, .ref (G.2.2 8)), (1, .ref (G.2.2 t))]) hx hb dX2_go_10 rfl hl (by decide) rfl (fun ls hl => ?_)
  refine lv_iconst (v := jI 0) hx hb dX2_go_11 rfl ?_
  refine lv_istore (lv' := [(4, .int (jI 0)), (3, .int (jI (((12 * (ρ 60 0).toNat : Nat) : Int)))), (2, .ref (G.2.2 3)), (0, .ref (G.2.2 8)), (1, .ref (G.2.2 t))]) hx hb dX2_go_12 hl (by decide) rfl (fun ls hl => ?_)
  have c14 : ∀ (n14 : Nat) (j : Nat) (H : Heap) (locs : List Loc) (ls : Array Slot), (j ≤ 12 * (ρ 60 0).toNat) → (12 * (ρ 60 0).toNat - j < n14) → gM E (gA G sz) G (upT σ t (goJ (ρ 60 0) (ρ 1) (ρ 2) (mTf κ 1) (σ t) (cJ (ρ 60 0) j))) s.heap H locs → lv_has ls 6 [(0, .ref (G.2.2 8)), (1, .ref (G.2.2 t)), (2, .ref (G.2.2 3)), (3, .int (jI (((12 * (ρ 60 0).toNat : Nat) : Int)))), (4, .int (jI ((j : Int))))] → W p l e ({ frames := 6, cells := 0, slots := 0, locals := 132 } : Room) s m ([.ref (G.2.2 8), .ref (G.2.2 t)] : List Value).toArray below meth c H locs 0 0 (MQ below (gQ E G sz (gR none G (upT σ t (goR (ρ 60 0) (ρ 1) (ρ 2) (mTf κ 1) (σ t))))) ([.ref (G.2.2 8), .ref (G.2.2 t)] : List Value).toArray s 0 0 (gA G sz)) (F0 m 14 ls []) := by
    intro n14
    induction n14 with
    | zero => intro j H locs ls hj hmu; exact absurd hmu (Nat.not_lt_zero _)
    | succ n14 ih14 =>
      intro j H locs ls hj hmu14 hM1 hl
      have hL2 : lgR E ρ G (upT σ t (goJ (ρ 60 0) (ρ 1) (ρ 2) (mTf κ 1) (σ t) (cJ (ρ 60 0) j))) := hL.uT hTt hT6
      have hrj := goJ_r (c := ρ 1) (s := ρ 2) (tf := mTf κ 1) (cJ (ρ 60 0) j) _ hRow
      refine lv_iload hx hb dX2_go_14 (lv_at hl 4 rfl) ?_
      refine lv_iload_n hx hb dX2_go_16 rfl (lv_at hl 3 rfl) ?_
      refine x_icmp_ge (tgt := 56) hx hb dX2_go_17 (by decide) (by omega) (by omega) (fun b17 => ?_) (fun b17 => ?_)
      · exact g_vret CF hr hlocks hM1 (g_pv (by rw [goR_J hn.1 hn.2, show j = 12 * (ρ 60 0).toNat by omega])) (by decide) (by decide) dX2_go_56
      · refine lv_aload_n hx hb dX2_go_20 rfl (lv_at hl 2 rfl) ?_
        refine lv_iload hx hb dX2_go_21 (lv_at hl 4 rfl) ?_
        refine g_aaldc CF hK hM1 3 (hL.2.1.1 3 _ rfl) (by decide) rfl (i := (j : Int)) (by omega) (by omega) (by omega) (hL.2.1.at hL.1.n.1 hL.1.n.2 (by omega)) dX2_go_23 (fun hCe => ?_) (fun hCe => ?_)
        · refine lv_astore (lv' := [(5, .ref (G.2.2 (cT ((j : Int) / ρ 60 0) ((j : Int) % ρ 60 0)))), (0, .ref (G.2.2 8)), (1, .ref (G.2.2 t)), (2, .ref (G.2.2 3)), (3, .int (jI (((12 * (ρ 60 0).toNat : Nat) : Int)))), (4, .int (jI ((j : Int))))]) hx hb dX2_go_24 hl (by decide) rfl (fun ls hl => ?_)
          refine lv_aload hx hb dX2_go_26 (lv_at hl 0 rfl) ?_
          refine lv_ifnull hx hb dX2_go_28 ?_
          have hx5 := cell_ix hCe hn.2
          have htr := mTf_r (tr := 1) hPκ hB (l := (j : Int) / ρ 60 0) (i := (j : Int) % ρ 60 0) hx5.2.2.1 hx5.2.2.2
          have hLk2 := hLk.fr (upT_n σ (goJ (ρ 60 0) (ρ 1) (ρ 2) (mTf κ 1) (σ t) (cJ (ρ 60 0) j)) (Ne.symm hT7))
          refine lv_aload_n hx hb dX2_go_31 rfl (lv_at hl 1 rfl) ?_
          refine g_getr CF hK hM1 8 (hL.2.1.1 8 _ rfl) 0 0 rfl rfl (by decide) (Or.inl (hts _ q129)) (fun _ h => h) rfl (G.2.2 60) (hL.2.1.th (t := 8) (k := 0) (by decide)) dX2_go_32 ?_
          refine lv_aload_n hx hb dX2_go_35 rfl (lv_at hl 2 rfl) ?_
          refine lv_aload hx hb dX2_go_36 (lv_at hl 0 rfl) ?_
          refine g_geti CF hK hM1 (cT ((j : Int) / ρ 60 0) ((j : Int) % ρ 60 0)) (hL.2.1.1 _ _ (lKd_c hL.1.n.2 hCe)) 1 1 rfl rfl (by decide) (gLk.n hK q251) (fun _ h => h) rfl dX2_go_38 ?_
          refine x_top (b := (j : Int) % ρ 60 0) (hL2.2.2.1.2.2.2.2 _ _ hCe).2.1 ?_
          refine lv_aload_n hx hb dX2_go_41 rfl (lv_at hl 1 rfl) ?_
          refine lv_aload hx hb dX2_go_42 (lv_at hl 0 rfl) ?_
          refine g_calli (r := mTf κ 1 ((j : Int) / ρ 60 0) ((j : Int) % ρ 60 0)) hM1 hA (g_runU (As := [.ref (G.2.2 (cT ((j : Int) / ρ 60 0) ((j : Int) % ρ 60 0)))]) (rest := [.int (jI ((j : Int) % ρ 60 0)), .ref (G.2.2 t), .ref (G.2.2 60)]) CF hK hM1 (hL.2.1.1 8 _ rfl) rfl (l_lturn8 l E _ _ _ ρ κ ((j : Int) / ρ 60 0) ((j : Int) % ρ 60 0)  hL2 (by first | omega | assumption | (refine ⟨?_, ?_⟩ <;> omega)) hκ hB hLk2) (g_cu 1 hts q526 q1475 (va_Decl.abs (hK.2.2.1 _ q433 rfl)) (hts _ q1476) q436 q62 q437 rfl rfl (by decide +kernel) ⟨Nat.le_of_ble_eq_true rfl, Nat.le_of_ble_eq_true rfl⟩) rfl hl.1 rfl (Nat.le_of_ble_eq_true rfl) dX2_go_44 ⟨Nat.le_of_ble_eq_true rfl, Nat.le_of_ble_eq_true rfl⟩) (fun H locs hM2 => ?_)
          refine g_callv hM2 hA (g_runVN (As := [.ref (G.2.2 t), .int (jI ((j : Int) % ρ 60 0)), .int (jI (mTf κ 1 ((j : Int) / ρ 60 0) ((j : Int) % ρ 60 0)))]) (rest := []) CF hK hM2 (hL.2.1.1 60 _ rfl) rfl (l_turns l E _ _ _ ρ t ((j : Int) % ρ 60 0) (mTf κ 1 ((j : Int) / ρ 60 0) ((j : Int) % ρ 60 0)) hL2 hTk hT0 hTt hT6 (by first | omega | assumption | (refine ⟨?_, ?_⟩ <;> omega)) (by first | omega | assumption | (refine ⟨?_, ?_⟩ <;> omega)) (by rw [upT_s]; exact hrj _ (by omega) (by omega)) (by rw [upT_s]; exact hrj _ (by omega) (by omega)) (by first | omega | assumption | (refine ⟨?_, ?_⟩ <;> omega)) (by first | omega | assumption | (refine ⟨?_, ?_⟩ <;> omega))) ⟨va_cnB 3 hts (lw_meth q530) rfl rfl rfl (hK.2.2.1 _ q527 rfl) (hts _ q60) (by decide +kernel) ⟨Nat.le_of_ble_eq_true rfl, Nat.le_of_ble_eq_true rfl⟩, hts _ q529, hts _ qs4⟩ rfl hl.1 rfl (Nat.le_of_ble_eq_true rfl) dX2_go_47 ⟨Nat.le_of_ble_eq_true rfl, Nat.le_of_ble_eq_true rfl⟩) (fun H locs hM3 => ?_)
          have hM4 := gM_eq (σ' := upT σ t (tRow (ρ 1) (ρ 2) (goJ (ρ 60 0) (ρ 1) (ρ 2) (mTf κ 1) (σ t) (cJ (ρ 60 0) j)) ((j : Int) % ρ 60 0) (mTf κ 1 ((j : Int) / ρ 60 0) ((j : Int) % ρ 60 0)))) (by rw [upT_upT, upT_s]) hM3
          refine x_iinc (lv' := [(4, .int (jI (((j : Int)) + 1))), (5, .ref (G.2.2 (cT ((j : Int) / ρ 60 0) ((j : Int) % ρ 60 0)))), (0, .ref (G.2.2 8)), (1, .ref (G.2.2 t)), (2, .ref (G.2.2 3)), (3, .int (jI (((12 * (ρ 60 0).toNat : Nat) : Int))))]) hx hb dX2_go_50 hl (k := 5) rfl (by decide) rfl (fun ls hl => ?_)
          refine lv_goto (tgt := 14) hx hb dX2_go_53 (by decide) ?_
          exact ih14  ((j + 1)) _ _ _ (by first | omega | assumption | rfl) (by omega) (gM_eq (by rw [cJ_y hCe, goJ_a]) hM4) (lv_sub hl [2, 3, 4, 5, 0] rfl)
        · refine lv_astoreN (lv' := [(5, .null), (0, .ref (G.2.2 8)), (1, .ref (G.2.2 t)), (2, .ref (G.2.2 3)), (3, .int (jI (((12 * (ρ 60 0).toNat : Nat) : Int)))), (4, .int (jI ((j : Int))))]) hx hb dX2_go_24 hl (by decide) rfl (fun ls hl => ?_)
          refine lv_aloadN hx hb dX2_go_26 (lv_at hl 0 rfl) ?_
          refine lv_ifnullN (tgt := 50) hx hb dX2_go_28 (by decide) ?_
          refine x_iinc (lv' := [(4, .int (jI (((j : Int)) + 1))), (5, .null), (0, .ref (G.2.2 8)), (1, .ref (G.2.2 t)), (2, .ref (G.2.2 3)), (3, .int (jI (((12 * (ρ 60 0).toNat : Nat) : Int))))]) hx hb dX2_go_50 hl (k := 5) rfl (by decide) rfl (fun ls hl => ?_)
          refine lv_goto (tgt := 14) hx hb dX2_go_53 (by decide) ?_
          exact ih14  ((j + 1)) _ _ _ (by first | omega | assumption | rfl) (by omega) (gM_eq (by rw [cJ_n hCe]) hM1) (lv_sub hl [2, 3, 4, 5, 0] rfl)
  exact c14 _ 0 _ _ _ (by first | omega | assumption | rfl) (Nat.lt_succ_self _) (gM_eq (upT_self _ _).symm hM0) (lv_sub hl [3, 4, 2, 1, 0] rfl)
