/-! SMALL CONSTRUCTORS, by the class of what is made -/
set_option maxHeartbeats 400000 in
theorem l_x2i1 (l : Launch) (E : y_E) (G : y_G) (σ : y_S) (sz : Nat) (u : Nat) (pa : Nat) (hU : G.1 u = some (.inl 1)) (hu0 : u ≠ 0) : gCt l yX2_init cX2_init 2 none ({ frames := 1, cells := 0, slots := 0, locals := 24 }) E [.ref (G.2.2 u), .ref pa] G σ sz (gR none (G.1, up2 G.2.1 u 0 (some pa), G.2.2) σ) 0 0 := by
  refine g_met (by decide) (Nat.le_of_ble_eq_true rfl) ?_
  intro p e s m below meth c ls CF hr hlocks hnm hK hM0 hA hl
  have hx := CF.1
  have hb := CF.2.1
  have hts := CF.2.2.2.2
  have hl : lv_has ls 2 [(0, .ref (G.2.2 u)), (1, .ref pa)] := hl
  refine lv_aload_n hx hb dX2_init_0 rfl (lv_at hl 0 rfl) ?_
  refine lv_aload_n hx hb dX2_init_1 rfl (lv_at hl 1 rfl) ?_
  refine g_putq CF hK hM0 u hu0 hU 0 0 rfl rfl (by decide) (Or.inl (hts _ q129)) (fun _ h => h) (Or.inr ⟨rfl, hnm, rfl, (hts _ q129)⟩) rfl (r := some pa) rfl rfl dX2_init_2 (fun H locs hM1 => ?_)
  refine lv_aload_n hx hb dX2_init_5 rfl (lv_at hl 0 rfl) ?_
  refine W.objInit hx hb CF.2.2.2.1 (hts _ q127) (hts _ q108) (hts _ q109) rfl (hl.1.trans CF.2.2.1.symm) rfl dX2_init_6 (Nat.le_of_ble_eq_true rfl) (Nat.le_of_ble_eq_true rfl) ?_
  exact g_vret CF hr hlocks hM1 ⟨rfl, rfl, rfl⟩ (by decide) (by decide) dX2_init_9
set_option maxHeartbeats 400000 in
theorem l_x3i1 (l : Launch) (E : y_E) (G : y_G) (σ : y_S) (sz : Nat) (u : Nat) (pa : Nat) (hU : G.1 u = some (.inl 1)) (hu0 : u ≠ 0) : gCt l yX3_init cX3_init 2 none ({ frames := 2, cells := 0, slots := 0, locals := 45 }) E [.ref (G.2.2 u), .ref pa] G σ sz (gR none (G.1, up2 (up2 G.2.1 u 1 (some pa)) u 0 (some pa), G.2.2) σ) 0 0 := by
  refine g_met (by decide) (Nat.le_of_ble_eq_true rfl) ?_
  intro p e s m below meth c ls CF hr hlocks hnm hK hM0 hA hl
  have hx := CF.1
  have hb := CF.2.1
  have hts := CF.2.2.2.2
  have hl : lv_has ls 2 [(0, .ref (G.2.2 u)), (1, .ref pa)] := hl
  refine lv_aload_n hx hb dX3_init_0 rfl (lv_at hl 0 rfl) ?_
  refine lv_aload_n hx hb dX3_init_1 rfl (lv_at hl 1 rfl) ?_
  refine g_putq CF hK hM0 u hu0 hU 1 1 rfl rfl (by decide) (Or.inl (hts _ q128)) (fun _ h => h) (Or.inr ⟨rfl, hnm, rfl, (hts _ q128)⟩) rfl (r := some pa) rfl rfl dX3_init_2 (fun H locs hM1 => ?_)
  refine lv_aload_n hx hb dX3_init_5 rfl (lv_at hl 0 rfl) ?_
  refine lv_aload_n hx hb dX3_init_6 rfl (lv_at hl 1 rfl) ?_
  refine g_callv hM1 hA (g_runIN (As := [.ref pa]) (rest := []) CF hK hM1 (l_x2i1 l E _ _ _ u pa  hU hu0) ⟨va_cnB 1 hts (lw_meth q126) rfl rfl rfl (hK.2.2.1 _ q124 rfl) (hts _ q62) (by decide +kernel) ⟨Nat.le_of_ble_eq_true rfl, Nat.le_of_ble_eq_true rfl⟩, rfl, hts _ q125⟩ rfl hl.1 rfl (Nat.le_of_ble_eq_true rfl) dX3_init_7 ⟨Nat.le_of_ble_eq_true rfl, Nat.le_of_ble_eq_true rfl⟩) (fun H locs hM2 => ?_)
  exact g_vret CF hr hlocks hM2 ⟨rfl, rfl, rfl⟩ (by decide) (by decide) dX3_init_10
set_option maxHeartbeats 400000 in
theorem l_x2i2 (l : Launch) (E : y_E) (G : y_G) (σ : y_S) (sz : Nat) (u : Nat) (pa : Nat) (hU : G.1 u = some (.inl 2)) (hu0 : u ≠ 0) : gCt l yX2_init cX2_init 2 none ({ frames := 1, cells := 0, slots := 0, locals := 24 }) E [.ref (G.2.2 u), .ref pa] G σ sz (gR none (G.1, up2 G.2.1 u 0 (some pa), G.2.2) σ) 0 0 := by
  refine g_met (by decide) (Nat.le_of_ble_eq_true rfl) ?_
  intro p e s m below meth c ls CF hr hlocks hnm hK hM0 hA hl
  have hx := CF.1
  have hb := CF.2.1
  have hts := CF.2.2.2.2
  have hl : lv_has ls 2 [(0, .ref (G.2.2 u)), (1, .ref pa)] := hl
  refine lv_aload_n hx hb dX2_init_0 rfl (lv_at hl 0 rfl) ?_
  refine lv_aload_n hx hb dX2_init_1 rfl (lv_at hl 1 rfl) ?_
  refine g_putq CF hK hM0 u hu0 hU 0 0 rfl rfl (by decide) (Or.inl (hts _ q129)) (fun _ h => h) (Or.inr ⟨rfl, hnm, rfl, (hts _ q129)⟩) rfl (r := some pa) rfl rfl dX2_init_2 (fun H locs hM1 => ?_)
  refine lv_aload_n hx hb dX2_init_5 rfl (lv_at hl 0 rfl) ?_
  refine W.objInit hx hb CF.2.2.2.1 (hts _ q127) (hts _ q108) (hts _ q109) rfl (hl.1.trans CF.2.2.1.symm) rfl dX2_init_6 (Nat.le_of_ble_eq_true rfl) (Nat.le_of_ble_eq_true rfl) ?_
  exact g_vret CF hr hlocks hM1 ⟨rfl, rfl, rfl⟩ (by decide) (by decide) dX2_init_9
set_option maxHeartbeats 400000 in
theorem l_x3i2 (l : Launch) (E : y_E) (G : y_G) (σ : y_S) (sz : Nat) (u : Nat) (pa : Nat) (hU : G.1 u = some (.inl 2)) (hu0 : u ≠ 0) : gCt l yX3_init cX3_init 2 none ({ frames := 2, cells := 0, slots := 0, locals := 45 }) E [.ref (G.2.2 u), .ref pa] G σ sz (gR none (G.1, up2 (up2 G.2.1 u 1 (some pa)) u 0 (some pa), G.2.2) σ) 0 0 := by
  refine g_met (by decide) (Nat.le_of_ble_eq_true rfl) ?_
  intro p e s m below meth c ls CF hr hlocks hnm hK hM0 hA hl
  have hx := CF.1
  have hb := CF.2.1
  have hts := CF.2.2.2.2
  have hl : lv_has ls 2 [(0, .ref (G.2.2 u)), (1, .ref pa)] := hl
  refine lv_aload_n hx hb dX3_init_0 rfl (lv_at hl 0 rfl) ?_
  refine lv_aload_n hx hb dX3_init_1 rfl (lv_at hl 1 rfl) ?_
  refine g_putq CF hK hM0 u hu0 hU 1 1 rfl rfl (by decide) (Or.inl (hts _ q128)) (fun _ h => h) (Or.inr ⟨rfl, hnm, rfl, (hts _ q128)⟩) rfl (r := some pa) rfl rfl dX3_init_2 (fun H locs hM1 => ?_)
  refine lv_aload_n hx hb dX3_init_5 rfl (lv_at hl 0 rfl) ?_
  refine lv_aload_n hx hb dX3_init_6 rfl (lv_at hl 1 rfl) ?_
  refine g_callv hM1 hA (g_runIN (As := [.ref pa]) (rest := []) CF hK hM1 (l_x2i2 l E _ _ _ u pa  hU hu0) ⟨va_cnB 1 hts (lw_meth q126) rfl rfl rfl (hK.2.2.1 _ q124 rfl) (hts _ q62) (by decide +kernel) ⟨Nat.le_of_ble_eq_true rfl, Nat.le_of_ble_eq_true rfl⟩, rfl, hts _ q125⟩ rfl hl.1 rfl (Nat.le_of_ble_eq_true rfl) dX3_init_7 ⟨Nat.le_of_ble_eq_true rfl, Nat.le_of_ble_eq_true rfl⟩) (fun H locs hM2 => ?_)
  exact g_vret CF hr hlocks hM2 ⟨rfl, rfl, rfl⟩ (by decide) (by decide) dX3_init_10
set_option maxHeartbeats 400000 in
theorem l_x4i2 (l : Launch) (E : y_E) (G : y_G) (σ : y_S) (sz : Nat) (u : Nat) (pa : Nat) (hU : G.1 u = some (.inl 2)) (hu0 : u ≠ 0) : gCt l yX4_init cX4_init 2 none ({ frames := 3, cells := 0, slots := 0, locals := 66 }) E [.ref (G.2.2 u), .ref pa] G σ sz (gR none (G.1, up2 (up2 (up2 G.2.1 u 2 (some pa)) u 1 (some pa)) u 0 (some pa), G.2.2) σ) 0 0 := by
  refine g_met (by decide) (Nat.le_of_ble_eq_true rfl) ?_
  intro p e s m below meth c ls CF hr hlocks hnm hK hM0 hA hl
  have hx := CF.1
  have hb := CF.2.1
  have hts := CF.2.2.2.2
  have hl : lv_has ls 2 [(0, .ref (G.2.2 u)), (1, .ref pa)] := hl
  refine lv_aload_n hx hb dX4_init_0 rfl (lv_at hl 0 rfl) ?_
  refine lv_aload_n hx hb dX4_init_1 rfl (lv_at hl 1 rfl) ?_
  refine g_putq CF hK hM0 u hu0 hU 2 2 rfl rfl (by decide) (Or.inl (hts _ q142)) (fun _ h => h) (Or.inr ⟨rfl, hnm, rfl, (hts _ q142)⟩) rfl (r := some pa) rfl rfl dX4_init_2 (fun H locs hM1 => ?_)
  refine lv_aload_n hx hb dX4_init_5 rfl (lv_at hl 0 rfl) ?_
  refine lv_aload_n hx hb dX4_init_6 rfl (lv_at hl 1 rfl) ?_
  refine g_callv hM1 hA (g_runIN (As := [.ref pa]) (rest := []) CF hK hM1 (l_x3i2 l E _ _ _ u pa  hU hu0) ⟨va_cnB 1 hts (lw_meth q123) rfl rfl rfl (hK.2.2.1 _ q141 rfl) (hts _ q63) (by decide +kernel) ⟨Nat.le_of_ble_eq_true rfl, Nat.le_of_ble_eq_true rfl⟩, rfl, hts _ q122⟩ rfl hl.1 rfl (Nat.le_of_ble_eq_true rfl) dX4_init_7 ⟨Nat.le_of_ble_eq_true rfl, Nat.le_of_ble_eq_true rfl⟩) (fun H locs hM2 => ?_)
  exact g_vret CF hr hlocks hM2 ⟨rfl, rfl, rfl⟩ (by decide) (by decide) dX4_init_10
set_option maxHeartbeats 400000 in
theorem l_x2i3 (l : Launch) (E : y_E) (G : y_G) (σ : y_S) (sz : Nat) (u : Nat) (pa : Nat) (hU : G.1 u = some (.inl 3)) (hu0 : u ≠ 0) : gCt l yX2_init cX2_init 2 none ({ frames := 1, cells := 0, slots := 0, locals := 24 }) E [.ref (G.2.2 u), .ref pa] G σ sz (gR none (G.1, up2 G.2.1 u 0 (some pa), G.2.2) σ) 0 0 := by
  refine g_met (by decide) (Nat.le_of_ble_eq_true rfl) ?_
  intro p e s m below meth c ls CF hr hlocks hnm hK hM0 hA hl
  have hx := CF.1
  have hb := CF.2.1
  have hts := CF.2.2.2.2
  have hl : lv_has ls 2 [(0, .ref (G.2.2 u)), (1, .ref pa)] := hl
  refine lv_aload_n hx hb dX2_init_0 rfl (lv_at hl 0 rfl) ?_
  refine lv_aload_n hx hb dX2_init_1 rfl (lv_at hl 1 rfl) ?_
  refine g_putq CF hK hM0 u hu0 hU 0 0 rfl rfl (by decide) (Or.inl (hts _ q129)) (fun _ h => h) (Or.inr ⟨rfl, hnm, rfl, (hts _ q129)⟩) rfl (r := some pa) rfl rfl dX2_init_2 (fun H locs hM1 => ?_)
  refine lv_aload_n hx hb dX2_init_5 rfl (lv_at hl 0 rfl) ?_
  refine W.objInit hx hb CF.2.2.2.1 (hts _ q127) (hts _ q108) (hts _ q109) rfl (hl.1.trans CF.2.2.1.symm) rfl dX2_init_6 (Nat.le_of_ble_eq_true rfl) (Nat.le_of_ble_eq_true rfl) ?_
  exact g_vret CF hr hlocks hM1 ⟨rfl, rfl, rfl⟩ (by decide) (by decide) dX2_init_9
set_option maxHeartbeats 400000 in
theorem l_x3i3 (l : Launch) (E : y_E) (G : y_G) (σ : y_S) (sz : Nat) (u : Nat) (pa : Nat) (hU : G.1 u = some (.inl 3)) (hu0 : u ≠ 0) : gCt l yX3_init cX3_init 2 none ({ frames := 2, cells := 0, slots := 0, locals := 45 }) E [.ref (G.2.2 u), .ref pa] G σ sz (gR none (G.1, up2 (up2 G.2.1 u 1 (some pa)) u 0 (some pa), G.2.2) σ) 0 0 := by
  refine g_met (by decide) (Nat.le_of_ble_eq_true rfl) ?_
  intro p e s m below meth c ls CF hr hlocks hnm hK hM0 hA hl
  have hx := CF.1
  have hb := CF.2.1
  have hts := CF.2.2.2.2
  have hl : lv_has ls 2 [(0, .ref (G.2.2 u)), (1, .ref pa)] := hl
  refine lv_aload_n hx hb dX3_init_0 rfl (lv_at hl 0 rfl) ?_
  refine lv_aload_n hx hb dX3_init_1 rfl (lv_at hl 1 rfl) ?_
  refine g_putq CF hK hM0 u hu0 hU 1 1 rfl rfl (by decide) (Or.inl (hts _ q128)) (fun _ h => h) (Or.inr ⟨rfl, hnm, rfl, (hts _ q128)⟩) rfl (r := some pa) rfl rfl dX3_init_2 (fun H locs hM1 => ?_)
  refine lv_aload_n hx hb dX3_init_5 rfl (lv_at hl 0 rfl) ?_
  refine lv_aload_n hx hb dX3_init_6 rfl (lv_at hl 1 rfl) ?_
  refine g_callv hM1 hA (g_runIN (As := [.ref pa]) (rest := []) CF hK hM1 (l_x2i3 l E _ _ _ u pa  hU hu0) ⟨va_cnB 1 hts (lw_meth q126) rfl rfl rfl (hK.2.2.1 _ q124 rfl) (hts _ q62) (by decide +kernel) ⟨Nat.le_of_ble_eq_true rfl, Nat.le_of_ble_eq_true rfl⟩, rfl, hts _ q125⟩ rfl hl.1 rfl (Nat.le_of_ble_eq_true rfl) dX3_init_7 ⟨Nat.le_of_ble_eq_true rfl, Nat.le_of_ble_eq_true rfl⟩) (fun H locs hM2 => ?_)
  exact g_vret CF hr hlocks hM2 ⟨rfl, rfl, rfl⟩ (by decide) (by decide) dX3_init_10
set_option maxHeartbeats 400000 in
theorem l_x4i3 (l : Launch) (E : y_E) (G : y_G) (σ : y_S) (sz : Nat) (u : Nat) (pa : Nat) (hU : G.1 u = some (.inl 3)) (hu0 : u ≠ 0) : gCt l yX4_init cX4_init 2 none ({ frames := 3, cells := 0, slots := 0, locals := 66 }) E [.ref (G.2.2 u), .ref pa] G σ sz (gR none (G.1, up2 (up2 (up2 G.2.1 u 2 (some pa)) u 1 (some pa)) u 0 (some pa), G.2.2) σ) 0 0 := by
  refine g_met (by decide) (Nat.le_of_ble_eq_true rfl) ?_
  intro p e s m below meth c ls CF hr hlocks hnm hK hM0 hA hl
  have hx := CF.1
  have hb := CF.2.1
  have hts := CF.2.2.2.2
  have hl : lv_has ls 2 [(0, .ref (G.2.2 u)), (1, .ref pa)] := hl
  refine lv_aload_n hx hb dX4_init_0 rfl (lv_at hl 0 rfl) ?_
  refine lv_aload_n hx hb dX4_init_1 rfl (lv_at hl 1 rfl) ?_
  refine g_putq CF hK hM0 u hu0 hU 2 2 rfl rfl (by decide) (Or.inl (hts _ q142)) (fun _ h => h) (Or.inr ⟨rfl, hnm, rfl, (hts _ q142)⟩) rfl (r := some pa) rfl rfl dX4_init_2 (fun H locs hM1 => ?_)
  refine lv_aload_n hx hb dX4_init_5 rfl (lv_at hl 0 rfl) ?_
  refine lv_aload_n hx hb dX4_init_6 rfl (lv_at hl 1 rfl) ?_
  refine g_callv hM1 hA (g_runIN (As := [.ref pa]) (rest := []) CF hK hM1 (l_x3i3 l E _ _ _ u pa  hU hu0) ⟨va_cnB 1 hts (lw_meth q123) rfl rfl rfl (hK.2.2.1 _ q141 rfl) (hts _ q63) (by decide +kernel) ⟨Nat.le_of_ble_eq_true rfl, Nat.le_of_ble_eq_true rfl⟩, rfl, hts _ q122⟩ rfl hl.1 rfl (Nat.le_of_ble_eq_true rfl) dX4_init_7 ⟨Nat.le_of_ble_eq_true rfl, Nat.le_of_ble_eq_true rfl⟩) (fun H locs hM2 => ?_)
  exact g_vret CF hr hlocks hM2 ⟨rfl, rfl, rfl⟩ (by decide) (by decide) dX4_init_10
set_option maxHeartbeats 400000 in
theorem l_x5i3 (l : Launch) (E : y_E) (G : y_G) (σ : y_S) (sz : Nat) (u : Nat) (pa : Nat) (hU : G.1 u = some (.inl 3)) (hu0 : u ≠ 0) : gCt l yX5_init cX5_init 2 none ({ frames := 4, cells := 0, slots := 0, locals := 87 }) E [.ref (G.2.2 u), .ref pa] G σ sz (gR none (G.1, up2 (up2 (up2 (up2 G.2.1 u 5 (some pa)) u 2 (some pa)) u 1 (some pa)) u 0 (some pa), G.2.2) σ) 0 0 := by
  refine g_met (by decide) (Nat.le_of_ble_eq_true rfl) ?_
  intro p e s m below meth c ls CF hr hlocks hnm hK hM0 hA hl
  have hx := CF.1
  have hb := CF.2.1
  have hts := CF.2.2.2.2
  have hl : lv_has ls 2 [(0, .ref (G.2.2 u)), (1, .ref pa)] := hl
  refine lv_aload_n hx hb dX5_init_0 rfl (lv_at hl 0 rfl) ?_
  refine lv_aload_n hx hb dX5_init_1 rfl (lv_at hl 1 rfl) ?_
  refine g_putq CF hK hM0 u hu0 hU 5 5 rfl rfl (by decide) (Or.inl (hts _ q158)) (fun _ h => h) (Or.inr ⟨rfl, hnm, rfl, (hts _ q158)⟩) rfl (r := some pa) rfl rfl dX5_init_2 (fun H locs hM1 => ?_)
  refine lv_aload_n hx hb dX5_init_5 rfl (lv_at hl 0 rfl) ?_
  refine lv_aload_n hx hb dX5_init_6 rfl (lv_at hl 1 rfl) ?_
  refine g_callv hM1 hA (g_runIN (As := [.ref pa]) (rest := []) CF hK hM1 (l_x4i3 l E _ _ _ u pa  hU hu0) ⟨va_cnB 1 hts (lw_meth q140) rfl rfl rfl (hK.2.2.1 _ q153 rfl) (hts _ q64) (by decide +kernel) ⟨Nat.le_of_ble_eq_true rfl, Nat.le_of_ble_eq_true rfl⟩, rfl, hts _ q139⟩ rfl hl.1 rfl (Nat.le_of_ble_eq_true rfl) dX5_init_7 ⟨Nat.le_of_ble_eq_true rfl, Nat.le_of_ble_eq_true rfl⟩) (fun H locs hM2 => ?_)
  exact g_vret CF hr hlocks hM2 ⟨rfl, rfl, rfl⟩ (by decide) (by decide) dX5_init_10
set_option maxHeartbeats 400000 in
theorem l_x2i4 (l : Launch) (E : y_E) (G : y_G) (σ : y_S) (sz : Nat) (u : Nat) (pa : Nat) (hU : G.1 u = some (.inl 4)) (hu0 : u ≠ 0) : gCt l yX2_init cX2_init 2 none ({ frames := 1, cells := 0, slots := 0, locals := 24 }) E [.ref (G.2.2 u), .ref pa] G σ sz (gR none (G.1, up2 G.2.1 u 0 (some pa), G.2.2) σ) 0 0 := by
  refine g_met (by decide) (Nat.le_of_ble_eq_true rfl) ?_
  intro p e s m below meth c ls CF hr hlocks hnm hK hM0 hA hl
  have hx := CF.1
  have hb := CF.2.1
  have hts := CF.2.2.2.2
  have hl : lv_has ls 2 [(0, .ref (G.2.2 u)), (1, .ref pa)] := hl
  refine lv_aload_n hx hb dX2_init_0 rfl (lv_at hl 0 rfl) ?_
  refine lv_aload_n hx hb dX2_init_1 rfl (lv_at hl 1 rfl) ?_
  refine g_putq CF hK hM0 u hu0 hU 0 0 rfl rfl (by decide) (Or.inl (hts _ q129)) (fun _ h => h) (Or.inr ⟨rfl, hnm, rfl, (hts _ q129)⟩) rfl (r := some pa) rfl rfl dX2_init_2 (fun H locs hM1 => ?_)
  refine lv_aload_n hx hb dX2_init_5 rfl (lv_at hl 0 rfl) ?_
  refine W.objInit hx hb CF.2.2.2.1 (hts _ q127) (hts _ q108) (hts _ q109) rfl (hl.1.trans CF.2.2.1.symm) rfl dX2_init_6 (Nat.le_of_ble_eq_true rfl) (Nat.le_of_ble_eq_true rfl) ?_
  exact g_vret CF hr hlocks hM1 ⟨rfl, rfl, rfl⟩ (by decide) (by decide) dX2_init_9
set_option maxHeartbeats 400000 in
theorem l_x6i4 (l : Launch) (E : y_E) (G : y_G) (σ : y_S) (sz : Nat) (u : Nat) (pa : Nat) (hU : G.1 u = some (.inl 4)) (hu0 : u ≠ 0) : gCt l yX6_init cX6_init 2 none ({ frames := 2, cells := 0, slots := 0, locals := 45 }) E [.ref (G.2.2 u), .ref pa] G σ sz (gR none (G.1, up2 (up2 G.2.1 u 2 (some pa)) u 0 (some pa), G.2.2) σ) 0 0 := by
  refine g_met (by decide) (Nat.le_of_ble_eq_true rfl) ?_
  intro p e s m below meth c ls CF hr hlocks hnm hK hM0 hA hl
  have hx := CF.1
  have hb := CF.2.1
  have hts := CF.2.2.2.2
  have hl : lv_has ls 2 [(0, .ref (G.2.2 u)), (1, .ref pa)] := hl
  refine lv_aload_n hx hb dX6_init_0 rfl (lv_at hl 0 rfl) ?_
  refine lv_aload_n hx hb dX6_init_1 rfl (lv_at hl 1 rfl) ?_
  refine g_putq CF hK hM0 u hu0 hU 2 2 rfl rfl (by decide) (Or.inl (hts _ q177)) (fun _ h => h) (Or.inr ⟨rfl, hnm, rfl, (hts _ q177)⟩) rfl (r := some pa) rfl rfl dX6_init_2 (fun H locs hM1 => ?_)
  refine lv_aload_n hx hb dX6_init_5 rfl (lv_at hl 0 rfl) ?_
  refine lv_aload_n hx hb dX6_init_6 rfl (lv_at hl 1 rfl) ?_
  refine g_callv hM1 hA (g_runIN (As := [.ref pa]) (rest := []) CF hK hM1 (l_x2i4 l E _ _ _ u pa  hU hu0) ⟨va_cnB 1 hts (lw_meth q126) rfl rfl rfl (hK.2.2.1 _ q174 rfl) (hts _ q62) (by decide +kernel) ⟨Nat.le_of_ble_eq_true rfl, Nat.le_of_ble_eq_true rfl⟩, rfl, hts _ q125⟩ rfl hl.1 rfl (Nat.le_of_ble_eq_true rfl) dX6_init_7 ⟨Nat.le_of_ble_eq_true rfl, Nat.le_of_ble_eq_true rfl⟩) (fun H locs hM2 => ?_)
  exact g_vret CF hr hlocks hM2 ⟨rfl, rfl, rfl⟩ (by decide) (by decide) dX6_init_10
set_option maxHeartbeats 400000 in
theorem l_x10i8 (l : Launch) (E : y_E) (G : y_G) (σ : y_S) (sz : Nat) (u : Nat) (pa : Nat) (hU : G.1 u = some (.inl 8)) (hu0 : u ≠ 0) : gCt l yX10_init cX10_init 2 none ({ frames := 1, cells := 0, slots := 0, locals := 24 }) E [.ref (G.2.2 u), .ref pa] G σ sz (gR none (G.1, up2 G.2.1 u 0 (some pa), G.2.2) σ) 0 0 := by
  refine g_met (by decide) (Nat.le_of_ble_eq_true rfl) ?_
  intro p e s m below meth c ls CF hr hlocks hnm hK hM0 hA hl
  have hx := CF.1
  have hb := CF.2.1
  have hts := CF.2.2.2.2
  have hl : lv_has ls 2 [(0, .ref (G.2.2 u)), (1, .ref pa)] := hl
  refine lv_aload_n hx hb dX10_init_0 rfl (lv_at hl 0 rfl) ?_
  refine lv_aload_n hx hb dX10_init_1 rfl (lv_at hl 1 rfl) ?_
  refine g_putq CF hK hM0 u hu0 hU 0 0 rfl rfl (by decide) (Or.inl (hts _ q720)) (fun _ h => h) (Or.inr ⟨rfl, hnm, rfl, (hts _ q720)⟩) rfl (r := some pa) rfl rfl dX10_init_2 (fun H locs hM1 => ?_)
  refine lv_aload_n hx hb dX10_init_5 rfl (lv_at hl 0 rfl) ?_
  refine W.objInit hx hb CF.2.2.2.1 (hts _ q716) (hts _ q108) (hts _ q109) rfl (hl.1.trans CF.2.2.1.symm) rfl dX10_init_6 (Nat.le_of_ble_eq_true rfl) (Nat.le_of_ble_eq_true rfl) ?_
  exact g_vret CF hr hlocks hM1 ⟨rfl, rfl, rfl⟩ (by decide) (by decide) dX10_init_9
set_option maxHeartbeats 400000 in
theorem l_x11i8 (l : Launch) (E : y_E) (G : y_G) (σ : y_S) (sz : Nat) (u : Nat) (pa : Nat) (la : Nat) (a : Int) (hU : G.1 u = some (.inl 8)) (hu0 : u ≠ 0) (har : R32 a) : gCt l yX11_init cX11_init 4 none ({ frames := 2, cells := 0, slots := 0, locals := 45 }) E [.ref (G.2.2 u), .ref pa, .int (jI a), .ref la] G σ sz (gR none (G.1, up2 (up2 (up2 G.2.1 u 3 (some pa)) u 0 (some pa)) u 2 (some la), G.2.2) (up2 σ u 1 a)) 0 0 := by
  refine g_met (by decide) (Nat.le_of_ble_eq_true rfl) ?_
  intro p e s m below meth c ls CF hr hlocks hnm hK hM0 hA hl
  have hx := CF.1
  have hb := CF.2.1
  have hts := CF.2.2.2.2
  have hl : lv_has ls 4 [(0, .ref (G.2.2 u)), (1, .ref pa), (2, .int (jI a)), (3, .ref la)] := hl
  refine lv_aload_n hx hb dX11_init_0 rfl (lv_at hl 0 rfl) ?_
  refine lv_aload_n hx hb dX11_init_1 rfl (lv_at hl 1 rfl) ?_
  refine g_putq CF hK hM0 u hu0 hU 3 3 rfl rfl (by decide) (Or.inl (hts _ q719)) (fun _ h => h) (Or.inr ⟨rfl, hnm, rfl, (hts _ q719)⟩) rfl (r := some pa) rfl rfl dX11_init_2 (fun H locs hM1 => ?_)
  refine lv_aload_n hx hb dX11_init_5 rfl (lv_at hl 0 rfl) ?_
  refine lv_aload_n hx hb dX11_init_6 rfl (lv_at hl 1 rfl) ?_
  refine g_callv hM1 hA (g_runIN (As := [.ref pa]) (rest := []) CF hK hM1 (l_x10i8 l E _ _ _ u pa  hU hu0) ⟨va_cnB 1 hts (lw_meth q715) rfl rfl rfl (hK.2.2.1 _ q713 rfl) (hts _ q76) (by decide +kernel) ⟨Nat.le_of_ble_eq_true rfl, Nat.le_of_ble_eq_true rfl⟩, rfl, hts _ q714⟩ rfl hl.1 rfl (Nat.le_of_ble_eq_true rfl) dX11_init_7 ⟨Nat.le_of_ble_eq_true rfl, Nat.le_of_ble_eq_true rfl⟩) (fun H locs hM2 => ?_)
  refine lv_aload_n hx hb dX11_init_10 rfl (lv_at hl 0 rfl) ?_
  refine lv_iload_n hx hb dX11_init_11 rfl (lv_at hl 2 rfl) ?_
  refine g_puti CF hK hM2 u hu0 hU 1 1 rfl rfl (by decide) (Or.inl (hts _ q717)) (fun _ h => h) (Or.inr ⟨rfl, hnm, rfl, (hts _ q717)⟩) rfl (v := a) rfl rfl (by omega) dX11_init_12 (fun H locs hM3 => ?_)
  refine lv_aload_n hx hb dX11_init_15 rfl (lv_at hl 0 rfl) ?_
  refine lv_aload_n hx hb dX11_init_16 rfl (lv_at hl 3 rfl) ?_
  refine g_putq CF hK hM3 u hu0 hU 2 2 rfl rfl (by decide) (Or.inl (hts _ q718)) (fun _ h => h) (Or.inr ⟨rfl, hnm, rfl, (hts _ q718)⟩) rfl (r := some la) rfl rfl dX11_init_17 (fun H locs hM4 => ?_)
  exact g_vret CF hr hlocks hM4 ⟨rfl, rfl, rfl⟩ (by decide) (by decide) dX11_init_20
set_option maxHeartbeats 400000 in
theorem l_x10i10 (l : Launch) (E : y_E) (G : y_G) (σ : y_S) (sz : Nat) (u : Nat) (pa : Nat) (hU : G.1 u = some (.inl 10)) (hu0 : u ≠ 0) : gCt l yX10_init cX10_init 2 none ({ frames := 1, cells := 0, slots := 0, locals := 24 }) E [.ref (G.2.2 u), .ref pa] G σ sz (gR none (G.1, up2 G.2.1 u 0 (some pa), G.2.2) σ) 0 0 := by
  refine g_met (by decide) (Nat.le_of_ble_eq_true rfl) ?_
  intro p e s m below meth c ls CF hr hlocks hnm hK hM0 hA hl
  have hx := CF.1
  have hb := CF.2.1
  have hts := CF.2.2.2.2
  have hl : lv_has ls 2 [(0, .ref (G.2.2 u)), (1, .ref pa)] := hl
  refine lv_aload_n hx hb dX10_init_0 rfl (lv_at hl 0 rfl) ?_
  refine lv_aload_n hx hb dX10_init_1 rfl (lv_at hl 1 rfl) ?_
  refine g_putq CF hK hM0 u hu0 hU 0 0 rfl rfl (by decide) (Or.inl (hts _ q720)) (fun _ h => h) (Or.inr ⟨rfl, hnm, rfl, (hts _ q720)⟩) rfl (r := some pa) rfl rfl dX10_init_2 (fun H locs hM1 => ?_)
  refine lv_aload_n hx hb dX10_init_5 rfl (lv_at hl 0 rfl) ?_
  refine W.objInit hx hb CF.2.2.2.1 (hts _ q716) (hts _ q108) (hts _ q109) rfl (hl.1.trans CF.2.2.1.symm) rfl dX10_init_6 (Nat.le_of_ble_eq_true rfl) (Nat.le_of_ble_eq_true rfl) ?_
  exact g_vret CF hr hlocks hM1 ⟨rfl, rfl, rfl⟩ (by decide) (by decide) dX10_init_9
set_option maxHeartbeats 400000 in
theorem l_x13i10 (l : Launch) (E : y_E) (G : y_G) (σ : y_S) (sz : Nat) (u : Nat) (pa : Nat) (a : Int) (b : Int) (hU : G.1 u = some (.inl 10)) (hu0 : u ≠ 0) (har : R32 a) (hbr : R32 b) : gCt l yX13_init cX13_init 4 none ({ frames := 2, cells := 0, slots := 0, locals := 45 }) E [.ref (G.2.2 u), .ref pa, .int (jI a), .int (jI b)] G σ sz (gR none (G.1, up2 (up2 G.2.1 u 3 (some pa)) u 0 (some pa), G.2.2) (up2 (up2 σ u 1 a) u 2 b)) 0 0 := by
  refine g_met (by decide) (Nat.le_of_ble_eq_true rfl) ?_
  intro p e s m below meth c ls CF hr hlocks hnm hK hM0 hA hl
  have hx := CF.1
  have hb := CF.2.1
  have hts := CF.2.2.2.2
  have hl : lv_has ls 4 [(0, .ref (G.2.2 u)), (1, .ref pa), (2, .int (jI a)), (3, .int (jI b))] := hl
  refine lv_aload_n hx hb dX13_init_0 rfl (lv_at hl 0 rfl) ?_
  refine lv_aload_n hx hb dX13_init_1 rfl (lv_at hl 1 rfl) ?_
  refine g_putq CF hK hM0 u hu0 hU 3 3 rfl rfl (by decide) (Or.inl (hts _ q754)) (fun _ h => h) (Or.inr ⟨rfl, hnm, rfl, (hts _ q754)⟩) rfl (r := some pa) rfl rfl dX13_init_2 (fun H locs hM1 => ?_)
  refine lv_aload_n hx hb dX13_init_5 rfl (lv_at hl 0 rfl) ?_
  refine lv_aload_n hx hb dX13_init_6 rfl (lv_at hl 1 rfl) ?_
  refine g_callv hM1 hA (g_runIN (As := [.ref pa]) (rest := []) CF hK hM1 (l_x10i10 l E _ _ _ u pa  hU hu0) ⟨va_cnB 1 hts (lw_meth q715) rfl rfl rfl (hK.2.2.1 _ q749 rfl) (hts _ q76) (by decide +kernel) ⟨Nat.le_of_ble_eq_true rfl, Nat.le_of_ble_eq_true rfl⟩, rfl, hts _ q714⟩ rfl hl.1 rfl (Nat.le_of_ble_eq_true rfl) dX13_init_7 ⟨Nat.le_of_ble_eq_true rfl, Nat.le_of_ble_eq_true rfl⟩) (fun H locs hM2 => ?_)
  refine lv_aload_n hx hb dX13_init_10 rfl (lv_at hl 0 rfl) ?_
  refine lv_iload_n hx hb dX13_init_11 rfl (lv_at hl 2 rfl) ?_
  refine g_puti CF hK hM2 u hu0 hU 1 1 rfl rfl (by decide) (Or.inl (hts _ q752)) (fun _ h => h) (Or.inr ⟨rfl, hnm, rfl, (hts _ q752)⟩) rfl (v := a) rfl rfl (by omega) dX13_init_12 (fun H locs hM3 => ?_)
  refine lv_aload_n hx hb dX13_init_15 rfl (lv_at hl 0 rfl) ?_
  refine lv_iload_n hx hb dX13_init_16 rfl (lv_at hl 3 rfl) ?_
  refine g_puti CF hK hM3 u hu0 hU 2 2 rfl rfl (by decide) (Or.inl (hts _ q753)) (fun _ h => h) (Or.inr ⟨rfl, hnm, rfl, (hts _ q753)⟩) rfl (v := b) rfl rfl (by omega) dX13_init_17 (fun H locs hM4 => ?_)
  exact g_vret CF hr hlocks hM4 ⟨rfl, rfl, rfl⟩ (by decide) (by decide) dX13_init_20
set_option maxHeartbeats 400000 in
theorem l_x10i11 (l : Launch) (E : y_E) (G : y_G) (σ : y_S) (sz : Nat) (u : Nat) (pa : Nat) (hU : G.1 u = some (.inl 11)) (hu0 : u ≠ 0) : gCt l yX10_init cX10_init 2 none ({ frames := 1, cells := 0, slots := 0, locals := 24 }) E [.ref (G.2.2 u), .ref pa] G σ sz (gR none (G.1, up2 G.2.1 u 0 (some pa), G.2.2) σ) 0 0 := by
  refine g_met (by decide) (Nat.le_of_ble_eq_true rfl) ?_
  intro p e s m below meth c ls CF hr hlocks hnm hK hM0 hA hl
  have hx := CF.1
  have hb := CF.2.1
  have hts := CF.2.2.2.2
  have hl : lv_has ls 2 [(0, .ref (G.2.2 u)), (1, .ref pa)] := hl
  refine lv_aload_n hx hb dX10_init_0 rfl (lv_at hl 0 rfl) ?_
  refine lv_aload_n hx hb dX10_init_1 rfl (lv_at hl 1 rfl) ?_
  refine g_putq CF hK hM0 u hu0 hU 0 0 rfl rfl (by decide) (Or.inl (hts _ q720)) (fun _ h => h) (Or.inr ⟨rfl, hnm, rfl, (hts _ q720)⟩) rfl (r := some pa) rfl rfl dX10_init_2 (fun H locs hM1 => ?_)
  refine lv_aload_n hx hb dX10_init_5 rfl (lv_at hl 0 rfl) ?_
  refine W.objInit hx hb CF.2.2.2.1 (hts _ q716) (hts _ q108) (hts _ q109) rfl (hl.1.trans CF.2.2.1.symm) rfl dX10_init_6 (Nat.le_of_ble_eq_true rfl) (Nat.le_of_ble_eq_true rfl) ?_
  exact g_vret CF hr hlocks hM1 ⟨rfl, rfl, rfl⟩ (by decide) (by decide) dX10_init_9
set_option maxHeartbeats 400000 in
theorem l_x13i11 (l : Launch) (E : y_E) (G : y_G) (σ : y_S) (sz : Nat) (u : Nat) (pa : Nat) (a : Int) (b : Int) (hU : G.1 u = some (.inl 11)) (hu0 : u ≠ 0) (har : R32 a) (hbr : R32 b) : gCt l yX13_init cX13_init 4 none ({ frames := 2, cells := 0, slots := 0, locals := 45 }) E [.ref (G.2.2 u), .ref pa, .int (jI a), .int (jI b)] G σ sz (gR none (G.1, up2 (up2 G.2.1 u 3 (some pa)) u 0 (some pa), G.2.2) (up2 (up2 σ u 1 a) u 2 b)) 0 0 := by
  refine g_met (by decide) (Nat.le_of_ble_eq_true rfl) ?_
  intro p e s m below meth c ls CF hr hlocks hnm hK hM0 hA hl
  have hx := CF.1
  have hb := CF.2.1
  have hts := CF.2.2.2.2
  have hl : lv_has ls 4 [(0, .ref (G.2.2 u)), (1, .ref pa), (2, .int (jI a)), (3, .int (jI b))] := hl
  refine lv_aload_n hx hb dX13_init_0 rfl (lv_at hl 0 rfl) ?_
  refine lv_aload_n hx hb dX13_init_1 rfl (lv_at hl 1 rfl) ?_
  refine g_putq CF hK hM0 u hu0 hU 3 3 rfl rfl (by decide) (Or.inl (hts _ q754)) (fun _ h => h) (Or.inr ⟨rfl, hnm, rfl, (hts _ q754)⟩) rfl (r := some pa) rfl rfl dX13_init_2 (fun H locs hM1 => ?_)
  refine lv_aload_n hx hb dX13_init_5 rfl (lv_at hl 0 rfl) ?_
  refine lv_aload_n hx hb dX13_init_6 rfl (lv_at hl 1 rfl) ?_
  refine g_callv hM1 hA (g_runIN (As := [.ref pa]) (rest := []) CF hK hM1 (l_x10i11 l E _ _ _ u pa  hU hu0) ⟨va_cnB 1 hts (lw_meth q715) rfl rfl rfl (hK.2.2.1 _ q749 rfl) (hts _ q76) (by decide +kernel) ⟨Nat.le_of_ble_eq_true rfl, Nat.le_of_ble_eq_true rfl⟩, rfl, hts _ q714⟩ rfl hl.1 rfl (Nat.le_of_ble_eq_true rfl) dX13_init_7 ⟨Nat.le_of_ble_eq_true rfl, Nat.le_of_ble_eq_true rfl⟩) (fun H locs hM2 => ?_)
  refine lv_aload_n hx hb dX13_init_10 rfl (lv_at hl 0 rfl) ?_
  refine lv_iload_n hx hb dX13_init_11 rfl (lv_at hl 2 rfl) ?_
  refine g_puti CF hK hM2 u hu0 hU 1 1 rfl rfl (by decide) (Or.inl (hts _ q752)) (fun _ h => h) (Or.inr ⟨rfl, hnm, rfl, (hts _ q752)⟩) rfl (v := a) rfl rfl (by omega) dX13_init_12 (fun H locs hM3 => ?_)
  refine lv_aload_n hx hb dX13_init_15 rfl (lv_at hl 0 rfl) ?_
  refine lv_iload_n hx hb dX13_init_16 rfl (lv_at hl 3 rfl) ?_
  refine g_puti CF hK hM3 u hu0 hU 2 2 rfl rfl (by decide) (Or.inl (hts _ q753)) (fun _ h => h) (Or.inr ⟨rfl, hnm, rfl, (hts _ q753)⟩) rfl (v := b) rfl rfl (by omega) dX13_init_17 (fun H locs hM4 => ?_)
  exact g_vret CF hr hlocks hM4 ⟨rfl, rfl, rfl⟩ (by decide) (by decide) dX13_init_20
set_option maxHeartbeats 400000 in
theorem l_x14i11 (l : Launch) (E : y_E) (G : y_G) (σ : y_S) (sz : Nat) (u : Nat) (pa : Nat) (a : Int) (b : Int) (hU : G.1 u = some (.inl 11)) (hu0 : u ≠ 0) (har : R32 a) (hbr : R32 b) : gCt l yX14_init cX14_init 4 none ({ frames := 3, cells := 0, slots := 0, locals := 68 }) E [.ref (G.2.2 u), .ref pa, .int (jI a), .int (jI b)] G σ sz (gR none (G.1, up2 (up2 (up2 G.2.1 u 4 (some pa)) u 3 (some pa)) u 0 (some pa), G.2.2) (up2 (up2 σ u 1 a) u 2 b)) 0 0 := by
  refine g_met (by decide) (Nat.le_of_ble_eq_true rfl) ?_
  intro p e s m below meth c ls CF hr hlocks hnm hK hM0 hA hl
  have hx := CF.1
  have hb := CF.2.1
  have hts := CF.2.2.2.2
  have hl : lv_has ls 4 [(0, .ref (G.2.2 u)), (1, .ref pa), (2, .int (jI a)), (3, .int (jI b))] := hl
  refine lv_aload_n hx hb dX14_init_0 rfl (lv_at hl 0 rfl) ?_
  refine lv_aload_n hx hb dX14_init_1 rfl (lv_at hl 1 rfl) ?_
  refine g_putq CF hK hM0 u hu0 hU 4 4 rfl rfl (by decide) (Or.inl (hts _ q751)) (fun _ h => h) (Or.inr ⟨rfl, hnm, rfl, (hts _ q751)⟩) rfl (r := some pa) rfl rfl dX14_init_2 (fun H locs hM1 => ?_)
  refine lv_aload_n hx hb dX14_init_5 rfl (lv_at hl 0 rfl) ?_
  refine lv_aload_n hx hb dX14_init_6 rfl (lv_at hl 1 rfl) ?_
  refine lv_iload_n hx hb dX14_init_7 rfl (lv_at hl 2 rfl) ?_
  refine lv_iload_n hx hb dX14_init_8 rfl (lv_at hl 3 rfl) ?_
  refine g_callv hM1 hA (g_runI (As := [.ref pa, .int (jI a), .int (jI b)]) (rest := []) CF hK hM1 (l_x13i11 l E _ _ _ u pa a b hU hu0 (by first | omega | assumption | (refine ⟨?_, ?_⟩ <;> omega)) (by first | omega | assumption | (refine ⟨?_, ?_⟩ <;> omega))) (cwI 3 hts (lw_meth q748) rfl rfl rfl (hts _ q81) (hts _ q746) (hts _ q747) rfl (by decide +kernel) ⟨Nat.le_of_ble_eq_true rfl, Nat.le_of_ble_eq_true rfl⟩) rfl hl.1 rfl (Nat.le_of_ble_eq_true rfl) dX14_init_9 ⟨Nat.le_of_ble_eq_true rfl, Nat.le_of_ble_eq_true rfl⟩) (fun H locs hM2 => ?_)
  exact g_vret CF hr hlocks hM2 ⟨rfl, rfl, rfl⟩ (by decide) (by decide) dX14_init_12
set_option maxHeartbeats 400000 in
theorem l_x10i12 (l : Launch) (E : y_E) (G : y_G) (σ : y_S) (sz : Nat) (u : Nat) (pa : Nat) (hU : G.1 u = some (.inl 12)) (hu0 : u ≠ 0) : gCt l yX10_init cX10_init 2 none ({ frames := 1, cells := 0, slots := 0, locals := 24 }) E [.ref (G.2.2 u), .ref pa] G σ sz (gR none (G.1, up2 G.2.1 u 0 (some pa), G.2.2) σ) 0 0 := by
  refine g_met (by decide) (Nat.le_of_ble_eq_true rfl) ?_
  intro p e s m below meth c ls CF hr hlocks hnm hK hM0 hA hl
  have hx := CF.1
  have hb := CF.2.1
  have hts := CF.2.2.2.2
  have hl : lv_has ls 2 [(0, .ref (G.2.2 u)), (1, .ref pa)] := hl
  refine lv_aload_n hx hb dX10_init_0 rfl (lv_at hl 0 rfl) ?_
  refine lv_aload_n hx hb dX10_init_1 rfl (lv_at hl 1 rfl) ?_
  refine g_putq CF hK hM0 u hu0 hU 0 0 rfl rfl (by decide) (Or.inl (hts _ q720)) (fun _ h => h) (Or.inr ⟨rfl, hnm, rfl, (hts _ q720)⟩) rfl (r := some pa) rfl rfl dX10_init_2 (fun H locs hM1 => ?_)
  refine lv_aload_n hx hb dX10_init_5 rfl (lv_at hl 0 rfl) ?_
  refine W.objInit hx hb CF.2.2.2.1 (hts _ q716) (hts _ q108) (hts _ q109) rfl (hl.1.trans CF.2.2.1.symm) rfl dX10_init_6 (Nat.le_of_ble_eq_true rfl) (Nat.le_of_ble_eq_true rfl) ?_
  exact g_vret CF hr hlocks hM1 ⟨rfl, rfl, rfl⟩ (by decide) (by decide) dX10_init_9
set_option maxHeartbeats 400000 in
theorem l_x13i12 (l : Launch) (E : y_E) (G : y_G) (σ : y_S) (sz : Nat) (u : Nat) (pa : Nat) (a : Int) (b : Int) (hU : G.1 u = some (.inl 12)) (hu0 : u ≠ 0) (har : R32 a) (hbr : R32 b) : gCt l yX13_init cX13_init 4 none ({ frames := 2, cells := 0, slots := 0, locals := 45 }) E [.ref (G.2.2 u), .ref pa, .int (jI a), .int (jI b)] G σ sz (gR none (G.1, up2 (up2 G.2.1 u 3 (some pa)) u 0 (some pa), G.2.2) (up2 (up2 σ u 1 a) u 2 b)) 0 0 := by
  refine g_met (by decide) (Nat.le_of_ble_eq_true rfl) ?_
  intro p e s m below meth c ls CF hr hlocks hnm hK hM0 hA hl
  have hx := CF.1
  have hb := CF.2.1
  have hts := CF.2.2.2.2
  have hl : lv_has ls 4 [(0, .ref (G.2.2 u)), (1, .ref pa), (2, .int (jI a)), (3, .int (jI b))] := hl
  refine lv_aload_n hx hb dX13_init_0 rfl (lv_at hl 0 rfl) ?_
  refine lv_aload_n hx hb dX13_init_1 rfl (lv_at hl 1 rfl) ?_
  refine g_putq CF hK hM0 u hu0 hU 3 3 rfl rfl (by decide) (Or.inl (hts _ q754)) (fun _ h => h) (Or.inr ⟨rfl, hnm, rfl, (hts _ q754)⟩) rfl (r := some pa) rfl rfl dX13_init_2 (fun H locs hM1 => ?_)
  refine lv_aload_n hx hb dX13_init_5 rfl (lv_at hl 0 rfl) ?_
  refine lv_aload_n hx hb dX13_init_6 rfl (lv_at hl 1 rfl) ?_
  refine g_callv hM1 hA (g_runIN (As := [.ref pa]) (rest := []) CF hK hM1 (l_x10i12 l E _ _ _ u pa  hU hu0) ⟨va_cnB 1 hts (lw_meth q715) rfl rfl rfl (hK.2.2.1 _ q749 rfl) (hts _ q76) (by decide +kernel) ⟨Nat.le_of_ble_eq_true rfl, Nat.le_of_ble_eq_true rfl⟩, rfl, hts _ q714⟩ rfl hl.1 rfl (Nat.le_of_ble_eq_true rfl) dX13_init_7 ⟨Nat.le_of_ble_eq_true rfl, Nat.le_of_ble_eq_true rfl⟩) (fun H locs hM2 => ?_)
  refine lv_aload_n hx hb dX13_init_10 rfl (lv_at hl 0 rfl) ?_
  refine lv_iload_n hx hb dX13_init_11 rfl (lv_at hl 2 rfl) ?_
  refine g_puti CF hK hM2 u hu0 hU 1 1 rfl rfl (by decide) (Or.inl (hts _ q752)) (fun _ h => h) (Or.inr ⟨rfl, hnm, rfl, (hts _ q752)⟩) rfl (v := a) rfl rfl (by omega) dX13_init_12 (fun H locs hM3 => ?_)
  refine lv_aload_n hx hb dX13_init_15 rfl (lv_at hl 0 rfl) ?_
  refine lv_iload_n hx hb dX13_init_16 rfl (lv_at hl 3 rfl) ?_
  refine g_puti CF hK hM3 u hu0 hU 2 2 rfl rfl (by decide) (Or.inl (hts _ q753)) (fun _ h => h) (Or.inr ⟨rfl, hnm, rfl, (hts _ q753)⟩) rfl (v := b) rfl rfl (by omega) dX13_init_17 (fun H locs hM4 => ?_)
  exact g_vret CF hr hlocks hM4 ⟨rfl, rfl, rfl⟩ (by decide) (by decide) dX13_init_20
set_option maxHeartbeats 400000 in
theorem l_x14i12 (l : Launch) (E : y_E) (G : y_G) (σ : y_S) (sz : Nat) (u : Nat) (pa : Nat) (a : Int) (b : Int) (hU : G.1 u = some (.inl 12)) (hu0 : u ≠ 0) (har : R32 a) (hbr : R32 b) : gCt l yX14_init cX14_init 4 none ({ frames := 3, cells := 0, slots := 0, locals := 68 }) E [.ref (G.2.2 u), .ref pa, .int (jI a), .int (jI b)] G σ sz (gR none (G.1, up2 (up2 (up2 G.2.1 u 4 (some pa)) u 3 (some pa)) u 0 (some pa), G.2.2) (up2 (up2 σ u 1 a) u 2 b)) 0 0 := by
  refine g_met (by decide) (Nat.le_of_ble_eq_true rfl) ?_
  intro p e s m below meth c ls CF hr hlocks hnm hK hM0 hA hl
  have hx := CF.1
  have hb := CF.2.1
  have hts := CF.2.2.2.2
  have hl : lv_has ls 4 [(0, .ref (G.2.2 u)), (1, .ref pa), (2, .int (jI a)), (3, .int (jI b))] := hl
  refine lv_aload_n hx hb dX14_init_0 rfl (lv_at hl 0 rfl) ?_
  refine lv_aload_n hx hb dX14_init_1 rfl (lv_at hl 1 rfl) ?_
  refine g_putq CF hK hM0 u hu0 hU 4 4 rfl rfl (by decide) (Or.inl (hts _ q751)) (fun _ h => h) (Or.inr ⟨rfl, hnm, rfl, (hts _ q751)⟩) rfl (r := some pa) rfl rfl dX14_init_2 (fun H locs hM1 => ?_)
  refine lv_aload_n hx hb dX14_init_5 rfl (lv_at hl 0 rfl) ?_
  refine lv_aload_n hx hb dX14_init_6 rfl (lv_at hl 1 rfl) ?_
  refine lv_iload_n hx hb dX14_init_7 rfl (lv_at hl 2 rfl) ?_
  refine lv_iload_n hx hb dX14_init_8 rfl (lv_at hl 3 rfl) ?_
  refine g_callv hM1 hA (g_runI (As := [.ref pa, .int (jI a), .int (jI b)]) (rest := []) CF hK hM1 (l_x13i12 l E _ _ _ u pa a b hU hu0 (by first | omega | assumption | (refine ⟨?_, ?_⟩ <;> omega)) (by first | omega | assumption | (refine ⟨?_, ?_⟩ <;> omega))) (cwI 3 hts (lw_meth q748) rfl rfl rfl (hts _ q81) (hts _ q746) (hts _ q747) rfl (by decide +kernel) ⟨Nat.le_of_ble_eq_true rfl, Nat.le_of_ble_eq_true rfl⟩) rfl hl.1 rfl (Nat.le_of_ble_eq_true rfl) dX14_init_9 ⟨Nat.le_of_ble_eq_true rfl, Nat.le_of_ble_eq_true rfl⟩) (fun H locs hM2 => ?_)
  exact g_vret CF hr hlocks hM2 ⟨rfl, rfl, rfl⟩ (by decide) (by decide) dX14_init_12
set_option maxHeartbeats 400000 in
theorem l_x15i12 (l : Launch) (E : y_E) (G : y_G) (σ : y_S) (sz : Nat) (u : Nat) (pa : Nat) (a : Int) (hU : G.1 u = some (.inl 12)) (hu0 : u ≠ 0) (har : R32 a) : gCt l yX15_init cX15_init 3 none ({ frames := 4, cells := 0, slots := 0, locals := 91 }) E [.ref (G.2.2 u), .ref pa, .int (jI a)] G σ sz (gR none (G.1, up2 (up2 (up2 (up2 G.2.1 u 5 (some pa)) u 4 (some pa)) u 3 (some pa)) u 0 (some pa), G.2.2) (up2 (up2 σ u 1 a) u 2 24)) 0 0 := by
  refine g_met (by decide) (Nat.le_of_ble_eq_true rfl) ?_
  intro p e s m below meth c ls CF hr hlocks hnm hK hM0 hA hl
  have hx := CF.1
  have hb := CF.2.1
  have hts := CF.2.2.2.2
  have hl : lv_has ls 3 [(0, .ref (G.2.2 u)), (1, .ref pa), (2, .int (jI a))] := hl
  refine lv_aload_n hx hb dX15_init_0 rfl (lv_at hl 0 rfl) ?_
  refine lv_aload_n hx hb dX15_init_1 rfl (lv_at hl 1 rfl) ?_
  refine g_putq CF hK hM0 u hu0 hU 5 5 rfl rfl (by decide) (Or.inl (hts _ q750)) (fun _ h => h) (Or.inr ⟨rfl, hnm, rfl, (hts _ q750)⟩) rfl (r := some pa) rfl rfl dX15_init_2 (fun H locs hM1 => ?_)
  refine lv_aload_n hx hb dX15_init_5 rfl (lv_at hl 0 rfl) ?_
  refine lv_aload_n hx hb dX15_init_6 rfl (lv_at hl 1 rfl) ?_
  refine lv_iload_n hx hb dX15_init_7 rfl (lv_at hl 2 rfl) ?_
  refine lv_bipush (v := jI 24) hx hb dX15_init_8 (by decide) ?_
  refine g_callv hM1 hA (g_runI (As := [.ref pa, .int (jI a), .int (jI 24)]) (rest := []) CF hK hM1 (l_x14i12 l E _ _ _ u pa a 24 hU hu0 (by first | omega | assumption | (refine ⟨?_, ?_⟩ <;> omega)) (by first | omega | assumption | (refine ⟨?_, ?_⟩ <;> omega))) (cwI 3 hts (lw_meth q745) rfl rfl rfl (hts _ q82) (hts _ q743) (hts _ q744) rfl (by decide +kernel) ⟨Nat.le_of_ble_eq_true rfl, Nat.le_of_ble_eq_true rfl⟩) rfl hl.1 rfl (Nat.le_of_ble_eq_true rfl) dX15_init_10 ⟨Nat.le_of_ble_eq_true rfl, Nat.le_of_ble_eq_true rfl⟩) (fun H locs hM2 => ?_)
  exact g_vret CF hr hlocks hM2 ⟨rfl, rfl, rfl⟩ (by decide) (by decide) dX15_init_13
set_option maxHeartbeats 400000 in
theorem l_cinit (l : Launch) (E : y_E) (G : y_G) (σ : y_S) (sz : Nat) (u : Nat) (pa : Nat) (a : Int) (b : Int) (hU : G.1 u = some (.inl 6)) (hu0 : u ≠ 0) (har : R32 a) (hbr : R32 b) : gCt l yX8_init cX8_init 4 none ({ frames := 1, cells := 0, slots := 0, locals := 24 }) E [.ref (G.2.2 u), .ref pa, .int (jI a), .int (jI b)] G σ sz (gR none (G.1, up2 G.2.1 u 6 (some pa), G.2.2) (up2 (up2 (up2 (up2 σ u 3 ((-1))) u 5 ((-1))) u 0 a) u 1 b)) 0 0 := by
  refine g_met (by decide) (Nat.le_of_ble_eq_true rfl) ?_
  intro p e s m below meth c ls CF hr hlocks hnm hK hM0 hA hl
  have hx := CF.1
  have hb := CF.2.1
  have hts := CF.2.2.2.2
  have hl : lv_has ls 4 [(0, .ref (G.2.2 u)), (1, .ref pa), (2, .int (jI a)), (3, .int (jI b))] := hl
  refine lv_aload_n hx hb dX8_init_0 rfl (lv_at hl 0 rfl) ?_
  refine lv_aload_n hx hb dX8_init_1 rfl (lv_at hl 1 rfl) ?_
  refine g_putq CF hK hM0 u hu0 hU 6 6 rfl rfl (by decide) (Or.inl (hts _ q264)) (fun _ h => h) (Or.inr ⟨rfl, hnm, rfl, (hts _ q264)⟩) rfl (r := some pa) rfl rfl dX8_init_2 (fun H locs hM1 => ?_)
  refine lv_aload_n hx hb dX8_init_5 rfl (lv_at hl 0 rfl) ?_
  refine W.objInit hx hb CF.2.2.2.1 (hts _ q243) (hts _ q108) (hts _ q109) rfl (hl.1.trans CF.2.2.1.symm) rfl dX8_init_6 (Nat.le_of_ble_eq_true rfl) (Nat.le_of_ble_eq_true rfl) ?_
  refine lv_aload_n hx hb dX8_init_9 rfl (lv_at hl 0 rfl) ?_
  refine lv_iconst (v := jI (-1)) hx hb dX8_init_10 rfl ?_
  refine g_puti CF hK hM1 u hu0 hU 3 3 rfl rfl (by decide) (Or.inl (hts _ q257)) (fun _ h => h) (Or.inl rfl) rfl (v := (-1)) rfl rfl (by omega) dX8_init_11 (fun H locs hM2 => ?_)
  refine lv_aload_n hx hb dX8_init_14 rfl (lv_at hl 0 rfl) ?_
  refine lv_iconst (v := jI (-1)) hx hb dX8_init_15 rfl ?_
  refine g_puti CF hK hM2 u hu0 hU 5 5 rfl rfl (by decide) (Or.inl (hts _ q262)) (fun _ h => h) (Or.inl rfl) rfl (v := (-1)) rfl rfl (by omega) dX8_init_16 (fun H locs hM3 => ?_)
  refine lv_aload_n hx hb dX8_init_19 rfl (lv_at hl 0 rfl) ?_
  refine lv_iload_n hx hb dX8_init_20 rfl (lv_at hl 2 rfl) ?_
  refine g_puti CF hK hM3 u hu0 hU 0 0 rfl rfl (by decide) (Or.inl (hts _ q244)) (fun _ h => h) (Or.inr ⟨rfl, hnm, rfl, (hts _ q244)⟩) rfl (v := a) rfl rfl (by omega) dX8_init_21 (fun H locs hM4 => ?_)
  refine lv_aload_n hx hb dX8_init_24 rfl (lv_at hl 0 rfl) ?_
  refine lv_iload_n hx hb dX8_init_25 rfl (lv_at hl 3 rfl) ?_
  refine g_puti CF hK hM4 u hu0 hU 1 1 rfl rfl (by decide) (Or.inl (hts _ q248)) (fun _ h => h) (Or.inr ⟨rfl, hnm, rfl, (hts _ q248)⟩) rfl (v := b) rfl rfl (by omega) dX8_init_26 (fun H locs hM5 => ?_)
  exact g_vret CF hr hlocks hM5 ⟨rfl, rfl, rfl⟩ (by decide) (by decide) dX8_init_29
set_option maxHeartbeats 400000 in
theorem j_i1 (l : Launch) (E : y_E) (G : y_G) (σ : y_S) (sz : Nat) (u : Nat) (hU : G.1 u = some (.inl 16)) (hu0 : u ≠ 0) : gCt l yJ1_init cJ1_init 1 none ({ frames := 1, cells := 0, slots := 0, locals := 24 }) E [.ref (G.2.2 u)] G σ sz (gR none G σ) 0 0 := by
  refine g_metF (by decide +kernel) (Nat.le_of_ble_eq_true rfl) ?_
  intro p e s m below meth c ls CF hr hlocks hnm hK hM0 hA hl
  have hx := CF.1
  have hb := CF.2.1
  have hts := CF.2.2.2.2
  have hl : lv_has ls 1 [(0, .ref (G.2.2 u))] := hl
  refine lv_aload_n hx hb dJ1_init_0 rfl (lv_at hl 0 rfl) ?_
  refine W.objInit hx hb CF.2.2.2.1 (hts _ q222) (hts _ q108) (hts _ q109) rfl (hl.1.trans CF.2.2.1.symm) rfl dJ1_init_1 (Nat.le_of_ble_eq_true rfl) (Nat.le_of_ble_eq_true rfl) ?_
  exact g_vret CF hr hlocks hM0 ⟨rfl, rfl, rfl⟩ (by decide) (by decide) dJ1_init_4
set_option maxHeartbeats 400000 in
theorem j_i2 (l : Launch) (E : y_E) (G : y_G) (σ : y_S) (sz : Nat) (u : Nat) (hU : G.1 u = some (.inl 16)) (hu0 : u ≠ 0) : gCt l yJ2_init cJ2_init 1 none ({ frames := 2, cells := 0, slots := 0, locals := 44 }) E [.ref (G.2.2 u)] G σ sz (gR none G (up2 σ u 0 0)) 0 0 := by
  refine g_metF (by decide +kernel) (Nat.le_of_ble_eq_true rfl) ?_
  intro p e s m below meth c ls CF hr hlocks hnm hK hM0 hA hl
  have hx := CF.1
  have hb := CF.2.1
  have hts := CF.2.2.2.2
  have hl : lv_has ls 1 [(0, .ref (G.2.2 u))] := hl
  refine lv_aload_n hx hb dJ2_init_0 rfl (lv_at hl 0 rfl) ?_
  refine g_callv hM0 hA (g_runI (As := []) (rest := []) CF hK hM0 (j_i1 l E _ _ _ u  hU hu0) (cwI 0 hts (lw_meth q221) rfl rfl rfl (hts _ q68) (hts _ q219) (hts _ q220) rfl (by decide +kernel) ⟨Nat.le_of_ble_eq_true rfl, Nat.le_of_ble_eq_true rfl⟩) rfl hl.1 rfl (Nat.le_of_ble_eq_true rfl) dJ2_init_1 ⟨Nat.le_of_ble_eq_true rfl, Nat.le_of_ble_eq_true rfl⟩) (fun H locs hM1 => ?_)
  refine lv_aload_n hx hb dJ2_init_4 rfl (lv_at hl 0 rfl) ?_
  refine lv_iconst (v := jI 0) hx hb dJ2_init_5 rfl ?_
  refine g_puti CF hK hM1 u hu0 hU 0 0 rfl rfl (by decide) (Or.inl (hts _ q227)) (fun _ h => h) (Or.inl rfl) rfl (v := 0) rfl rfl (by omega) dJ2_init_6 (fun H locs hM2 => ?_)
  exact g_vret CF hr hlocks hM2 ⟨rfl, rfl, rfl⟩ (by decide) (by decide) dJ2_init_9
set_option maxHeartbeats 400000 in
theorem j_i3 (l : Launch) (E : y_E) (G : y_G) (σ : y_S) (sz : Nat) (u : Nat) (zr : Option Nat) (hU : G.1 u = some (.inl 16)) (hu0 : u ≠ 0) (hZr : gZr E 0 = zr) : gCt l yJ3_init cJ3_init 1 none ({ frames := 3, cells := 0, slots := 0, locals := 64 }) E [.ref (G.2.2 u)] G σ sz (gR none (G.1, up2 G.2.1 u 1 zr, G.2.2) (up2 σ u 0 0)) 0 0 := by
  refine g_metF (by decide +kernel) (Nat.le_of_ble_eq_true rfl) ?_
  intro p e s m below meth c ls CF hr hlocks hnm hK hM0 hA hl
  have hx := CF.1
  have hb := CF.2.1
  have hts := CF.2.2.2.2
  have hl : lv_has ls 1 [(0, .ref (G.2.2 u))] := hl
  refine lv_aload_n hx hb dJ3_init_0 rfl (lv_at hl 0 rfl) ?_
  refine g_callv hM0 hA (g_runI (As := []) (rest := []) CF hK hM0 (j_i2 l E _ _ _ u  hU hu0) (cwI 0 hts (lw_meth q218) rfl rfl rfl (hts _ q69) (hts _ q216) (hts _ q217) rfl (by decide +kernel) ⟨Nat.le_of_ble_eq_true rfl, Nat.le_of_ble_eq_true rfl⟩) rfl hl.1 rfl (Nat.le_of_ble_eq_true rfl) dJ3_init_1 ⟨Nat.le_of_ble_eq_true rfl, Nat.le_of_ble_eq_true rfl⟩) (fun H locs hM1 => ?_)
  refine lv_aload_n hx hb dJ3_init_4 rfl (lv_at hl 0 rfl) ?_
  refine g_gets CF hK hM1 0 (by decide) q223 (r := zr) hZr dJ3_init_5 ?_
  refine g_putq CF hK hM1 u hu0 hU 1 1 rfl rfl (by decide) (Or.inl (hts _ q225)) (fun _ h => h) (Or.inl rfl) rfl (r := zr) (by cases zr <;> rfl) (by cases zr <;> rfl) dJ3_init_8 (fun H locs hM2 => ?_)
  exact g_vret CF hr hlocks hM2 ⟨rfl, rfl, rfl⟩ (by decide) (by decide) dJ3_init_11
