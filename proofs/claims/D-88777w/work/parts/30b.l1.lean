set_option maxHeartbeats 400000 in
theorem j_fm (l : Launch) (E : y_E) (G : y_G) (σ : y_S) (sz : Nat) (x : Int) (y : Int) (hxr : R32 x) (hyr : R32 y) (hy0 : 0 < y) : gCt l yJ0_floorMod cJ0_floorMod 3 (some .int) ({ frames := 0, cells := 0, slots := 0, locals := 0 }) E [.int (jI x), .int (jI y)] G σ sz (gR (some (.int (jI (x % y)))) G σ) 0 0 := by
  refine g_metF (by decide +kernel) (Nat.le_of_ble_eq_true rfl) ?_
  intro p e s m below meth c ls CF hr hlocks hnm hK hM0 hA hl
  have hx := CF.1
  have hb := CF.2.1
  have hts := CF.2.2.2.2
  have hl : lv_has ls 3 [(0, .int (jI x)), (1, .int (jI y))] := hl
  refine lv_iload_n hx hb dJ0_floorMod_0 rfl (lv_at hl 0 rfl) ?_
  refine lv_iload_n hx hb dJ0_floorMod_1 rfl (lv_at hl 1 rfl) ?_
  refine x_irem hx hb dJ0_floorMod_2 (by omega) (by omega) (by omega) ?_
  have htm := tm_pos (v := x) (b := y) hy0
  have hem := Int.emod_nonneg x (show y ≠ 0 by omega)
  have hel := Int.emod_lt_of_pos x hy0
  refine lv_istore_n (lv' := [(2, .int (jI (Int.tmod x y))), (0, .int (jI x)), (1, .int (jI y))]) hx hb dJ0_floorMod_3 rfl hl (by decide) rfl (fun ls hl => ?_)
  refine lv_iload_n hx hb dJ0_floorMod_4 rfl (lv_at hl 1 rfl) ?_
  refine lv_iload_n hx hb dJ0_floorMod_5 rfl (lv_at hl 2 rfl) ?_
  refine x_ixor (a := x) (b := y) hx hb dJ0_floorMod_6 hxr hyr (by omega) (fun v hv hs => ?_)
  refine x_if_ge (tgt := 18) hx hb dJ0_floorMod_7 (by decide) (by omega) (fun b7 => ?_) (fun b7 => ?_)
  · refine lv_iload_n hx hb dJ0_floorMod_18 rfl (lv_at hl 0 rfl) ?_
    exact g_iret CF hr hlocks hM0 (g_pi (by omega)) (by decide) (by decide) dJ0_floorMod_19
  · refine lv_iload_n hx hb dJ0_floorMod_10 rfl (lv_at hl 0 rfl) ?_
    refine x_if_eq (tgt := 18) hx hb dJ0_floorMod_11 (by decide) (by omega) (fun b11 => ?_) (fun b11 => ?_)
    · refine lv_iload_n hx hb dJ0_floorMod_18 rfl (lv_at hl 0 rfl) ?_
      exact g_iret CF hr hlocks hM0 (g_pi (by omega)) (by decide) (by decide) dJ0_floorMod_19
    · refine lv_iload_n hx hb dJ0_floorMod_14 rfl (lv_at hl 0 rfl) ?_
      refine lv_iload_n hx hb dJ0_floorMod_15 rfl (lv_at hl 2 rfl) ?_
      refine x_iadd hx hb dJ0_floorMod_16 ?_
      exact g_iret CF hr hlocks hM0 (g_pi (by omega)) (by decide) (by decide) dJ0_floorMod_17
set_option maxHeartbeats 400000 in
theorem j_fml (l : Launch) (E : y_E) (G : y_G) (σ : y_S) (sz : Nat) (x : Int) (y : Int) (hxr : R64 x) (hyr : R64 y) (hy0 : 0 < y) : gCt l yJ0_floorMod_2 cJ0_floorMod_2 6 (some .long) ({ frames := 0, cells := 0, slots := 0, locals := 0 }) E [.long (jL x), .long (jL y)] G σ sz (gR (some (.long (jL (x % y)))) G σ) 0 0 := by
  refine g_metF (by decide +kernel) (Nat.le_of_ble_eq_true rfl) ?_
  intro p e s m below meth c ls CF hr hlocks hnm hK hM0 hA hl
  have hx := CF.1
  have hb := CF.2.1
  have hts := CF.2.2.2.2
  have hl : lv_has ls 6 [(0, .long (jL x)), (2, .long (jL y))] := hl
  refine lv_lload_n hx hb dJ0_floorMod_2_0 rfl (lv_at hl 0 rfl) ?_
  refine lv_lload_n hx hb dJ0_floorMod_2_1 rfl (lv_at hl 1 rfl) ?_
  refine x_lrem hx hb dJ0_floorMod_2_2 (by omega) (by omega) (by omega) ?_
  have htm := tm_pos (v := x) (b := y) hy0
  have hem := Int.emod_nonneg x (show y ≠ 0 by omega)
  have hel := Int.emod_lt_of_pos x hy0
  refine lv_lstore (lv' := [(4, .long (jL (Int.tmod x y))), (0, .long (jL x)), (2, .long (jL y))]) hx hb dJ0_floorMod_2_3 hl (by decide) rfl (fun ls hl => ?_)
  refine lv_lload_n hx hb dJ0_floorMod_2_5 rfl (lv_at hl 1 rfl) ?_
  refine lv_lload_n hx hb dJ0_floorMod_2_6 rfl (lv_at hl 2 rfl) ?_
  refine x_lxor (a := x) (b := y) hx hb dJ0_floorMod_2_7 hxr hyr (by omega) (fun v hv hs => ?_)
  refine lv_lconst (v := jL 0) hx hb dJ0_floorMod_2_8 rfl ?_
  refine x_lcmp hx hb dJ0_floorMod_2_9 (by omega) (by omega) ?_
  have fa1 := iCmp_spec v 0
  refine x_if_ge (tgt := 25) hx hb dJ0_floorMod_2_10 (by decide) (by have f0 := iCmp_spec v 0; omega) (fun b10 => ?_) (fun b10 => ?_)
  · refine lv_lload hx hb dJ0_floorMod_2_25 (lv_at hl 0 rfl) ?_
    exact g_lret CF hr hlocks hM0 (g_pl (by omega)) (by decide) (by decide) dJ0_floorMod_2_27
  · refine lv_lload hx hb dJ0_floorMod_2_13 (lv_at hl 0 rfl) ?_
    refine lv_lconst (v := jL 0) hx hb dJ0_floorMod_2_15 rfl ?_
    refine x_lcmp hx hb dJ0_floorMod_2_16 (by omega) (by omega) ?_
    have fa2 := iCmp_spec (Int.tmod x y) 0
    refine x_if_eq (tgt := 25) hx hb dJ0_floorMod_2_17 (by decide) (by have f0 := iCmp_spec (Int.tmod x y) 0; omega) (fun b17 => ?_) (fun b17 => ?_)
    · refine lv_lload hx hb dJ0_floorMod_2_25 (lv_at hl 0 rfl) ?_
      exact g_lret CF hr hlocks hM0 (g_pl (by omega)) (by decide) (by decide) dJ0_floorMod_2_27
    · refine lv_lload hx hb dJ0_floorMod_2_20 (lv_at hl 0 rfl) ?_
      refine lv_lload_n hx hb dJ0_floorMod_2_22 rfl (lv_at hl 2 rfl) ?_
      refine x_ladd hx hb dJ0_floorMod_2_23 ?_
      exact g_lret CF hr hlocks hM0 (g_pl (by omega)) (by decide) (by decide) dJ0_floorMod_2_24
set_option maxHeartbeats 400000 in
theorem j_min (l : Launch) (E : y_E) (G : y_G) (σ : y_S) (sz : Nat) (x : Int) (y : Int) (hxr : R32 x) (hyr : R32 y) : gCt l yJ0_min cJ0_min 2 (some .int) ({ frames := 0, cells := 0, slots := 0, locals := 0 }) E [.int (jI x), .int (jI y)] G σ sz (gR (some (.int (jI (if x ≤ y then x else y)))) G σ) 0 0 := by
  refine g_metF (by decide +kernel) (Nat.le_of_ble_eq_true rfl) ?_
  intro p e s m below meth c ls CF hr hlocks hnm hK hM0 hA hl
  have hx := CF.1
  have hb := CF.2.1
  have hts := CF.2.2.2.2
  have hl : lv_has ls 2 [(0, .int (jI x)), (1, .int (jI y))] := hl
  refine lv_iload_n hx hb dJ0_min_0 rfl (lv_at hl 0 rfl) ?_
  refine lv_iload_n hx hb dJ0_min_1 rfl (lv_at hl 1 rfl) ?_
  refine x_icmp_gt (tgt := 9) hx hb dJ0_min_2 (by decide) (by omega) (by omega) (fun b2 => ?_) (fun b2 => ?_)
  · refine lv_iload_n hx hb dJ0_min_9 rfl (lv_at hl 1 rfl) ?_
    exact g_iret CF hr hlocks hM0 (g_pi (by split <;> omega)) (by decide) (by decide) dJ0_min_10
  · refine lv_iload_n hx hb dJ0_min_5 rfl (lv_at hl 0 rfl) ?_
    refine lv_goto (tgt := 10) hx hb dJ0_min_6 (by decide) ?_
    exact g_iret CF hr hlocks hM0 (g_pi (by split <;> omega)) (by decide) (by decide) dJ0_min_10
set_option maxHeartbeats 400000 in
theorem j_max (l : Launch) (E : y_E) (G : y_G) (σ : y_S) (sz : Nat) (x : Int) (y : Int) (hxr : R32 x) (hyr : R32 y) : gCt l yJ0_max cJ0_max 2 (some .int) ({ frames := 0, cells := 0, slots := 0, locals := 0 }) E [.int (jI x), .int (jI y)] G σ sz (gR (some (.int (jI (if y ≤ x then x else y)))) G σ) 0 0 := by
  refine g_metF (by decide +kernel) (Nat.le_of_ble_eq_true rfl) ?_
  intro p e s m below meth c ls CF hr hlocks hnm hK hM0 hA hl
  have hx := CF.1
  have hb := CF.2.1
  have hts := CF.2.2.2.2
  have hl : lv_has ls 2 [(0, .int (jI x)), (1, .int (jI y))] := hl
  refine lv_iload_n hx hb dJ0_max_0 rfl (lv_at hl 0 rfl) ?_
  refine lv_iload_n hx hb dJ0_max_1 rfl (lv_at hl 1 rfl) ?_
  refine x_icmp_lt (tgt := 9) hx hb dJ0_max_2 (by decide) (by omega) (by omega) (fun b2 => ?_) (fun b2 => ?_)
  · refine lv_iload_n hx hb dJ0_max_9 rfl (lv_at hl 1 rfl) ?_
    exact g_iret CF hr hlocks hM0 (g_pi (by split <;> omega)) (by decide) (by decide) dJ0_max_10
  · refine lv_iload_n hx hb dJ0_max_5 rfl (lv_at hl 0 rfl) ?_
    refine lv_goto (tgt := 10) hx hb dJ0_max_6 (by decide) ?_
    exact g_iret CF hr hlocks hM0 (g_pi (by split <;> omega)) (by decide) (by decide) dJ0_max_10
set_option maxHeartbeats 400000 in
theorem j_abs (l : Launch) (E : y_E) (G : y_G) (σ : y_S) (sz : Nat) (x : Int) (hxr : R32 x) : gCt l yJ0_abs cJ0_abs 1 (some .int) ({ frames := 0, cells := 0, slots := 0, locals := 0 }) E [.int (jI x)] G σ sz (gR (some (.int (jI (if x < 0 then -x else x)))) G σ) 0 0 := by
  refine g_metF (by decide +kernel) (Nat.le_of_ble_eq_true rfl) ?_
  intro p e s m below meth c ls CF hr hlocks hnm hK hM0 hA hl
  have hx := CF.1
  have hb := CF.2.1
  have hts := CF.2.2.2.2
  have hl : lv_has ls 1 [(0, .int (jI x))] := hl
  refine lv_iload_n hx hb dJ0_abs_0 rfl (lv_at hl 0 rfl) ?_
  refine x_if_ge (tgt := 9) hx hb dJ0_abs_1 (by decide) (by omega) (fun b1 => ?_) (fun b1 => ?_)
  · refine lv_iload_n hx hb dJ0_abs_9 rfl (lv_at hl 0 rfl) ?_
    exact g_iret CF hr hlocks hM0 (g_pi (by split <;> omega)) (by decide) (by decide) dJ0_abs_10
  · refine lv_iload_n hx hb dJ0_abs_4 rfl (lv_at hl 0 rfl) ?_
    refine x_ineg hx hb dJ0_abs_5 ?_
    refine lv_goto (tgt := 10) hx hb dJ0_abs_6 (by decide) ?_
    exact g_iret CF hr hlocks hM0 (g_pi (by split <;> omega)) (by decide) (by decide) dJ0_abs_10
set_option maxHeartbeats 400000 in
theorem l_in (l : Launch) (E : y_E) (G : y_G) (σ : y_S) (sz : Nat) (v : Int) (a : Int) (b : Int) (hv : R32 v) (ha : R32 a) (hb2 : R32 b) : gCt l yX1_in cX1_in 3 (some .boolean) ({ frames := 0, cells := 0, slots := 0, locals := 0 }) E [.int (jI v), .int (jI a), .int (jI b)] G σ sz (gR (some (.int (jI (if a ≤ v ∧ v ≤ b then 1 else 0)))) G σ) 0 0 := by
  refine g_met (by decide) (Nat.le_of_ble_eq_true rfl) ?_
  intro p e s m below meth c ls CF hr hlocks hnm hK hM0 hA hl
  have hx := CF.1
  have hb := CF.2.1
  have hts := CF.2.2.2.2
  have hl : lv_has ls 3 [(0, .int (jI v)), (1, .int (jI a)), (2, .int (jI b))] := hl
  refine lv_iload_n hx hb dX1_in_0 rfl (lv_at hl 0 rfl) ?_
  refine lv_iload_n hx hb dX1_in_1 rfl (lv_at hl 1 rfl) ?_
  refine x_icmp_lt (tgt := 14) hx hb dX1_in_2 (by decide) (by omega) (by omega) (fun b2 => ?_) (fun b2 => ?_)
  · refine lv_iconst (v := jI 0) hx hb dX1_in_14 rfl ?_
    exact g_zret CF hr hlocks hM0 (by omega) ⟨congrArg (fun z => some (Value.int (jI z))) (by first | rfl | omega | ((repeat' split) <;> first | rfl | omega)), rfl, rfl⟩ (by decide) (by decide) dX1_in_15
  · refine lv_iload_n hx hb dX1_in_5 rfl (lv_at hl 0 rfl) ?_
    refine lv_iload_n hx hb dX1_in_6 rfl (lv_at hl 2 rfl) ?_
    refine x_icmp_gt (tgt := 14) hx hb dX1_in_7 (by decide) (by omega) (by omega) (fun b7 => ?_) (fun b7 => ?_)
    · refine lv_iconst (v := jI 0) hx hb dX1_in_14 rfl ?_
      exact g_zret CF hr hlocks hM0 (by omega) ⟨congrArg (fun z => some (Value.int (jI z))) (by first | rfl | omega | ((repeat' split) <;> first | rfl | omega)), rfl, rfl⟩ (by decide) (by decide) dX1_in_15
    · refine lv_iconst (v := jI 1) hx hb dX1_in_10 rfl ?_
      refine lv_goto (tgt := 15) hx hb dX1_in_11 (by decide) ?_
      exact g_zret CF hr hlocks hM0 (by omega) ⟨congrArg (fun z => some (Value.int (jI z))) (by first | rfl | omega | ((repeat' split) <;> first | rfl | omega)), rfl, rfl⟩ (by decide) (by decide) dX1_in_15
set_option maxHeartbeats 400000 in
theorem l_part (l : Launch) (E : y_E) (G : y_G) (σ : y_S) (sz : Nat) (x : Int) (hxr : R64 x) : gCt l yX1_part cX1_part 2 (some .int) ({ frames := 1, cells := 0, slots := 0, locals := 25 }) E [.long (jL x)] G σ sz (gR (some (.int (jI (x % 97)))) G σ) 0 0 := by
  refine g_met (by decide) (Nat.le_of_ble_eq_true rfl) ?_
  intro p e s m below meth c ls CF hr hlocks hnm hK hM0 hA hl
  have hx := CF.1
  have hb := CF.2.1
  have hts := CF.2.2.2.2
  have hl : lv_has ls 2 [(0, .long (jL x))] := hl
  refine lv_lload_n hx hb dX1_part_0 rfl (lv_at hl 0 rfl) ?_
  refine lv_ldc2 (v := jL 97) hx hb CF.2.2.2.1 (hts _ q115) dX1_part_1 ?_
  refine g_calll (r := x % 97) hM0 hA (g_runS (As := [.long (jL x), .long (jL 97)]) (rest := []) CF hK hM0 (j_fml l E _ _ _  x 97 (by first | omega | assumption | (refine ⟨?_, ?_⟩ <;> omega)) (by first | omega | assumption | (refine ⟨?_, ?_⟩ <;> omega)) (by first | omega | assumption | (refine ⟨?_, ?_⟩ <;> omega))) (va_cwS 2 hts (lw_S q116 q117 q61 q118) rfl rfl rfl (by decide +kernel) ⟨Nat.le_of_ble_eq_true rfl, Nat.le_of_ble_eq_true rfl⟩) rfl hl.1 rfl (Nat.le_of_ble_eq_true rfl) dX1_part_4 ⟨Nat.le_of_ble_eq_true rfl, Nat.le_of_ble_eq_true rfl⟩) (fun H locs hM1 => ?_)
  refine x_l2i hx hb dX1_part_7 ?_
  exact g_iret CF hr hlocks hM1 (g_pi rfl) (by decide) (by decide) dX1_part_8
set_option maxHeartbeats 400000 in
theorem l_whole (l : Launch) (E : y_E) (G : y_G) (σ : y_S) (sz : Nat) (x : Int) (hxr : R32 x) : gCt l yX1_whole cX1_whole 1 (some .int) ({ frames := 1, cells := 0, slots := 0, locals := 22 }) E [.int (jI x)] G σ sz (gR (some (.int (jI (x % 96)))) G σ) 0 0 := by
  refine g_met (by decide) (Nat.le_of_ble_eq_true rfl) ?_
  intro p e s m below meth c ls CF hr hlocks hnm hK hM0 hA hl
  have hx := CF.1
  have hb := CF.2.1
  have hts := CF.2.2.2.2
  have hl : lv_has ls 1 [(0, .int (jI x))] := hl
  refine lv_iload_n hx hb dX1_whole_0 rfl (lv_at hl 0 rfl) ?_
  refine lv_bipush (v := jI 96) hx hb dX1_whole_1 (by decide) ?_
  refine g_calli (r := x % 96) hM0 hA (g_runS (As := [.int (jI x), .int (jI 96)]) (rest := []) CF hK hM0 (j_fm l E _ _ _  x 96 (by first | omega | assumption | (refine ⟨?_, ?_⟩ <;> omega)) (by first | omega | assumption | (refine ⟨?_, ?_⟩ <;> omega)) (by first | omega | assumption | (refine ⟨?_, ?_⟩ <;> omega))) (va_cwS 2 hts (lw_S q99 q100 q61 q101) rfl rfl rfl (by decide +kernel) ⟨Nat.le_of_ble_eq_true rfl, Nat.le_of_ble_eq_true rfl⟩) rfl hl.1 rfl (Nat.le_of_ble_eq_true rfl) dX1_whole_3 ⟨Nat.le_of_ble_eq_true rfl, Nat.le_of_ble_eq_true rfl⟩) (fun H locs hM1 => ?_)
  exact g_iret CF hr hlocks hM1 (g_pi rfl) (by decide) (by decide) dX1_whole_6
set_option maxHeartbeats 400000 in
theorem l_heat (l : Launch) (E : y_E) (G : y_G) (σ : y_S) (sz : Nat) (x : Int) (hx0 : 0 ≤ x) (hx1 : x ≤ 95) : gCt l yX1_heat cX1_heat 1 (some .int) ({ frames := 1, cells := 0, slots := 0, locals := 21 }) E [.int (jI x)] G σ sz (gR (some (.int (jI (if x < 96 - x then x else 96 - x)))) G σ) 0 0 := by
  refine g_met (by decide) (Nat.le_of_ble_eq_true rfl) ?_
  intro p e s m below meth c ls CF hr hlocks hnm hK hM0 hA hl
  have hx := CF.1
  have hb := CF.2.1
  have hts := CF.2.2.2.2
  have hl : lv_has ls 1 [(0, .int (jI x))] := hl
  refine lv_iload_n hx hb dX1_heat_0 rfl (lv_at hl 0 rfl) ?_
  refine lv_bipush (v := jI 96) hx hb dX1_heat_1 (by decide) ?_
  refine lv_iload_n hx hb dX1_heat_3 rfl (lv_at hl 0 rfl) ?_
  refine x_isub hx hb dX1_heat_4 ?_
  refine g_calli (r := if x ≤ (96 - x) then x else (96 - x)) hM0 hA (g_runS (As := [.int (jI x), .int (jI (96 - x))]) (rest := []) CF hK hM0 (j_min l E _ _ _  x (96 - x) (by first | omega | assumption | (refine ⟨?_, ?_⟩ <;> omega)) (by first | omega | assumption | (refine ⟨?_, ?_⟩ <;> omega))) (va_cwS 2 hts (lw_S q428 q429 q61 q430) rfl rfl rfl (by decide +kernel) ⟨Nat.le_of_ble_eq_true rfl, Nat.le_of_ble_eq_true rfl⟩) rfl hl.1 rfl (Nat.le_of_ble_eq_true rfl) dX1_heat_5 ⟨Nat.le_of_ble_eq_true rfl, Nat.le_of_ble_eq_true rfl⟩) (fun H locs hM1 => ?_)
  exact g_iret CF hr hlocks hM1 (g_pi (by (repeat' split) <;> omega)) (by decide) (by decide) dX1_heat_8
set_option maxHeartbeats 400000 in
theorem l_isTurn (l : Launch) (E : y_E) (G : y_G) (σ : y_S) (sz : Nat) (x : Int) (hxr : R32 x) : gCt l yX1_isTurn cX1_isTurn 1 (some .boolean) ({ frames := 1, cells := 0, slots := 0, locals := 22 }) E [.int (jI x)] G σ sz (gR (some (.int (jI (if 0 ≤ x ∧ x ≤ 95 then 1 else 0)))) G σ) 0 0 := by
  refine g_met (by decide) (Nat.le_of_ble_eq_true rfl) ?_
  intro p e s m below meth c ls CF hr hlocks hnm hK hM0 hA hl
  have hx := CF.1
  have hb := CF.2.1
  have hts := CF.2.2.2.2
  have hl : lv_has ls 1 [(0, .int (jI x))] := hl
  refine lv_iload_n hx hb dX1_isTurn_0 rfl (lv_at hl 0 rfl) ?_
  refine lv_iconst (v := jI 0) hx hb dX1_isTurn_1 rfl ?_
  refine lv_bipush (v := jI 95) hx hb dX1_isTurn_2 (by decide) ?_
  refine g_calli (r := (if 0 ≤ x ∧ x ≤ 95 then 1 else 0)) hM0 hA (g_runS (As := [.int (jI x), .int (jI 0), .int (jI 95)]) (rest := []) CF hK hM0 (l_in l E _ _ _  x 0 95 (by first | omega | assumption | (refine ⟨?_, ?_⟩ <;> omega)) (by first | omega | assumption | (refine ⟨?_, ?_⟩ <;> omega)) (by first | omega | assumption | (refine ⟨?_, ?_⟩ <;> omega))) (va_cwS 3 hts (lw_S q93 q94 q60 q95) rfl rfl rfl (by decide +kernel) ⟨Nat.le_of_ble_eq_true rfl, Nat.le_of_ble_eq_true rfl⟩) rfl hl.1 rfl (Nat.le_of_ble_eq_true rfl) dX1_isTurn_4 ⟨Nat.le_of_ble_eq_true rfl, Nat.le_of_ble_eq_true rfl⟩) (fun H locs hM1 => ?_)
  exact g_zret CF hr hlocks hM1 (g_b01 _) ⟨rfl, rfl, rfl⟩ (by decide) (by decide) dX1_isTurn_7
