set_option maxHeartbeats 400000 in
theorem j_size (l : Launch) (E : y_E) (G : y_G) (σ : y_S) (sz : Nat) (tl : Nat) (hTl : G.1 tl = some (.inl 16)) : gCt l yJ3_size cJ3_size 1 (some .int) ({ frames := 0, cells := 0, slots := 0, locals := 0 }) E [.ref (G.2.2 tl)] G σ sz (gR (some (.int (jI (σ tl 2)))) G σ) 0 0 := by
  refine g_metF (by decide +kernel) (Nat.le_of_ble_eq_true rfl) ?_
  intro p e s m below meth c ls CF hr hlocks hnm hK hM0 hA hl
  have hx := CF.1
  have hb := CF.2.1
  have hts := CF.2.2.2.2
  have hl : lv_has ls 1 [(0, .ref (G.2.2 tl))] := hl
  refine lv_aload_n hx hb dJ3_size_0 rfl (lv_at hl 0 rfl) ?_
  refine g_geti CF hK hM0 tl hTl 2 2 rfl rfl (by decide) (Or.inl (hts _ q226)) (fun _ h => h) rfl dJ3_size_1 ?_
  exact g_iret CF hr hlocks hM0 (g_pi rfl) (by decide) (by decide) dJ3_size_4
set_option maxHeartbeats 400000 in
theorem j_ci5 (l : Launch) (E : y_E) (G : y_G) (σ : y_S) (sz : Nat) (i : Int) (n : Int) (hir : R32 i) (hnr : R32 n) (hi0 : 0 ≤ i) (hi1 : i < n) : gCt l yJ5_checkIndex cJ5_checkIndex 3 (some .int) ({ frames := 0, cells := 0, slots := 0, locals := 0 }) E [.int (jI i), .int (jI n), .null] G σ sz (gR (some (.int (jI i))) G σ) 0 0 := by
  refine g_metF (by decide +kernel) (Nat.le_of_ble_eq_true rfl) ?_
  intro p e s m below meth c ls CF hr hlocks hnm hK hM0 hA hl
  have hx := CF.1
  have hb := CF.2.1
  have hts := CF.2.2.2.2
  have hl : lv_has ls 3 [(0, .int (jI i)), (1, .int (jI n)), (2, .null)] := hl
  refine lv_iload_n hx hb dJ5_checkIndex_0 rfl (lv_at hl 0 rfl) ?_
  refine x_if_lt (tgt := 9) hx hb dJ5_checkIndex_1 (by decide) (by omega) (fun b1 => ?_) (fun b1 => ?_)
  · exact absurd b1 (by omega)
  · refine lv_iload_n hx hb dJ5_checkIndex_4 rfl (lv_at hl 0 rfl) ?_
    refine lv_iload_n hx hb dJ5_checkIndex_5 rfl (lv_at hl 1 rfl) ?_
    refine x_icmp_lt (tgt := 16) hx hb dJ5_checkIndex_6 (by decide) (by omega) (by omega) (fun b6 => ?_) (fun b6 => ?_)
    · refine lv_iload_n hx hb dJ5_checkIndex_16 rfl (lv_at hl 0 rfl) ?_
      exact g_iret CF hr hlocks hM0 (g_pi rfl) (by decide) (by decide) dJ5_checkIndex_17
    · exact absurd b6 (by omega)
set_option maxHeartbeats 400000 in
theorem j_ci4 (l : Launch) (E : y_E) (G : y_G) (σ : y_S) (sz : Nat) (i : Int) (n : Int) (hir : R32 i) (hnr : R32 n) (hi0 : 0 ≤ i) (hi1 : i < n) : gCt l yJ4_checkIndex cJ4_checkIndex 2 (some .int) ({ frames := 1, cells := 0, slots := 0, locals := 22 }) E [.int (jI i), .int (jI n)] G σ sz (gR (some (.int (jI i))) G σ) 0 0 := by
  refine g_metF (by decide +kernel) (Nat.le_of_ble_eq_true rfl) ?_
  intro p e s m below meth c ls CF hr hlocks hnm hK hM0 hA hl
  have hx := CF.1
  have hb := CF.2.1
  have hts := CF.2.2.2.2
  have hl : lv_has ls 2 [(0, .int (jI i)), (1, .int (jI n))] := hl
  refine lv_iload_n hx hb dJ4_checkIndex_0 rfl (lv_at hl 0 rfl) ?_
  refine lv_iload_n hx hb dJ4_checkIndex_1 rfl (lv_at hl 1 rfl) ?_
  refine lv_null hx hb dJ4_checkIndex_2 ?_
  refine g_calli (r := i) hM0 hA (g_runS (As := [.int (jI i), .int (jI n), .null]) (rest := []) CF hK hM0 (j_ci5 l E _ _ _  i n (by first | omega | assumption | (refine ⟨?_, ?_⟩ <;> omega)) (by first | omega | assumption | (refine ⟨?_, ?_⟩ <;> omega)) (by first | omega | assumption | (refine ⟨?_, ?_⟩ <;> omega)) (by first | omega | assumption | (refine ⟨?_, ?_⟩ <;> omega))) (va_cwS 3 hts (lw_S q490 q491 q74 q492) rfl rfl rfl (by decide +kernel) ⟨Nat.le_of_ble_eq_true rfl, Nat.le_of_ble_eq_true rfl⟩) rfl hl.1 rfl (Nat.le_of_ble_eq_true rfl) dJ4_checkIndex_3 ⟨Nat.le_of_ble_eq_true rfl, Nat.le_of_ble_eq_true rfl⟩) (fun H locs hM1 => ?_)
  exact g_iret CF hr hlocks hM1 (g_pi rfl) (by decide) (by decide) dJ4_checkIndex_6
set_option maxHeartbeats 400000 in
theorem j_ed (l : Launch) (E : y_E) (G : y_G) (σ : y_S) (sz : Nat) (tl : Nat) (ta : Nat) (N : Int) (f : Int → Nat) (i : Int) (hTl : G.1 tl = some (.inl 16)) (hLs : lLs tl ta N f G σ) (hi0 : 0 ≤ i) (hi1 : i < N) : gCt l yJ3_elementData cJ3_elementData 2 (some (.object "java/lang/Object")) ({ frames := 0, cells := 0, slots := 0, locals := 0 }) E [.ref (G.2.2 tl), .int (jI i)] G σ sz (gR (some (.ref (f i))) G σ) 0 0 := by
  refine g_metF (by decide +kernel) (Nat.le_of_ble_eq_true rfl) ?_
  intro p e s m below meth c ls CF hr hlocks hnm hK hM0 hA hl
  have hx := CF.1
  have hb := CF.2.1
  have hts := CF.2.2.2.2
  have hl : lv_has ls 2 [(0, .ref (G.2.2 tl)), (1, .int (jI i))] := hl
  obtain ⟨hsz, hz | ⟨cap, hk1, hk2, hk3, hk4, hk5, hk6⟩⟩ := id hLs
  · exact absurd hz.1 (by omega)
  refine lv_aload_n hx hb dJ3_elementData_0 rfl (lv_at hl 0 rfl) ?_
  refine g_getr CF hK hM0 tl hTl 1 1 rfl rfl (by decide) (Or.inl (hts _ q225)) (fun _ h => h) rfl (G.2.2 ta) hk5 dJ3_elementData_1 ?_
  refine lv_iload_n hx hb dJ3_elementData_4 rfl (lv_at hl 1 rfl) ?_
  refine g_aaldr CF hK hM0 ta hk1 (by decide) rfl (i := i) (by omega) (by omega) (by omega) (f i) (hk6 i (by omega) (by omega)) dJ3_elementData_5 ?_
  exact g_aret CF hr (Or.inl ⟨_, rfl⟩) hlocks hM0 (r := some (f i)) ⟨rfl, rfl, rfl⟩ (by decide) (by decide) dJ3_elementData_6
set_option maxHeartbeats 400000 in
theorem j_get (l : Launch) (E : y_E) (G : y_G) (σ : y_S) (sz : Nat) (tl : Nat) (ta : Nat) (N : Int) (f : Int → Nat) (i : Int) (hTl : G.1 tl = some (.inl 16)) (hLs : lLs tl ta N f G σ) (hi0 : 0 ≤ i) (hi1 : i < N) : gCt l yJ3_get cJ3_get 2 (some (.object "java/lang/Object")) ({ frames := 2, cells := 0, slots := 0, locals := 43 }) E [.ref (G.2.2 tl), .int (jI i)] G σ sz (gR (some (.ref (f i))) G σ) 0 0 := by
  refine g_metF (by decide +kernel) (Nat.le_of_ble_eq_true rfl) ?_
  intro p e s m below meth c ls CF hr hlocks hnm hK hM0 hA hl
  have hx := CF.1
  have hb := CF.2.1
  have hts := CF.2.2.2.2
  have hl : lv_has ls 2 [(0, .ref (G.2.2 tl)), (1, .int (jI i))] := hl
  have hsz := hLs.1
  refine lv_iload_n hx hb dJ3_get_0 rfl (lv_at hl 1 rfl) ?_
  refine lv_aload_n hx hb dJ3_get_1 rfl (lv_at hl 0 rfl) ?_
  have hr2 := hM0.r tl 2
  refine g_geti CF hK hM0 tl hTl 2 2 rfl rfl (by decide) (Or.inl (hts _ q226)) (fun _ h => h) rfl dJ3_get_2 ?_
  refine g_calli (r := i) hM0 hA (g_runS (As := [.int (jI i), .int (jI (σ tl 2))]) (rest := []) CF hK hM0 (j_ci4 l E _ _ _  i (σ tl 2) (by have f0 := hM0.r tl 2; first | omega | assumption | (refine ⟨?_, ?_⟩ <;> omega)) (by have f0 := hM0.r tl 2; first | omega | assumption | (refine ⟨?_, ?_⟩ <;> omega)) (by have f0 := hM0.r tl 2; first | omega | assumption | (refine ⟨?_, ?_⟩ <;> omega)) (by have f0 := hM0.r tl 2; first | omega | assumption | (refine ⟨?_, ?_⟩ <;> omega))) (va_cwS 2 hts (lw_S q487 q488 q73 q489) rfl rfl rfl (by decide +kernel) ⟨Nat.le_of_ble_eq_true rfl, Nat.le_of_ble_eq_true rfl⟩) rfl hl.1 rfl (Nat.le_of_ble_eq_true rfl) dJ3_get_5 ⟨Nat.le_of_ble_eq_true rfl, Nat.le_of_ble_eq_true rfl⟩) (fun H locs hM1 => ?_)
  refine lv_pop hx hb dJ3_get_8 rfl ?_
  refine lv_aload_n hx hb dJ3_get_9 rfl (lv_at hl 0 rfl) ?_
  refine lv_iload_n hx hb dJ3_get_10 rfl (lv_at hl 1 rfl) ?_
  refine g_callr (b := f i) hM1 hA (g_runV (As := [.int (jI i)]) (rest := []) CF hK hM1 hTl rfl (j_ed l E _ _ _ tl ta N f i hTl hLs (by first | omega | assumption | (refine ⟨?_, ?_⟩ <;> omega)) (by first | omega | assumption | (refine ⟨?_, ?_⟩ <;> omega))) (cwV 1 hts (lw_V q493 q494 q495 q70 q496) rfl rfl rfl (by decide +kernel) ⟨Nat.le_of_ble_eq_true rfl, Nat.le_of_ble_eq_true rfl⟩) rfl hl.1 rfl (Nat.le_of_ble_eq_true rfl) dJ3_get_11 ⟨Nat.le_of_ble_eq_true rfl, Nat.le_of_ble_eq_true rfl⟩) (fun H locs hM2 => ?_)
  exact g_aret CF hr (Or.inl ⟨_, rfl⟩) hlocks hM2 (r := some (f i)) ⟨rfl, rfl, rfl⟩ (by decide) (by decide) dJ3_get_14
set_option maxHeartbeats 400000 in
theorem l_known (l : Launch) (E : y_E) (G : y_G) (σ : y_S) (sz : Nat) (ρ : y_S) (l1 : Int) (i : Int) (tk : Int) (hL : lgR E ρ G σ) (hCe : mCell (ρ 60 0) l1 i) (htk : R32 tk) : gCt l yX1_known cX1_known 6 (some .int) ({ frames := 3, cells := 0, slots := 0, locals := 64 }) E [.ref (G.2.2 60), .ref (G.2.2 (cT l1 i)), .int (jI tk)] G σ sz (gR (some (.int (jI (mKn ρ (6 * l1 + i) tk)))) G σ) 0 0 := by
  refine g_met (by decide) (Nat.le_of_ble_eq_true rfl) ?_
  intro p e s m below meth c ls CF hr hlocks hnm hK hM0 hA hl
  have hx := CF.1
  have hb := CF.2.1
  have hts := CF.2.2.2.2
  have hl : lv_has ls 6 [(0, .ref (G.2.2 60)), (1, .ref (G.2.2 (cT l1 i))), (2, .int (jI tk))] := hl
  obtain ⟨hO, hS, ⟨hm1, hm2, hm3, hm4, hm5⟩, hX, hD, hZ⟩ := id hL
  have hn := hO.n
  have hfe := hO.fe
  obtain ⟨hDl, hDf⟩ := hD.2.1
  refine lv_null hx hb dX1_known_0 ?_
  refine lv_astore_nN (lv' := [(3, .null), (0, .ref (G.2.2 60)), (1, .ref (G.2.2 (cT l1 i))), (2, .int (jI tk))]) hx hb dX1_known_1 rfl hl (by decide) (by first | rfl | simp [va_rf_cat, cat_i, cat_r, cat_n]) (fun ls hl => ?_)
  refine lv_iconst (v := jI 0) hx hb dX1_known_2 rfl ?_
  refine lv_istore (lv' := [(4, .int (jI 0)), (3, .null), (0, .ref (G.2.2 60)), (1, .ref (G.2.2 (cT l1 i))), (2, .int (jI tk))]) hx hb dX1_known_3 hl (by decide) (by first | rfl | simp [va_rf_cat, cat_i, cat_r, cat_n]) (fun ls hl => ?_)
  have c5 : ∀ (n5 : Nat) (k : Nat) (H : Heap) (locs : List Loc) (ls : Array Slot), ((k : Int) ≤ ρ 60 43) → ((ρ 60 43).toNat - k < n5) → gM E (gA G sz) G σ s.heap H locs → lv_has ls 6 [(0, .ref (G.2.2 60)), (1, .ref (G.2.2 (cT l1 i))), (2, .int (jI tk)), (3, va_rf ((if kBest (ρ 38) (ρ 40) (6 * l1 + i) tk k < 0 then none else some (G.2.2 (2000 + (kBest (ρ 38) (ρ 40) (6 * l1 + i) tk k).toNat))))), (4, .int (jI ((k : Int))))] → W p l e ({ frames := 3, cells := 0, slots := 0, locals := 64 } : Room) s m ([.ref (G.2.2 60), .ref (G.2.2 (cT l1 i)), .int (jI tk)] : List Value).toArray below meth c H locs 0 0 (MQ below (gQ E G sz (gR (some (.int (jI (mKn ρ (6 * l1 + i) tk)))) G σ)) ([.ref (G.2.2 60), .ref (G.2.2 (cT l1 i)), .int (jI tk)] : List Value).toArray s 0 0 (gA G sz)) (F0 m 5 ls []) := by
    intro n5
    induction n5 with
    | zero => intro k H locs ls hk hmu; exact absurd hmu (Nat.not_lt_zero _)
    | succ n5 ih5 =>
      intro k H locs ls hk hmu5 hM1 hl
      refine lv_iload hx hb dX1_known_5 (lv_at hl 4 rfl) ?_
      refine lv_aload_n hx hb dX1_known_7 rfl (lv_at hl 0 rfl) ?_
      refine g_getr CF hK hM1 60 (hL.2.1.1 60 _ rfl) 28 28 rfl rfl (by decide) (Or.inl (hts _ q317)) (fun _ h => h) rfl (G.2.2 28) (hL.2.1.2.1 28 28 rfl) dX1_known_8 ?_
      refine g_calli (r := σ 28 2) hM1 hA (g_runV (As := []) (rest := [.int (jI ((k : Int)))]) CF hK hM1 (hL.2.1.1 28 _ rfl) rfl (j_size l E _ _ _ 28  (hL.2.1.1 28 _ rfl)) (cwV 0 hts (lw_V q479 q480 q481 q70 q482) rfl rfl rfl (by decide +kernel) ⟨Nat.le_of_ble_eq_true rfl, Nat.le_of_ble_eq_true rfl⟩) rfl hl.1 rfl (Nat.le_of_ble_eq_true rfl) dX1_known_11 ⟨Nat.le_of_ble_eq_true rfl, Nat.le_of_ble_eq_true rfl⟩) (fun H locs hM2 => ?_)
      refine x_top (b := ρ 60 43) hDl.1 ?_
      refine x_icmp_ge (tgt := 74) hx hb dX1_known_14 (by decide) (by omega) (by omega) (fun b14 => ?_) (fun b14 => ?_)
      · refine x_qload_n hx hb dX1_known_74 rfl (lv_at hl 3 rfl) ?_
        refine x_ifnonnull (tgt := 82) hx hb dX1_known_75 (by decide) (fun b75 => ?_) (fun b75 => ?_)
        · have hkr := kBest_r (ρ 38) (ρ 40) (6 * l1 + i) tk k
          have hkb : ¬ kBest (ρ 38) (ρ 40) (6 * l1 + i) tk k < 0 := fun q => (by first | exact b50 (q_none.mpr q) | exact b75 (q_none.mpr q))
          have hFb := hDf (kBest (ρ 38) (ρ 40) (6 * l1 + i) tk k).toNat (by omega)
          unfold lFi at hFb
          rw [Int.toNat_of_nonneg (by omega : 0 ≤ kBest (ρ 38) (ρ 40) (6 * l1 + i) tk k)] at hFb
          have hr41 : R32 (ρ 40 (kBest (ρ 38) (ρ 40) (6 * l1 + i) tk k)) := (by rw [← hFb.2.2.2.2]; exact hM1.r _ _)
          have hl : lv_has ls 6 [(0, .ref (G.2.2 60)), (1, .ref (G.2.2 (cT l1 i))), (2, .int (jI tk)), (3, .ref (G.2.2 (2000 + (kBest (ρ 38) (ρ 40) (6 * l1 + i) tk k).toNat))), (4, .int (jI ((k : Int))))] := lv_cast hl (by rw [if_neg hkb]; rfl)
          refine lv_aload_n hx hb dX1_known_82 rfl (lv_at hl 3 rfl) ?_
          refine g_geti CF hK hM2 (2000 + (kBest (ρ 38) (ρ 40) (6 * l1 + i) tk k).toNat) hFb.1 1 1 rfl rfl (by decide) (gLk.n hK q968) (fun _ h => h) rfl dX1_known_83 ?_
          refine x_top (b := ρ 39 (kBest (ρ 38) (ρ 40) (6 * l1 + i) tk k)) hFb.2.2.2.1 ?_
          exact g_iret CF hr hlocks hM2 (g_pi (by unfold mKn; rw [show (ρ 60 43).toNat = k by omega, if_neg hkb])) (by decide) (by decide) dX1_known_86
        · refine lv_iconst (v := jI 0) hx hb dX1_known_78 rfl ?_
          refine lv_goto (tgt := 86) hx hb dX1_known_79 (by decide) ?_
          exact g_iret CF hr hlocks hM2 (g_pi (by unfold mKn; rw [show (ρ 60 43).toNat = k by omega, if_pos (q_none.mp b75)])) (by decide) (by decide) dX1_known_86
      · have hF := hDf k (by omega)
        have hr40 : R32 (ρ 40 (k : Int)) := (by rw [← hF.2.2.2.2]; exact hM1.r _ _)
        have hce := lg_ceq hS hM1 hn.2 hF.2.1 hCe
        refine lv_aload_n hx hb dX1_known_17 rfl (lv_at hl 0 rfl) ?_
        refine g_getr CF hK hM2 60 (hL.2.1.1 60 _ rfl) 28 28 rfl rfl (by decide) (Or.inl (hts _ q317)) (fun _ h => h) rfl (G.2.2 28) (hL.2.1.2.1 28 28 rfl) dX1_known_18 ?_
        refine lv_iload hx hb dX1_known_21 (lv_at hl 4 rfl) ?_
        refine g_callr (b := G.2.2 (2000 + k)) hM2 hA (g_runV (As := [.int (jI ((k : Int)))]) (rest := []) CF hK hM2 (hL.2.1.1 28 _ rfl) rfl (j_get l E _ _ _ 28 64 (ρ 60 43) (fun i => G.2.2 (2000 + i.toNat)) ((k : Int)) (hL.2.1.1 28 _ rfl) (hL.2.2.2.2.1.2.1.1) (by first | omega | assumption | (refine ⟨?_, ?_⟩ <;> omega)) (by first | omega | assumption | (refine ⟨?_, ?_⟩ <;> omega))) (cwV 1 hts (lw_V q483 q484 q485 q70 q486) rfl rfl rfl (by decide +kernel) ⟨Nat.le_of_ble_eq_true rfl, Nat.le_of_ble_eq_true rfl⟩) rfl hl.1 rfl (Nat.le_of_ble_eq_true rfl) dX1_known_23 ⟨Nat.le_of_ble_eq_true rfl, Nat.le_of_ble_eq_true rfl⟩) (fun H locs hM3 => ?_)
        refine g_cast CF hK hM3 (2000 + k) hF.1 rfl q497 dX1_known_26 ?_
        refine lv_astore (lv' := [(5, .ref (G.2.2 (2000 + k))), (0, .ref (G.2.2 60)), (1, .ref (G.2.2 (cT l1 i))), (2, .int (jI tk)), (3, va_rf ((if kBest (ρ 38) (ρ 40) (6 * l1 + i) tk k < 0 then none else some (G.2.2 (2000 + (kBest (ρ 38) (ρ 40) (6 * l1 + i) tk k).toNat))))), (4, .int (jI ((k : Int))))]) hx hb dX1_known_29 hl (by decide) (by first | rfl | simp [va_rf_cat, cat_i, cat_r, cat_n]) (fun ls hl => ?_)
        refine lv_aload hx hb dX1_known_31 (lv_at hl 0 rfl) ?_
        refine g_getr CF hK hM3 (2000 + k) hF.1 0 0 rfl rfl (by decide) (gLk.n hK q966) (fun _ h => h) rfl (G.2.2 (100 + (ρ 38 (k : Int)).toNat)) hF.2.2.1 dX1_known_33 ?_
        refine lv_aload_n hx hb dX1_known_36 rfl (lv_at hl 2 rfl) ?_
        refine lv_acmp_ne (rx := (some (G.2.2 (100 + (ρ 38 (k : Int)).toNat)))) (ry := (some (G.2.2 (cT l1 i)))) (tgt := 68) hx hb dX1_known_37 (by decide) (fun b37 => ?_) (fun b37 => ?_)
        · refine x_iinc (lv' := [(4, .int (jI (((k : Int)) + 1))), (5, .ref (G.2.2 (2000 + k))), (0, .ref (G.2.2 60)), (1, .ref (G.2.2 (cT l1 i))), (2, .int (jI tk)), (3, va_rf ((if kBest (ρ 38) (ρ 40) (6 * l1 + i) tk k < 0 then none else some (G.2.2 (2000 + (kBest (ρ 38) (ρ 40) (6 * l1 + i) tk k).toNat)))))]) hx hb dX1_known_68 hl (k := 5) rfl (by decide) (by first | rfl | simp [va_rf_cat, cat_i, cat_r, cat_n]) (fun ls hl => ?_)
          refine lv_goto (tgt := 5) hx hb dX1_known_71 (by decide) ?_
          exact ih5  ((k + 1)) _ _ _ (by first | omega | assumption | rfl) (by omega) hM3 (lv_cast (lv_sub hl [2, 3, 4, 5, 0] rfl) (by rw [kB_n (fun q => by first | exact b37 (hce.mp q.1) | (have q2 := q.2; omega))]; rfl))
        · refine lv_aload hx hb dX1_known_40 (lv_at hl 0 rfl) ?_
          refine g_geti CF hK hM3 (2000 + k) hF.1 2 2 rfl rfl (by decide) (gLk.n hK q970) (fun _ h => h) rfl dX1_known_42 ?_
          refine x_top (b := ρ 40 (k : Int)) hF.2.2.2.2 ?_
          refine lv_iload_n hx hb dX1_known_45 rfl (lv_at hl 3 rfl) ?_
          refine x_icmp_gt (tgt := 68) hx hb dX1_known_46 (by decide) (by omega) (by omega) (fun b46 => ?_) (fun b46 => ?_)
          · refine x_iinc (lv' := [(4, .int (jI (((k : Int)) + 1))), (5, .ref (G.2.2 (2000 + k))), (0, .ref (G.2.2 60)), (1, .ref (G.2.2 (cT l1 i))), (2, .int (jI tk)), (3, va_rf ((if kBest (ρ 38) (ρ 40) (6 * l1 + i) tk k < 0 then none else some (G.2.2 (2000 + (kBest (ρ 38) (ρ 40) (6 * l1 + i) tk k).toNat)))))]) hx hb dX1_known_68 hl (k := 5) rfl (by decide) (by first | rfl | simp [va_rf_cat, cat_i, cat_r, cat_n]) (fun ls hl => ?_)
            refine lv_goto (tgt := 5) hx hb dX1_known_71 (by decide) ?_
            exact ih5  ((k + 1)) _ _ _ (by first | omega | assumption | rfl) (by omega) hM3 (lv_cast (lv_sub hl [2, 3, 4, 5, 0] rfl) (by rw [kB_n (fun q => by first | exact b37 (hce.mp q.1) | (have q2 := q.2; omega))]; rfl))
          · refine x_qload_n hx hb dX1_known_49 rfl (lv_at hl 4 rfl) ?_
            refine x_ifnull (tgt := 65) hx hb dX1_known_50 (by decide) (fun b50 => ?_) (fun b50 => ?_)
            · refine lv_aload hx hb dX1_known_65 (lv_at hl 0 rfl) ?_
              refine lv_astore_n (lv' := [(3, .ref (G.2.2 (2000 + k))), (5, .ref (G.2.2 (2000 + k))), (0, .ref (G.2.2 60)), (1, .ref (G.2.2 (cT l1 i))), (2, .int (jI tk)), (4, .int (jI ((k : Int))))]) hx hb dX1_known_67 rfl hl (by decide) (by first | rfl | simp [va_rf_cat, cat_i, cat_r, cat_n]) (fun ls hl => ?_)
              refine x_iinc (lv' := [(4, .int (jI (((k : Int)) + 1))), (3, .ref (G.2.2 (2000 + k))), (5, .ref (G.2.2 (2000 + k))), (0, .ref (G.2.2 60)), (1, .ref (G.2.2 (cT l1 i))), (2, .int (jI tk))]) hx hb dX1_known_68 hl (k := 5) rfl (by decide) (by first | rfl | simp [va_rf_cat, cat_i, cat_r, cat_n]) (fun ls hl => ?_)
              refine lv_goto (tgt := 5) hx hb dX1_known_71 (by decide) ?_
              exact ih5  ((k + 1)) _ _ _ (by first | omega | assumption | rfl) (by omega) hM3 (lv_cast (lv_sub hl [3, 4, 5, 1, 0] rfl) (by rw [kB_y (hce.mpr b37) (by omega) (by first | exact Or.inl (q_none.mp b50) | exact Or.inr (by omega)), if_neg (by omega)]; rfl))
            · have hkr := kBest_r (ρ 38) (ρ 40) (6 * l1 + i) tk k
              have hkb : ¬ kBest (ρ 38) (ρ 40) (6 * l1 + i) tk k < 0 := fun q => (by first | exact b50 (q_none.mpr q) | exact b75 (q_none.mpr q))
              have hFb := hDf (kBest (ρ 38) (ρ 40) (6 * l1 + i) tk k).toNat (by omega)
              unfold lFi at hFb
              rw [Int.toNat_of_nonneg (by omega : 0 ≤ kBest (ρ 38) (ρ 40) (6 * l1 + i) tk k)] at hFb
              have hr41 : R32 (ρ 40 (kBest (ρ 38) (ρ 40) (6 * l1 + i) tk k)) := (by rw [← hFb.2.2.2.2]; exact hM1.r _ _)
              have hl : lv_has ls 6 [(5, .ref (G.2.2 (2000 + k))), (0, .ref (G.2.2 60)), (1, .ref (G.2.2 (cT l1 i))), (2, .int (jI tk)), (3, .ref (G.2.2 (2000 + (kBest (ρ 38) (ρ 40) (6 * l1 + i) tk k).toNat))), (4, .int (jI ((k : Int))))] := lv_cast hl (by rw [if_neg hkb]; rfl)
              refine lv_aload hx hb dX1_known_53 (lv_at hl 0 rfl) ?_
              refine g_geti CF hK hM3 (2000 + k) hF.1 2 2 rfl rfl (by decide) (gLk.n hK q970) (fun _ h => h) rfl dX1_known_55 ?_
              refine x_top (b := ρ 40 (k : Int)) hF.2.2.2.2 ?_
              refine lv_aload_n hx hb dX1_known_58 rfl (lv_at hl 4 rfl) ?_
              refine g_geti CF hK hM3 (2000 + (kBest (ρ 38) (ρ 40) (6 * l1 + i) tk k).toNat) hFb.1 2 2 rfl rfl (by decide) (gLk.n hK q970) (fun _ h => h) rfl dX1_known_59 ?_
              refine x_top (b := ρ 40 (kBest (ρ 38) (ρ 40) (6 * l1 + i) tk k)) hFb.2.2.2.2 ?_
              refine x_icmp_lt (tgt := 68) hx hb dX1_known_62 (by decide) (by omega) (by omega) (fun b62 => ?_) (fun b62 => ?_)
              · refine x_iinc (lv' := [(4, .int (jI (((k : Int)) + 1))), (5, .ref (G.2.2 (2000 + k))), (0, .ref (G.2.2 60)), (1, .ref (G.2.2 (cT l1 i))), (2, .int (jI tk)), (3, .ref (G.2.2 (2000 + (kBest (ρ 38) (ρ 40) (6 * l1 + i) tk k).toNat)))]) hx hb dX1_known_68 hl (k := 5) rfl (by decide) (by first | rfl | simp [va_rf_cat, cat_i, cat_r, cat_n]) (fun ls hl => ?_)
                refine lv_goto (tgt := 5) hx hb dX1_known_71 (by decide) ?_
                exact ih5  ((k + 1)) _ _ _ (by first | omega | assumption | rfl) (by omega) hM3 (lv_cast (lv_sub hl [2, 3, 4, 5, 0] rfl) (by rw [kB_n (fun q => by first | exact b37 (hce.mp q.1) | (have q2 := q.2; omega)), if_neg hkb]; rfl))
              · refine lv_aload hx hb dX1_known_65 (lv_at hl 0 rfl) ?_
                refine lv_astore_n (lv' := [(3, .ref (G.2.2 (2000 + k))), (5, .ref (G.2.2 (2000 + k))), (0, .ref (G.2.2 60)), (1, .ref (G.2.2 (cT l1 i))), (2, .int (jI tk)), (4, .int (jI ((k : Int))))]) hx hb dX1_known_67 rfl hl (by decide) (by first | rfl | simp [va_rf_cat, cat_i, cat_r, cat_n]) (fun ls hl => ?_)
                refine x_iinc (lv' := [(4, .int (jI (((k : Int)) + 1))), (3, .ref (G.2.2 (2000 + k))), (5, .ref (G.2.2 (2000 + k))), (0, .ref (G.2.2 60)), (1, .ref (G.2.2 (cT l1 i))), (2, .int (jI tk))]) hx hb dX1_known_68 hl (k := 5) rfl (by decide) (by first | rfl | simp [va_rf_cat, cat_i, cat_r, cat_n]) (fun ls hl => ?_)
                refine lv_goto (tgt := 5) hx hb dX1_known_71 (by decide) ?_
                exact ih5  ((k + 1)) _ _ _ (by first | omega | assumption | rfl) (by omega) hM3 (lv_cast (lv_sub hl [3, 4, 5, 1, 0] rfl) (by rw [kB_y (hce.mpr b37) (by omega) (by first | exact Or.inl (q_none.mp b50) | exact Or.inr (by omega)), if_neg (by omega)]; rfl))
  exact c5 _ 0 _ _ _ (by first | omega | assumption | rfl) (Nat.lt_succ_self _) hM0 (lv_sub hl [2, 3, 4, 1, 0] rfl)
