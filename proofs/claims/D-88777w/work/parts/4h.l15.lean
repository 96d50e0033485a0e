/-! FINDINGS, HYPOTHESES: made and added -/
set_option maxHeartbeats 400000 in
theorem l_finit (l : Launch) (E : y_E) (G : y_G) (σ : y_S) (sz : Nat) (u : Nat) (cv : Option Nat) (n : Int) (tk : Int) (hU : G.1 u = some (.inl 14)) (hu0 : u ≠ 0) (hnr : R32 n) (htr : R32 tk) : gCt l yX17_init cX17_init 4 none ({ frames := 1, cells := 0, slots := 0, locals := 24 }) E [.ref (G.2.2 u), va_rf cv, .int (jI n), .int (jI tk)] G σ sz (gR none (G.1, up2 G.2.1 u 0 cv, G.2.2) (up2 (up2 σ u 1 n) u 2 tk)) 0 0 := by
  refine g_met (by decide) (by cases cv <;> exact Nat.le_of_ble_eq_true rfl) ?_
  intro p e s m below meth c ls CF hr hlocks hnm hK hM0 hA hl
  have hx := CF.1
  have hb := CF.2.1
  have hts := CF.2.2.2.2
  have hl : lv_has ls 4 [(0, .ref (G.2.2 u)), (1, va_rf cv), (2, .int (jI n)), (3, .int (jI tk))] := (by cases cv <;> exact hl)
  refine lv_aload_n hx hb dX17_init_0 rfl (lv_at hl 0 rfl) ?_
  refine W.objInit hx hb CF.2.2.2.1 (hts _ q964) (hts _ q108) (hts _ q109) rfl (hl.1.trans CF.2.2.1.symm) rfl dX17_init_1 (Nat.le_of_ble_eq_true rfl) (Nat.le_of_ble_eq_true rfl) ?_
  refine lv_aload_n hx hb dX17_init_4 rfl (lv_at hl 0 rfl) ?_
  refine x_qload_n hx hb dX17_init_5 rfl (lv_at hl 1 rfl) ?_
  refine g_putq CF hK hM0 u hu0 hU 0 0 rfl rfl (by decide) (Or.inl (hts _ q965)) (fun _ h => h) (Or.inr ⟨rfl, hnm, rfl, (hts _ q965)⟩) rfl (r := cv) (by cases cv <;> rfl) (by cases cv <;> rfl) dX17_init_6 (fun H locs hM1 => ?_)
  refine lv_aload_n hx hb dX17_init_9 rfl (lv_at hl 0 rfl) ?_
  refine lv_iload_n hx hb dX17_init_10 rfl (lv_at hl 2 rfl) ?_
  refine g_puti CF hK hM1 u hu0 hU 1 1 rfl rfl (by decide) (Or.inl (hts _ q967)) (fun _ h => h) (Or.inr ⟨rfl, hnm, rfl, (hts _ q967)⟩) rfl (v := n) rfl rfl (by omega) dX17_init_11 (fun H locs hM2 => ?_)
  refine lv_aload_n hx hb dX17_init_14 rfl (lv_at hl 0 rfl) ?_
  refine lv_iload_n hx hb dX17_init_15 rfl (lv_at hl 3 rfl) ?_
  refine g_puti CF hK hM2 u hu0 hU 2 2 rfl rfl (by decide) (Or.inl (hts _ q969)) (fun _ h => h) (Or.inr ⟨rfl, hnm, rfl, (hts _ q969)⟩) rfl (v := tk) rfl rfl (by omega) dX17_init_16 (fun H locs hM3 => ?_)
  exact g_vret CF hr hlocks hM3 ⟨rfl, rfl, rfl⟩ (by decide) (by decide) dX17_init_19
set_option maxHeartbeats 400000 in
theorem l_hinit (l : Launch) (E : y_E) (G : y_G) (σ : y_S) (sz : Nat) (u : Nat) (cv : Option Nat) (n : Int) (hU : G.1 u = some (.inl 15)) (hu0 : u ≠ 0) (hnr : R32 n) : gCt l yX18_init cX18_init 3 none ({ frames := 1, cells := 0, slots := 0, locals := 24 }) E [.ref (G.2.2 u), va_rf cv, .int (jI n)] G σ sz (gR none (G.1, up2 G.2.1 u 0 cv, G.2.2) (up2 (up2 σ u 2 1) u 1 n)) 0 0 := by
  refine g_met (by decide) (by cases cv <;> exact Nat.le_of_ble_eq_true rfl) ?_
  intro p e s m below meth c ls CF hr hlocks hnm hK hM0 hA hl
  have hx := CF.1
  have hb := CF.2.1
  have hts := CF.2.2.2.2
  have hl : lv_has ls 3 [(0, .ref (G.2.2 u)), (1, va_rf cv), (2, .int (jI n))] := (by cases cv <;> exact hl)
  refine lv_aload_n hx hb dX18_init_0 rfl (lv_at hl 0 rfl) ?_
  refine W.objInit hx hb CF.2.2.2.1 (hts _ q991) (hts _ q108) (hts _ q109) rfl (hl.1.trans CF.2.2.1.symm) rfl dX18_init_1 (Nat.le_of_ble_eq_true rfl) (Nat.le_of_ble_eq_true rfl) ?_
  refine lv_aload_n hx hb dX18_init_4 rfl (lv_at hl 0 rfl) ?_
  refine lv_iconst (v := jI 1) hx hb dX18_init_5 rfl ?_
  refine g_puti CF hK hM0 u hu0 hU 2 2 rfl rfl (by decide) (Or.inl (hts _ q996)) (fun _ h => h) (Or.inl rfl) rfl (v := 1) (g_nz (by omega)) (g_fz (by omega)) (by omega) dX18_init_6 (fun H locs hM1 => ?_)
  refine lv_aload_n hx hb dX18_init_9 rfl (lv_at hl 0 rfl) ?_
  refine x_qload_n hx hb dX18_init_10 rfl (lv_at hl 1 rfl) ?_
  refine g_putq CF hK hM1 u hu0 hU 0 0 rfl rfl (by decide) (Or.inl (hts _ q992)) (fun _ h => h) (Or.inr ⟨rfl, hnm, rfl, (hts _ q992)⟩) rfl (r := cv) (by cases cv <;> rfl) (by cases cv <;> rfl) dX18_init_11 (fun H locs hM2 => ?_)
  refine lv_aload_n hx hb dX18_init_14 rfl (lv_at hl 0 rfl) ?_
  refine lv_iload_n hx hb dX18_init_15 rfl (lv_at hl 2 rfl) ?_
  refine g_puti CF hK hM2 u hu0 hU 1 1 rfl rfl (by decide) (Or.inl (hts _ q994)) (fun _ h => h) (Or.inr ⟨rfl, hnm, rfl, (hts _ q994)⟩) rfl (v := n) rfl rfl (by omega) dX18_init_16 (fun H locs hM3 => ?_)
  exact g_vret CF hr hlocks hM3 ⟨rfl, rfl, rfl⟩ (by decide) (by decide) dX18_init_19
set_option maxHeartbeats 400000 in
theorem l_found (l : Launch) (E : y_E) (Go : y_G) (σ : y_S) (sz : Nat) (ρ : y_S) (l1 : Int) (i : Int) (n : Int) (tk : Int) (hL : lgR E ρ Go σ) (hl1 : R32 l1) (hi : R32 i) (hnr : R32 n) (htr : R32 tk) : gCt l yX1_found cX1_found 6 (some .int) ({ frames := 7, cells := 2, slots := 603, locals := 171 }) E [.ref (Go.2.2 60), .int (jI l1), .int (jI i), .int (jI n), .int (jI tk)] Go σ sz (lPo E (oFound ρ l1 i n tk)) 2 603 := by
  refine g_met (by decide) (Nat.le_of_ble_eq_true rfl) ?_
  intro p e s m below meth c ls CF hr hlocks hnm hK hM0 hA hl
  have hx := CF.1
  have hb := CF.2.1
  have hts := CF.2.2.2.2
  have hl : lv_has ls 6 [(0, .ref (Go.2.2 60)), (1, .int (jI l1)), (2, .int (jI i)), (3, .int (jI n)), (4, .int (jI tk))] := hl
  obtain ⟨G, hGe⟩ : ∃ g : y_G, g = (drK Go.1, Go.2) := ⟨_, rfl⟩
  have hM0 := hM0.dr
  have hL := hL.dr
  rw [← hGe] at hM0 hL
  have hF : ∀ t : Nat, 90 ≤ t → t < 100 → G.1 t = none := fun t a b => (by rw [hGe]; exact drK_0 a b)
  have hl := lv_cast hl (b := [(0, .ref (G.2.2 60)), (1, .int (jI l1)), (2, .int (jI i)), (3, .int (jI n)), (4, .int (jI tk))]) (by rw [hGe])
  obtain ⟨hO, hS, ⟨hm1, hm2, hm3, hm4, hm5⟩, hX, hD, hZ⟩ := id hL
  have hn := hO.n
  have hfe := hO.fe
  have hrn := hO.rn
  refine lv_aload_n hx hb dX1_found_0 rfl (lv_at hl 0 rfl) ?_
  refine lv_iload_n hx hb dX1_found_1 rfl (lv_at hl 1 rfl) ?_
  refine lv_iload_n hx hb dX1_found_2 rfl (lv_at hl 2 rfl) ?_
  refine g_callc hM0 hA (g_runV (As := [.int (jI l1), .int (jI i)]) (rest := []) CF hK hM0 (hL.2.1.1 60 _ rfl) rfl (l_cellAt l E _ _ _ ρ l1 i hL (by first | omega | assumption | (refine ⟨?_, ?_⟩ <;> omega)) (by first | omega | assumption | (refine ⟨?_, ?_⟩ <;> omega))) (cwV 2 hts (lw_V q393 q395 qs0 q60 q396) rfl rfl rfl (by decide +kernel) ⟨Nat.le_of_ble_eq_true rfl, Nat.le_of_ble_eq_true rfl⟩) rfl hl.1 rfl (Nat.le_of_ble_eq_true rfl) dX1_found_3 ⟨Nat.le_of_ble_eq_true rfl, Nat.le_of_ble_eq_true rfl⟩) (fun hCe H locs hM1 => ?_) (fun hCe H locs hM1 => ?_)
  · refine lv_astore (lv' := [(5, .ref (G.2.2 (cT l1 i))), (0, .ref (G.2.2 60)), (1, .int (jI l1)), (2, .int (jI i)), (3, .int (jI n)), (4, .int (jI tk))]) hx hb dX1_found_6 hl (by decide) rfl (fun ls hl => ?_)
    refine lv_aload hx hb dX1_found_8 (lv_at hl 0 rfl) ?_
    refine lv_ifnonnull (tgt := 15) hx hb dX1_found_10 (by decide) ?_
    refine lv_iload_n hx hb dX1_found_15 rfl (lv_at hl 4 rfl) ?_
    refine lv_bipush (v := jI (-8)) hx hb dX1_found_16 (by decide) ?_
    refine lv_bipush (v := jI 8) hx hb dX1_found_18 (by decide) ?_
    refine g_calli (r := (if ((-8)) ≤ n ∧ n ≤ 8 then 1 else 0)) hM1 hA (g_runS (As := [.int (jI n), .int (jI ((-8))), .int (jI 8)]) (rest := []) CF hK hM1 (l_in l E _ _ _  n ((-8)) 8 (by first | omega | assumption | (refine ⟨?_, ?_⟩ <;> omega)) (by first | omega | assumption | (refine ⟨?_, ?_⟩ <;> omega)) (by first | omega | assumption | (refine ⟨?_, ?_⟩ <;> omega))) (va_cwS 3 hts (lw_S q93 q94 q60 q95) rfl rfl rfl (by decide +kernel) ⟨Nat.le_of_ble_eq_true rfl, Nat.le_of_ble_eq_true rfl⟩) rfl hl.1 rfl (Nat.le_of_ble_eq_true rfl) dX1_found_20 ⟨Nat.le_of_ble_eq_true rfl, Nat.le_of_ble_eq_true rfl⟩) (fun H locs hM2 => ?_)
    refine x_bif_eq (tgt := 42) hx hb dX1_found_23 (by decide) (fun b23 => ?_) (fun b23 => ?_)
    · refine lv_bipush (v := jI (-2)) hx hb dX1_found_42 (by decide) ?_
      exact g_iret CF hr hlocks hM2 (lPo_i (by unfold oFound; rw [if_neg (fun q => q hCe), if_pos (by omega)]) (by unfold oFound; rw [if_neg (fun q => q hCe), if_pos (by omega)]; exact hL)) (by decide) (by decide) dX1_found_44
    · refine lv_iload hx hb dX1_found_26 (lv_at hl 5 rfl) ?_
      refine lv_iconst (v := jI 0) hx hb dX1_found_28 rfl ?_
      refine lv_aload_n hx hb dX1_found_29 rfl (lv_at hl 1 rfl) ?_
      refine g_getr CF hK hM2 60 (hL.2.1.1 60 _ rfl) 27 27 rfl rfl (by decide) (Or.inl (hts _ q316)) (fun _ h => h) rfl (G.2.2 27) (hL.2.1.2.1 27 27 rfl) dX1_found_30 ?_
      refine g_calli (r := σ 27 2) hM2 hA (g_runV (As := []) (rest := [.int (jI 0), .int (jI tk)]) CF hK hM2 (hL.2.1.1 27 _ rfl) rfl (j_size l E _ _ _ 27  (hL.2.1.1 27 _ rfl)) (cwV 0 hts (lw_V q479 q480 q481 q70 q482) rfl rfl rfl (by decide +kernel) ⟨Nat.le_of_ble_eq_true rfl, Nat.le_of_ble_eq_true rfl⟩) rfl hl.1 rfl (Nat.le_of_ble_eq_true rfl) dX1_found_33 ⟨Nat.le_of_ble_eq_true rfl, Nat.le_of_ble_eq_true rfl⟩) (fun H locs hM3 => ?_)
      refine x_top (b := ρ 60 41) hD.1.1.1 ?_
      refine g_calli (r := (if 0 ≤ tk ∧ tk ≤ (ρ 60 41) then 1 else 0)) hM3 hA (g_runS (As := [.int (jI tk), .int (jI 0), .int (jI (ρ 60 41))]) (rest := []) CF hK hM3 (l_in l E _ _ _  tk 0 (ρ 60 41) (by first | omega | assumption | (refine ⟨?_, ?_⟩ <;> omega)) (by first | omega | assumption | (refine ⟨?_, ?_⟩ <;> omega)) (by first | omega | assumption | (refine ⟨?_, ?_⟩ <;> omega))) (va_cwS 3 hts (lw_S q93 q94 q60 q95) rfl rfl rfl (by decide +kernel) ⟨Nat.le_of_ble_eq_true rfl, Nat.le_of_ble_eq_true rfl⟩) rfl hl.1 rfl (Nat.le_of_ble_eq_true rfl) dX1_found_36 ⟨Nat.le_of_ble_eq_true rfl, Nat.le_of_ble_eq_true rfl⟩) (fun H locs hM4 => ?_)
      refine x_bif_ne (tgt := 45) hx hb dX1_found_39 (by decide) (fun b39 => ?_) (fun b39 => ?_)
      · refine lv_aload_n hx hb dX1_found_45 rfl (lv_at hl 1 rfl) ?_
        refine g_geti CF hK hM4 60 (hL.2.1.1 60 _ rfl) 29 29 rfl rfl (by decide) (Or.inl (hts _ q318)) (fun _ h => h) rfl dX1_found_46 ?_
        refine x_top (b := ρ 60 42) hm3 ?_
        refine lv_bipush (v := jI 60) hx hb dX1_found_49 (by decide) ?_
        refine x_icmp_ne (tgt := 57) hx hb dX1_found_51 (by decide) (by omega) (by omega) (fun b51 => ?_) (fun b51 => ?_)
        · refine lv_aload_n hx hb dX1_found_57 rfl (lv_at hl 1 rfl) ?_
          refine lv_dup hx hb dX1_found_58 rfl ?_
          refine g_geti CF hK hM4 60 (hL.2.1.1 60 _ rfl) 29 29 rfl rfl (by decide) (Or.inl (hts _ q318)) (fun _ h => h) rfl dX1_found_59 ?_
          refine x_top (b := ρ 60 42) hm3 ?_
          refine lv_iconst (v := jI 1) hx hb dX1_found_62 rfl ?_
          refine x_iadd hx hb dX1_found_63 ?_
          refine g_puti CF hK hM4 60 (by decide) (hL.2.1.1 60 _ rfl) 29 29 rfl rfl (by decide) (Or.inl (hts _ q318)) (fun _ h => h) (Or.inl rfl) rfl (v := (ρ 60 42) + 1) rfl rfl (by omega) dX1_found_64 (fun H locs hM5 => ?_)
          have hL1 : lgR E (up2 ρ 60 42 (ρ 60 42 + 1)) G (up2 σ 60 29 (ρ 60 42 + 1)) := lgR_ent hL (ok_ent1 hO b51)
          refine lv_aload_n hx hb dX1_found_67 rfl (lv_at hl 1 rfl) ?_
          refine g_getr CF hK hM5 60 (hL1.2.1.1 60 _ rfl) 28 28 rfl rfl (by decide) (Or.inl (hts _ q317)) (fun _ h => h) rfl (G.2.2 28) (hL1.2.1.2.1 28 28 rfl) dX1_found_68 ?_
          refine g_new CF hK hM5 hA 90 (hF 90 (by decide) (by decide)) (ci := 14) rfl rfl q497 q960 q87 (Nat.le_of_ble_eq_true rfl) (Nat.le_of_ble_eq_true rfl) dX1_found_71 (fun H a90 hM6 => ?_)
          have hL7 : lgR E (up2 ρ 60 42 (ρ 60 42 + 1)) (upT G.1 90 (some (.inl 14)), upT G.2.1 90 (fun _ => none), upT G.2.2 90 a90) (upT (up2 σ 60 29 ((ρ 60 42) + 1)) 90 ((fun _ => 0))) := hL1.al (by decide)
          refine lv_dup hx hb dX1_found_74 rfl ?_
          refine lv_aload hx hb dX1_found_75 (lv_at hl 0 rfl) ?_
          refine lv_iload_n hx hb dX1_found_77 rfl (lv_at hl 4 rfl) ?_
          refine lv_iload hx hb dX1_found_78 (lv_at hl 5 rfl) ?_
          refine g_callv hM6 hA (g_runI (As := [.ref (G.2.2 (cT l1 i)), .int (jI n), .int (jI tk)]) (rest := [.ref a90, .ref (G.2.2 28)]) CF hK hM6 (l_finit l E _ _ _ 90 (some (G.2.2 (cT l1 i))) n tk rfl (by decide) (by first | omega | assumption | (refine ⟨?_, ?_⟩ <;> omega)) (by first | omega | assumption | (refine ⟨?_, ?_⟩ <;> omega))) (cwI 3 hts (lw_meth q963) rfl rfl rfl (hts _ q87) (hts _ q961) (hts _ q962) rfl (by decide +kernel) ⟨Nat.le_of_ble_eq_true rfl, Nat.le_of_ble_eq_true rfl⟩) rfl hl.1 rfl (Nat.le_of_ble_eq_true rfl) dX1_found_80 ⟨Nat.le_of_ble_eq_true rfl, Nat.le_of_ble_eq_true rfl⟩) (fun H locs hM8 => ?_)
          have hL9 : lgR E (up2 ρ 60 42 (ρ 60 42 + 1)) (upT G.1 90 (some (.inl 14)), up2 (upT G.2.1 90 (fun _ => none)) 90 0 (some (G.2.2 (cT l1 i))), upT G.2.2 90 a90) (up2 (up2 (upT (up2 σ 60 29 ((ρ 60 42) + 1)) 90 ((fun _ => 0))) 90 1 n) 90 2 tk) := ((hL7.rf9 (by decide)).i9 (by decide)).i9 (by decide)
          refine g_callPI hM8 hA (g_runV (As := [.ref a90]) (rest := []) CF hK hM8 (hL9.2.1.1 28 _ rfl) rfl (j_add l E _ _ _ 28 64 99 (ρ 60 43) (fun i => upT G.2.2 90 a90 (2000 + i.toNat)) 90 14 a90  (hL9.2.1.1 28 _ rfl) (hF 99 (by decide) (by decide)) (by decide) (by decide) (fun i h0 h1 y hy => ⟨2000 + i.toNat, 14, (hL9.2.2.2.2.1.2.1.2 i.toNat (by show (i.toNat : Int) < ρ 60 43; omega)).1, Option.some.inj hy⟩) ⟨hL9.2.2.2.2.2, hL9.2.1.1 0 _ rfl⟩ (hL9.2.2.2.2.1.2.1.1) (by omega) ⟨rfl, rfl⟩) (cwV 1 hts (lw_V q932 q785 q786 q70 q787) rfl rfl rfl (by decide +kernel) ⟨Nat.le_of_ble_eq_true rfl, Nat.le_of_ble_eq_true rfl⟩) rfl hl.1 rfl (Nat.le_of_ble_eq_true rfl) dX1_found_83 ⟨Nat.le_of_ble_eq_true rfl, Nat.le_of_ble_eq_true rfl⟩) (fun rr G11 τ11 H locs hp hM10 => ?_)
          obtain ⟨rfl, hp⟩ := hp
          have hg6 : G11.2.2 60 = G.2.2 60 := (hp.2.1 60 (by decide) (by decide)).1
          have hk6 : G11.1 60 = some (.inl 0) := (hp.1 60 (by decide)).trans (hL.2.1.1 60 _ rfl)
          have h29 : τ11 60 29 = ρ 60 42 + 1 := (by rw [(hp.2.1 60 (by decide) (by decide)).2.2 (by decide)]; rfl)
          have hl := lv_cast (lv_sub hl [1] rfl) (b := [(0, .ref (G11.2.2 60))]) (by rw [hg6]; rfl)
          refine lv_pop hx hb dX1_found_86 rfl ?_
          refine lv_aload_n hx hb dX1_found_87 rfl (lv_at hl 0 rfl) ?_
          refine g_geti CF hK hM10 60 hk6 29 29 rfl rfl (by decide) (Or.inl (hts _ q318)) (fun _ h => h) rfl dX1_found_88 ?_
          refine x_top (b := ρ 60 42 + 1) h29 ?_
          have hM12 := hM10.rt (π := sw 90 (2000 + (ρ 60 43).toNat)) sw_i (sw_n (by decide) (by omega))
          exact g_iret CF hr hlocks hM12 (lPo_i (by unfold oFound; rw [if_neg (fun q => q hCe), if_neg (by omega), if_neg b51]) (by have hk := ok_found hO l1 i n tk; unfold oFound at hk ⊢; rw [if_neg (fun q => q hCe), if_neg (by omega), if_neg b51] at hk ⊢; exact lgR_found2 hL hCe hk hp)) (by decide) (by decide) dX1_found_91
        · refine lv_bipush (v := jI (-4)) hx hb dX1_found_54 (by decide) ?_
          exact g_iret CF hr hlocks hM4 (lPo_i (by unfold oFound; rw [if_neg (fun q => q hCe), if_neg (by omega), if_pos b51]) (by unfold oFound; rw [if_neg (fun q => q hCe), if_neg (by omega), if_pos b51]; exact hL)) (by decide) (by decide) dX1_found_56
      · refine lv_bipush (v := jI (-2)) hx hb dX1_found_42 (by decide) ?_
        exact g_iret CF hr hlocks hM4 (lPo_i (by unfold oFound; rw [if_neg (fun q => q hCe), if_pos (by omega)]) (by unfold oFound; rw [if_neg (fun q => q hCe), if_pos (by omega)]; exact hL)) (by decide) (by decide) dX1_found_44
  · refine lv_astoreN (lv' := [(5, .null), (0, .ref (G.2.2 60)), (1, .int (jI l1)), (2, .int (jI i)), (3, .int (jI n)), (4, .int (jI tk))]) hx hb dX1_found_6 hl (by decide) rfl (fun ls hl => ?_)
    refine lv_aloadN hx hb dX1_found_8 (lv_at hl 0 rfl) ?_
    refine lv_ifnonnullN hx hb dX1_found_10 ?_
    refine lv_iconst (v := jI (-1)) hx hb dX1_found_13 rfl ?_
    exact g_iret CF hr hlocks hM1 (lPo_i (by unfold oFound; rw [if_pos hCe]) (by unfold oFound; rw [if_pos hCe]; exact hL)) (by decide) (by decide) dX1_found_14
