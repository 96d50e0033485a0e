set_option maxHeartbeats 400000 in
theorem l_comes (l : Launch) (E : y_E) (G : y_G) (σ : y_S) (sz : Nat) (ρ : y_S) (q : Nat) (j : Int) (k : Int) (hL : lgR E ρ G σ) (hq : ((q : Nat) : Int) < ρ 60 48) (hj : R32 j) (hk0 : 0 ≤ k) (hk1 : k < ρ 60 0) : gCt l yX1_comes cX1_comes 4 (some .int) ({ frames := 8, cells := 0, slots := 0, locals := 180 }) E [.ref (G.2.2 60), .ref (G.2.2 (3000 + q)), .int (jI j), .int (jI k)] G σ sz (gPI (fun r G' τ' => ∃ rf : Nat → Int → Option Nat, (G.1, rf, G.2.2) = G' ∧ r = mCom ρ (q : Int) j 10 k ∧ lgR E ρ G' τ' ∧ (∀ i : Int, 0 ≤ i → i < ρ 60 0 → τ' 9 i = mCom ρ (q : Int) j 10 i) ∧ ∀ t : Nat, t ≠ 7 → t ≠ 9 → τ' t = σ t)) 0 0 := by
  refine g_met (by decide) (Nat.le_of_ble_eq_true rfl) ?_
  intro p e s m below meth c ls CF hr hlocks hnm hK hM0 hA hl
  have hx := CF.1
  have hb := CF.2.1
  have hts := CF.2.2.2.2
  have hl : lv_has ls 4 [(0, .ref (G.2.2 60)), (1, .ref (G.2.2 (3000 + q))), (2, .int (jI j)), (3, .int (jI k))] := hl
  obtain ⟨hO, hS, ⟨hm1, hm2, hm3, hm4, hm5⟩, hX, hD, hZ⟩ := id hL
  have hn := hO.n
  have hHy := hD.2.2.1.2.1 q hq
  refine lv_aload_n hx hb dX1_comes_0 rfl (lv_at hl 0 rfl) ?_
  refine g_getr CF hK hM0 60 (hL.2.1.1 60 _ rfl) 7 7 rfl rfl (by decide) (Or.inl (hts _ q293)) (fun _ h => h) rfl (G.2.2 7) (hL.2.1.2.1 7 7 rfl) dX1_comes_1 ?_
  refine lv_aload_n hx hb dX1_comes_4 rfl (lv_at hl 1 rfl) ?_
  refine g_getq CF hK hM0 (3000 + q) hHy.1 0 0 rfl rfl (by decide) (gLk.n hK q993) (fun _ h => h) rfl (r := G.2.1 (3000 + q) 0) rfl dX1_comes_5 ?_
  refine g_putq CF hK hM0 7 (by decide) (hL.2.1.1 7 _ rfl) 3 3 rfl rfl (by decide) (gLk.n hK q155) (fun _ h => h) (Or.inl rfl) rfl (r := G.2.1 (3000 + q) 0) (by cases G.2.1 (3000 + q) 0 <;> rfl) (by cases G.2.1 (3000 + q) 0 <;> rfl) dX1_comes_8 (fun H locs hM1 => ?_)
  refine lv_aload_n hx hb dX1_comes_11 rfl (lv_at hl 0 rfl) ?_
  refine g_getr CF hK hM1 60 (hL.2.1.1 60 _ rfl) 7 7 rfl rfl (by decide) (Or.inl (hts _ q293)) (fun _ h => h) rfl (G.2.2 7) (hL.2.1.2.1 7 7 rfl) dX1_comes_12 ?_
  refine lv_aload_n hx hb dX1_comes_15 rfl (lv_at hl 1 rfl) ?_
  refine g_geti CF hK hM1 (3000 + q) hHy.1 1 1 rfl rfl (by decide) (gLk.n hK q995) (fun _ h => h) rfl dX1_comes_16 ?_
  refine g_puti CF hK hM1 7 (by decide) (hL.2.1.1 7 _ rfl) 4 4 rfl rfl (by decide) (gLk.n hK q157) (fun _ h => h) (Or.inl rfl) rfl (v := σ (3000 + q) 1) rfl rfl (by have f0 := hM1.r (3000 + q) 1; omega) dX1_comes_19 (fun H locs hM2 => ?_)
  have hL2 : lgR E ρ (G.1, up2 G.2.1 7 3 (G.2.1 (3000 + q) 0), G.2.2) (up2 σ 7 4 (σ (3000 + q) 1)) := (hL.u2 (by unfold lgT; omega) (by decide)).ref (Or.inl ⟨rfl, rfl⟩)
  refine lv_aload_n hx hb dX1_comes_22 rfl (lv_at hl 0 rfl) ?_
  refine lv_aload_n hx hb dX1_comes_23 rfl (lv_at hl 0 rfl) ?_
  refine g_getr CF hK hM2 60 (hL2.2.1.1 60 _ rfl) 7 7 rfl rfl (by decide) (Or.inl (hts _ q293)) (fun _ h => h) rfl (G.2.2 7) (hL2.2.1.2.1 7 7 rfl) dX1_comes_24 ?_
  refine lv_iload_n hx hb dX1_comes_27 rfl (lv_at hl 2 rfl) ?_
  refine g_callv hM2 hA (g_runV (As := [.ref (G.2.2 7), .int (jI j)]) (rest := []) CF hK hM2 (hL2.2.1.1 60 _ rfl) rfl (l_send7 l E _ _ _ ρ (mEnt (mCm1 ρ (q : Int)) j) j hL2 (cm_same ρ _ _) (cm_by hO (by omega) hq) (lk7_cm hL hM0 hq rfl rfl rfl) (by first | omega | assumption | (refine ⟨?_, ?_⟩ <;> omega))) (cwV 2 hts (lw_V q514 q516 qs3 q60 q517) rfl rfl rfl (by decide +kernel) ⟨Nat.le_of_ble_eq_true rfl, Nat.le_of_ble_eq_true rfl⟩) rfl hl.1 rfl (Nat.le_of_ble_eq_true rfl) dX1_comes_28 ⟨Nat.le_of_ble_eq_true rfl, Nat.le_of_ble_eq_true rfl⟩) (fun H locs hM3 => ?_)
  refine lv_aload_n hx hb dX1_comes_31 rfl (lv_at hl 0 rfl) ?_
  refine g_getr CF hK hM3 60 (hL2.2.1.1 60 _ rfl) 9 9 rfl rfl (by decide) (Or.inl (hts _ q295)) (fun _ h => h) rfl (G.2.2 9) (hL2.2.1.2.1 9 9 rfl) dX1_comes_32 ?_
  refine lv_iload_n hx hb dX1_comes_35 rfl (lv_at hl 3 rfl) ?_
  refine g_iald CF hK hM3 9 (hL2.2.1.1 9 _ rfl) (i := k) (by omega) (by omega) (by omega) dX1_comes_36 ?_
  exact g_iret CF hr hlocks hM3 ⟨_, rfl, _, rfl, (by rw [upT_s]; exact cm_lanes hn _ _ k hk0 hk1), hL2.uT (by unfold lgT; omega) (by decide), fun i a b => (by rw [upT_s]; exact cm_lanes hn _ _ i a b), fun t a b => (by rw [upT_n _ _ b, up2_n _ _ _ a])⟩ (by decide) (by decide) dX1_comes_37
set_option maxHeartbeats 400000 in
theorem l_held (l : Launch) (E : y_E) (G : y_G) (σ : y_S) (sz : Nat) (ρ : y_S) (i : Int) (hL : lgR E ρ G σ) (hir : R32 i) : gCt l yX1_held cX1_held 4 (some .int) ({ frames := 3, cells := 0, slots := 0, locals := 64 }) E [.ref (G.2.2 60), .int (jI i)] G σ sz (gR (some (.int (jI ((oHeld ρ i).1)))) G σ) 0 0 := by
  refine g_met (by decide) (Nat.le_of_ble_eq_true rfl) ?_
  intro p e s m below meth c ls CF hr hlocks hnm hK hM0 hA hl
  have hx := CF.1
  have hb := CF.2.1
  have hts := CF.2.2.2.2
  have hl : lv_has ls 4 [(0, .ref (G.2.2 60)), (1, .int (jI i))] := hl
  obtain ⟨hO, hS, ⟨hm1, hm2, hm3, hm4, hm5⟩, hX, hD, hZ⟩ := id hL
  have hn := hO.n
  have hh := hO.h48
  have h50 := hO.2.1.2.2.2.2.2.2.2.2.2.1
  refine lv_aload_n hx hb dX1_held_0 rfl (lv_at hl 0 rfl) ?_
  refine g_getr CF hK hM0 60 (hL.2.1.1 60 _ rfl) 30 30 rfl rfl (by decide) (Or.inl (hts _ q319)) (fun _ h => h) rfl (G.2.2 30) (hL.2.1.2.1 30 30 rfl) dX1_held_1 ?_
  refine g_calli (r := σ 30 2) hM0 hA (g_runV (As := []) (rest := []) CF hK hM0 (hL.2.1.1 30 _ rfl) rfl (j_size l E _ _ _ 30  (hL.2.1.1 30 _ rfl)) (cwV 0 hts (lw_V q479 q480 q481 q70 q482) rfl rfl rfl (by decide +kernel) ⟨Nat.le_of_ble_eq_true rfl, Nat.le_of_ble_eq_true rfl⟩) rfl hl.1 rfl (Nat.le_of_ble_eq_true rfl) dX1_held_4 ⟨Nat.le_of_ble_eq_true rfl, Nat.le_of_ble_eq_true rfl⟩) (fun H locs hM1 => ?_)
  refine x_top (b := ρ 60 48) hD.2.2.1.1.1 ?_
  refine x_if_ne (tgt := 13) hx hb dX1_held_7 (by decide) (by omega) (fun b7 => ?_) (fun b7 => ?_)
  · refine lv_iload_n hx hb dX1_held_13 rfl (lv_at hl 1 rfl) ?_
    refine lv_iconst (v := jI (-1)) hx hb dX1_held_14 rfl ?_
    refine x_icmp_ge (tgt := 20) hx hb dX1_held_15 (by decide) (by omega) (by omega) (fun b15 => ?_) (fun b15 => ?_)
    · refine lv_iconst (v := jI 0) hx hb dX1_held_20 rfl ?_
      refine lv_istore_n (lv' := [(2, .int (jI 0)), (0, .ref (G.2.2 60)), (1, .int (jI i))]) hx hb dX1_held_21 rfl hl (by decide) rfl (fun ls hl => ?_)
      refine lv_iconst (v := jI 0) hx hb dX1_held_22 rfl ?_
      refine lv_istore_n (lv' := [(3, .int (jI 0)), (2, .int (jI 0)), (0, .ref (G.2.2 60)), (1, .int (jI i))]) hx hb dX1_held_23 rfl hl (by decide) rfl (fun ls hl => ?_)
      have c24 : ∀ (n24 : Nat) (q : Nat) (c1 : Int) (f : Nat) (H : Heap) (locs : List Loc) (ls : Array Slot), ((q : Int) ≤ ρ 60 48) → (0 ≤ c1) → (c1 ≤ (q : Int)) → (289 ≤ f + q) → (hlF (ρ 46) i (ρ 60 48) f (q : Int) c1 = hlF (ρ 46) i (ρ 60 48) 289 0 0) → ((ρ 60 48).toNat - q < n24) → gM E (gA G sz) G σ s.heap H locs → lv_has ls 4 [(0, .ref (G.2.2 60)), (1, .int (jI i)), (2, .int (jI c1)), (3, .int (jI ((q : Int))))] → W p l e ({ frames := 3, cells := 0, slots := 0, locals := 64 } : Room) s m ([.ref (G.2.2 60), .int (jI i)] : List Value).toArray below meth c H locs 0 0 (MQ below (gQ E G sz (gR (some (.int (jI ((oHeld ρ i).1)))) G σ)) ([.ref (G.2.2 60), .int (jI i)] : List Value).toArray s 0 0 (gA G sz)) (F0 m 24 ls []) := by
        intro n24
        induction n24 with
        | zero => intro q c1 f H locs ls hq hc0 hc1 hf hg hmu; exact absurd hmu (Nat.not_lt_zero _)
        | succ n24 ih24 =>
          intro q c1 f H locs ls hq hc0 hc1 hf hg hmu24 hM2 hl
          refine lv_iload_n hx hb dX1_held_24 rfl (lv_at hl 3 rfl) ?_
          refine lv_aload_n hx hb dX1_held_25 rfl (lv_at hl 0 rfl) ?_
          refine g_getr CF hK hM2 60 (hL.2.1.1 60 _ rfl) 30 30 rfl rfl (by decide) (Or.inl (hts _ q319)) (fun _ h => h) rfl (G.2.2 30) (hL.2.1.2.1 30 30 rfl) dX1_held_26 ?_
          refine g_calli (r := σ 30 2) hM2 hA (g_runV (As := []) (rest := [.int (jI ((q : Int)))]) CF hK hM2 (hL.2.1.1 30 _ rfl) rfl (j_size l E _ _ _ 30  (hL.2.1.1 30 _ rfl)) (cwV 0 hts (lw_V q479 q480 q481 q70 q482) rfl rfl rfl (by decide +kernel) ⟨Nat.le_of_ble_eq_true rfl, Nat.le_of_ble_eq_true rfl⟩) rfl hl.1 rfl (Nat.le_of_ble_eq_true rfl) dX1_held_29 ⟨Nat.le_of_ble_eq_true rfl, Nat.le_of_ble_eq_true rfl⟩) (fun H locs hM3 => ?_)
          refine x_top (b := ρ 60 48) hD.2.2.1.1.1 ?_
          refine x_icmp_ge (tgt := 71) hx hb dX1_held_32 (by decide) (by omega) (by omega) (fun b32 => ?_) (fun b32 => ?_)
          · refine lv_iload_n hx hb dX1_held_71 rfl (lv_at hl 1 rfl) ?_
            refine lv_iconst (v := jI (-1)) hx hb dX1_held_72 rfl ?_
            refine x_icmp_ne (tgt := 80) hx hb dX1_held_73 (by decide) (by omega) (by omega) (fun b73 => ?_) (fun b73 => ?_)
            · refine lv_iconst (v := jI (-1)) hx hb dX1_held_80 rfl ?_
              exact g_iret CF hr hlocks hM3 (g_pi (by unfold oHeld; show (if _ then _ else _) = _; rw [if_neg (by omega), ← hg, hlF_e (by omega), if_neg b73])) (by decide) (by decide) dX1_held_81
            · refine lv_iload_n hx hb dX1_held_76 rfl (lv_at hl 2 rfl) ?_
              refine lv_goto (tgt := 81) hx hb dX1_held_77 (by decide) ?_
              exact g_iret CF hr hlocks hM3 (g_pi (by unfold oHeld; show (if _ then _ else _) = _; rw [if_neg (by omega), ← hg, hlF_e (by omega), if_pos b73])) (by decide) (by decide) dX1_held_81
          · have hHy := hD.2.2.1.2.1 q (by omega)
            obtain ⟨f', rfl⟩ : ∃ z : Nat, f = z + 1 := ⟨f - 1, by omega⟩
            have hz01 := hO.hz (q : Int) (by omega) (by omega)
            refine lv_aload_n hx hb dX1_held_35 rfl (lv_at hl 0 rfl) ?_
            refine g_getr CF hK hM3 60 (hL.2.1.1 60 _ rfl) 30 30 rfl rfl (by decide) (Or.inl (hts _ q319)) (fun _ h => h) rfl (G.2.2 30) (hL.2.1.2.1 30 30 rfl) dX1_held_36 ?_
            refine lv_iload_n hx hb dX1_held_39 rfl (lv_at hl 3 rfl) ?_
            refine g_callr (b := G.2.2 (3000 + q)) hM3 hA (g_runV (As := [.int (jI ((q : Int)))]) (rest := []) CF hK hM3 (hL.2.1.1 30 _ rfl) rfl (j_get l E _ _ _ 30 65 (ρ 60 48) (fun i => G.2.2 (3000 + i.toNat)) ((q : Int)) (hL.2.1.1 30 _ rfl) (hL.2.2.2.2.1.2.2.1.1) (by first | omega | assumption | (refine ⟨?_, ?_⟩ <;> omega)) (by first | omega | assumption | (refine ⟨?_, ?_⟩ <;> omega))) (cwV 1 hts (lw_V q483 q484 q485 q70 q486) rfl rfl rfl (by decide +kernel) ⟨Nat.le_of_ble_eq_true rfl, Nat.le_of_ble_eq_true rfl⟩) rfl hl.1 rfl (Nat.le_of_ble_eq_true rfl) dX1_held_40 ⟨Nat.le_of_ble_eq_true rfl, Nat.le_of_ble_eq_true rfl⟩) (fun H locs hM4 => ?_)
            refine g_cast CF hK hM4 (3000 + q) hHy.1 rfl q986 dX1_held_43 ?_
            refine g_geti CF hK hM4 (3000 + q) hHy.1 2 2 rfl rfl (by decide) (gLk.n hK q997) (fun _ h => h) rfl dX1_held_46 ?_
            refine x_top (b := ρ 46 (q : Int)) hHy.2.2.2 ?_
            refine x_if_ne (tgt := 55) hx hb dX1_held_49 (by decide) (by omega) (fun b49 => ?_) (fun b49 => ?_)
            · refine lv_iload_n hx hb dX1_held_55 rfl (lv_at hl 2 rfl) ?_
              refine lv_iload_n hx hb dX1_held_56 rfl (lv_at hl 1 rfl) ?_
              refine x_icmp_ne (tgt := 62) hx hb dX1_held_57 (by decide) (by omega) (by omega) (fun b57 => ?_) (fun b57 => ?_)
              · refine x_iinc (lv' := [(2, .int (jI (c1 + 1))), (0, .ref (G.2.2 60)), (1, .int (jI i)), (3, .int (jI ((q : Int))))]) hx hb dX1_held_62 hl (k := 2) rfl (by decide) rfl (fun ls hl => ?_)
                refine x_iinc (lv' := [(3, .int (jI (((q : Int)) + 1))), (2, .int (jI (c1 + 1))), (0, .ref (G.2.2 60)), (1, .int (jI i))]) hx hb dX1_held_65 hl (k := 3) rfl (by decide) rfl (fun ls hl => ?_)
                refine lv_goto (tgt := 24) hx hb dX1_held_68 (by decide) ?_
                exact ih24  ((q + 1)) (c1 + 1) f' _ _ _ (by first | omega | assumption | rfl) (by first | omega | assumption | rfl) (by first | omega | assumption | rfl) (by first | omega | assumption | rfl) (by rw [← hg, hlF_1 (by omega) b49 b57]; rfl) (by omega) hM4 (lv_sub hl [2, 3, 1, 0] rfl)
              · refine lv_iload_n hx hb dX1_held_60 rfl (lv_at hl 3 rfl) ?_
                exact g_iret CF hr hlocks hM4 (g_pi (by unfold oHeld; show (if _ then _ else _) = _; rw [if_neg (by omega), ← hg, hlF_x (by omega) b49 b57])) (by decide) (by decide) dX1_held_61
            · refine lv_goto (tgt := 65) hx hb dX1_held_52 (by decide) ?_
              refine x_iinc (lv' := [(3, .int (jI (((q : Int)) + 1))), (0, .ref (G.2.2 60)), (1, .int (jI i)), (2, .int (jI c1))]) hx hb dX1_held_65 hl (k := 3) rfl (by decide) rfl (fun ls hl => ?_)
              refine lv_goto (tgt := 24) hx hb dX1_held_68 (by decide) ?_
              exact ih24  ((q + 1)) c1 f' _ _ _ (by first | omega | assumption | rfl) (by first | omega | assumption | rfl) (by first | omega | assumption | rfl) (by first | omega | assumption | rfl) (by rw [← hg, hlF_0 (by omega) b49]; rfl) (by omega) hM4 (lv_sub hl [1, 2, 3, 0] rfl)
      exact c24 _ 0 0 289 _ _ _ (by first | omega | assumption | rfl) (by first | omega | assumption | rfl) (by first | omega | assumption | rfl) (by first | omega | assumption | rfl) rfl (Nat.lt_succ_self _) hM1 (lv_sub hl [2, 3, 1, 0] rfl)
    · refine lv_iconst (v := jI (-1)) hx hb dX1_held_18 rfl ?_
      exact g_iret CF hr hlocks hM1 (g_pi (by unfold oHeld; show (if _ then _ else _) = _; rw [if_neg (by omega), hlF_neg (by omega) _ _ _ (by decide)])) (by decide) (by decide) dX1_held_19
  · refine lv_bipush (v := jI (-3)) hx hb dX1_held_10 (by decide) ?_
    exact g_iret CF hr hlocks hM1 (g_pi (by unfold oHeld; show (if _ then _ else _) = _; rw [if_pos (by omega)])) (by decide) (by decide) dX1_held_12
set_option maxHeartbeats 1000000 in
theorem l_probe (l : Launch) (E : y_E) (G : y_G) (σ : y_S) (sz : Nat) (ρ : y_S) (j : Int) (i : Int) (hL : lgR E ρ G σ) (hjr : R32 j) (hir : R32 i) : gCt l yX1_probe cX1_probe 5 (some .int) ({ frames := 9, cells := 0, slots := 0, locals := 203 }) E [.ref (G.2.2 60), .int (jI j), .int (jI i)] G σ sz (lPo E (oProbe ρ j i)) 0 0 := by
  refine g_met (by decide) (Nat.le_of_ble_eq_true rfl) ?_
  intro p e s m below meth c ls CF hr hlocks hnm hK hM0 hA hl
  have hx := CF.1
  have hb := CF.2.1
  have hts := CF.2.2.2.2
  have hl : lv_has ls 5 [(0, .ref (G.2.2 60)), (1, .int (jI j)), (2, .int (jI i))] := hl
  obtain ⟨hO, hS, ⟨hm1, hm2, hm3, hm4, hm5⟩, hX, hD, hZ⟩ := id hL
  have hn := hO.n
  have hh := hO.h48
  have h50 := hO.2.1.2.2.2.2.2.2.2.2.2.1
  have hpr := hO.pr
  have hx31 := hX.2.2.2.2.2.2
  refine lv_aload_n hx hb dX1_probe_0 rfl (lv_at hl 0 rfl) ?_
  refine lv_iload_n hx hb dX1_probe_1 rfl (lv_at hl 1 rfl) ?_
  refine g_calli (r := (if 0 ≤ j ∧ j < ρ 60 0 then 1 else 0)) hM0 hA (g_runV (As := [.int (jI j)]) (rest := []) CF hK hM0 (hL.2.1.1 60 _ rfl) rfl (l_isLane l E _ _ _ ρ j hL (by first | omega | assumption | (refine ⟨?_, ?_⟩ <;> omega))) (cwV 1 hts (lw_V q397 q399 qs1 q60 q400) rfl rfl rfl (by decide +kernel) ⟨Nat.le_of_ble_eq_true rfl, Nat.le_of_ble_eq_true rfl⟩) rfl hl.1 rfl (Nat.le_of_ble_eq_true rfl) dX1_probe_2 ⟨Nat.le_of_ble_eq_true rfl, Nat.le_of_ble_eq_true rfl⟩) (fun H locs hM1 => ?_)
  refine x_bif_eq (tgt := 16) hx hb dX1_probe_5 (by decide) (fun b5 => ?_) (fun b5 => ?_)
  · refine lv_iconst (v := jI (-1)) hx hb dX1_probe_16 rfl ?_
    exact g_iret CF hr hlocks hM1 (lPo_i (by unfold oProbe; rw [if_pos (fun q => by first | exact b5 q.1 | exact b13 q.2)]) (by unfold oProbe; rw [if_pos (fun q => by first | exact b5 q.1 | exact b13 q.2)]; exact hL)) (by decide) (by decide) dX1_probe_17
  · refine lv_aload_n hx hb dX1_probe_8 rfl (lv_at hl 0 rfl) ?_
    refine lv_iload_n hx hb dX1_probe_9 rfl (lv_at hl 2 rfl) ?_
    refine g_calli (r := (if 0 ≤ i ∧ i < ρ 60 0 then 1 else 0)) hM1 hA (g_runV (As := [.int (jI i)]) (rest := []) CF hK hM1 (hL.2.1.1 60 _ rfl) rfl (l_isLane l E _ _ _ ρ i hL (by first | omega | assumption | (refine ⟨?_, ?_⟩ <;> omega))) (cwV 1 hts (lw_V q397 q399 qs1 q60 q400) rfl rfl rfl (by decide +kernel) ⟨Nat.le_of_ble_eq_true rfl, Nat.le_of_ble_eq_true rfl⟩) rfl hl.1 rfl (Nat.le_of_ble_eq_true rfl) dX1_probe_10 ⟨Nat.le_of_ble_eq_true rfl, Nat.le_of_ble_eq_true rfl⟩) (fun H locs hM2 => ?_)
    refine x_bif_ne (tgt := 18) hx hb dX1_probe_13 (by decide) (fun b13 => ?_) (fun b13 => ?_)
    · refine lv_aload_n hx hb dX1_probe_18 rfl (lv_at hl 0 rfl) ?_
      refine g_getr CF hK hM2 60 (hL.2.1.1 60 _ rfl) 30 30 rfl rfl (by decide) (Or.inl (hts _ q319)) (fun _ h => h) rfl (G.2.2 30) (hL.2.1.2.1 30 30 rfl) dX1_probe_19 ?_
      refine g_calli (r := σ 30 2) hM2 hA (g_runV (As := []) (rest := []) CF hK hM2 (hL.2.1.1 30 _ rfl) rfl (j_size l E _ _ _ 30  (hL.2.1.1 30 _ rfl)) (cwV 0 hts (lw_V q479 q480 q481 q70 q482) rfl rfl rfl (by decide +kernel) ⟨Nat.le_of_ble_eq_true rfl, Nat.le_of_ble_eq_true rfl⟩) rfl hl.1 rfl (Nat.le_of_ble_eq_true rfl) dX1_probe_22 ⟨Nat.le_of_ble_eq_true rfl, Nat.le_of_ble_eq_true rfl⟩) (fun H locs hM3 => ?_)
      refine x_top (b := ρ 60 48) hD.2.2.1.1.1 ?_
      refine x_if_ne (tgt := 31) hx hb dX1_probe_25 (by decide) (by omega) (fun b25 => ?_) (fun b25 => ?_)
      · refine lv_aload_n hx hb dX1_probe_31 rfl (lv_at hl 0 rfl) ?_
        refine g_geti CF hK hM3 60 (hL.2.1.1 60 _ rfl) 31 31 rfl rfl (by decide) (Or.inl (hts _ q320)) (fun _ h => h) rfl dX1_probe_32 ?_
        refine x_top (b := ρ 60 49) hx31 ?_
        refine lv_bipush (v := jI 20) hx hb dX1_probe_35 (by decide) ?_
        refine x_icmp_ne (tgt := 43) hx hb dX1_probe_37 (by decide) (by omega) (by omega) (fun b37 => ?_) (fun b37 => ?_)
        · refine lv_aload_n hx hb dX1_probe_43 rfl (lv_at hl 0 rfl) ?_
          refine lv_dup hx hb dX1_probe_44 rfl ?_
          refine g_geti CF hK hM3 60 (hL.2.1.1 60 _ rfl) 31 31 rfl rfl (by decide) (Or.inl (hts _ q320)) (fun _ h => h) rfl dX1_probe_45 ?_
          refine x_top (b := ρ 60 49) hx31 ?_
          refine lv_iconst (v := jI 1) hx hb dX1_probe_48 rfl ?_
          refine x_iadd hx hb dX1_probe_49 ?_
          refine g_puti CF hK hM3 60 (by decide) (hL.2.1.1 60 _ rfl) 31 31 rfl rfl (by decide) (Or.inl (hts _ q320)) (fun _ h => h) (Or.inl rfl) rfl (v := (ρ 60 49) + 1) rfl rfl (by omega) dX1_probe_50 (fun H locs hM4 => ?_)
          have hL1 : lgR E (up2 ρ 60 49 (ρ 60 49 + 1)) G (up2 σ 60 31 (ρ 60 49 + 1)) := lgR_probes hL (ok_prs hO b37)
          have hO1 := hL1.1
          refine lv_aload_n hx hb dX1_probe_53 rfl (lv_at hl 0 rfl) ?_
          refine lv_aload_n hx hb dX1_probe_54 rfl (lv_at hl 0 rfl) ?_
          refine g_getr CF hK hM4 60 (hL1.2.1.1 60 _ rfl) 6 6 rfl rfl (by decide) (Or.inl (hts _ q292)) (fun _ h => h) rfl (G.2.2 6) (hL1.2.1.2.1 6 6 rfl) dX1_probe_55 ?_
          refine lv_iload_n hx hb dX1_probe_58 rfl (lv_at hl 1 rfl) ?_
          refine g_callv hM4 hA (g_runV (As := [.ref (G.2.2 6), .int (jI j)]) (rest := []) CF hK hM4 (hL1.2.1.1 60 _ rfl) rfl (l_send6 l E _ _ _ (up2 ρ 60 49 (ρ 60 49 + 1)) (mEnt (mNow (up2 ρ 60 49 (ρ 60 49 + 1))) j) j hL1 (mEntN_same (up2 ρ 60 49 (ρ 60 49 + 1)) j) (mBy_nowE hO1.s j) lk6_now (by first | omega | assumption | (refine ⟨?_, ?_⟩ <;> omega))) (cwV 2 hts (lw_V q514 q516 qs3 q60 q517) rfl rfl rfl (by decide +kernel) ⟨Nat.le_of_ble_eq_true rfl, Nat.le_of_ble_eq_true rfl⟩) rfl hl.1 rfl (Nat.le_of_ble_eq_true rfl) dX1_probe_59 ⟨Nat.le_of_ble_eq_true rfl, Nat.le_of_ble_eq_true rfl⟩) (fun H locs hM5 => ?_)
          have hL4 : lgR E (up2 ρ 60 49 (ρ 60 49 + 1)) G (upT (up2 σ 60 31 ((ρ 60 49) + 1)) 9 (goR (up2 ρ 60 49 (ρ 60 49 + 1) 60 0) (up2 ρ 60 49 (ρ 60 49 + 1) 1) (up2 ρ 60 49 (ρ 60 49 + 1) 2) (mTf (mEnt (mNow (up2 ρ 60 49 (ρ 60 49 + 1))) j) 1) (fillN ((up2 σ 60 31 ((ρ 60 49) + 1)) 9) (eNT j) (up2 ρ 60 49 (ρ 60 49 + 1) 60 0)))) := hL1.uT (by unfold lgT; omega) (by decide)
          have hse : mSeen (up2 ρ 60 49 (ρ 60 49 + 1)) j 10 i = mSeen ρ j 10 i := mSeen_cg hn rfl rfl rfl rfl rfl rfl rfl i (by omega) (by omega)
          refine lv_aload_n hx hb dX1_probe_62 rfl (lv_at hl 0 rfl) ?_
          refine g_getr CF hK hM5 60 (hL4.2.1.1 60 _ rfl) 9 9 rfl rfl (by decide) (Or.inl (hts _ q295)) (fun _ h => h) rfl (G.2.2 9) (hL4.2.1.2.1 9 9 rfl) dX1_probe_63 ?_
          refine lv_iload_n hx hb dX1_probe_66 rfl (lv_at hl 2 rfl) ?_
          refine g_iald CF hK hM5 9 (hL4.2.1.1 9 _ rfl) (i := i) (by omega) (by omega) (by omega) dX1_probe_67 ?_
          refine x_top (b := mSeen ρ j 10 i) (by rw [upT_s, ← hse]; exact seenL (ρ := up2 ρ 60 49 (ρ 60 49 + 1)) hO1.n j i (by omega) (by show i < ρ 60 0; omega)) ?_
          refine lv_istore_n (lv' := [(3, .int (jI (mSeen ρ j 10 i))), (0, .ref (G.2.2 60)), (1, .int (jI j)), (2, .int (jI i))]) hx hb dX1_probe_68 rfl hl (by decide) rfl (fun ls hl => ?_)
          have hsr : 0 ≤ mSeen ρ j 10 i ∧ mSeen ρ j 10 i ≤ 96 := (by rw [← hse]; exact mLi_go (mLi_ent (mNow (up2 ρ 60 49 (ρ 60 49 + 1))) j) 1 i (by omega) (by show i < ρ 60 0; omega))
          refine lv_iconst (v := jI 0) hx hb dX1_probe_69 rfl ?_
          refine lv_istore (lv' := [(4, .int (jI 0)), (3, .int (jI (mSeen ρ j 10 i))), (0, .ref (G.2.2 60)), (1, .int (jI j)), (2, .int (jI i))]) hx hb dX1_probe_70 hl (by decide) rfl (fun ls hl => ?_)
          have c72 : ∀ (n72 : Nat) (q : Nat) (f : Nat) (κ : y_S) (rf : Nat → Int → Option Nat) (τ : y_S) (H : Heap) (locs : List Loc) (ls : Array Slot), (lgR E (up2 κ 60 49 (ρ 60 49 + 1)) (G.1, rf, G.2.2) τ) → (κ 60 = ρ 60) → (289 ≤ f + q) → ((q : Int) ≤ ρ 60 48) → (prF j i (mSeen ρ j 10 i) f (q : Int) κ = prF j i (mSeen ρ j 10 i) 289 0 (mSeen ρ j)) → ((ρ 60 48).toNat - q < n72) → gM E (gA G sz) (G.1, rf, G.2.2) τ s.heap H locs → lv_has ls 5 [(0, .ref (G.2.2 60)), (1, .int (jI j)), (2, .int (jI i)), (3, .int (jI (mSeen ρ j 10 i))), (4, .int (jI ((q : Int))))] → W p l e ({ frames := 9, cells := 0, slots := 0, locals := 203 } : Room) s m ([.ref (G.2.2 60), .int (jI j), .int (jI i)] : List Value).toArray below meth c H locs 0 0 (MQ below (gQ E G sz (lPo E (oProbe ρ j i))) ([.ref (G.2.2 60), .int (jI j), .int (jI i)] : List Value).toArray s 0 0 (gA G sz)) (F0 m 72 ls []) := by
            intro n72
            induction n72 with
            | zero => intro q f κ rf τ H locs ls hLk e6 hf hq hg hmu; exact absurd hmu (Nat.not_lt_zero _)
            | succ n72 ih72 =>
              intro q f κ rf τ H locs ls hLk e6 hf hq hg hmu72 hM6 hl
              obtain ⟨hO2, hS2, hMM2, hX2, hD2, hZ2⟩ := id hLk
              refine lv_iload hx hb dX1_probe_72 (lv_at hl 4 rfl) ?_
              refine lv_aload_n hx hb dX1_probe_74 rfl (lv_at hl 0 rfl) ?_
              refine g_getr CF hK hM6 60 (hLk.2.1.1 60 _ rfl) 30 30 rfl rfl (by decide) (Or.inl (hts _ q319)) (fun _ h => h) rfl (G.2.2 30) (hLk.2.1.2.1 30 30 rfl) dX1_probe_75 ?_
              refine g_calli (r := τ 30 2) hM6 hA (g_runV (As := []) (rest := [.int (jI ((q : Int)))]) CF hK hM6 (hLk.2.1.1 30 _ rfl) rfl (j_size l E _ _ _ 30  (hLk.2.1.1 30 _ rfl)) (cwV 0 hts (lw_V q479 q480 q481 q70 q482) rfl rfl rfl (by decide +kernel) ⟨Nat.le_of_ble_eq_true rfl, Nat.le_of_ble_eq_true rfl⟩) rfl hl.1 rfl (Nat.le_of_ble_eq_true rfl) dX1_probe_78 ⟨Nat.le_of_ble_eq_true rfl, Nat.le_of_ble_eq_true rfl⟩) (fun H locs hM7 => ?_)
              refine x_top (b := ρ 60 48) (by rw [hD2.2.2.1.1.1]; show κ 60 48 = _; rw [e6]) ?_
              refine x_icmp_ge (tgt := 137) hx hb dX1_probe_81 (by decide) (by omega) (by omega) (fun b81 => ?_) (fun b81 => ?_)
              · refine lv_iload_n hx hb dX1_probe_137 rfl (lv_at hl 3 rfl) ?_
                exact g_iret CF hr hlocks hM7 (lPo_i (by unfold oProbe; rw [if_neg (fun q => q ⟨b5, b13⟩), if_neg (by omega), if_neg (by omega), ← hg, prF_e (by rw [e6]; omega)]) (by unfold oProbe; rw [if_neg (fun q => q ⟨b5, b13⟩), if_neg (by omega), if_neg (by omega), ← hg, prF_e (by rw [e6]; omega)]; exact hLk)) (by decide) (by decide) dX1_probe_138
              · have hHy := hD2.2.2.1.2.1 q (by show (q : Int) < κ 60 48; rw [e6]; omega)
                obtain ⟨f', rfl⟩ : ∃ z : Nat, f = z + 1 := ⟨f - 1, by omega⟩
                have hz01 : κ 46 (q : Int) = 0 ∨ κ 46 (q : Int) = 1 := hO2.hz (q : Int) (by omega) (by omega)
                refine lv_aload_n hx hb dX1_probe_84 rfl (lv_at hl 0 rfl) ?_
                refine g_getr CF hK hM7 60 (hLk.2.1.1 60 _ rfl) 30 30 rfl rfl (by decide) (Or.inl (hts _ q319)) (fun _ h => h) rfl (G.2.2 30) (hLk.2.1.2.1 30 30 rfl) dX1_probe_85 ?_
                refine lv_iload hx hb dX1_probe_88 (lv_at hl 4 rfl) ?_
                refine g_callr (b := G.2.2 (3000 + q)) hM7 hA (g_runV (As := [.int (jI ((q : Int)))]) (rest := []) CF hK hM7 (hLk.2.1.1 30 _ rfl) rfl (j_get l E _ _ _ 30 65 (up2 κ 60 49 (ρ 60 49 + 1) 60 48) (fun i => G.2.2 (3000 + i.toNat)) ((q : Int)) (hLk.2.1.1 30 _ rfl) (hLk.2.2.2.2.1.2.2.1.1) (by first | omega | assumption | (refine ⟨?_, ?_⟩ <;> omega)) (by show (q : Int) < κ 60 48; rw [e6]; omega)) (cwV 1 hts (lw_V q483 q484 q485 q70 q486) rfl rfl rfl (by decide +kernel) ⟨Nat.le_of_ble_eq_true rfl, Nat.le_of_ble_eq_true rfl⟩) rfl hl.1 rfl (Nat.le_of_ble_eq_true rfl) dX1_probe_90 ⟨Nat.le_of_ble_eq_true rfl, Nat.le_of_ble_eq_true rfl⟩) (fun H locs hM8 => ?_)
                refine g_cast CF hK hM8 (3000 + q) hHy.1 rfl q986 dX1_probe_93 ?_
                refine lv_dup hx hb dX1_probe_96 rfl ?_
                refine g_geti CF hK hM8 (3000 + q) hHy.1 2 2 rfl rfl (by decide) (gLk.n hK q997) (fun _ h => h) rfl dX1_probe_97 ?_
                refine x_top (b := ((((κ 46 (q : Int)).toNat) : Nat) : Int)) (by rw [hHy.2.2.2]; show κ 46 (q : Int) = _; omega) ?_
                refine lv_aload_n hx hb dX1_probe_100 rfl (lv_at hl 0 rfl) ?_
                refine lv_aload_n hx hb dX1_probe_101 rfl (lv_at hl 0 rfl) ?_
                refine g_getr CF hK hM8 60 (hLk.2.1.1 60 _ rfl) 30 30 rfl rfl (by decide) (Or.inl (hts _ q319)) (fun _ h => h) rfl (G.2.2 30) (hLk.2.1.2.1 30 30 rfl) dX1_probe_102 ?_
                refine lv_iload hx hb dX1_probe_105 (lv_at hl 4 rfl) ?_
                refine g_callr (b := G.2.2 (3000 + q)) hM8 hA (g_runV (As := [.int (jI ((q : Int)))]) (rest := [.ref (G.2.2 60), .int (jI (((((κ 46 (q : Int)).toNat) : Nat) : Int))), .ref (G.2.2 (3000 + q))]) CF hK hM8 (hLk.2.1.1 30 _ rfl) rfl (j_get l E _ _ _ 30 65 (up2 κ 60 49 (ρ 60 49 + 1) 60 48) (fun i => G.2.2 (3000 + i.toNat)) ((q : Int)) (hLk.2.1.1 30 _ rfl) (hLk.2.2.2.2.1.2.2.1.1) (by first | omega | assumption | (refine ⟨?_, ?_⟩ <;> omega)) (by show (q : Int) < κ 60 48; rw [e6]; omega)) (cwV 1 hts (lw_V q483 q484 q485 q70 q486) rfl rfl rfl (by decide +kernel) ⟨Nat.le_of_ble_eq_true rfl, Nat.le_of_ble_eq_true rfl⟩) rfl hl.1 rfl (Nat.le_of_ble_eq_true rfl) dX1_probe_107 ⟨Nat.le_of_ble_eq_true rfl, Nat.le_of_ble_eq_true rfl⟩) (fun H locs hM9 => ?_)
                refine g_cast CF hK hM9 (3000 + q) hHy.1 rfl q986 dX1_probe_110 ?_
                refine lv_iload_n hx hb dX1_probe_113 rfl (lv_at hl 1 rfl) ?_
                refine lv_iload_n hx hb dX1_probe_114 rfl (lv_at hl 2 rfl) ?_
                refine g_callPI hM9 hA (g_runV (As := [.ref (G.2.2 (3000 + q)), .int (jI j), .int (jI i)]) (rest := [.int (jI (((((κ 46 (q : Int)).toNat) : Nat) : Int))), .ref (G.2.2 (3000 + q))]) CF hK hM9 (hLk.2.1.1 60 _ rfl) rfl (l_comes l E _ _ _ (up2 κ 60 49 (ρ 60 49 + 1)) q j i hLk (by show (q : Int) < κ 60 48; rw [e6]; omega) (by first | omega | assumption | (refine ⟨?_, ?_⟩ <;> omega)) (by first | omega | assumption | (refine ⟨?_, ?_⟩ <;> omega)) (by show i < κ 60 0; rw [e6]; omega)) (cwV 3 hts (lw_V q1009 q1011 qs27 q60 q1012) rfl rfl rfl (by decide +kernel) ⟨Nat.le_of_ble_eq_true rfl, Nat.le_of_ble_eq_true rfl⟩) rfl hl.1 rfl (Nat.le_of_ble_eq_true rfl) dX1_probe_115 ⟨Nat.le_of_ble_eq_true rfl, Nat.le_of_ble_eq_true rfl⟩) (fun rc G2 τ11 H locs hp hM10 => ?_)
                obtain ⟨rf11, rfl, hrc, hL11, hla11, htt11⟩ := hp
                have hrr : 0 ≤ rc ∧ rc ≤ 96 := (by rw [hrc]; exact mCom_r _ _ (by omega) (by show i < κ 60 0; rw [e6]; omega))
                refine lv_iload_n hx hb dX1_probe_118 rfl (lv_at hl 3 rfl) ?_
                refine x_icmp_ne (tgt := 126) hx hb dX1_probe_119 (by decide) (by omega) (by omega) (fun b119 => ?_) (fun b119 => ?_)
                · have hpv : (0 : Int) = if κ 46 (q : Int) ≠ 0 ∧ rc = mSeen ρ j 10 i then 1 else 0 := (by rw [if_neg (fun y => b119 y.2)])
                  refine lv_iconst (v := jI 0) hx hb dX1_probe_126 rfl ?_
                  refine x_andN (a := ((κ 46 (q : Int)).toNat)) (b := 0) hx hb dX1_probe_127 ?_
                  refine x_top (b := 0) (by rw [Nat.and_zero]; rfl) ?_
                  refine g_puti CF hK hM10 (3000 + q) (by omega) hHy.1 2 2 rfl rfl (by decide) (gLk.n hK q997) (fun _ h => h) (Or.inl rfl) rfl (v := 0) (g_nz (by omega)) (g_fz (by omega)) (by omega) dX1_probe_128 (fun H locs hM12 => ?_)
                  refine x_iinc (lv' := [(4, .int (jI (((q : Int)) + 1))), (0, .ref (G.2.2 60)), (1, .int (jI j)), (2, .int (jI i)), (3, .int (jI (mSeen ρ j 10 i)))]) hx hb dX1_probe_131 hl (k := 4) rfl (by decide) rfl (fun ls hl => ?_)
                  refine lv_goto (tgt := 72) hx hb dX1_probe_134 (by decide) ?_
                  exact ih72  ((q + 1)) f' ((psT j i (mSeen ρ j 10 i) κ (q : Int))) rf11 (up2 τ11 (3000 + q) 2 0) _ _ _ (lgR_ps hL11 (by rw [e6]; omega) (by omega) (by rw [e6]; omega) (by rw [← hrc]; exact hpv)) ((psT_60 _ _ _ _ _).trans e6) (by first | omega | assumption | rfl) (by first | omega | assumption | rfl) (by rw [← hg, psT_s (by rw [e6]; omega)]; rfl) (by omega) hM12 (lv_sub hl [1, 2, 3, 4, 0] rfl)
                · have hpv : κ 46 (q : Int) = if κ 46 (q : Int) ≠ 0 ∧ rc = mSeen ρ j 10 i then 1 else 0 := (by rcases hz01 with z | z <;> rw [z] <;> first | rw [if_neg (fun y => y.1 rfl)] | rw [if_pos ⟨by decide, b119⟩])
                  refine lv_iconst (v := jI 1) hx hb dX1_probe_122 rfl ?_
                  refine lv_goto (tgt := 127) hx hb dX1_probe_123 (by decide) ?_
                  refine x_andN (a := ((κ 46 (q : Int)).toNat)) (b := 1) hx hb dX1_probe_127 ?_
                  refine x_top (b := κ 46 (q : Int)) (by rcases hz01 with z | z <;> rw [z] <;> decide) ?_
                  refine g_puti CF hK hM10 (3000 + q) (by omega) hHy.1 2 2 rfl rfl (by decide) (gLk.n hK q997) (fun _ h => h) (Or.inl rfl) rfl (v := κ 46 (q : Int)) (g_nz (by omega)) (g_fz (by omega)) (by omega) dX1_probe_128 (fun H locs hM13 => ?_)
                  refine x_iinc (lv' := [(4, .int (jI (((q : Int)) + 1))), (0, .ref (G.2.2 60)), (1, .int (jI j)), (2, .int (jI i)), (3, .int (jI (mSeen ρ j 10 i)))]) hx hb dX1_probe_131 hl (k := 4) rfl (by decide) rfl (fun ls hl => ?_)
                  refine lv_goto (tgt := 72) hx hb dX1_probe_134 (by decide) ?_
                  exact ih72  ((q + 1)) f' ((psT j i (mSeen ρ j 10 i) κ (q : Int))) rf11 (up2 τ11 (3000 + q) 2 (κ 46 (q : Int))) _ _ _ (lgR_ps hL11 (by rw [e6]; omega) (by omega) (by rw [e6]; omega) (by rw [← hrc]; exact hpv)) ((psT_60 _ _ _ _ _).trans e6) (by first | omega | assumption | rfl) (by first | omega | assumption | rfl) (by rw [← hg, psT_s (by rw [e6]; omega)]; rfl) (by omega) hM13 (lv_sub hl [1, 2, 3, 4, 0] rfl)
          exact c72 _ 0 289 ((mSeen ρ j)) G.2.1 (upT (up2 σ 60 31 ((ρ 60 49) + 1)) 9 (goR (up2 ρ 60 49 (ρ 60 49 + 1) 60 0) (up2 ρ 60 49 (ρ 60 49 + 1) 1) (up2 ρ 60 49 (ρ 60 49 + 1) 2) (mTf (mEnt (mNow (up2 ρ 60 49 (ρ 60 49 + 1))) j) 1) (fillN ((up2 σ 60 31 ((ρ 60 49) + 1)) 9) (eNT j) (up2 ρ 60 49 (ρ 60 49 + 1) 60 0)))) _ _ _ (hL4.rho (hO1.same (seen_same ρ j _) (by decide)) (lgE.s3 (seen_same ρ j _))) (mSame.seen (ts := [8, 9, 10]) (by decide) (by decide) (by decide) j 60 (by decide)) (by first | omega | assumption | rfl) (by first | omega | assumption | rfl) rfl (Nat.lt_succ_self _) hM5 (lv_sub hl [2, 3, 4, 1, 0] rfl)
        · refine lv_bipush (v := jI (-4)) hx hb dX1_probe_40 (by decide) ?_
          exact g_iret CF hr hlocks hM3 (lPo_i (by unfold oProbe; rw [if_neg (fun q => q ⟨b5, b13⟩), if_neg (by omega), if_pos (by omega)]) (by unfold oProbe; rw [if_neg (fun q => q ⟨b5, b13⟩), if_neg (by omega), if_pos (by omega)]; exact hL)) (by decide) (by decide) dX1_probe_42
      · refine lv_bipush (v := jI (-3)) hx hb dX1_probe_28 (by decide) ?_
        exact g_iret CF hr hlocks hM3 (lPo_i (by unfold oProbe; rw [if_neg (fun q => q ⟨b5, b13⟩), if_pos (by omega)]) (by unfold oProbe; rw [if_neg (fun q => q ⟨b5, b13⟩), if_pos (by omega)]; exact hL)) (by decide) (by decide) dX1_probe_30
    · refine lv_iconst (v := jI (-1)) hx hb dX1_probe_16 rfl ?_
      exact g_iret CF hr hlocks hM2 (lPo_i (by unfold oProbe; rw [if_pos (fun q => by first | exact b5 q.1 | exact b13 q.2)]) (by unfold oProbe; rw [if_pos (fun q => by first | exact b5 q.1 | exact b13 q.2)]; exact hL)) (by decide) (by decide) dX1_probe_17
