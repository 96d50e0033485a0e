set_option maxHeartbeats 400000 in
theorem l_feed (l : Launch) (E : y_E) (G : y_G) (σ : y_S) (sz : Nat) (ρ : y_S) (x : Int) (n : Int) (hL : lgR E ρ G σ) (hxr : R64 x) (hnr : R32 n) : gCt l yX1_feed cX1_feed 5 (some .int) ({ frames := 1, cells := 0, slots := 0, locals := 22 }) E [.ref (G.2.2 60), .long (jL x), .int (jI n)] G σ sz (lPo E (oFeed ρ x n)) 0 0 := by
  refine g_met (by decide) (Nat.le_of_ble_eq_true rfl) ?_
  intro p e s m below meth c ls CF hr hlocks hnm hK hM0 hA hl
  have hx := CF.1
  have hb := CF.2.1
  have hts := CF.2.2.2.2
  have hl : lv_has ls 5 [(0, .ref (G.2.2 60)), (1, .long (jL x)), (3, .int (jI n))] := hl
  obtain ⟨hO, hS, ⟨hm1, hm2, hm3, hm4, hm5⟩, hX, hD, hZ⟩ := id hL
  have hn := hO.n
  obtain ⟨hx1, ⟨hx2, hx3, hx4⟩, hx5, hx6, ⟨hx7, hx8⟩, hx9⟩ := id hX
  have hst := hO.st
  have hwk := hO.wk
  have h1718 := hO.2.1.2.2.2.2.2.2.2.2.2.2
  have htp := hO.tp
  have hx25 := hx9.1.1
  refine lv_iload_n hx hb dX1_feed_0 rfl (lv_at hl 2 rfl) ?_
  refine lv_iconst (v := jI 1) hx hb dX1_feed_1 rfl ?_
  refine lv_bipush (v := jI 8) hx hb dX1_feed_2 (by decide) ?_
  refine g_calli (r := (if 1 ≤ n ∧ n ≤ 8 then 1 else 0)) hM0 hA (g_runS (As := [.int (jI n), .int (jI 1), .int (jI 8)]) (rest := []) CF hK hM0 (l_in l E _ _ _  n 1 8 (by first | omega | assumption | (refine ⟨?_, ?_⟩ <;> omega)) (by first | omega | assumption | (refine ⟨?_, ?_⟩ <;> omega)) (by first | omega | assumption | (refine ⟨?_, ?_⟩ <;> omega))) (va_cwS 3 hts (lw_S q93 q94 q60 q95) rfl rfl rfl (by decide +kernel) ⟨Nat.le_of_ble_eq_true rfl, Nat.le_of_ble_eq_true rfl⟩) rfl hl.1 rfl (Nat.le_of_ble_eq_true rfl) dX1_feed_4 ⟨Nat.le_of_ble_eq_true rfl, Nat.le_of_ble_eq_true rfl⟩) (fun H locs hM1 => ?_)
  refine x_bif_ne (tgt := 13) hx hb dX1_feed_7 (by decide) (fun b7 => ?_) (fun b7 => ?_)
  · refine lv_aload_n hx hb dX1_feed_13 rfl (lv_at hl 0 rfl) ?_
    refine g_geti CF hK hM1 60 (hL.2.1.1 60 _ rfl) 25 25 rfl rfl (by decide) (Or.inl (hts _ q313)) (fun _ h => h) rfl dX1_feed_14 ?_
    refine x_top (b := ρ 60 30) hx25 ?_
    refine lv_iload_n hx hb dX1_feed_17 rfl (lv_at hl 2 rfl) ?_
    refine x_iadd hx hb dX1_feed_18 ?_
    refine lv_bipush (v := jI 100) hx hb dX1_feed_19 (by decide) ?_
    refine x_icmp_le (tgt := 27) hx hb dX1_feed_21 (by decide) (by omega) (by omega) (fun b21 => ?_) (fun b21 => ?_)
    · refine lv_iload_n hx hb dX1_feed_27 rfl (lv_at hl 2 rfl) ?_
      refine lv_iconst (v := jI 1) hx hb dX1_feed_28 rfl ?_
      refine x_isub hx hb dX1_feed_29 ?_
      refine lv_istore (lv' := [(4, .int (jI (n - 1))), (0, .ref (G.2.2 60)), (1, .long (jL x)), (3, .int (jI n))]) hx hb dX1_feed_30 hl (by decide) rfl (fun ls hl => ?_)
      have c32 : ∀ (n32 : Nat) (i : Int) (H : Heap) (locs : List Loc) (ls : Array Slot), (0 ≤ i) → (i ≤ n) → ((n - i).toNat < n32) → gM E (gA G sz) G (lfe σ x n i) s.heap H locs → lv_has ls 5 [(0, .ref (G.2.2 60)), (1, .long (jL x)), (3, .int (jI n)), (4, .int (jI (n - 1 - i)))] → W p l e ({ frames := 1, cells := 0, slots := 0, locals := 22 } : Room) s m ([.ref (G.2.2 60), .long (jL x), .int (jI n)] : List Value).toArray below meth c H locs 0 0 (MQ below (gQ E G sz (lPo E (oFeed ρ x n))) ([.ref (G.2.2 60), .long (jL x), .int (jI n)] : List Value).toArray s 0 0 (gA G sz)) (F0 m 32 ls []) := by
        intro n32
        induction n32 with
        | zero => intro i H locs ls hi0 hi1 hmu; exact absurd hmu (Nat.not_lt_zero _)
        | succ n32 ih32 =>
          intro i H locs ls hi0 hi1 hmu32 hM2 hl
          have h25 : lfe σ x n i 60 25 = ρ 60 30 + i := (by show σ 60 25 + i = _; rw [hx25])
          refine lv_iload hx hb dX1_feed_32 (lv_at hl 3 rfl) ?_
          refine x_if_lt (tgt := 68) hx hb dX1_feed_34 (by decide) (by omega) (fun b34 => ?_) (fun b34 => ?_)
          · refine lv_aload_n hx hb dX1_feed_68 rfl (lv_at hl 0 rfl) ?_
            refine g_geti CF hK hM2 60 (hL.2.1.1 60 _ rfl) 25 25 rfl rfl (by decide) (Or.inl (hts _ q313)) (fun _ h => h) rfl dX1_feed_69 ?_
            refine x_top (b := ρ 60 30 + i) h25 ?_
            exact g_iret CF hr hlocks hM2 (lPo_i (by unfold oFeed; rw [if_neg (fun q => q b7), if_neg (by omega)]; omega) (by have hk := ok_feed hO x n; unfold oFeed at hk ⊢; rw [if_neg (fun q => q b7), if_neg (by omega)] at hk ⊢; rw [show i = n by omega]; exact lgR_feed hL (by omega) hk)) (by decide) (by decide) dX1_feed_72
          · have hbv : Int.bmod (x / 2 ^ (8 * (n - 1 - i)).toNat) 256 = (btL x (n - 1 - i)).bmod 256 := (by unfold btL; symm; apply Int.emod_bmod)
            have hbb := Int.bmod_lt (x := x / 2 ^ (8 * (n - 1 - i)).toNat) (m := 256) (by decide)
            have hbb2 := Int.le_bmod (x := x / 2 ^ (8 * (n - 1 - i)).toNat) (m := 256) (by decide)
            refine lv_aload_n hx hb dX1_feed_37 rfl (lv_at hl 0 rfl) ?_
            refine g_getr CF hK hM2 60 (hL.2.1.1 60 _ rfl) 24 24 rfl rfl (by decide) (Or.inl (hts _ q311)) (fun _ h => h) rfl (G.2.2 24) (hL.2.1.2.1 24 24 rfl) dX1_feed_38 ?_
            refine lv_aload_n hx hb dX1_feed_41 rfl (lv_at hl 0 rfl) ?_
            refine lv_dup hx hb dX1_feed_42 rfl ?_
            refine g_geti CF hK hM2 60 (hL.2.1.1 60 _ rfl) 25 25 rfl rfl (by decide) (Or.inl (hts _ q313)) (fun _ h => h) rfl dX1_feed_43 ?_
            refine x_top (b := σ 60 25 + i) rfl ?_
            refine lv_dup_x1 hx hb dX1_feed_46 rfl rfl ?_
            refine lv_iconst (v := jI 1) hx hb dX1_feed_47 rfl ?_
            refine x_iadd hx hb dX1_feed_48 ?_
            refine g_puti CF hK hM2 60 (by decide) (hL.2.1.1 60 _ rfl) 25 25 rfl rfl (by decide) (Or.inl (hts _ q313)) (fun _ h => h) (Or.inl rfl) rfl (v := (σ 60 25 + i) + 1) rfl rfl (by omega) dX1_feed_49 (fun H locs hM3 => ?_)
            refine lv_lload_n hx hb dX1_feed_52 rfl (lv_at hl 1 rfl) ?_
            refine lv_bipush (v := jI 8) hx hb dX1_feed_53 (by decide) ?_
            refine lv_iload hx hb dX1_feed_55 (lv_at hl 3 rfl) ?_
            refine x_imul hx hb dX1_feed_57 ?_
            refine x_lshr (a := x) (b := 8 * (n - 1 - i)) hx hb dX1_feed_58 (by omega) (by omega) (by omega) ?_
            refine x_l2i hx hb dX1_feed_59 ?_
            refine x_i2b hx hb dX1_feed_60 ?_
            refine g_bast CF hK hM3 24 (by decide) (hL.2.1.1 24 _ rfl) (i := σ 60 25 + i) (v := (x / 2 ^ (8 * (n - 1 - i)).toNat).bmod 256) (by omega) (by omega) (by omega) (by omega) (by omega) dX1_feed_61 (fun H locs hM4 => ?_)
            refine x_iinc (lv' := [(4, .int (jI ((n - 1 - i) - 1))), (0, .ref (G.2.2 60)), (1, .long (jL x)), (3, .int (jI n))]) hx hb dX1_feed_62 hl (k := 3) rfl (by decide) rfl (fun ls hl => ?_)
            refine lv_goto (tgt := 32) hx hb dX1_feed_65 (by decide) ?_
            exact ih32  ((i + 1)) _ _ _ (by first | omega | assumption | rfl) (by first | omega | assumption | rfl) (by omega) (gM_eq (lfe_s (by omega) hbv) hM4) (lv_cast (lv_sub hl [1, 2, 3, 0] rfl) (by rw [(show n - 1 - (i + 1) = n - 1 - i - 1 by omega)]; rfl))
      exact c32 _ 0 _ _ _ (by first | omega | assumption | rfl) (by first | omega | assumption | rfl) (Nat.lt_succ_self _) (gM_eq (lfe_0 σ x n) hM1) (lv_cast (lv_sub hl [1, 2, 3, 0] rfl) (by rw [(show n - 1 - 0 = n - 1 by omega)]; rfl))
    · refine lv_bipush (v := jI (-4)) hx hb dX1_feed_24 (by decide) ?_
      exact g_iret CF hr hlocks hM1 (lPo_i (by unfold oFeed; rw [if_neg (fun q => q b7), if_pos (by omega)]) (by unfold oFeed; rw [if_neg (fun q => q b7), if_pos (by omega)]; exact hL)) (by decide) (by decide) dX1_feed_26
  · refine lv_bipush (v := jI (-2)) hx hb dX1_feed_10 (by decide) ?_
    exact g_iret CF hr hlocks hM1 (lPo_i (by unfold oFeed; rw [if_pos b7]) (by unfold oFeed; rw [if_pos b7]; exact hL)) (by decide) (by decide) dX1_feed_12
set_option maxHeartbeats 400000 in
theorem l_meets (l : Launch) (E : y_E) (G : y_G) (σ : y_S) (sz : Nat) (ρ : y_S) (lane : Nat) (hL : lgR E ρ G σ) (hla : lane ≤ 5) : gCt l yX1_meets cX1_meets 8 (some .boolean) ({ frames := 0, cells := 0, slots := 0, locals := 0 }) E [.ref (G.2.2 60), .int (jI ((lane : Int)))] G σ sz (gR (some (.int (jI (if mMeet ρ lane = 3 then 1 else 0)))) G σ) 0 0 := by
  refine g_met (by decide) (Nat.le_of_ble_eq_true rfl) ?_
  intro p e s m below meth c ls CF hr hlocks hnm hK hM0 hA hl
  have hx := CF.1
  have hb := CF.2.1
  have hts := CF.2.2.2.2
  have hl : lv_has ls 8 [(0, .ref (G.2.2 60)), (1, .int (jI ((lane : Int))))] := hl
  obtain ⟨hO, hS, ⟨hm1, hm2, hm3, hm4, hm5⟩, hX, hD, hZ⟩ := id hL
  have hn := hO.n
  have hus := hO.us
  have hp6 : 2 ^ lane ≤ 32 := Nat.pow_le_pow_right (n := 2) (by decide) hla
  refine lv_iconst (v := jI 1) hx hb dX1_meets_0 rfl ?_
  refine lv_iload_n hx hb dX1_meets_1 rfl (lv_at hl 1 rfl) ?_
  refine x_shl1 (w := lane) hx hb dX1_meets_2 (by omega) ?_
  refine lv_istore_n (lv' := [(2, .int (jI (((2 ^ lane : Nat) : Int)))), (0, .ref (G.2.2 60)), (1, .int (jI ((lane : Int))))]) hx hb dX1_meets_3 rfl hl (by decide) rfl (fun ls hl => ?_)
  refine lv_iconst (v := jI 0) hx hb dX1_meets_4 rfl ?_
  refine lv_istore_n (lv' := [(3, .int (jI 0)), (2, .int (jI (((2 ^ lane : Nat) : Int)))), (0, .ref (G.2.2 60)), (1, .int (jI ((lane : Int))))]) hx hb dX1_meets_5 rfl hl (by decide) rfl (fun ls hl => ?_)
  refine lv_aload_n hx hb dX1_meets_6 rfl (lv_at hl 2 rfl) ?_
  refine g_getr CF hK hM0 60 (hL.2.1.1 60 _ rfl) 3 3 rfl rfl (by decide) (Or.inl (hts _ q288)) (fun _ h => h) rfl (G.2.2 3) (hL.2.1.2.1 3 3 rfl) dX1_meets_7 ?_
  refine lv_astore (lv' := [(4, .ref (G.2.2 3)), (3, .int (jI 0)), (2, .int (jI (((2 ^ lane : Nat) : Int)))), (0, .ref (G.2.2 60)), (1, .int (jI ((lane : Int))))]) hx hb dX1_meets_10 hl (by decide) rfl (fun ls hl => ?_)
  refine lv_aload hx hb dX1_meets_12 (lv_at hl 0 rfl) ?_
  refine g_alen CF hK hM0 3 (hL.2.1.1 3 _ rfl) (by decide) dX1_meets_14 ?_
  refine lv_istore (lv' := [(5, .int (jI (((12 * (ρ 60 0).toNat : Nat) : Int)))), (4, .ref (G.2.2 3)), (3, .int (jI 0)), (2, .int (jI (((2 ^ lane : Nat) : Int)))), (0, .ref (G.2.2 60)), (1, .int (jI ((lane : Int))))]) hx hb dX1_meets_15 hl (by decide) rfl (fun ls hl => ?_)
  refine lv_iconst (v := jI 0) hx hb dX1_meets_17 rfl ?_
  refine lv_istore (lv' := [(6, .int (jI 0)), (5, .int (jI (((12 * (ρ 60 0).toNat : Nat) : Int)))), (4, .ref (G.2.2 3)), (3, .int (jI 0)), (2, .int (jI (((2 ^ lane : Nat) : Int)))), (0, .ref (G.2.2 60)), (1, .int (jI ((lane : Int))))]) hx hb dX1_meets_18 hl (by decide) rfl (fun ls hl => ?_)
  have c20 : ∀ (n20 : Nat) (j : Nat) (a : Nat) (b : Nat) (H : Heap) (locs : List Loc) (ls : Array Slot), (j ≤ 12 * (ρ 60 0).toNat) → (meP (ρ 5) (2 ^ lane, 0) (cJ (ρ 60 0) j) = (a, b)) → (12 * (ρ 60 0).toNat - j < n20) → gM E (gA G sz) G σ s.heap H locs → lv_has ls 8 [(0, .ref (G.2.2 60)), (2, .int (jI ((a : Int)))), (3, .int (jI ((b : Int)))), (4, .ref (G.2.2 3)), (5, .int (jI (((12 * (ρ 60 0).toNat : Nat) : Int)))), (6, .int (jI ((j : Int))))] → W p l e ({ frames := 0, cells := 0, slots := 0, locals := 0 } : Room) s m ([.ref (G.2.2 60), .int (jI ((lane : Int)))] : List Value).toArray below meth c H locs 0 0 (MQ below (gQ E G sz (gR (some (.int (jI (if mMeet ρ lane = 3 then 1 else 0)))) G σ)) ([.ref (G.2.2 60), .int (jI ((lane : Int)))] : List Value).toArray s 0 0 (gA G sz)) (F0 m 20 ls []) := by
    intro n20
    induction n20 with
    | zero => intro j a b H locs ls hj hab hmu; exact absurd hmu (Nat.not_lt_zero _)
    | succ n20 ih20 =>
      intro j a b H locs ls hj hab hmu20 hM1 hl
      have hbd := meP_r hn.2 (fun k a b => (hus k a b).2) (cJ (ρ 60 0) j) (2 ^ lane, 0) (cJ_in j) (by show 2 ^ lane < 64; omega) (by show 0 < 4; decide)
      rw [hab] at hbd
      refine lv_iload hx hb dX1_meets_20 (lv_at hl 5 rfl) ?_
      refine lv_iload hx hb dX1_meets_22 (lv_at hl 4 rfl) ?_
      refine x_icmp_ge (tgt := 93) hx hb dX1_meets_24 (by decide) (by omega) (by omega) (fun b24 => ?_) (fun b24 => ?_)
      · refine lv_iload_n hx hb dX1_meets_93 rfl (lv_at hl 2 rfl) ?_
        refine lv_iconst (v := jI 3) hx hb dX1_meets_94 rfl ?_
        refine x_icmp_ne (tgt := 102) hx hb dX1_meets_95 (by decide) (by omega) (by omega) (fun b95 => ?_) (fun b95 => ?_)
        · refine lv_iconst (v := jI 0) hx hb dX1_meets_102 rfl ?_
          exact g_zret CF hr hlocks hM1 (by omega) (g_pi (by rw [mMeet_J hn, show 12 * (ρ 60 0).toNat = j by omega, hab]; (repeat' split) <;> first | rfl | omega)) (by decide) (by decide) dX1_meets_103
        · refine lv_iconst (v := jI 1) hx hb dX1_meets_98 rfl ?_
          refine lv_goto (tgt := 103) hx hb dX1_meets_99 (by decide) ?_
          exact g_zret CF hr hlocks hM1 (by omega) (g_pi (by rw [mMeet_J hn, show 12 * (ρ 60 0).toNat = j by omega, hab]; (repeat' split) <;> first | rfl | omega)) (by decide) (by decide) dX1_meets_103
      · refine lv_aload hx hb dX1_meets_27 (lv_at hl 3 rfl) ?_
        refine lv_iload hx hb dX1_meets_29 (lv_at hl 5 rfl) ?_
        refine g_aaldc CF hK hM1 3 (hL.2.1.1 3 _ rfl) (by decide) rfl (i := (j : Int)) (by omega) (by omega) (by omega) (hL.2.1.at hL.1.n.1 hL.1.n.2 (by omega)) dX1_meets_31 (fun hCe => ?_) (fun hCe => ?_)
        · refine lv_astore (lv' := [(7, .ref (G.2.2 (cT ((j : Int) / ρ 60 0) ((j : Int) % ρ 60 0)))), (0, .ref (G.2.2 60)), (2, .int (jI ((a : Int)))), (3, .int (jI ((b : Int)))), (4, .ref (G.2.2 3)), (5, .int (jI (((12 * (ρ 60 0).toNat : Nat) : Int)))), (6, .int (jI ((j : Int))))]) hx hb dX1_meets_32 hl (by decide) rfl (fun ls hl => ?_)
          refine lv_aload hx hb dX1_meets_34 (lv_at hl 0 rfl) ?_
          refine lv_ifnull hx hb dX1_meets_36 ?_
          have hx5 := cell_ix hCe hn.2
          have hu5 := hus _ hx5.2.2.1 hx5.2.2.2
          have hsh : 3 * 2 ^ (((j : Int) % ρ 60 0).toNat) < 4294967296 := (by have : 2 ^ (((j : Int) % ρ 60 0).toNat) ≤ 2 ^ 4 := Nat.pow_le_pow_right (by decide) (by omega); omega)
          refine lv_iload_n hx hb dX1_meets_39 rfl (lv_at hl 2 rfl) ?_
          refine lv_iconst (v := jI 3) hx hb dX1_meets_40 rfl ?_
          refine lv_aload hx hb dX1_meets_41 (lv_at hl 0 rfl) ?_
          refine g_geti CF hK hM1 (cT ((j : Int) / ρ 60 0) ((j : Int) % ρ 60 0)) (hL.2.1.1 _ _ (lKd_c hL.1.n.2 hCe)) 1 1 rfl rfl (by decide) (gLk.n hK q252) (fun _ h => h) rfl dX1_meets_43 ?_
          refine x_top (b := (((((j : Int) % ρ 60 0).toNat) : Nat) : Int)) (by rw [(hm5 _ _ hCe).2.1, Int.toNat_of_nonneg (by omega)]) ?_
          refine x_shlN (a := 3) (w := (((j : Int) % ρ 60 0).toNat)) hx hb dX1_meets_46 (by omega) hsh ?_
          refine x_andN (a := a) (b := (3 <<< ((((j : Int) % ρ 60 0).toNat)))) hx hb dX1_meets_47 ?_
          have fa2 := Nat.and_le_left (n := a) (m := (3 <<< ((((j : Int) % ρ 60 0).toNat))))
          refine x_if_ne (tgt := 54) hx hb dX1_meets_48 (by decide) (by have f0 := Nat.and_le_left (n := a) (m := (3 <<< ((((j : Int) % ρ 60 0).toNat)))); omega) (fun b48 => ?_) (fun b48 => ?_)
          · have hz1 : (a >>> (((j : Int) % ρ 60 0).toNat)) &&& 3 ≠ 0 := fun q => b48 (by rw [and_shl0.mpr q]; rfl)
            refine lv_iload_n hx hb dX1_meets_54 rfl (lv_at hl 2 rfl) ?_
            refine lv_iconst (v := jI 3) hx hb dX1_meets_55 rfl ?_
            refine lv_aload hx hb dX1_meets_56 (lv_at hl 0 rfl) ?_
            refine g_geti CF hK hM1 (cT ((j : Int) / ρ 60 0) ((j : Int) % ρ 60 0)) (hL.2.1.1 _ _ (lKd_c hL.1.n.2 hCe)) 1 1 rfl rfl (by decide) (gLk.n hK q252) (fun _ h => h) rfl dX1_meets_58 ?_
            refine x_top (b := (((((j : Int) % ρ 60 0).toNat) : Nat) : Int)) (by rw [(hm5 _ _ hCe).2.1, Int.toNat_of_nonneg (by omega)]) ?_
            refine x_shlN (a := 3) (w := (((j : Int) % ρ 60 0).toNat)) hx hb dX1_meets_61 (by omega) hsh ?_
            refine x_orN (a := a) (b := (3 <<< ((((j : Int) % ρ 60 0).toNat)))) hx hb dX1_meets_62 ?_
            refine lv_istore_n (lv' := [(2, .int (jI (((a ||| ((3 <<< ((((j : Int) % ρ 60 0).toNat)))) : Nat) : Int)))), (7, .ref (G.2.2 (cT ((j : Int) / ρ 60 0) ((j : Int) % ρ 60 0)))), (0, .ref (G.2.2 60)), (3, .int (jI ((b : Int)))), (4, .ref (G.2.2 3)), (5, .int (jI (((12 * (ρ 60 0).toNat : Nat) : Int)))), (6, .int (jI ((j : Int))))]) hx hb dX1_meets_63 rfl hl (by decide) rfl (fun ls hl => ?_)
            refine lv_iload_n hx hb dX1_meets_64 rfl (lv_at hl 3 rfl) ?_
            refine lv_aload hx hb dX1_meets_65 (lv_at hl 1 rfl) ?_
            refine g_geti CF hK hM1 (cT ((j : Int) / ρ 60 0) ((j : Int) % ρ 60 0)) (hL.2.1.1 _ _ (lKd_c hL.1.n.2 hCe)) 5 5 rfl rfl (by decide) (gLk.n hK q263) (fun _ h => h) rfl dX1_meets_67 ?_
            refine x_top (b := ρ 5 (6 * ((j : Int) / ρ 60 0) + (j : Int) % ρ 60 0)) (hm5 _ _ hCe).2.2.2.2.2 ?_
            refine lv_iconst (v := jI (-1)) hx hb dX1_meets_70 rfl ?_
            refine x_icmp_ne (tgt := 78) hx hb dX1_meets_71 (by decide) (by omega) (by omega) (fun b71 => ?_) (fun b71 => ?_)
            · refine lv_iconst (v := jI 1) hx hb dX1_meets_78 rfl ?_
              refine lv_aload hx hb dX1_meets_79 (lv_at hl 1 rfl) ?_
              refine g_geti CF hK hM1 (cT ((j : Int) / ρ 60 0) ((j : Int) % ρ 60 0)) (hL.2.1.1 _ _ (lKd_c hL.1.n.2 hCe)) 5 5 rfl rfl (by decide) (gLk.n hK q263) (fun _ h => h) rfl dX1_meets_81 ?_
              refine x_top (b := ((((ρ 5 (6 * ((j : Int) / ρ 60 0) + (j : Int) % ρ 60 0)).toNat) : Nat) : Int)) (by rw [(hm5 _ _ hCe).2.2.2.2.2, Int.toNat_of_nonneg (by omega)]) ?_
              refine x_shl1 (w := ((ρ 5 (6 * ((j : Int) / ρ 60 0) + (j : Int) % ρ 60 0)).toNat)) hx hb dX1_meets_84 (by omega) ?_
              refine x_orN (a := b) (b := 2 ^ (((ρ 5 (6 * ((j : Int) / ρ 60 0) + (j : Int) % ρ 60 0)).toNat))) hx hb dX1_meets_85 ?_
              refine x_top (b := ((b ||| (2 ^ (((ρ 5 (6 * ((j : Int) / ρ 60 0) + (j : Int) % ρ 60 0)).toNat))) : Nat) : Int)) rfl ?_
              refine lv_istore_n (lv' := [(3, .int (jI (((b ||| (2 ^ (((ρ 5 (6 * ((j : Int) / ρ 60 0) + (j : Int) % ρ 60 0)).toNat))) : Nat) : Int)))), (2, .int (jI (((a ||| ((3 <<< ((((j : Int) % ρ 60 0).toNat)))) : Nat) : Int)))), (7, .ref (G.2.2 (cT ((j : Int) / ρ 60 0) ((j : Int) % ρ 60 0)))), (0, .ref (G.2.2 60)), (4, .ref (G.2.2 3)), (5, .int (jI (((12 * (ρ 60 0).toNat : Nat) : Int)))), (6, .int (jI ((j : Int))))]) hx hb dX1_meets_86 rfl hl (by decide) rfl (fun ls hl => ?_)
              refine x_iinc (lv' := [(6, .int (jI (((j : Int)) + 1))), (3, .int (jI (((b ||| (2 ^ (((ρ 5 (6 * ((j : Int) / ρ 60 0) + (j : Int) % ρ 60 0)).toNat))) : Nat) : Int)))), (2, .int (jI (((a ||| ((3 <<< ((((j : Int) % ρ 60 0).toNat)))) : Nat) : Int)))), (7, .ref (G.2.2 (cT ((j : Int) / ρ 60 0) ((j : Int) % ρ 60 0)))), (0, .ref (G.2.2 60)), (4, .ref (G.2.2 3)), (5, .int (jI (((12 * (ρ 60 0).toNat : Nat) : Int))))]) hx hb dX1_meets_87 hl (k := 6) rfl (by decide) rfl (fun ls hl => ?_)
              refine lv_goto (tgt := 20) hx hb dX1_meets_90 (by decide) ?_
              exact ih20  ((j + 1)) (a ||| ((3 <<< ((((j : Int) % ρ 60 0).toNat))))) (b ||| (2 ^ (((ρ 5 (6 * ((j : Int) / ρ 60 0) + (j : Int) % ρ 60 0)).toNat)))) _ _ _ (by first | omega | assumption | rfl) (by rw [cJ_y hCe, meP_a, hab]; rw [meS_2 hz1 (by rw [Int.toNat_of_nonneg (show 0 ≤ (j : Int) % ρ 60 0 by omega)]; show ¬ ρ 5 (6 * ((j : Int) / ρ 60 0) + (j : Int) % ρ 60 0) < 0; omega)]; rw [Int.toNat_of_nonneg (show 0 ≤ (j : Int) % ρ 60 0 by omega)]) (by omega) hM1 (lv_sub hl [4, 2, 1, 5, 6, 0] rfl)
            · refine lv_iconst (v := jI 0) hx hb dX1_meets_74 rfl ?_
              refine lv_goto (tgt := 85) hx hb dX1_meets_75 (by decide) ?_
              refine x_orN (a := b) (b := 0) hx hb dX1_meets_85 ?_
              refine x_top (b := (b : Int)) (by rw [Nat.or_zero]) ?_
              refine lv_istore_n (lv' := [(3, .int (jI ((b : Int)))), (2, .int (jI (((a ||| ((3 <<< ((((j : Int) % ρ 60 0).toNat)))) : Nat) : Int)))), (7, .ref (G.2.2 (cT ((j : Int) / ρ 60 0) ((j : Int) % ρ 60 0)))), (0, .ref (G.2.2 60)), (4, .ref (G.2.2 3)), (5, .int (jI (((12 * (ρ 60 0).toNat : Nat) : Int)))), (6, .int (jI ((j : Int))))]) hx hb dX1_meets_86 rfl hl (by decide) rfl (fun ls hl => ?_)
              refine x_iinc (lv' := [(6, .int (jI (((j : Int)) + 1))), (3, .int (jI ((b : Int)))), (2, .int (jI (((a ||| ((3 <<< ((((j : Int) % ρ 60 0).toNat)))) : Nat) : Int)))), (7, .ref (G.2.2 (cT ((j : Int) / ρ 60 0) ((j : Int) % ρ 60 0)))), (0, .ref (G.2.2 60)), (4, .ref (G.2.2 3)), (5, .int (jI (((12 * (ρ 60 0).toNat : Nat) : Int))))]) hx hb dX1_meets_87 hl (k := 6) rfl (by decide) rfl (fun ls hl => ?_)
              refine lv_goto (tgt := 20) hx hb dX1_meets_90 (by decide) ?_
              exact ih20  ((j + 1)) (a ||| ((3 <<< ((((j : Int) % ρ 60 0).toNat))))) b _ _ _ (by first | omega | assumption | rfl) (by rw [cJ_y hCe, meP_a, hab]; exact meS_1 hz1 (by rw [Int.toNat_of_nonneg (show 0 ≤ (j : Int) % ρ 60 0 by omega)]; show ρ 5 (6 * ((j : Int) / ρ 60 0) + (j : Int) % ρ 60 0) < 0; omega)) (by omega) hM1 (lv_sub hl [4, 2, 1, 5, 6, 0] rfl)
          · have hz0 : (a >>> (((j : Int) % ρ 60 0).toNat)) &&& 3 = 0 := and_shl0.mp (by omega)
            refine lv_goto (tgt := 87) hx hb dX1_meets_51 (by decide) ?_
            refine x_iinc (lv' := [(6, .int (jI (((j : Int)) + 1))), (7, .ref (G.2.2 (cT ((j : Int) / ρ 60 0) ((j : Int) % ρ 60 0)))), (0, .ref (G.2.2 60)), (2, .int (jI ((a : Int)))), (3, .int (jI ((b : Int)))), (4, .ref (G.2.2 3)), (5, .int (jI (((12 * (ρ 60 0).toNat : Nat) : Int))))]) hx hb dX1_meets_87 hl (k := 6) rfl (by decide) rfl (fun ls hl => ?_)
            refine lv_goto (tgt := 20) hx hb dX1_meets_90 (by decide) ?_
            exact ih20  ((j + 1)) a b _ _ _ (by first | omega | assumption | rfl) (by rw [cJ_y hCe, meP_a, hab]; exact meS_0 hz0) (by omega) hM1 (lv_sub hl [2, 3, 4, 5, 6, 0] rfl)
        · refine lv_astoreN (lv' := [(7, .null), (0, .ref (G.2.2 60)), (2, .int (jI ((a : Int)))), (3, .int (jI ((b : Int)))), (4, .ref (G.2.2 3)), (5, .int (jI (((12 * (ρ 60 0).toNat : Nat) : Int)))), (6, .int (jI ((j : Int))))]) hx hb dX1_meets_32 hl (by decide) rfl (fun ls hl => ?_)
          refine lv_aloadN hx hb dX1_meets_34 (lv_at hl 0 rfl) ?_
          refine lv_ifnullN (tgt := 87) hx hb dX1_meets_36 (by decide) ?_
          refine x_iinc (lv' := [(6, .int (jI (((j : Int)) + 1))), (7, .null), (0, .ref (G.2.2 60)), (2, .int (jI ((a : Int)))), (3, .int (jI ((b : Int)))), (4, .ref (G.2.2 3)), (5, .int (jI (((12 * (ρ 60 0).toNat : Nat) : Int))))]) hx hb dX1_meets_87 hl (k := 6) rfl (by decide) rfl (fun ls hl => ?_)
          refine lv_goto (tgt := 20) hx hb dX1_meets_90 (by decide) ?_
          exact ih20  ((j + 1)) a b _ _ _ (by first | omega | assumption | rfl) (by rw [cJ_n hCe]; exact hab) (by omega) hM1 (lv_sub hl [2, 3, 4, 5, 6, 0] rfl)
  exact c20 _ 0 (2 ^ lane) 0 _ _ _ (by first | omega | assumption | rfl) rfl (Nat.lt_succ_self _) hM0 (lv_sub hl [5, 4, 3, 2, 1, 0] rfl)
set_option maxHeartbeats 400000 in
theorem l_meeting (l : Launch) (E : y_E) (G : y_G) (σ : y_S) (sz : Nat) (ρ : y_S) (hL : lgR E ρ G σ) : gCt l yX1_meeting cX1_meeting 2 (some .int) ({ frames := 1, cells := 0, slots := 0, locals := 27 }) E [.ref (G.2.2 60)] G σ sz (lPo E (oMeeting ρ)) 0 0 := by
  refine g_met (by decide) (Nat.le_of_ble_eq_true rfl) ?_
  intro p e s m below meth c ls CF hr hlocks hnm hK hM0 hA hl
  have hx := CF.1
  have hb := CF.2.1
  have hts := CF.2.2.2.2
  have hl : lv_has ls 2 [(0, .ref (G.2.2 60))] := hl
  obtain ⟨hO, hS, ⟨hm1, hm2, hm3, hm4, hm5⟩, hX, hD, hZ⟩ := id hL
  have hn := hO.n
  refine lv_iconst (v := jI 0) hx hb dX1_meeting_0 rfl ?_
  refine lv_istore_n (lv' := [(1, .int (jI 0)), (0, .ref (G.2.2 60))]) hx hb dX1_meeting_1 rfl hl (by decide) rfl (fun ls hl => ?_)
  have c2 : ∀ (n2 : Nat) (q : Nat) (f : Nat) (H : Heap) (locs : List Loc) (ls : Array Slot), ((q : Int) ≤ ρ 60 0) → (6 ≤ f + q) → (meF ρ f q = meF ρ 6 0) → ((ρ 60 0).toNat - q < n2) → gM E (gA G sz) G σ s.heap H locs → lv_has ls 2 [(0, .ref (G.2.2 60)), (1, .int (jI ((q : Int))))] → W p l e ({ frames := 1, cells := 0, slots := 0, locals := 27 } : Room) s m ([.ref (G.2.2 60)] : List Value).toArray below meth c H locs 0 0 (MQ below (gQ E G sz (lPo E (oMeeting ρ))) ([.ref (G.2.2 60)] : List Value).toArray s 0 0 (gA G sz)) (F0 m 2 ls []) := by
    intro n2
    induction n2 with
    | zero => intro q f H locs ls hq hf hg hmu; exact absurd hmu (Nat.not_lt_zero _)
    | succ n2 ih2 =>
      intro q f H locs ls hq hf hg hmu2 hM1 hl
      refine lv_iload_n hx hb dX1_meeting_2 rfl (lv_at hl 1 rfl) ?_
      refine lv_aload_n hx hb dX1_meeting_3 rfl (lv_at hl 0 rfl) ?_
      refine g_geti CF hK hM1 60 (hL.2.1.1 60 _ rfl) 2 2 rfl rfl (by decide) (Or.inl (hts _ q284)) (fun _ h => h) rfl dX1_meeting_4 ?_
      refine x_top (b := ρ 60 0) hm1 ?_
      refine x_icmp_ge (tgt := 26) hx hb dX1_meeting_7 (by decide) (by omega) (by omega) (fun b7 => ?_) (fun b7 => ?_)
      · refine lv_bipush (v := jI (-5)) hx hb dX1_meeting_26 (by decide) ?_
        exact g_iret CF hr hlocks hM1 (lPo_i (by unfold oMeeting; rw [← hg, meF_e (by omega)]) hL) (by decide) (by decide) dX1_meeting_28
      · obtain ⟨f', rfl⟩ : ∃ z : Nat, f = z + 1 := ⟨f - 1, by omega⟩
        refine lv_aload_n hx hb dX1_meeting_10 rfl (lv_at hl 0 rfl) ?_
        refine lv_iload_n hx hb dX1_meeting_11 rfl (lv_at hl 1 rfl) ?_
        refine g_calli (r := (if mMeet ρ q = 3 then 1 else 0)) hM1 hA (g_runV (As := [.int (jI ((q : Int)))]) (rest := []) CF hK hM1 (hL.2.1.1 60 _ rfl) rfl (l_meets l E _ _ _ ρ q hL (by first | omega | assumption | (refine ⟨?_, ?_⟩ <;> omega))) (cwV 1 hts (lw_V q1031 q1033 qs28 q60 q1034) rfl rfl rfl (by decide +kernel) ⟨Nat.le_of_ble_eq_true rfl, Nat.le_of_ble_eq_true rfl⟩) rfl hl.1 rfl (Nat.le_of_ble_eq_true rfl) dX1_meeting_12 ⟨Nat.le_of_ble_eq_true rfl, Nat.le_of_ble_eq_true rfl⟩) (fun H locs hM2 => ?_)
        refine x_bif_eq (tgt := 20) hx hb dX1_meeting_15 (by decide) (fun b15 => ?_) (fun b15 => ?_)
        · refine x_iinc (lv' := [(1, .int (jI (((q : Int)) + 1))), (0, .ref (G.2.2 60))]) hx hb dX1_meeting_20 hl (k := 1) rfl (by decide) rfl (fun ls hl => ?_)
          refine lv_goto (tgt := 2) hx hb dX1_meeting_23 (by decide) ?_
          exact ih2  ((q + 1)) f' _ _ _ (by first | omega | assumption | rfl) (by first | omega | assumption | rfl) ((meF_s (by omega) b15).symm.trans hg) (by omega) hM2 (lv_sub hl [1, 0] rfl)
        · refine lv_iload_n hx hb dX1_meeting_18 rfl (lv_at hl 1 rfl) ?_
          exact g_iret CF hr hlocks hM2 (lPo_i (by unfold oMeeting; rw [← hg, meF_x (by omega) b15]) hL) (by decide) (by decide) dX1_meeting_19
  exact c2 _ 0 6 _ _ _ (by first | omega | assumption | rfl) (by first | omega | assumption | rfl) rfl (Nat.lt_succ_self _) hM0 (lv_sub hl [1, 0] rfl)
set_option maxHeartbeats 400000 in
theorem l_usedLayers (l : Launch) (E : y_E) (G : y_G) (σ : y_S) (sz : Nat) (ρ : y_S) (hL : lgR E ρ G σ) : gCt l yX1_usedLayers cX1_usedLayers 5 (some .int) ({ frames := 1, cells := 0, slots := 0, locals := 20 }) E [.ref (G.2.2 60)] G σ sz (gR (some (.int (jI (luF ρ 12)))) G σ) 0 0 := by
  refine g_met (by decide) (Nat.le_of_ble_eq_true rfl) ?_
  intro p e s m below meth c ls CF hr hlocks hnm hK hM0 hA hl
  have hx := CF.1
  have hb := CF.2.1
  have hts := CF.2.2.2.2
  have hl : lv_has ls 5 [(0, .ref (G.2.2 60))] := hl
  obtain ⟨hO, hS, ⟨hm1, hm2, hm3, hm4, hm5⟩, hX, hD, hZ⟩ := id hL
  have hn := hO.n
  refine lv_iconst (v := jI 0) hx hb dX1_usedLayers_0 rfl ?_
  refine lv_istore_n (lv' := [(1, .int (jI 0)), (0, .ref (G.2.2 60))]) hx hb dX1_usedLayers_1 rfl hl (by decide) rfl (fun ls hl => ?_)
  refine lv_iconst (v := jI 0) hx hb dX1_usedLayers_2 rfl ?_
  refine lv_istore_n (lv' := [(2, .int (jI 0)), (1, .int (jI 0)), (0, .ref (G.2.2 60))]) hx hb dX1_usedLayers_3 rfl hl (by decide) rfl (fun ls hl => ?_)
  have c4 : ∀ (n4 : Nat) (q : Nat) (H : Heap) (locs : List Loc) (ls : Array Slot), (q ≤ 12) → (12 - q < n4) → gM E (gA G sz) G σ s.heap H locs → lv_has ls 5 [(0, .ref (G.2.2 60)), (1, .int (jI (luF ρ q))), (2, .int (jI ((q : Int))))] → W p l e ({ frames := 1, cells := 0, slots := 0, locals := 20 } : Room) s m ([.ref (G.2.2 60)] : List Value).toArray below meth c H locs 0 0 (MQ below (gQ E G sz (gR (some (.int (jI (luF ρ 12)))) G σ)) ([.ref (G.2.2 60)] : List Value).toArray s 0 0 (gA G sz)) (F0 m 4 ls []) := by
    intro n4
    induction n4 with
    | zero => intro q H locs ls hq hmu; exact absurd hmu (Nat.not_lt_zero _)
    | succ n4 ih4 =>
      intro q H locs ls hq hmu4 hM1 hl
      have hlr := luF_r ρ q
      refine lv_iload_n hx hb dX1_usedLayers_4 rfl (lv_at hl 2 rfl) ?_
      refine lv_bipush (v := jI 12) hx hb dX1_usedLayers_5 (by decide) ?_
      refine x_icmp_ge (tgt := 100) hx hb dX1_usedLayers_7 (by decide) (by omega) (by omega) (fun b7 => ?_) (fun b7 => ?_)
      · refine lv_iload_n hx hb dX1_usedLayers_100 rfl (lv_at hl 1 rfl) ?_
        exact g_iret CF hr hlocks hM1 (g_pi (by rw [show q = 12 by omega])) (by decide) (by decide) dX1_usedLayers_101
      · refine lv_iconst (v := jI 0) hx hb dX1_usedLayers_10 rfl ?_
        refine lv_istore_n (lv' := [(3, .int (jI 0)), (0, .ref (G.2.2 60)), (1, .int (jI (luF ρ q))), (2, .int (jI ((q : Int))))]) hx hb dX1_usedLayers_11 rfl hl (by decide) rfl (fun ls hl => ?_)
        refine lv_iload_n hx hb dX1_usedLayers_12 rfl (lv_at hl 3 rfl) ?_
        refine lv_iconst (v := jI 2) hx hb dX1_usedLayers_13 rfl ?_
        refine x_irem hx hb dX1_usedLayers_14 (by omega) (by omega) (by omega) ?_
        refine x_top (b := (q : Int) % 2) (by have := tm2 (q : Int); omega) ?_
        refine lv_istore (lv' := [(4, .int (jI ((q : Int) % 2))), (3, .int (jI 0)), (0, .ref (G.2.2 60)), (1, .int (jI (luF ρ q))), (2, .int (jI ((q : Int))))]) hx hb dX1_usedLayers_15 hl (by decide) rfl (fun ls hl => ?_)
        have c17 : ∀ (n17 : Nat) (i : Int) (uz : Bool) (H : Heap) (locs : List Loc) (ls : Array Slot), (0 ≤ i) → (i % 2 = (q : Int) % 2) → (i ≤ ρ 60 0 + 1) → (uz = true → ∃ i2 : Int, mCell (ρ 60 0) (q : Int) i2 ∧ (0 < ρ 3 (6 * (q : Int) + i2) ∨ ρ 4 (6 * (q : Int) + i2) ≠ -1)) → (¬ uz = true → ∀ i2 : Int, i2 < i → mCell (ρ 60 0) (q : Int) i2 → ¬ (0 < ρ 3 (6 * (q : Int) + i2) ∨ ρ 4 (6 * (q : Int) + i2) ≠ -1)) → ((ρ 60 0 + 2 - i).toNat < n17) → gM E (gA G sz) G σ s.heap H locs → lv_has ls 5 [(0, .ref (G.2.2 60)), (1, .int (jI (luF ρ q))), (2, .int (jI ((q : Int)))), (3, .int (jI (if uz = true then 1 else 0))), (4, .int (jI i))] → W p l e ({ frames := 1, cells := 0, slots := 0, locals := 20 } : Room) s m ([.ref (G.2.2 60)] : List Value).toArray below meth c H locs 0 0 (MQ below (gQ E G sz (gR (some (.int (jI (luF ρ 12)))) G σ)) ([.ref (G.2.2 60)] : List Value).toArray s 0 0 (gA G sz)) (F0 m 17 ls []) := by
          intro n17
          induction n17 with
          | zero => intro i uz H locs ls hi0 hip hi1 hu1 hu2 hmu; exact absurd hmu (Nat.not_lt_zero _)
          | succ n17 ih17 =>
            intro i uz H locs ls hi0 hip hi1 hu1 hu2 hmu17 hM2 hl
            refine lv_iload hx hb dX1_usedLayers_17 (lv_at hl 4 rfl) ?_
            refine lv_aload_n hx hb dX1_usedLayers_19 rfl (lv_at hl 0 rfl) ?_
            refine g_geti CF hK hM2 60 (hL.2.1.1 60 _ rfl) 2 2 rfl rfl (by decide) (Or.inl (hts _ q284)) (fun _ h => h) rfl dX1_usedLayers_20 ?_
            refine x_top (b := ρ 60 0) hm1 ?_
            refine lv_iconst (v := jI 1) hx hb dX1_usedLayers_23 rfl ?_
            refine x_isub hx hb dX1_usedLayers_24 ?_
            refine x_icmp_ge (tgt := 82) hx hb dX1_usedLayers_25 (by decide) (by omega) (by omega) (fun b25 => ?_) (fun b25 => ?_)
            · refine lv_iload_n hx hb dX1_usedLayers_82 rfl (lv_at hl 1 rfl) ?_
              refine lv_iload_n hx hb dX1_usedLayers_83 rfl (lv_at hl 3 rfl) ?_
              refine x_bif_eq (tgt := 91) hx hb dX1_usedLayers_84 (by decide) (fun b84 => ?_) (fun b84 => ?_)
              · refine lv_iconst (v := jI 0) hx hb dX1_usedLayers_91 rfl ?_
                refine x_iadd hx hb dX1_usedLayers_92 ?_
                refine lv_istore_n (lv' := [(1, .int (jI ((luF ρ q) + 0))), (0, .ref (G.2.2 60)), (2, .int (jI ((q : Int)))), (3, .int (jI (if uz = true then 1 else 0))), (4, .int (jI i))]) hx hb dX1_usedLayers_93 rfl hl (by decide) rfl (fun ls hl => ?_)
                refine x_iinc (lv' := [(2, .int (jI (((q : Int)) + 1))), (1, .int (jI ((luF ρ q) + 0))), (0, .ref (G.2.2 60)), (3, .int (jI (if uz = true then 1 else 0))), (4, .int (jI i))]) hx hb dX1_usedLayers_94 hl (k := 2) rfl (by decide) rfl (fun ls hl => ?_)
                refine lv_goto (tgt := 4) hx hb dX1_usedLayers_97 (by decide) ?_
                exact ih4  ((q + 1)) _ _ _ (by first | omega | assumption | rfl) (by omega) hM2 (lv_cast (lv_sub hl [2, 1, 0] rfl) (by rw [(show luF ρ (q + 1) = luF ρ q + (if pB (luU ρ (q : Int)) = true then 1 else 0) from rfl), if_neg (pB_n (fun z => absurd ((luU_c hO (by omega) (by omega)).mp z) (fun y => Exists.elim y (fun i2 hi2 => (hu2 b84 i2 (by omega) hi2.1) hi2.2))))]; rfl))
              · refine lv_iconst (v := jI 1) hx hb dX1_usedLayers_87 rfl ?_
                refine lv_goto (tgt := 92) hx hb dX1_usedLayers_88 (by decide) ?_
                refine x_iadd hx hb dX1_usedLayers_92 ?_
                refine lv_istore_n (lv' := [(1, .int (jI ((luF ρ q) + 1))), (0, .ref (G.2.2 60)), (2, .int (jI ((q : Int)))), (3, .int (jI (if uz = true then 1 else 0))), (4, .int (jI i))]) hx hb dX1_usedLayers_93 rfl hl (by decide) rfl (fun ls hl => ?_)
                refine x_iinc (lv' := [(2, .int (jI (((q : Int)) + 1))), (1, .int (jI ((luF ρ q) + 1))), (0, .ref (G.2.2 60)), (3, .int (jI (if uz = true then 1 else 0))), (4, .int (jI i))]) hx hb dX1_usedLayers_94 hl (k := 2) rfl (by decide) rfl (fun ls hl => ?_)
                refine lv_goto (tgt := 4) hx hb dX1_usedLayers_97 (by decide) ?_
                exact ih4  ((q + 1)) _ _ _ (by first | omega | assumption | rfl) (by omega) hM2 (lv_cast (lv_sub hl [2, 1, 0] rfl) (by rw [(show luF ρ (q + 1) = luF ρ q + (if pB (luU ρ (q : Int)) = true then 1 else 0) from rfl), if_pos (pB_t.mpr ((luU_c hO (by omega) (by omega)).mpr (hu1 b84)))]; rfl))
            · have hCe : mCell (ρ 60 0) (q : Int) i := ⟨by omega, by omega, by omega, by omega, hip⟩
              have hmul : 0 ≤ (q : Int) * ρ 60 0 ∧ (q : Int) * ρ 60 0 ≤ 11 * ρ 60 0 := ⟨Int.mul_nonneg (by omega) (by omega), Int.mul_le_mul_of_nonneg_right (by omega) (by omega)⟩
              refine lv_iload_n hx hb dX1_usedLayers_28 rfl (lv_at hl 3 rfl) ?_
              refine lv_aload_n hx hb dX1_usedLayers_29 rfl (lv_at hl 0 rfl) ?_
              refine g_getr CF hK hM2 60 (hL.2.1.1 60 _ rfl) 3 3 rfl rfl (by decide) (Or.inl (hts _ q288)) (fun _ h => h) rfl (G.2.2 3) (hL.2.1.2.1 3 3 rfl) dX1_usedLayers_30 ?_
              refine lv_iload_n hx hb dX1_usedLayers_33 rfl (lv_at hl 2 rfl) ?_
              refine lv_aload_n hx hb dX1_usedLayers_34 rfl (lv_at hl 0 rfl) ?_
              refine g_geti CF hK hM2 60 (hL.2.1.1 60 _ rfl) 2 2 rfl rfl (by decide) (Or.inl (hts _ q284)) (fun _ h => h) rfl dX1_usedLayers_35 ?_
              refine x_imul hx hb dX1_usedLayers_38 ?_
              refine x_top (b := (q : Int) * ρ 60 0) (by rw [hm1]) ?_
              refine lv_iload hx hb dX1_usedLayers_39 (lv_at hl 4 rfl) ?_
              refine x_iadd hx hb dX1_usedLayers_41 ?_
              refine g_aaldr CF hK hM2 3 (hL.2.1.1 3 _ rfl) (by decide) rfl (i := ((q : Int) * ρ 60 0) + i) (by omega) (by omega) (by omega) (G.2.2 (cT ((q : Int)) i)) (by have z := hS.2.2.1 (q : Int) i (by omega) (by omega) (by omega) (by omega); rw [if_pos hCe] at z; exact z) dX1_usedLayers_42 ?_
              refine g_geti CF hK hM2 (cT ((q : Int)) i) (hL.2.1.1 _ _ (lKd_c hL.1.n.2 hCe)) 2 2 rfl rfl (by decide) (gLk.n hK q256) (fun _ h => h) rfl dX1_usedLayers_43 ?_
              refine x_top (b := ρ 3 (6 * (q : Int) + i)) (hm5 _ _ hCe).2.2.1 ?_
              have fa3 := (hO.s (6 * (q : Int) + i) (by omega) (by omega)).1
              refine x_if_gt (tgt := 69) hx hb dX1_usedLayers_46 (by decide) (by have f0 := (hO.s (6 * (q : Int) + i) (by omega) (by omega)).1; omega) (fun b46 => ?_) (fun b46 => ?_)
              · refine lv_iconst (v := jI 1) hx hb dX1_usedLayers_69 rfl ?_
                refine lv_goto (tgt := 74) hx hb dX1_usedLayers_70 (by decide) ?_
                refine x_orB1 hx hb dX1_usedLayers_74 ?_
                refine lv_istore_n (lv' := [(3, .int (jI 1)), (0, .ref (G.2.2 60)), (1, .int (jI (luF ρ q))), (2, .int (jI ((q : Int)))), (4, .int (jI i))]) hx hb dX1_usedLayers_75 rfl hl (by decide) rfl (fun ls hl => ?_)
                refine x_iinc (lv' := [(4, .int (jI (i + 2))), (3, .int (jI 1)), (0, .ref (G.2.2 60)), (1, .int (jI (luF ρ q))), (2, .int (jI ((q : Int))))]) hx hb dX1_usedLayers_76 hl (k := 4) rfl (by decide) rfl (fun ls hl => ?_)
                refine lv_goto (tgt := 17) hx hb dX1_usedLayers_79 (by decide) ?_
                exact ih17  (i + 2) true _ _ _ (by first | omega | assumption | rfl) (by first | omega | assumption | rfl) (by first | omega | assumption | rfl) (fun _ => ⟨i, hCe, by first | exact Or.inl (by omega) | exact Or.inr (by first | exact b66 | omega)⟩) (fun z => absurd rfl z) (by omega) hM2 (lv_sub hl [2, 3, 4, 1, 0] rfl)
              · refine lv_aload_n hx hb dX1_usedLayers_49 rfl (lv_at hl 0 rfl) ?_
                refine g_getr CF hK hM2 60 (hL.2.1.1 60 _ rfl) 3 3 rfl rfl (by decide) (Or.inl (hts _ q288)) (fun _ h => h) rfl (G.2.2 3) (hL.2.1.2.1 3 3 rfl) dX1_usedLayers_50 ?_
                refine lv_iload_n hx hb dX1_usedLayers_53 rfl (lv_at hl 2 rfl) ?_
                refine lv_aload_n hx hb dX1_usedLayers_54 rfl (lv_at hl 0 rfl) ?_
                refine g_geti CF hK hM2 60 (hL.2.1.1 60 _ rfl) 2 2 rfl rfl (by decide) (Or.inl (hts _ q284)) (fun _ h => h) rfl dX1_usedLayers_55 ?_
                refine x_imul hx hb dX1_usedLayers_58 ?_
                refine x_top (b := (q : Int) * ρ 60 0) (by rw [hm1]) ?_
                refine lv_iload hx hb dX1_usedLayers_59 (lv_at hl 4 rfl) ?_
                refine x_iadd hx hb dX1_usedLayers_61 ?_
                refine g_aaldr CF hK hM2 3 (hL.2.1.1 3 _ rfl) (by decide) rfl (i := ((q : Int) * ρ 60 0) + i) (by omega) (by omega) (by omega) (G.2.2 (cT ((q : Int)) i)) (by have z := hS.2.2.1 (q : Int) i (by omega) (by omega) (by omega) (by omega); rw [if_pos hCe] at z; exact z) dX1_usedLayers_62 ?_
                refine g_calli (r := (if ρ 4 (6 * ((q : Int)) + i) ≠ -1 then 1 else 0)) hM2 hA (g_runV (As := []) (rest := [.int (jI (if uz = true then 1 else 0))]) CF hK hM2 (hL.2.1.1 _ _ (lKd_c hL.1.n.2 hCe)) rfl (l_isDead l E _ _ _ ρ ((q : Int)) i  (hL.w) (by first | omega | assumption | (refine ⟨?_, ?_⟩ <;> omega))) (cwV 0 hts (lw_V q408 q409 q410 q71 q411) rfl rfl rfl (by decide +kernel) ⟨Nat.le_of_ble_eq_true rfl, Nat.le_of_ble_eq_true rfl⟩) rfl hl.1 rfl (Nat.le_of_ble_eq_true rfl) dX1_usedLayers_63 ⟨Nat.le_of_ble_eq_true rfl, Nat.le_of_ble_eq_true rfl⟩) (fun H locs hM4 => ?_)
                refine x_bif_eq (tgt := 73) hx hb dX1_usedLayers_66 (by decide) (fun b66 => ?_) (fun b66 => ?_)
                · refine lv_iconst (v := jI 0) hx hb dX1_usedLayers_73 rfl ?_
                  refine x_orB0 hx hb dX1_usedLayers_74 ?_
                  refine lv_istore_n (lv' := [(3, .int (jI (if uz = true then 1 else 0))), (0, .ref (G.2.2 60)), (1, .int (jI (luF ρ q))), (2, .int (jI ((q : Int)))), (4, .int (jI i))]) hx hb dX1_usedLayers_75 rfl hl (by decide) rfl (fun ls hl => ?_)
                  refine x_iinc (lv' := [(4, .int (jI (i + 2))), (3, .int (jI (if uz = true then 1 else 0))), (0, .ref (G.2.2 60)), (1, .int (jI (luF ρ q))), (2, .int (jI ((q : Int))))]) hx hb dX1_usedLayers_76 hl (k := 4) rfl (by decide) rfl (fun ls hl => ?_)
                  refine lv_goto (tgt := 17) hx hb dX1_usedLayers_79 (by decide) ?_
                  exact ih17  (i + 2) uz _ _ _ (by first | omega | assumption | rfl) (by first | omega | assumption | rfl) (by first | omega | assumption | rfl) hu1 (fun z i2 a b => Or.elim (Decidable.em (i2 = i)) (fun e => (by subst e; intro y; exact Or.elim y (fun y => (by omega)) (fun y => b66 y))) (fun e => hu2 z i2 (by omega) b)) (by omega) hM4 (lv_sub hl [2, 3, 4, 1, 0] rfl)
                · refine lv_iconst (v := jI 1) hx hb dX1_usedLayers_69 rfl ?_
                  refine lv_goto (tgt := 74) hx hb dX1_usedLayers_70 (by decide) ?_
                  refine x_orB1 hx hb dX1_usedLayers_74 ?_
                  refine lv_istore_n (lv' := [(3, .int (jI 1)), (0, .ref (G.2.2 60)), (1, .int (jI (luF ρ q))), (2, .int (jI ((q : Int)))), (4, .int (jI i))]) hx hb dX1_usedLayers_75 rfl hl (by decide) rfl (fun ls hl => ?_)
                  refine x_iinc (lv' := [(4, .int (jI (i + 2))), (3, .int (jI 1)), (0, .ref (G.2.2 60)), (1, .int (jI (luF ρ q))), (2, .int (jI ((q : Int))))]) hx hb dX1_usedLayers_76 hl (k := 4) rfl (by decide) rfl (fun ls hl => ?_)
                  refine lv_goto (tgt := 17) hx hb dX1_usedLayers_79 (by decide) ?_
                  exact ih17  (i + 2) true _ _ _ (by first | omega | assumption | rfl) (by first | omega | assumption | rfl) (by first | omega | assumption | rfl) (fun _ => ⟨i, hCe, by first | exact Or.inl (by omega) | exact Or.inr (by first | exact b66 | omega)⟩) (fun z => absurd rfl z) (by omega) hM4 (lv_sub hl [2, 3, 4, 1, 0] rfl)
        exact c17 _ ((q : Int) % 2) false _ _ _ (by first | omega | assumption | rfl) (by first | omega | assumption | rfl) (by first | omega | assumption | rfl) (fun z => (by cases z)) (fun _ i2 a b => absurd a (by omega)) (Nat.lt_succ_self _) hM1 (lv_sub hl [2, 3, 4, 1, 0] rfl)
  exact c4 _ 0 _ _ _ (by first | omega | assumption | rfl) (Nat.lt_succ_self _) hM0 (lv_sub hl [2, 1, 0] rfl)
set_option maxHeartbeats 400000 in
theorem l_count (l : Launch) (E : y_E) (G : y_G) (σ : y_S) (sz : Nat) (ρ : y_S) (wh : Int) (hL : lgR E ρ G σ) (hwh : R32 wh) : gCt l yX1_count cX1_count 7 (some .int) ({ frames := 2, cells := 0, slots := 0, locals := 44 }) E [.ref (G.2.2 60), .int (jI wh)] G σ sz (lPo E (oCount ρ wh)) 0 0 := by
  refine g_met (by decide) (Nat.le_of_ble_eq_true rfl) ?_
  intro p e s m below meth c ls CF hr hlocks hnm hK hM0 hA hl
  have hx := CF.1
  have hb := CF.2.1
  have hts := CF.2.2.2.2
  have hl : lv_has ls 7 [(0, .ref (G.2.2 60)), (1, .int (jI wh))] := hl
  obtain ⟨hO, hS, ⟨hm1, hm2, hm3, hm4, hm5⟩, hX, hD, hZ⟩ := id hL
  have hn := hO.n
  obtain ⟨hx1, ⟨hx2, hx3, hx4⟩, hx5, hx6, ⟨hx7, hx8⟩, hx9⟩ := id hX
  have hst := hO.st
  have hwk := hO.wk
  have h1718 := hO.2.1.2.2.2.2.2.2.2.2.2.2
  refine lv_iload_n hx hb dX1_count_0 rfl (lv_at hl 1 rfl) ?_
  rcases (by omega : wh = 0 ∨ wh = 1 ∨ wh = 2 ∨ wh = 3 ∨ wh = 4 ∨ wh = 5 ∨ wh = 6 ∨ wh = 7 ∨ (wh < 0 ∨ 7 < wh)) with h1 | h1 | h1 | h1 | h1 | h1 | h1 | h1 | h1
  · refine x_tabIn (v := 0) (off := 47) (tgt := 48) hx hb dX1_count_1 h1 (by decide) (by decide) (by decide) (by decide) (by decide) ?_
    refine lv_aload_n hx hb dX1_count_48 rfl (lv_at hl 0 rfl) ?_
    refine g_geti CF hK hM0 60 (hL.2.1.1 60 _ rfl) 2 2 rfl rfl (by decide) (Or.inl (hts _ q284)) (fun _ h => h) rfl dX1_count_49 ?_
    exact g_iret CF hr hlocks hM0 (lPo_i (by unfold oCount; show (if wh = 0 then _ else if wh = 1 then _ else if wh = 2 then _ else if wh = 3 then _ else if wh = 4 then _ else if wh = 5 then _ else if wh = 6 then _ else if wh = 7 then _ else _) = _; rw [if_pos h1]; exact hm1.symm) hL) (by decide) (by decide) dX1_count_52
  · refine x_tabIn (v := 1) (off := 52) (tgt := 53) hx hb dX1_count_1 h1 (by decide) (by decide) (by decide) (by decide) (by decide) ?_
    refine lv_iconst (v := jI 0) hx hb dX1_count_53 rfl ?_
    refine lv_istore_n (lv' := [(2, .int (jI 0)), (0, .ref (G.2.2 60)), (1, .int (jI wh))]) hx hb dX1_count_54 rfl hl (by decide) rfl (fun ls hl => ?_)
    refine lv_aload_n hx hb dX1_count_55 rfl (lv_at hl 1 rfl) ?_
    refine g_getr CF hK hM0 60 (hL.2.1.1 60 _ rfl) 3 3 rfl rfl (by decide) (Or.inl (hts _ q288)) (fun _ h => h) rfl (G.2.2 3) (hL.2.1.2.1 3 3 rfl) dX1_count_56 ?_
    refine lv_astore_n (lv' := [(3, .ref (G.2.2 3)), (2, .int (jI 0)), (0, .ref (G.2.2 60)), (1, .int (jI wh))]) hx hb dX1_count_59 rfl hl (by decide) rfl (fun ls hl => ?_)
    refine lv_aload_n hx hb dX1_count_60 rfl (lv_at hl 0 rfl) ?_
    refine g_alen CF hK hM0 3 (hL.2.1.1 3 _ rfl) (by decide) dX1_count_61 ?_
    refine lv_istore (lv' := [(4, .int (jI (((12 * (ρ 60 0).toNat : Nat) : Int)))), (3, .ref (G.2.2 3)), (2, .int (jI 0)), (0, .ref (G.2.2 60)), (1, .int (jI wh))]) hx hb dX1_count_62 hl (by decide) rfl (fun ls hl => ?_)
    refine lv_iconst (v := jI 0) hx hb dX1_count_64 rfl ?_
    refine lv_istore (lv' := [(5, .int (jI 0)), (4, .int (jI (((12 * (ρ 60 0).toNat : Nat) : Int)))), (3, .ref (G.2.2 3)), (2, .int (jI 0)), (0, .ref (G.2.2 60)), (1, .int (jI wh))]) hx hb dX1_count_65 hl (by decide) rfl (fun ls hl => ?_)
    have c67 : ∀ (n67 : Nat) (j : Nat) (H : Heap) (locs : List Loc) (ls : Array Slot), (j ≤ 12 * (ρ 60 0).toNat) → (12 * (ρ 60 0).toNat - j < n67) → gM E (gA G sz) G σ s.heap H locs → lv_has ls 7 [(0, .ref (G.2.2 60)), (1, .int (jI wh)), (2, .int (jI (deP (ρ 4) (cJ (ρ 60 0) j)))), (3, .ref (G.2.2 3)), (4, .int (jI (((12 * (ρ 60 0).toNat : Nat) : Int)))), (5, .int (jI ((j : Int))))] → W p l e ({ frames := 2, cells := 0, slots := 0, locals := 44 } : Room) s m ([.ref (G.2.2 60), .int (jI wh)] : List Value).toArray below meth c H locs 0 0 (MQ below (gQ E G sz (lPo E (oCount ρ wh))) ([.ref (G.2.2 60), .int (jI wh)] : List Value).toArray s 0 0 (gA G sz)) (F0 m 67 ls []) := by
      intro n67
      induction n67 with
      | zero => intro j H locs ls hj hmu; exact absurd hmu (Nat.not_lt_zero _)
      | succ n67 ih67 =>
        intro j H locs ls hj hmu67 hM1 hl
        have hdr := deP_r (ρ 4) (ρ 60 0) j
        refine lv_iload hx hb dX1_count_67 (lv_at hl 5 rfl) ?_
        refine lv_iload hx hb dX1_count_69 (lv_at hl 4 rfl) ?_
        refine x_icmp_ge (tgt := 107) hx hb dX1_count_71 (by decide) (by omega) (by omega) (fun b71 => ?_) (fun b71 => ?_)
        · refine lv_iload_n hx hb dX1_count_107 rfl (lv_at hl 2 rfl) ?_
          exact g_iret CF hr hlocks hM1 (lPo_i (by unfold oCount; show (if wh = 0 then _ else if wh = 1 then _ else if wh = 2 then _ else if wh = 3 then _ else if wh = 4 then _ else if wh = 5 then _ else if wh = 6 then _ else if wh = 7 then _ else _) = _; rw [if_neg (by omega), if_pos h1]; rw [deC_f (n := ρ 60 0) (fun k a b c => (by have := (hO.2.2.1 k a b c).2; omega)) 72 (by decide), ← cJ_K hn.1 hn.2, show 12 * (ρ 60 0).toNat = j by omega]) hL) (by decide) (by decide) dX1_count_108
        · refine lv_aload_n hx hb dX1_count_74 rfl (lv_at hl 3 rfl) ?_
          refine lv_iload hx hb dX1_count_75 (lv_at hl 5 rfl) ?_
          refine g_aaldc CF hK hM1 3 (hL.2.1.1 3 _ rfl) (by decide) rfl (i := (j : Int)) (by omega) (by omega) (by omega) (hL.2.1.at hL.1.n.1 hL.1.n.2 (by omega)) dX1_count_77 (fun hCe => ?_) (fun hCe => ?_)
          · refine lv_astore (lv' := [(6, .ref (G.2.2 (cT ((j : Int) / ρ 60 0) ((j : Int) % ρ 60 0)))), (0, .ref (G.2.2 60)), (1, .int (jI wh)), (2, .int (jI (deP (ρ 4) (cJ (ρ 60 0) j)))), (3, .ref (G.2.2 3)), (4, .int (jI (((12 * (ρ 60 0).toNat : Nat) : Int)))), (5, .int (jI ((j : Int))))]) hx hb dX1_count_78 hl (by decide) rfl (fun ls hl => ?_)
            refine lv_iload_n hx hb dX1_count_80 rfl (lv_at hl 3 rfl) ?_
            refine lv_aload hx hb dX1_count_81 (lv_at hl 0 rfl) ?_
            refine lv_ifnull hx hb dX1_count_83 ?_
            have hx5 := cell_ix hCe hn.2
            have hpl := hO.p _ hx5.2.2.1 hx5.2.2.2
            refine lv_aload hx hb dX1_count_86 (lv_at hl 0 rfl) ?_
            refine g_calli (r := (if ρ 4 (6 * ((j : Int) / ρ 60 0) + ((j : Int) % ρ 60 0)) ≠ -1 then 1 else 0)) hM1 hA (g_runV (As := []) (rest := [.int (jI (deP (ρ 4) (cJ (ρ 60 0) j)))]) CF hK hM1 (hL.2.1.1 _ _ (lKd_c hL.1.n.2 hCe)) rfl (l_isDead l E _ _ _ ρ ((j : Int) / ρ 60 0) ((j : Int) % ρ 60 0)  (hL.w) (by first | omega | assumption | (refine ⟨?_, ?_⟩ <;> omega))) (cwV 0 hts (lw_V q408 q409 q410 q71 q411) rfl rfl rfl (by decide +kernel) ⟨Nat.le_of_ble_eq_true rfl, Nat.le_of_ble_eq_true rfl⟩) rfl hl.1 rfl (Nat.le_of_ble_eq_true rfl) dX1_count_88 ⟨Nat.le_of_ble_eq_true rfl, Nat.le_of_ble_eq_true rfl⟩) (fun H locs hM2 => ?_)
            refine x_bif_eq (tgt := 98) hx hb dX1_count_91 (by decide) (fun b91 => ?_) (fun b91 => ?_)
            · refine lv_iconst (v := jI 0) hx hb dX1_count_98 rfl ?_
              refine x_iadd hx hb dX1_count_99 ?_
              refine lv_istore_n (lv' := [(2, .int (jI ((deP (ρ 4) (cJ (ρ 60 0) j)) + 0))), (6, .ref (G.2.2 (cT ((j : Int) / ρ 60 0) ((j : Int) % ρ 60 0)))), (0, .ref (G.2.2 60)), (1, .int (jI wh)), (3, .ref (G.2.2 3)), (4, .int (jI (((12 * (ρ 60 0).toNat : Nat) : Int)))), (5, .int (jI ((j : Int))))]) hx hb dX1_count_100 rfl hl (by decide) rfl (fun ls hl => ?_)
              refine x_iinc (lv' := [(5, .int (jI (((j : Int)) + 1))), (2, .int (jI ((deP (ρ 4) (cJ (ρ 60 0) j)) + 0))), (6, .ref (G.2.2 (cT ((j : Int) / ρ 60 0) ((j : Int) % ρ 60 0)))), (0, .ref (G.2.2 60)), (1, .int (jI wh)), (3, .ref (G.2.2 3)), (4, .int (jI (((12 * (ρ 60 0).toNat : Nat) : Int))))]) hx hb dX1_count_101 hl (k := 6) rfl (by decide) rfl (fun ls hl => ?_)
              refine lv_goto (tgt := 67) hx hb dX1_count_104 (by decide) ?_
              exact ih67  ((j + 1)) _ _ _ (by first | omega | assumption | rfl) (by omega) hM2 (lv_cast (lv_sub hl [3, 4, 1, 5, 6, 0] rfl) (by rw [cJ_y hCe, deP_a, if_pos (show ρ 4 (6 * ((j : Int) / ρ 60 0) + (j : Int) % ρ 60 0) < 0 by omega)]; rfl))
            · refine lv_iconst (v := jI 1) hx hb dX1_count_94 rfl ?_
              refine lv_goto (tgt := 99) hx hb dX1_count_95 (by decide) ?_
              refine x_iadd hx hb dX1_count_99 ?_
              refine lv_istore_n (lv' := [(2, .int (jI ((deP (ρ 4) (cJ (ρ 60 0) j)) + 1))), (6, .ref (G.2.2 (cT ((j : Int) / ρ 60 0) ((j : Int) % ρ 60 0)))), (0, .ref (G.2.2 60)), (1, .int (jI wh)), (3, .ref (G.2.2 3)), (4, .int (jI (((12 * (ρ 60 0).toNat : Nat) : Int)))), (5, .int (jI ((j : Int))))]) hx hb dX1_count_100 rfl hl (by decide) rfl (fun ls hl => ?_)
              refine x_iinc (lv' := [(5, .int (jI (((j : Int)) + 1))), (2, .int (jI ((deP (ρ 4) (cJ (ρ 60 0) j)) + 1))), (6, .ref (G.2.2 (cT ((j : Int) / ρ 60 0) ((j : Int) % ρ 60 0)))), (0, .ref (G.2.2 60)), (1, .int (jI wh)), (3, .ref (G.2.2 3)), (4, .int (jI (((12 * (ρ 60 0).toNat : Nat) : Int))))]) hx hb dX1_count_101 hl (k := 6) rfl (by decide) rfl (fun ls hl => ?_)
              refine lv_goto (tgt := 67) hx hb dX1_count_104 (by decide) ?_
              exact ih67  ((j + 1)) _ _ _ (by first | omega | assumption | rfl) (by omega) hM2 (lv_cast (lv_sub hl [3, 4, 1, 5, 6, 0] rfl) (by rw [cJ_y hCe, deP_a, if_neg (show ¬ ρ 4 (6 * ((j : Int) / ρ 60 0) + (j : Int) % ρ 60 0) < 0 by omega)]; rfl))
          · refine lv_astoreN (lv' := [(6, .null), (0, .ref (G.2.2 60)), (1, .int (jI wh)), (2, .int (jI (deP (ρ 4) (cJ (ρ 60 0) j)))), (3, .ref (G.2.2 3)), (4, .int (jI (((12 * (ρ 60 0).toNat : Nat) : Int)))), (5, .int (jI ((j : Int))))]) hx hb dX1_count_78 hl (by decide) rfl (fun ls hl => ?_)
            refine lv_iload_n hx hb dX1_count_80 rfl (lv_at hl 3 rfl) ?_
            refine lv_aloadN hx hb dX1_count_81 (lv_at hl 0 rfl) ?_
            refine lv_ifnullN (tgt := 98) hx hb dX1_count_83 (by decide) ?_
            refine lv_iconst (v := jI 0) hx hb dX1_count_98 rfl ?_
            refine x_iadd hx hb dX1_count_99 ?_
            refine lv_istore_n (lv' := [(2, .int (jI ((deP (ρ 4) (cJ (ρ 60 0) j)) + 0))), (6, .null), (0, .ref (G.2.2 60)), (1, .int (jI wh)), (3, .ref (G.2.2 3)), (4, .int (jI (((12 * (ρ 60 0).toNat : Nat) : Int)))), (5, .int (jI ((j : Int))))]) hx hb dX1_count_100 rfl hl (by decide) rfl (fun ls hl => ?_)
            refine x_iinc (lv' := [(5, .int (jI (((j : Int)) + 1))), (2, .int (jI ((deP (ρ 4) (cJ (ρ 60 0) j)) + 0))), (6, .null), (0, .ref (G.2.2 60)), (1, .int (jI wh)), (3, .ref (G.2.2 3)), (4, .int (jI (((12 * (ρ 60 0).toNat : Nat) : Int))))]) hx hb dX1_count_101 hl (k := 6) rfl (by decide) rfl (fun ls hl => ?_)
            refine lv_goto (tgt := 67) hx hb dX1_count_104 (by decide) ?_
            exact ih67  ((j + 1)) _ _ _ (by first | omega | assumption | rfl) (by omega) hM1 (lv_cast (lv_sub hl [3, 4, 1, 5, 6, 0] rfl) (by rw [cJ_n hCe, Int.add_zero]; rfl))
    exact c67 _ 0 _ _ _ (by first | omega | assumption | rfl) (Nat.lt_succ_self _) hM0 (lv_sub hl [4, 5, 3, 2, 1, 0] rfl)
  · refine x_tabIn (v := 2) (off := 108) (tgt := 109) hx hb dX1_count_1 h1 (by decide) (by decide) (by decide) (by decide) (by decide) ?_
    refine lv_aload_n hx hb dX1_count_109 rfl (lv_at hl 0 rfl) ?_
    refine g_geti CF hK hM0 60 (hL.2.1.1 60 _ rfl) 20 20 rfl rfl (by decide) (Or.inl (hts _ q306)) (fun _ h => h) rfl dX1_count_110 ?_
    exact g_iret CF hr hlocks hM0 (lPo_i (by unfold oCount; show (if wh = 0 then _ else if wh = 1 then _ else if wh = 2 then _ else if wh = 3 then _ else if wh = 4 then _ else if wh = 5 then _ else if wh = 6 then _ else if wh = 7 then _ else _) = _; rw [if_neg (by omega), if_neg (by omega), if_pos h1]; exact hx7.symm) hL) (by decide) (by decide) dX1_count_113
  · refine x_tabIn (v := 3) (off := 113) (tgt := 114) hx hb dX1_count_1 h1 (by decide) (by decide) (by decide) (by decide) (by decide) ?_
    refine lv_aload_n hx hb dX1_count_114 rfl (lv_at hl 0 rfl) ?_
    refine g_getr CF hK hM0 60 (hL.2.1.1 60 _ rfl) 27 27 rfl rfl (by decide) (Or.inl (hts _ q316)) (fun _ h => h) rfl (G.2.2 27) (hL.2.1.2.1 27 27 rfl) dX1_count_115 ?_
    refine g_calli (r := σ 27 2) hM0 hA (g_runV (As := []) (rest := []) CF hK hM0 (hL.2.1.1 27 _ rfl) rfl (j_size l E _ _ _ 27  (hL.2.1.1 27 _ rfl)) (cwV 0 hts (lw_V q479 q480 q481 q70 q482) rfl rfl rfl (by decide +kernel) ⟨Nat.le_of_ble_eq_true rfl, Nat.le_of_ble_eq_true rfl⟩) rfl hl.1 rfl (Nat.le_of_ble_eq_true rfl) dX1_count_118 ⟨Nat.le_of_ble_eq_true rfl, Nat.le_of_ble_eq_true rfl⟩) (fun H locs hM3 => ?_)
    exact g_iret CF hr hlocks hM3 (lPo_i (by unfold oCount; show (if wh = 0 then _ else if wh = 1 then _ else if wh = 2 then _ else if wh = 3 then _ else if wh = 4 then _ else if wh = 5 then _ else if wh = 6 then _ else if wh = 7 then _ else _) = _; rw [if_neg (by omega), if_neg (by omega), if_neg (by omega), if_pos h1]; exact hD.1.1.1.symm) hL) (by decide) (by decide) dX1_count_121
  · refine x_tabIn (v := 4) (off := 121) (tgt := 122) hx hb dX1_count_1 h1 (by decide) (by decide) (by decide) (by decide) (by decide) ?_
    refine lv_aload_n hx hb dX1_count_122 rfl (lv_at hl 0 rfl) ?_
    refine g_geti CF hK hM0 60 (hL.2.1.1 60 _ rfl) 29 29 rfl rfl (by decide) (Or.inl (hts _ q318)) (fun _ h => h) rfl dX1_count_123 ?_
    exact g_iret CF hr hlocks hM0 (lPo_i (by unfold oCount; show (if wh = 0 then _ else if wh = 1 then _ else if wh = 2 then _ else if wh = 3 then _ else if wh = 4 then _ else if wh = 5 then _ else if wh = 6 then _ else if wh = 7 then _ else _) = _; rw [if_neg (by omega), if_neg (by omega), if_neg (by omega), if_neg (by omega), if_pos h1]; exact hm3.symm) hL) (by decide) (by decide) dX1_count_126
  · refine x_tabIn (v := 5) (off := 126) (tgt := 127) hx hb dX1_count_1 h1 (by decide) (by decide) (by decide) (by decide) (by decide) ?_
    refine lv_aload_n hx hb dX1_count_127 rfl (lv_at hl 0 rfl) ?_
    refine g_geti CF hK hM0 60 (hL.2.1.1 60 _ rfl) 25 25 rfl rfl (by decide) (Or.inl (hts _ q313)) (fun _ h => h) rfl dX1_count_128 ?_
    exact g_iret CF hr hlocks hM0 (lPo_i (by unfold oCount; show (if wh = 0 then _ else if wh = 1 then _ else if wh = 2 then _ else if wh = 3 then _ else if wh = 4 then _ else if wh = 5 then _ else if wh = 6 then _ else if wh = 7 then _ else _) = _; rw [if_neg (by omega), if_neg (by omega), if_neg (by omega), if_neg (by omega), if_neg (by omega), if_pos h1]; exact hx9.1.1.symm) hL) (by decide) (by decide) dX1_count_131
  · refine x_tabIn (v := 6) (off := 131) (tgt := 132) hx hb dX1_count_1 h1 (by decide) (by decide) (by decide) (by decide) (by decide) ?_
    refine lv_aload_n hx hb dX1_count_132 rfl (lv_at hl 0 rfl) ?_
    refine g_calli (r := luF ρ 12) hM0 hA (g_runV (As := []) (rest := []) CF hK hM0 (hL.2.1.1 60 _ rfl) rfl (l_usedLayers l E _ _ _ ρ  hL) (cwV 0 hts (lw_V q1039 q1041 qs29 q60 q1042) rfl rfl rfl (by decide +kernel) ⟨Nat.le_of_ble_eq_true rfl, Nat.le_of_ble_eq_true rfl⟩) rfl hl.1 rfl (Nat.le_of_ble_eq_true rfl) dX1_count_133 ⟨Nat.le_of_ble_eq_true rfl, Nat.le_of_ble_eq_true rfl⟩) (fun H locs hM4 => ?_)
    exact g_iret CF hr hlocks hM4 (lPo_i (by unfold oCount; show (if wh = 0 then _ else if wh = 1 then _ else if wh = 2 then _ else if wh = 3 then _ else if wh = 4 then _ else if wh = 5 then _ else if wh = 6 then _ else if wh = 7 then _ else _) = _; rw [if_neg (by omega), if_neg (by omega), if_neg (by omega), if_neg (by omega), if_neg (by omega), if_neg (by omega), if_pos h1]; skip) hL) (by decide) (by decide) dX1_count_136
  · refine x_tabIn (v := 7) (off := 136) (tgt := 137) hx hb dX1_count_1 h1 (by decide) (by decide) (by decide) (by decide) (by decide) ?_
    refine lv_aload_n hx hb dX1_count_137 rfl (lv_at hl 0 rfl) ?_
    refine g_geti CF hK hM0 60 (hL.2.1.1 60 _ rfl) 4 4 rfl rfl (by decide) (Or.inl (hts _ q290)) (fun _ h => h) rfl dX1_count_138 ?_
    exact g_iret CF hr hlocks hM0 (lPo_i (by unfold oCount; show (if wh = 0 then _ else if wh = 1 then _ else if wh = 2 then _ else if wh = 3 then _ else if wh = 4 then _ else if wh = 5 then _ else if wh = 6 then _ else if wh = 7 then _ else _) = _; rw [if_neg (by omega), if_neg (by omega), if_neg (by omega), if_neg (by omega), if_neg (by omega), if_neg (by omega), if_neg (by omega), if_pos h1]; exact hm2.symm) hL) (by decide) (by decide) dX1_count_141
  · refine x_tabOut (tgt := 142) hx hb dX1_count_1 (by omega) h1 (by decide) ?_
    refine lv_iconst (v := jI (-1)) hx hb dX1_count_142 rfl ?_
    exact g_iret CF hr hlocks hM0 (lPo_i (by unfold oCount; show (if wh = 0 then _ else if wh = 1 then _ else if wh = 2 then _ else if wh = 3 then _ else if wh = 4 then _ else if wh = 5 then _ else if wh = 6 then _ else if wh = 7 then _ else _) = _; rw [if_neg (by omega), if_neg (by omega), if_neg (by omega), if_neg (by omega), if_neg (by omega), if_neg (by omega), if_neg (by omega), if_neg (by omega)]; skip) hL) (by decide) (by decide) dX1_count_143
