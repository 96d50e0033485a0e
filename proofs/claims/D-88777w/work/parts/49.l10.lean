set_option maxHeartbeats 400000 in
theorem l_fits (l : Launch) (E : y_E) (G : y_G) (σ : y_S) (sz : Nat) (ρ : y_S) (L : Nat) (hL : lgR E ρ G σ) (hL12 : L ≤ 12) : gCt l yX1_fits cX1_fits 5 (some .boolean) ({ frames := 5, cells := 0, slots := 0, locals := 116 }) E [.ref (G.2.2 60), .int (jI ((L : Int)))] G σ sz (gPI (fun r G' τ' => G = G' ∧ lgR E ρ G τ' ∧ ((r = 1 ∧ bAb ρ L ∧ mFit ρ (L : Int) ∧ ∀ l2 : Nat, l2 ≤ L → cRw ρ (L : Int) l2 τ') ∨ (r = 0 ∧ ¬ (bAb ρ L ∧ mFit ρ (L : Int)))))) 0 0 := by
  refine g_met (by decide) (Nat.le_of_ble_eq_true rfl) ?_
  intro p e s m below meth c ls CF hr hlocks hnm hK hM0 hA hl
  have hx := CF.1
  have hb := CF.2.1
  have hts := CF.2.2.2.2
  have hl : lv_has ls 5 [(0, .ref (G.2.2 60)), (1, .int (jI ((L : Int))))] := hl
  obtain ⟨hO, hS, ⟨hm1, hm2, hm3, hm4, hm5⟩, hX, hD, hZ⟩ := id hL
  have hn := hO.n
  have hwk := hO.wk
  have hW10 : wkN ρ ≤ 10 := (by unfold wkN; omega)
  have hWI : ((wkN ρ : Nat) : Int) = ρ 60 21 := (by unfold wkN; omega)
  have hp2 := pw10 hW10
  have hw20 := hX.2.2.2.2.1.1
  have hp0 := pw_pos (wkN ρ)
  refine lv_iload_n hx hb dX1_fits_0 rfl (lv_at hl 1 rfl) ?_
  refine lv_istore_n (lv' := [(2, .int (jI ((L : Int)))), (0, .ref (G.2.2 60)), (1, .int (jI ((L : Int))))]) hx hb dX1_fits_1 rfl hl (by decide) rfl (fun ls hl => ?_)
  have c2 : ∀ (n2 : Nat) (q : Nat) (H : Heap) (locs : List Loc) (ls : Array Slot), (L ≤ q) → (q ≤ 12) → (∀ l2 : Int, (L : Int) ≤ l2 → l2 < (q : Int) → mBare ρ l2) → (12 - q < n2) → gM E (gA G sz) G σ s.heap H locs → lv_has ls 5 [(0, .ref (G.2.2 60)), (1, .int (jI ((L : Int)))), (2, .int (jI ((q : Int))))] → W p l e ({ frames := 5, cells := 0, slots := 0, locals := 116 } : Room) s m ([.ref (G.2.2 60), .int (jI ((L : Int)))] : List Value).toArray below meth c H locs 0 0 (MQ below (gQ E G sz (gPI (fun r G' τ' => G = G' ∧ lgR E ρ G τ' ∧ ((r = 1 ∧ bAb ρ L ∧ mFit ρ (L : Int) ∧ ∀ l2 : Nat, l2 ≤ L → cRw ρ (L : Int) l2 τ') ∨ (r = 0 ∧ ¬ (bAb ρ L ∧ mFit ρ (L : Int))))))) ([.ref (G.2.2 60), .int (jI ((L : Int)))] : List Value).toArray s 0 0 (gA G sz)) (F0 m 2 ls []) := by
    intro n2
    induction n2 with
    | zero => intro q H locs ls hq0 hq1 hba hmu; exact absurd hmu (Nat.not_lt_zero _)
    | succ n2 ih2 =>
      intro q H locs ls hq0 hq1 hba hmu2 hM1 hl
      refine lv_iload_n hx hb dX1_fits_2 rfl (lv_at hl 2 rfl) ?_
      refine lv_bipush (v := jI 12) hx hb dX1_fits_3 (by decide) ?_
      refine x_icmp_ge (tgt := 55) hx hb dX1_fits_5 (by decide) (by omega) (by omega) (fun b5 => ?_) (fun b5 => ?_)
      · have hbA : bAb ρ L := fun l2 a b => hba l2 a (by omega)
        refine lv_iconst (v := jI 1) hx hb dX1_fits_55 rfl ?_
        refine lv_aload_n hx hb dX1_fits_56 rfl (lv_at hl 0 rfl) ?_
        refine g_geti CF hK hM1 60 (hL.2.1.1 60 _ rfl) 20 20 rfl rfl (by decide) (Or.inl (hts _ q306)) (fun _ h => h) rfl dX1_fits_57 ?_
        refine x_top (b := ((wkN ρ : Nat) : Int)) (by omega) ?_
        refine x_shl1 (w := wkN ρ) hx hb dX1_fits_60 (by omega) ?_
        refine lv_iconst (v := jI 1) hx hb dX1_fits_61 rfl ?_
        refine x_isub hx hb dX1_fits_62 ?_
        refine x_top (b := ((2 ^ (wkN ρ) - 1 : Nat) : Int)) (by have := pw_pos (wkN ρ); omega) ?_
        refine lv_istore_n (lv' := [(2, .int (jI (((2 ^ (wkN ρ) - 1 : Nat) : Int)))), (0, .ref (G.2.2 60)), (1, .int (jI ((L : Int))))]) hx hb dX1_fits_63 rfl hl (by decide) rfl (fun ls hl => ?_)
        refine lv_iconst (v := jI 0) hx hb dX1_fits_64 rfl ?_
        refine lv_istore_n (lv' := [(3, .int (jI 0)), (2, .int (jI (((2 ^ (wkN ρ) - 1 : Nat) : Int)))), (0, .ref (G.2.2 60)), (1, .int (jI ((L : Int))))]) hx hb dX1_fits_65 rfl hl (by decide) rfl (fun ls hl => ?_)
        have c66 : ∀ (n66 : Nat) (D : Nat) (H : Heap) (locs : List Loc) (ls : Array Slot), (D ≤ 2 ^ wkN ρ) → (2 ^ wkN ρ - D < n66) → gM E (gA G sz) G (upT σ (240 + L) (fillN (σ (240 + L)) (fun z => if z = ((2 ^ wkN ρ - 1 : Nat) : Int) then 1 else 0) (D : Int))) s.heap H locs → lv_has ls 5 [(0, .ref (G.2.2 60)), (1, .int (jI ((L : Int)))), (2, .int (jI (((2 ^ wkN ρ - 1 : Nat) : Int)))), (3, .int (jI ((D : Int))))] → W p l e ({ frames := 5, cells := 0, slots := 0, locals := 116 } : Room) s m ([.ref (G.2.2 60), .int (jI ((L : Int)))] : List Value).toArray below meth c H locs 0 0 (MQ below (gQ E G sz (gPI (fun r G' τ' => G = G' ∧ lgR E ρ G τ' ∧ ((r = 1 ∧ bAb ρ L ∧ mFit ρ (L : Int) ∧ ∀ l2 : Nat, l2 ≤ L → cRw ρ (L : Int) l2 τ') ∨ (r = 0 ∧ ¬ (bAb ρ L ∧ mFit ρ (L : Int))))))) ([.ref (G.2.2 60), .int (jI ((L : Int)))] : List Value).toArray s 0 0 (gA G sz)) (F0 m 66 ls []) := by
          intro n66
          induction n66 with
          | zero => intro D H locs ls hD0 hmu; exact absurd hmu (Nat.not_lt_zero _)
          | succ n66 ih66 =>
            intro D H locs ls hD0 hmu66 hM2 hl
            refine lv_iload_n hx hb dX1_fits_66 rfl (lv_at hl 3 rfl) ?_
            refine lv_iload_n hx hb dX1_fits_67 rfl (lv_at hl 2 rfl) ?_
            refine x_icmp_gt (tgt := 95) hx hb dX1_fits_68 (by decide) (by omega) (by omega) (fun b68 => ?_) (fun b68 => ?_)
            · refine lv_iload_n hx hb dX1_fits_95 rfl (lv_at hl 1 rfl) ?_
              refine lv_iconst (v := jI 1) hx hb dX1_fits_96 rfl ?_
              refine x_isub hx hb dX1_fits_97 ?_
              refine lv_istore_n (lv' := [(3, .int (jI (((L : Int)) - 1))), (0, .ref (G.2.2 60)), (1, .int (jI ((L : Int)))), (2, .int (jI (((2 ^ wkN ρ - 1 : Nat) : Int))))]) hx hb dX1_fits_98 rfl hl (by decide) rfl (fun ls hl => ?_)
              have c99 : ∀ (n99 : Nat) (k : Nat) (τ : y_S) (H : Heap) (locs : List Loc) (ls : Array Slot), (k ≤ L) → (lgR E ρ G τ) → (∀ l2 : Nat, k ≤ l2 → l2 ≤ L → cRw ρ (L : Int) l2 τ) → (k < n99) → gM E (gA G sz) G τ s.heap H locs → lv_has ls 5 [(0, .ref (G.2.2 60)), (1, .int (jI ((L : Int)))), (2, .int (jI (((2 ^ wkN ρ - 1 : Nat) : Int)))), (3, .int (jI ((k : Int) - 1)))] → W p l e ({ frames := 5, cells := 0, slots := 0, locals := 116 } : Room) s m ([.ref (G.2.2 60), .int (jI ((L : Int)))] : List Value).toArray below meth c H locs 0 0 (MQ below (gQ E G sz (gPI (fun r G' τ' => G = G' ∧ lgR E ρ G τ' ∧ ((r = 1 ∧ bAb ρ L ∧ mFit ρ (L : Int) ∧ ∀ l2 : Nat, l2 ≤ L → cRw ρ (L : Int) l2 τ') ∨ (r = 0 ∧ ¬ (bAb ρ L ∧ mFit ρ (L : Int))))))) ([.ref (G.2.2 60), .int (jI ((L : Int)))] : List Value).toArray s 0 0 (gA G sz)) (F0 m 99 ls []) := by
                intro n99
                induction n99 with
                | zero => intro k τ H locs ls hk hLτ hrw hmu; exact absurd hmu (Nat.not_lt_zero _)
                | succ n99 ih99 =>
                  intro k τ H locs ls hk hLτ hrw hmu99 hM3 hl
                  refine lv_iload_n hx hb dX1_fits_99 rfl (lv_at hl 3 rfl) ?_
                  refine x_if_lt (tgt := 149) hx hb dX1_fits_100 (by decide) (by omega) (fun b100 => ?_) (fun b100 => ?_)
                  · refine lv_aload_n hx hb dX1_fits_149 rfl (lv_at hl 0 rfl) ?_
                    refine g_getr CF hK hM3 60 (hL.2.1.1 60 _ rfl) 21 21 rfl rfl (by decide) (Or.inl (hts _ q307)) (fun _ h => h) rfl (G.2.2 21) (hL.2.1.2.1 21 21 rfl) dX1_fits_150 ?_
                    refine lv_iconst (v := jI 0) hx hb dX1_fits_153 rfl ?_
                    refine g_aaldr CF hK hM3 21 (hL.2.1.1 21 _ rfl) (by decide) rfl (i := 0) (by omega) (by omega) (by omega) (G.2.2 (240 + 0)) (hL.2.1.2.2.2.2.2.2.2.2.2.2 0 (by omega)) dX1_fits_154 ?_
                    refine lv_iconst (v := jI 0) hx hb dX1_fits_155 rfl ?_
                    refine g_zald CF hK hM3 (240 + 0) (hL.2.1.1 _ _ (lKd_ce (by omega))) (i := 0) (by omega) (by omega) (by omega) dX1_fits_156 ?_
                    refine x_top (b := (if pB (mFit ρ (L : Int)) = true then 1 else 0)) (by have z := hrw 0 (by omega) (by omega) 0 hp0; rw [show ((L : Int) - ((0 : Nat) : Int)).toNat = (L : Int).toNat by omega] at z; exact z) ?_
                    exact g_zret CF hr hlocks hM3 (g_b01 _) ⟨_, rfl, rfl, hLτ, Or.elim (Decidable.em (pB (mFit ρ (L : Int)) = true)) (fun h => Or.inl ⟨if_pos h, hbA, pB_t.mp h, fun l2 hl2 => hrw l2 (by omega) hl2⟩) (fun h => Or.inr ⟨if_neg h, fun z => h (pB_t.mpr z.2)⟩)⟩ (by decide) (by decide) dX1_fits_157
                  · obtain ⟨k', rfl⟩ : ∃ z : Nat, k = z + 1 := ⟨k - 1, by omega⟩
                    refine lv_iconst (v := jI 0) hx hb dX1_fits_103 rfl ?_
                    refine lv_istore (lv' := [(4, .int (jI 0)), (0, .ref (G.2.2 60)), (1, .int (jI ((L : Int)))), (2, .int (jI (((2 ^ wkN ρ - 1 : Nat) : Int)))), (3, .int (jI (((k' + 1 : Nat) : Int) - 1)))]) hx hb dX1_fits_104 hl (by decide) rfl (fun ls hl => ?_)
                    have c106 : ∀ (n106 : Nat) (D : Nat) (τ2 : y_S) (H : Heap) (locs : List Loc) (ls : Array Slot), (D ≤ 2 ^ wkN ρ) → (lgR E ρ G τ2) → (∀ l2 : Nat, k' < l2 → l2 ≤ L → cRw ρ (L : Int) l2 τ2) → (∀ D2 : Nat, D2 < D → τ2 (240 + k') (D2 : Int) = if pB (mCan ρ (L : Int) ((L : Int) - (k' : Int)).toNat D2) = true then 1 else 0) → (2 ^ wkN ρ - D < n106) → gM E (gA G sz) G τ2 s.heap H locs → lv_has ls 5 [(0, .ref (G.2.2 60)), (1, .int (jI ((L : Int)))), (2, .int (jI (((2 ^ wkN ρ - 1 : Nat) : Int)))), (3, .int (jI ((k' : Int)))), (4, .int (jI ((D : Int))))] → W p l e ({ frames := 5, cells := 0, slots := 0, locals := 116 } : Room) s m ([.ref (G.2.2 60), .int (jI ((L : Int)))] : List Value).toArray below meth c H locs 0 0 (MQ below (gQ E G sz (gPI (fun r G' τ' => G = G' ∧ lgR E ρ G τ' ∧ ((r = 1 ∧ bAb ρ L ∧ mFit ρ (L : Int) ∧ ∀ l2 : Nat, l2 ≤ L → cRw ρ (L : Int) l2 τ') ∨ (r = 0 ∧ ¬ (bAb ρ L ∧ mFit ρ (L : Int))))))) ([.ref (G.2.2 60), .int (jI ((L : Int)))] : List Value).toArray s 0 0 (gA G sz)) (F0 m 106 ls []) := by
                      intro n106
                      induction n106 with
                      | zero => intro D τ2 H locs ls hD0 hLτ2 hrw2 hrd hmu; exact absurd hmu (Nat.not_lt_zero _)
                      | succ n106 ih106 =>
                        intro D τ2 H locs ls hD0 hLτ2 hrw2 hrd hmu106 hM4 hl
                        refine lv_iload hx hb dX1_fits_106 (lv_at hl 4 rfl) ?_
                        refine lv_iload_n hx hb dX1_fits_108 rfl (lv_at hl 2 rfl) ?_
                        refine x_icmp_gt (tgt := 143) hx hb dX1_fits_109 (by decide) (by omega) (by omega) (fun b109 => ?_) (fun b109 => ?_)
                        · refine x_iinc (lv' := [(3, .int (jI (((k' : Int)) - 1))), (0, .ref (G.2.2 60)), (1, .int (jI ((L : Int)))), (2, .int (jI (((2 ^ wkN ρ - 1 : Nat) : Int)))), (4, .int (jI ((D : Int))))]) hx hb dX1_fits_143 hl (k := 3) rfl (by decide) rfl (fun ls hl => ?_)
                          refine lv_goto (tgt := 99) hx hb dX1_fits_146 (by decide) ?_
                          exact ih99  k' τ2 _ _ _ (by first | omega | assumption | rfl) hLτ2 (fun l2 a b => Or.elim (Nat.lt_or_ge k' l2) (fun z => hrw2 l2 z b) (fun z => (by have e : l2 = k' := (by omega); subst e; exact fun D2 hD2 => hrd D2 (by omega)))) (by omega) hM4 (lv_sub hl [1, 2, 3, 0] rfl)
                        · refine lv_aload_n hx hb dX1_fits_112 rfl (lv_at hl 0 rfl) ?_
                          refine g_getr CF hK hM4 60 (hL.2.1.1 60 _ rfl) 21 21 rfl rfl (by decide) (Or.inl (hts _ q307)) (fun _ h => h) rfl (G.2.2 21) (hL.2.1.2.1 21 21 rfl) dX1_fits_113 ?_
                          refine lv_iload_n hx hb dX1_fits_116 rfl (lv_at hl 3 rfl) ?_
                          refine g_aaldr CF hK hM4 21 (hL.2.1.1 21 _ rfl) (by decide) rfl (i := (k' : Int)) (by omega) (by omega) (by omega) (G.2.2 (240 + k')) ((hL.2.1.2.2.2.2.2.2.2.2.2.2 k' (by omega))) dX1_fits_117 ?_
                          refine lv_iload hx hb dX1_fits_118 (lv_at hl 4 rfl) ?_
                          refine lv_aload_n hx hb dX1_fits_120 rfl (lv_at hl 0 rfl) ?_
                          refine lv_iload_n hx hb dX1_fits_121 rfl (lv_at hl 3 rfl) ?_
                          refine lv_iload hx hb dX1_fits_122 (lv_at hl 4 rfl) ?_
                          refine g_callPI hM4 hA (g_runV (As := [.int (jI ((k' : Int))), .int (jI ((D : Int)))]) (rest := [.int (jI ((D : Int))), .ref (G.2.2 (240 + k'))]) CF hK hM4 (hL.2.1.1 60 _ rfl) rfl (l_choose l E _ _ _ ρ ((L : Int)) k' D (hLτ2.w) (by omega) (by omega) (hrw2 (k' + 1) (by omega) (by omega))) (cwV 2 hts (lw_V q579 q581 qs8 q60 q582) rfl rfl rfl (by decide +kernel) ⟨Nat.le_of_ble_eq_true rfl, Nat.le_of_ble_eq_true rfl⟩) rfl hl.1 rfl (Nat.le_of_ble_eq_true rfl) dX1_fits_124 ⟨Nat.le_of_ble_eq_true rfl, Nat.le_of_ble_eq_true rfl⟩) (fun rr G2 τ9 H locs hp hM5 => ?_)
                          obtain ⟨rfl, ⟨va, vb, rfl⟩, hch⟩ := hp
                          have hcs := mCan_s (σ := ρ) (L := (L : Int)) (l0 := (k' : Int)) (D := D) (by omega)
                          have hrr : -1 ≤ rr ∧ rr ≤ 1024 := hch.elim (fun ⟨S, e, h⟩ => (by have := sub_lt h.1.1 frS_lt; omega)) (fun h => (by omega))
                          refine lv_iconst (v := jI (-1)) hx hb dX1_fits_127 rfl ?_
                          refine x_icmp_eq (tgt := 135) hx hb dX1_fits_128 (by decide) (by omega) (by omega) (fun b128 => ?_) (fun b128 => ?_)
                          · have hval : (0 : Int) = if pB (mCan ρ (L : Int) ((L : Int) - (k' : Int)).toNat D) = true then 1 else 0 := (by rw [if_neg (pB_n (fun z => hch.elim (fun ⟨S, e, h⟩ => (by omega)) (fun h => Exists.elim (hcs.mp z) h.2)))])
                            refine lv_iconst (v := jI 0) hx hb dX1_fits_135 rfl ?_
                            refine g_zast CF hK hM5 (240 + k') (by omega) (hL.2.1.1 _ _ (lKd_ce (by omega))) (i := (D : Int)) (v := 0) (by omega) (by omega) (by omega) (by omega) dX1_fits_136 (fun H locs hM6 => ?_)
                            refine x_iinc (lv' := [(4, .int (jI (((D : Int)) + 1))), (0, .ref (G.2.2 60)), (1, .int (jI ((L : Int)))), (2, .int (jI (((2 ^ wkN ρ - 1 : Nat) : Int)))), (3, .int (jI ((k' : Int))))]) hx hb dX1_fits_137 hl (k := 4) rfl (by decide) rfl (fun ls hl => ?_)
                            refine lv_goto (tgt := 106) hx hb dX1_fits_140 (by decide) ?_
                            exact ih106  ((D + 1)) (up2 (up2 (up2 τ2 60 22 va) 60 23 vb) (240 + k') ((D : Int)) 0) _ _ _ (by first | omega | assumption | rfl) (((hLτ2.u60 (Or.inl rfl)).u60 (Or.inr rfl)).u2 (by unfold lgT; have := hO.rn; have := hO.fe; have := hO.h48; omega) (by omega)) (fun l2 a b D2 hD2 => (by rw [up2_n _ _ _ (by omega), up2_n _ _ _ (by omega), up2_n _ _ _ (by omega)]; exact hrw2 l2 a b D2 hD2)) (fun D2 a => Or.elim (Nat.lt_or_ge D2 D) (fun z => (by rw [up2_s, up1_n _ _ (by omega), up2_n _ _ _ (by omega), up2_n _ _ _ (by omega)]; exact hrd D2 z)) (fun z => (by have e : D2 = D := (by omega); subst e; rw [up2_ss]; exact hval))) (by omega) hM6 (lv_sub hl [1, 2, 3, 4, 0] rfl)
                          · have hval : (1 : Int) = if pB (mCan ρ (L : Int) ((L : Int) - (k' : Int)).toNat D) = true then 1 else 0 := (by rw [if_pos (pB_t.mpr (hcs.mpr (hch.elim (fun ⟨S, e, h⟩ => ⟨S, h.1⟩) (fun h => absurd h.1 b128))))])
                            refine lv_iconst (v := jI 1) hx hb dX1_fits_131 rfl ?_
                            refine lv_goto (tgt := 136) hx hb dX1_fits_132 (by decide) ?_
                            refine g_zast CF hK hM5 (240 + k') (by omega) (hL.2.1.1 _ _ (lKd_ce (by omega))) (i := (D : Int)) (v := 1) (by omega) (by omega) (by omega) (by omega) dX1_fits_136 (fun H locs hM7 => ?_)
                            refine x_iinc (lv' := [(4, .int (jI (((D : Int)) + 1))), (0, .ref (G.2.2 60)), (1, .int (jI ((L : Int)))), (2, .int (jI (((2 ^ wkN ρ - 1 : Nat) : Int)))), (3, .int (jI ((k' : Int))))]) hx hb dX1_fits_137 hl (k := 4) rfl (by decide) rfl (fun ls hl => ?_)
                            refine lv_goto (tgt := 106) hx hb dX1_fits_140 (by decide) ?_
                            exact ih106  ((D + 1)) (up2 (up2 (up2 τ2 60 22 va) 60 23 vb) (240 + k') ((D : Int)) 1) _ _ _ (by first | omega | assumption | rfl) (((hLτ2.u60 (Or.inl rfl)).u60 (Or.inr rfl)).u2 (by unfold lgT; have := hO.rn; have := hO.fe; have := hO.h48; omega) (by omega)) (fun l2 a b D2 hD2 => (by rw [up2_n _ _ _ (by omega), up2_n _ _ _ (by omega), up2_n _ _ _ (by omega)]; exact hrw2 l2 a b D2 hD2)) (fun D2 a => Or.elim (Nat.lt_or_ge D2 D) (fun z => (by rw [up2_s, up1_n _ _ (by omega), up2_n _ _ _ (by omega), up2_n _ _ _ (by omega)]; exact hrd D2 z)) (fun z => (by have e : D2 = D := (by omega); subst e; rw [up2_ss]; exact hval))) (by omega) hM7 (lv_sub hl [1, 2, 3, 4, 0] rfl)
                    exact c106 _ 0 τ _ _ _ (by first | omega | assumption | rfl) hLτ (fun l2 a b => hrw l2 (by omega) b) (fun D2 a => absurd a (by omega)) (Nat.lt_succ_self _) hM3 (lv_cast (lv_sub hl [1, 2, 3, 4, 0] rfl) (by rw [(show ((k' + 1 : Nat) : Int) - 1 = (k' : Int) by omega)]; rfl))
              exact c99 _ L (upT σ (240 + L) (fillN (σ (240 + L)) (fun z => if z = ((2 ^ wkN ρ - 1 : Nat) : Int) then 1 else 0) (D : Int))) _ _ _ (by first | omega | assumption | rfl) (hL.uT (by unfold lgT; have := hO.rn; have := hO.fe; have := hO.h48; omega) (by omega)) (fits_L (by omega)) (Nat.lt_succ_self _) hM2 (lv_sub hl [1, 2, 3, 0] rfl)
            · refine lv_aload_n hx hb dX1_fits_71 rfl (lv_at hl 0 rfl) ?_
              refine g_getr CF hK hM2 60 (hL.2.1.1 60 _ rfl) 21 21 rfl rfl (by decide) (Or.inl (hts _ q307)) (fun _ h => h) rfl (G.2.2 21) (hL.2.1.2.1 21 21 rfl) dX1_fits_72 ?_
              refine lv_iload_n hx hb dX1_fits_75 rfl (lv_at hl 1 rfl) ?_
              refine g_aaldr CF hK hM2 21 (hL.2.1.1 21 _ rfl) (by decide) rfl (i := (L : Int)) (by omega) (by omega) (by omega) (G.2.2 (240 + L)) ((hL.2.1.2.2.2.2.2.2.2.2.2.2 L (by omega))) dX1_fits_76 ?_
              refine lv_iload_n hx hb dX1_fits_77 rfl (lv_at hl 3 rfl) ?_
              refine lv_iload_n hx hb dX1_fits_78 rfl (lv_at hl 3 rfl) ?_
              refine lv_iload_n hx hb dX1_fits_79 rfl (lv_at hl 2 rfl) ?_
              refine x_icmp_ne (tgt := 87) hx hb dX1_fits_80 (by decide) (by omega) (by omega) (fun b80 => ?_) (fun b80 => ?_)
              · refine lv_iconst (v := jI 0) hx hb dX1_fits_87 rfl ?_
                refine g_zast CF hK hM2 (240 + L) (by omega) (hL.2.1.1 _ _ (lKd_ce (by omega))) (i := (D : Int)) (v := 0) (by omega) (by omega) (by omega) (by omega) dX1_fits_88 (fun H locs hM8 => ?_)
                refine x_iinc (lv' := [(3, .int (jI (((D : Int)) + 1))), (0, .ref (G.2.2 60)), (1, .int (jI ((L : Int)))), (2, .int (jI (((2 ^ wkN ρ - 1 : Nat) : Int))))]) hx hb dX1_fits_89 hl (k := 3) rfl (by decide) rfl (fun ls hl => ?_)
                refine lv_goto (tgt := 66) hx hb dX1_fits_92 (by decide) ?_
                exact ih66  ((D + 1)) _ _ _ (by first | omega | assumption | rfl) (by omega) (gM_eq (up2_fill (i := (D : Int)) (by omega) (by first | rw [if_pos b80] | rw [if_neg b80])) hM8) (lv_sub hl [1, 2, 3, 0] rfl)
              · refine lv_iconst (v := jI 1) hx hb dX1_fits_83 rfl ?_
                refine lv_goto (tgt := 88) hx hb dX1_fits_84 (by decide) ?_
                refine g_zast CF hK hM2 (240 + L) (by omega) (hL.2.1.1 _ _ (lKd_ce (by omega))) (i := (D : Int)) (v := 1) (by omega) (by omega) (by omega) (by omega) dX1_fits_88 (fun H locs hM9 => ?_)
                refine x_iinc (lv' := [(3, .int (jI (((D : Int)) + 1))), (0, .ref (G.2.2 60)), (1, .int (jI ((L : Int)))), (2, .int (jI (((2 ^ wkN ρ - 1 : Nat) : Int))))]) hx hb dX1_fits_89 hl (k := 3) rfl (by decide) rfl (fun ls hl => ?_)
                refine lv_goto (tgt := 66) hx hb dX1_fits_92 (by decide) ?_
                exact ih66  ((D + 1)) _ _ _ (by first | omega | assumption | rfl) (by omega) (gM_eq (up2_fill (i := (D : Int)) (by omega) (by first | rw [if_pos b80] | rw [if_neg b80])) hM9) (lv_sub hl [1, 2, 3, 0] rfl)
        exact c66 _ 0 _ _ _ (by first | omega | assumption | rfl) (Nat.lt_succ_self _) (gM_eq fill_0 hM1) (lv_sub hl [2, 3, 1, 0] rfl)
      · refine lv_iload_n hx hb dX1_fits_8 rfl (lv_at hl 2 rfl) ?_
        refine lv_iconst (v := jI 2) hx hb dX1_fits_9 rfl ?_
        refine x_irem hx hb dX1_fits_10 (by omega) (by omega) (by omega) ?_
        refine x_top (b := (q : Int) % 2) (by have := tm2 (q : Int); omega) ?_
        refine lv_istore_n (lv' := [(3, .int (jI ((q : Int) % 2))), (0, .ref (G.2.2 60)), (1, .int (jI ((L : Int)))), (2, .int (jI ((q : Int))))]) hx hb dX1_fits_11 rfl hl (by decide) rfl (fun ls hl => ?_)
        have c12 : ∀ (n12 : Nat) (i : Int) (H : Heap) (locs : List Loc) (ls : Array Slot), (0 ≤ i) → (i % 2 = (q : Int) % 2) → (i ≤ ρ 60 0 + 1) → (∀ i2 : Int, i2 < i → mCell (ρ 60 0) (q : Int) i2 → ρ 4 (6 * (q : Int) + i2) ≤ 0) → ((ρ 60 0 + 2 - i).toNat < n12) → gM E (gA G sz) G σ s.heap H locs → lv_has ls 5 [(0, .ref (G.2.2 60)), (1, .int (jI ((L : Int)))), (2, .int (jI ((q : Int)))), (3, .int (jI i))] → W p l e ({ frames := 5, cells := 0, slots := 0, locals := 116 } : Room) s m ([.ref (G.2.2 60), .int (jI ((L : Int)))] : List Value).toArray below meth c H locs 0 0 (MQ below (gQ E G sz (gPI (fun r G' τ' => G = G' ∧ lgR E ρ G τ' ∧ ((r = 1 ∧ bAb ρ L ∧ mFit ρ (L : Int) ∧ ∀ l2 : Nat, l2 ≤ L → cRw ρ (L : Int) l2 τ') ∨ (r = 0 ∧ ¬ (bAb ρ L ∧ mFit ρ (L : Int))))))) ([.ref (G.2.2 60), .int (jI ((L : Int)))] : List Value).toArray s 0 0 (gA G sz)) (F0 m 12 ls []) := by
          intro n12
          induction n12 with
          | zero => intro i H locs ls hi0 hip hi1 hbi hmu; exact absurd hmu (Nat.not_lt_zero _)
          | succ n12 ih12 =>
            intro i H locs ls hi0 hip hi1 hbi hmu12 hM10 hl
            refine lv_iload_n hx hb dX1_fits_12 rfl (lv_at hl 3 rfl) ?_
            refine lv_aload_n hx hb dX1_fits_13 rfl (lv_at hl 0 rfl) ?_
            refine g_geti CF hK hM10 60 (hL.2.1.1 60 _ rfl) 2 2 rfl rfl (by decide) (Or.inl (hts _ q284)) (fun _ h => h) rfl dX1_fits_14 ?_
            refine x_top (b := ρ 60 0) hm1 ?_
            refine lv_iconst (v := jI 1) hx hb dX1_fits_17 rfl ?_
            refine x_isub hx hb dX1_fits_18 ?_
            refine x_icmp_ge (tgt := 49) hx hb dX1_fits_19 (by decide) (by omega) (by omega) (fun b19 => ?_) (fun b19 => ?_)
            · refine x_iinc (lv' := [(2, .int (jI (((q : Int)) + 1))), (0, .ref (G.2.2 60)), (1, .int (jI ((L : Int)))), (3, .int (jI i))]) hx hb dX1_fits_49 hl (k := 2) rfl (by decide) rfl (fun ls hl => ?_)
              refine lv_goto (tgt := 2) hx hb dX1_fits_52 (by decide) ?_
              exact ih2  ((q + 1)) _ _ _ (by first | omega | assumption | rfl) (by first | omega | assumption | rfl) (fun l2 a b => Or.elim (Int.lt_or_le l2 (q : Int)) (fun z => hba l2 a z) (fun z => (by have e : l2 = (q : Int) := (by omega); subst e; exact fun i2 hc => hbi i2 (by omega) hc))) (by omega) hM10 (lv_sub hl [1, 2, 0] rfl)
            · have hCe : mCell (ρ 60 0) (q : Int) i := ⟨by omega, by omega, by omega, by omega, hip⟩
              have hmul : 0 ≤ (q : Int) * ρ 60 0 ∧ (q : Int) * ρ 60 0 ≤ 11 * ρ 60 0 := ⟨Int.mul_nonneg (by omega) (by omega), Int.mul_le_mul_of_nonneg_right (by omega) (by omega)⟩
              refine lv_aload_n hx hb dX1_fits_22 rfl (lv_at hl 0 rfl) ?_
              refine g_getr CF hK hM10 60 (hL.2.1.1 60 _ rfl) 3 3 rfl rfl (by decide) (Or.inl (hts _ q288)) (fun _ h => h) rfl (G.2.2 3) (hL.2.1.2.1 3 3 rfl) dX1_fits_23 ?_
              refine lv_iload_n hx hb dX1_fits_26 rfl (lv_at hl 2 rfl) ?_
              refine lv_aload_n hx hb dX1_fits_27 rfl (lv_at hl 0 rfl) ?_
              refine g_geti CF hK hM10 60 (hL.2.1.1 60 _ rfl) 2 2 rfl rfl (by decide) (Or.inl (hts _ q284)) (fun _ h => h) rfl dX1_fits_28 ?_
              refine x_imul hx hb dX1_fits_31 ?_
              refine x_top (b := (q : Int) * ρ 60 0) (by rw [hm1]) ?_
              refine lv_iload_n hx hb dX1_fits_32 rfl (lv_at hl 3 rfl) ?_
              refine x_iadd hx hb dX1_fits_33 ?_
              refine g_aaldr CF hK hM10 3 (hL.2.1.1 3 _ rfl) (by decide) rfl (i := ((q : Int) * ρ 60 0) + i) (by omega) (by omega) (by omega) (G.2.2 (cT ((q : Int)) i)) (by have z := hS.2.2.1 (q : Int) i (by omega) (by omega) (by omega) (by omega); rw [if_pos hCe] at z; exact z) dX1_fits_34 ?_
              refine g_geti CF hK hM10 (cT ((q : Int)) i) (hL.2.1.1 _ _ (lKd_c hL.1.n.2 hCe)) 3 3 rfl rfl (by decide) (gLk.n hK q259) (fun _ h => h) rfl dX1_fits_35 ?_
              refine x_top (b := ρ 4 (6 * (q : Int) + i)) (hm5 _ _ hCe).2.2.2.1 ?_
              have fa11 := hO.p (6 * (q : Int) + i) (by omega) (by omega)
              refine x_if_le (tgt := 43) hx hb dX1_fits_38 (by decide) (by have f0 := hO.p (6 * (q : Int) + i) (by omega) (by omega); omega) (fun b38 => ?_) (fun b38 => ?_)
              · refine x_iinc (lv' := [(3, .int (jI (i + 2))), (0, .ref (G.2.2 60)), (1, .int (jI ((L : Int)))), (2, .int (jI ((q : Int))))]) hx hb dX1_fits_43 hl (k := 3) rfl (by decide) rfl (fun ls hl => ?_)
                refine lv_goto (tgt := 12) hx hb dX1_fits_46 (by decide) ?_
                exact ih12  (i + 2) _ _ _ (by first | omega | assumption | rfl) (by first | omega | assumption | rfl) (by first | omega | assumption | rfl) (fun i2 a b => Or.elim (Int.lt_or_le i2 i) (fun z => hbi i2 z b) (fun z => (by have e : i2 = i := (by omega); subst e; exact b38))) (by omega) hM10 (lv_sub hl [1, 2, 3, 0] rfl)
              · refine lv_iconst (v := jI 0) hx hb dX1_fits_41 rfl ?_
                exact g_zret CF hr hlocks hM10 (by omega) ⟨0, rfl, rfl, hL, Or.inr ⟨rfl, fun z => (by have := z.1 (q : Int) (by omega) (by omega) i hCe; omega)⟩⟩ (by decide) (by decide) dX1_fits_42
        exact c12 _ ((q : Int) % 2) _ _ _ (by first | omega | assumption | rfl) (by first | omega | assumption | rfl) (by first | omega | assumption | rfl) (fun i2 a b => absurd a (by omega)) (Nat.lt_succ_self _) hM1 (lv_sub hl [1, 2, 3, 0] rfl)
  exact c2 _ L _ _ _ (by first | omega | assumption | rfl) (by first | omega | assumption | rfl) (fun l2 a b => absurd b (by omega)) (Nat.lt_succ_self _) hM0 (lv_sub hl [1, 2, 0] rfl)
set_option maxHeartbeats 1000000 in
theorem l_put (l : Launch) (E : y_E) (G : y_G) (σ : y_S) (sz : Nat) (ρ : y_S) (L : Nat) (hL : lgR E ρ G σ) (hL12 : L ≤ 12) (hfit : mFit ρ (L : Int)) (hrows : ∀ l2 : Nat, l2 ≤ L → cRw ρ (L : Int) l2 σ) : gCt l yX1_put cX1_put 7 none ({ frames := 5, cells := 0, slots := 0, locals := 116 }) E [.ref (G.2.2 60), .int (jI ((L : Int)))] G σ sz (gPV (fun G' τ' => G = G' ∧ lgR E (upT ρ 3 (laL ρ (L : Int) L).2) G τ')) 0 0 := by
  refine g_met (by decide) (Nat.le_of_ble_eq_true rfl) ?_
  intro p e s m below meth c ls CF hr hlocks hnm hK hM0 hA hl
  have hx := CF.1
  have hb := CF.2.1
  have hts := CF.2.2.2.2
  have hl : lv_has ls 7 [(0, .ref (G.2.2 60)), (1, .int (jI ((L : Int))))] := hl
  obtain ⟨hO, hS, ⟨hm1, hm2, hm3, hm4, hm5⟩, hX, hD, hZ⟩ := id hL
  have hn := hO.n
  have hwk := hO.wk
  have hW10 : wkN ρ ≤ 10 := (by unfold wkN; omega)
  have hWI : ((wkN ρ : Nat) : Int) = ρ 60 21 := (by unfold wkN; omega)
  have hp2 := pw10 hW10
  have hp0 := pw_pos (wkN ρ)
  refine lv_aload_n hx hb dX1_put_0 rfl (lv_at hl 0 rfl) ?_
  refine g_getr CF hK hM0 60 (hL.2.1.1 60 _ rfl) 3 3 rfl rfl (by decide) (Or.inl (hts _ q288)) (fun _ h => h) rfl (G.2.2 3) (hL.2.1.2.1 3 3 rfl) dX1_put_1 ?_
  refine lv_astore_n (lv' := [(2, .ref (G.2.2 3)), (0, .ref (G.2.2 60)), (1, .int (jI ((L : Int))))]) hx hb dX1_put_4 rfl hl (by decide) rfl (fun ls hl => ?_)
  refine lv_aload_n hx hb dX1_put_5 rfl (lv_at hl 0 rfl) ?_
  refine g_alen CF hK hM0 3 (hL.2.1.1 3 _ rfl) (by decide) dX1_put_6 ?_
  refine lv_istore_n (lv' := [(3, .int (jI (((12 * (ρ 60 0).toNat : Nat) : Int)))), (2, .ref (G.2.2 3)), (0, .ref (G.2.2 60)), (1, .int (jI ((L : Int))))]) hx hb dX1_put_7 rfl hl (by decide) rfl (fun ls hl => ?_)
  refine lv_iconst (v := jI 0) hx hb dX1_put_8 rfl ?_
  refine lv_istore (lv' := [(4, .int (jI 0)), (3, .int (jI (((12 * (ρ 60 0).toNat : Nat) : Int)))), (2, .ref (G.2.2 3)), (0, .ref (G.2.2 60)), (1, .int (jI ((L : Int))))]) hx hb dX1_put_9 hl (by decide) rfl (fun ls hl => ?_)
  have c11 : ∀ (n11 : Nat) (j : Nat) (τ : y_S) (H : Heap) (locs : List Loc) (ls : Array Slot), (j ≤ 12 * (ρ 60 0).toNat) → (stR ρ σ τ (zeP ρ (ρ 3) (cJ (ρ 60 0) j))) → (12 * (ρ 60 0).toNat - j < n11) → gM E (gA G sz) G τ s.heap H locs → lv_has ls 7 [(0, .ref (G.2.2 60)), (1, .int (jI ((L : Int)))), (2, .ref (G.2.2 3)), (3, .int (jI (((12 * (ρ 60 0).toNat : Nat) : Int)))), (4, .int (jI ((j : Int))))] → W p l e ({ frames := 5, cells := 0, slots := 0, locals := 116 } : Room) s m ([.ref (G.2.2 60), .int (jI ((L : Int)))] : List Value).toArray below meth c H locs 0 0 (MQ below (gQ E G sz (gPV (fun G' τ' => G = G' ∧ lgR E (upT ρ 3 (laL ρ (L : Int) L).2) G τ'))) ([.ref (G.2.2 60), .int (jI ((L : Int)))] : List Value).toArray s 0 0 (gA G sz)) (F0 m 11 ls []) := by
    intro n11
    induction n11 with
    | zero => intro j τ H locs ls hj hst hmu; exact absurd hmu (Nat.not_lt_zero _)
    | succ n11 ih11 =>
      intro j τ H locs ls hj hst hmu11 hM1 hl
      refine lv_iload hx hb dX1_put_11 (lv_at hl 4 rfl) ?_
      refine lv_iload_n hx hb dX1_put_13 rfl (lv_at hl 3 rfl) ?_
      refine x_icmp_ge (tgt := 48) hx hb dX1_put_14 (by decide) (by omega) (by omega) (fun b14 => ?_) (fun b14 => ?_)
      · refine lv_iconst (v := jI 0) hx hb dX1_put_48 rfl ?_
        refine lv_istore_n (lv' := [(2, .int (jI 0)), (0, .ref (G.2.2 60)), (1, .int (jI ((L : Int)))), (3, .int (jI (((12 * (ρ 60 0).toNat : Nat) : Int)))), (4, .int (jI ((j : Int))))]) hx hb dX1_put_49 rfl hl (by decide) rfl (fun ls hl => ?_)
        refine lv_iconst (v := jI 0) hx hb dX1_put_50 rfl ?_
        refine lv_istore_n (lv' := [(3, .int (jI 0)), (2, .int (jI 0)), (0, .ref (G.2.2 60)), (1, .int (jI ((L : Int)))), (4, .int (jI ((j : Int))))]) hx hb dX1_put_51 rfl hl (by decide) rfl (fun ls hl => ?_)
        have c52 : ∀ (n52 : Nat) (q : Nat) (D : Nat) (r : Int → Int) (τ1 : y_S) (H : Heap) (locs : List Loc) (ls : Array Slot), (q ≤ L) → (laL ρ (L : Int) q = (D, r)) → (stR ρ σ τ1 r) → (mCan ρ (L : Int) ((L : Int) - (q : Int)).toNat D) → (D < 2 ^ wkN ρ) → (L - q < n52) → gM E (gA G sz) G τ1 s.heap H locs → lv_has ls 7 [(0, .ref (G.2.2 60)), (1, .int (jI ((L : Int)))), (2, .int (jI ((D : Int)))), (3, .int (jI ((q : Int))))] → W p l e ({ frames := 5, cells := 0, slots := 0, locals := 116 } : Room) s m ([.ref (G.2.2 60), .int (jI ((L : Int)))] : List Value).toArray below meth c H locs 0 0 (MQ below (gQ E G sz (gPV (fun G' τ' => G = G' ∧ lgR E (upT ρ 3 (laL ρ (L : Int) L).2) G τ'))) ([.ref (G.2.2 60), .int (jI ((L : Int)))] : List Value).toArray s 0 0 (gA G sz)) (F0 m 52 ls []) := by
          intro n52
          induction n52 with
          | zero => intro q D r τ1 H locs ls hq hla hst1 hcan hD2 hmu; exact absurd hmu (Nat.not_lt_zero _)
          | succ n52 ih52 =>
            intro q D r τ1 H locs ls hq hla hst1 hcan hD2 hmu52 hM2 hl
            refine lv_iload_n hx hb dX1_put_52 rfl (lv_at hl 3 rfl) ?_
            refine lv_iload_n hx hb dX1_put_53 rfl (lv_at hl 1 rfl) ?_
            refine x_icmp_ge (tgt := 154) hx hb dX1_put_54 (by decide) (by omega) (by omega) (fun b54 => ?_) (fun b54 => ?_)
            · exact g_vret CF hr hlocks hM2 ⟨rfl, rfl, (by have e : q = L := (by omega); subst e; have y := ok_la hO (q : Int) q; rw [hla] at y ⊢; exact hst1.L hL y)⟩ (by decide) (by decide) dX1_put_154
            · refine lv_aload_n hx hb dX1_put_57 rfl (lv_at hl 0 rfl) ?_
              refine lv_iload_n hx hb dX1_put_58 rfl (lv_at hl 3 rfl) ?_
              refine lv_iload_n hx hb dX1_put_59 rfl (lv_at hl 2 rfl) ?_
              refine g_callPI hM2 hA (g_runV (As := [.int (jI ((q : Int))), .int (jI ((D : Int)))]) (rest := []) CF hK hM2 (hL.2.1.1 60 _ rfl) rfl (l_choose l E _ _ _ ρ ((L : Int)) q D (hst1.w hL) (by first | omega | assumption | (refine ⟨?_, ?_⟩ <;> omega)) (by first | omega | assumption | (refine ⟨?_, ?_⟩ <;> omega)) (hst1.rw (hrows (q + 1) (by omega)))) (cwV 2 hts (lw_V q579 q581 qs8 q60 q582) rfl rfl rfl (by decide +kernel) ⟨Nat.le_of_ble_eq_true rfl, Nat.le_of_ble_eq_true rfl⟩) rfl hl.1 rfl (Nat.le_of_ble_eq_true rfl) dX1_put_60 ⟨Nat.le_of_ble_eq_true rfl, Nat.le_of_ble_eq_true rfl⟩) (fun rr G2 τ9 H locs hp hM3 => ?_)
              obtain ⟨rfl, ⟨va, vb, rfl⟩, hch⟩ := hp
              obtain ⟨S, hS2, hgr⟩ : ∃ S : Nat, rr = (S : Int) ∧ mGr (cP ρ (L : Int) (q : Int) D) S := hch.elim id (fun h => absurd ((mCan_s (by omega)).mp hcan) (fun ⟨T, hT⟩ => h.2 T hT))
              subst hS2
              have hSl := sub_lt hgr.1.1 frS_lt
              have hst2 := stR_60 (a := va) (b := vb) hst1
              refine lv_istore (lv' := [(4, .int (jI ((S : Int)))), (0, .ref (G.2.2 60)), (1, .int (jI ((L : Int)))), (2, .int (jI ((D : Int)))), (3, .int (jI ((q : Int))))]) hx hb dX1_put_63 hl (by decide) rfl (fun ls hl => ?_)
              refine lv_iconst (v := jI 0) hx hb dX1_put_65 rfl ?_
              refine lv_istore (lv' := [(5, .int (jI 0)), (4, .int (jI ((S : Int)))), (0, .ref (G.2.2 60)), (1, .int (jI ((L : Int)))), (2, .int (jI ((D : Int)))), (3, .int (jI ((q : Int))))]) hx hb dX1_put_66 hl (by decide) rfl (fun ls hl => ?_)
              have c68 : ∀ (n68 : Nat) (w : Nat) (τ2 : y_S) (H : Heap) (locs : List Loc) (ls : Array Slot), (w ≤ wkN ρ) → (stR ρ σ τ2 (laW ρ (q : Int) S w r)) → (wkN ρ - w < n68) → gM E (gA G sz) G τ2 s.heap H locs → lv_has ls 7 [(0, .ref (G.2.2 60)), (1, .int (jI ((L : Int)))), (2, .int (jI ((D : Int)))), (3, .int (jI ((q : Int)))), (4, .int (jI ((S : Int)))), (5, .int (jI ((w : Int))))] → W p l e ({ frames := 5, cells := 0, slots := 0, locals := 116 } : Room) s m ([.ref (G.2.2 60), .int (jI ((L : Int)))] : List Value).toArray below meth c H locs 0 0 (MQ below (gQ E G sz (gPV (fun G' τ' => G = G' ∧ lgR E (upT ρ 3 (laL ρ (L : Int) L).2) G τ'))) ([.ref (G.2.2 60), .int (jI ((L : Int)))] : List Value).toArray s 0 0 (gA G sz)) (F0 m 68 ls []) := by
                intro n68
                induction n68 with
                | zero => intro w τ2 H locs ls hw hst3 hmu; exact absurd hmu (Nat.not_lt_zero _)
                | succ n68 ih68 =>
                  intro w τ2 H locs ls hw hst3 hmu68 hM4 hl
                  have hwt := (hst3.w hL).2.2.2.1
                  refine lv_iload hx hb dX1_put_68 (lv_at hl 5 rfl) ?_
                  refine lv_aload_n hx hb dX1_put_70 rfl (lv_at hl 0 rfl) ?_
                  refine g_geti CF hK hM4 60 (hL.2.1.1 60 _ rfl) 20 20 rfl rfl (by decide) (Or.inl (hts _ q306)) (fun _ h => h) rfl dX1_put_71 ?_
                  refine x_top (b := ((wkN ρ : Nat) : Int)) (by have := hwt.1; omega) ?_
                  refine x_icmp_ge (tgt := 143) hx hb dX1_put_74 (by decide) (by omega) (by omega) (fun b74 => ?_) (fun b74 => ?_)
                  · refine lv_iload_n hx hb dX1_put_143 rfl (lv_at hl 2 rfl) ?_
                    refine lv_iload hx hb dX1_put_144 (lv_at hl 4 rfl) ?_
                    refine x_orN (a := D) (b := S) hx hb dX1_put_146 ?_
                    refine lv_istore_n (lv' := [(2, .int (jI (((D ||| S : Nat) : Int)))), (0, .ref (G.2.2 60)), (1, .int (jI ((L : Int)))), (3, .int (jI ((q : Int)))), (4, .int (jI ((S : Int)))), (5, .int (jI ((w : Int))))]) hx hb dX1_put_147 rfl hl (by decide) rfl (fun ls hl => ?_)
                    refine x_iinc (lv' := [(3, .int (jI (((q : Int)) + 1))), (2, .int (jI (((D ||| S : Nat) : Int)))), (0, .ref (G.2.2 60)), (1, .int (jI ((L : Int)))), (4, .int (jI ((S : Int)))), (5, .int (jI ((w : Int))))]) hx hb dX1_put_148 hl (k := 3) rfl (by decide) rfl (fun ls hl => ?_)
                    refine lv_goto (tgt := 52) hx hb dX1_put_151 (by decide) ?_
                    exact ih52  ((q + 1)) ((D ||| S)) ((laW ρ (q : Int) S w r)) τ2 _ _ _ (by first | omega | assumption | rfl) (by rw [laL, hla]; show (D ||| grS _, laW ρ _ (grS _) (wkN ρ) r) = _; rw [grS_eq hgr, show wkN ρ = w by omega]) hst3 hgr.1.2.2 (or_lt hD2 hgr.1.1) (by omega) hM4 (lv_sub hl [2, 3, 1, 0] rfl)
                  · refine lv_iload hx hb dX1_put_77 (lv_at hl 4 rfl) ?_
                    refine lv_iload hx hb dX1_put_79 (lv_at hl 5 rfl) ?_
                    refine x_shrN (S := S) (w := w) hx hb dX1_put_81 (by omega) (by omega) ?_
                    refine lv_iconst (v := jI 1) hx hb dX1_put_82 rfl ?_
                    refine x_tb (S := S) (w := w) hx hb dX1_put_83 ?_
                    refine x_bif_ne (tgt := 91) hx hb dX1_put_84 (by decide) (fun b84 => ?_) (fun b84 => ?_)
                    · have hCe := (hgr.1.2.1.2.1 w (by omega) b84).1
                      have hmul : 0 ≤ (q : Int) * ρ 60 0 ∧ (q : Int) * ρ 60 0 ≤ 11 * ρ 60 0 := ⟨Int.mul_nonneg (by omega) (by omega), Int.mul_le_mul_of_nonneg_right (by omega) (by omega)⟩
                      have hx5 := cell_ix hCe hn.2
                      have hpl := hO.p _ hx5.2.2.1 hx5.2.2.2
                      have hwl := hO.wl (w : Int) (by omega) (by omega)
                      have hw2 := hwt.2 (w : Int) (by omega) (by omega)
                      refine lv_aload_n hx hb dX1_put_91 rfl (lv_at hl 0 rfl) ?_
                      refine g_getr CF hK hM4 60 (hL.2.1.1 60 _ rfl) 3 3 rfl rfl (by decide) (Or.inl (hts _ q288)) (fun _ h => h) rfl (G.2.2 3) (hL.2.1.2.1 3 3 rfl) dX1_put_92 ?_
                      refine lv_iload_n hx hb dX1_put_95 rfl (lv_at hl 3 rfl) ?_
                      refine lv_aload_n hx hb dX1_put_96 rfl (lv_at hl 0 rfl) ?_
                      refine g_geti CF hK hM4 60 (hL.2.1.1 60 _ rfl) 2 2 rfl rfl (by decide) (Or.inl (hts _ q284)) (fun _ h => h) rfl dX1_put_97 ?_
                      refine x_top (b := ρ 60 0) (hst3.w hL).2.2.1 ?_
                      refine x_imul hx hb dX1_put_100 ?_
                      refine lv_aload_n hx hb dX1_put_101 rfl (lv_at hl 0 rfl) ?_
                      refine g_getr CF hK hM4 60 (hL.2.1.1 60 _ rfl) 18 18 rfl rfl (by decide) (Or.inl (hts _ q304)) (fun _ h => h) rfl (G.2.2 18) (hL.2.1.2.1 18 18 rfl) dX1_put_102 ?_
                      refine lv_iload hx hb dX1_put_105 (lv_at hl 5 rfl) ?_
                      refine g_iald CF hK hM4 18 (hL.2.1.1 18 _ rfl) (i := (w : Int)) (by omega) (by omega) (by omega) dX1_put_107 ?_
                      refine x_top (b := ρ 19 (w : Int)) hw2.1 ?_
                      refine x_iadd hx hb dX1_put_108 ?_
                      refine g_aaldr CF hK hM4 3 (hL.2.1.1 3 _ rfl) (by decide) rfl (i := (((q : Int)) * (ρ 60 0)) + (ρ 19 (w : Int))) (by omega) (by omega) (by omega) (G.2.2 (cT ((q : Int)) (ρ 19 (w : Int)))) (by have z := hS.2.2.1 (q : Int) (ρ 19 (w : Int)) (by omega) (by omega) (by omega) (by omega); rw [if_pos hCe] at z; exact z) dX1_put_109 ?_
                      refine lv_astore (lv' := [(6, .ref (G.2.2 (cT ((q : Int)) (ρ 19 (w : Int))))), (0, .ref (G.2.2 60)), (1, .int (jI ((L : Int)))), (2, .int (jI ((D : Int)))), (3, .int (jI ((q : Int)))), (4, .int (jI ((S : Int)))), (5, .int (jI ((w : Int))))]) hx hb dX1_put_110 hl (by decide) rfl (fun ls hl => ?_)
                      refine lv_aload hx hb dX1_put_112 (lv_at hl 0 rfl) ?_
                      refine lv_ifnull hx hb dX1_put_114 ?_
                      refine lv_aload hx hb dX1_put_117 (lv_at hl 0 rfl) ?_
                      refine g_calli (r := (if ρ 4 (6 * ((q : Int)) + (ρ 19 (w : Int))) ≠ -1 then 1 else 0)) hM4 hA (g_runV (As := []) (rest := []) CF hK hM4 (hL.2.1.1 _ _ (lKd_c hL.1.n.2 hCe)) rfl (l_isDead l E _ _ _ ρ ((q : Int)) (ρ 19 (w : Int))  (hst3.w hL) (by first | omega | assumption | (refine ⟨?_, ?_⟩ <;> omega))) (cwV 0 hts (lw_V q408 q409 q410 q71 q411) rfl rfl rfl (by decide +kernel) ⟨Nat.le_of_ble_eq_true rfl, Nat.le_of_ble_eq_true rfl⟩) rfl hl.1 rfl (Nat.le_of_ble_eq_true rfl) dX1_put_119 ⟨Nat.le_of_ble_eq_true rfl, Nat.le_of_ble_eq_true rfl⟩) (fun H locs hM5 => ?_)
                      refine x_bif_ne (tgt := 137) hx hb dX1_put_122 (by decide) (fun b122 => ?_) (fun b122 => ?_)
                      · refine x_iinc (lv' := [(5, .int (jI (((w : Int)) + 1))), (6, .ref (G.2.2 (cT ((q : Int)) (ρ 19 (w : Int))))), (0, .ref (G.2.2 60)), (1, .int (jI ((L : Int)))), (2, .int (jI ((D : Int)))), (3, .int (jI ((q : Int)))), (4, .int (jI ((S : Int))))]) hx hb dX1_put_137 hl (k := 6) rfl (by decide) rfl (fun ls hl => ?_)
                        refine lv_goto (tgt := 68) hx hb dX1_put_140 (by decide) ?_
                        exact ih68  ((w + 1)) τ2 _ _ _ (by first | omega | assumption | rfl) (by rw [laW_n (fun z => by first | exact b84 z.1 | (have := z.2; omega))]; exact hst3) (by omega) hM5 (lv_sub hl [2, 3, 4, 5, 6, 0] rfl)
                      · refine lv_aload hx hb dX1_put_125 (lv_at hl 0 rfl) ?_
                        refine lv_aload_n hx hb dX1_put_127 rfl (lv_at hl 1 rfl) ?_
                        refine g_getr CF hK hM5 60 (hL.2.1.1 60 _ rfl) 19 19 rfl rfl (by decide) (Or.inl (hts _ q305)) (fun _ h => h) rfl (G.2.2 19) (hL.2.1.2.1 19 19 rfl) dX1_put_128 ?_
                        refine lv_iload hx hb dX1_put_131 (lv_at hl 6 rfl) ?_
                        refine g_iald CF hK hM5 19 (hL.2.1.1 19 _ rfl) (i := (w : Int)) (by omega) (by omega) (by omega) dX1_put_133 ?_
                        refine x_top (b := ρ 20 (w : Int)) hw2.2 ?_
                        refine g_puti CF hK hM5 (cT ((q : Int)) (ρ 19 (w : Int))) (cT_ne (by decide)) (hL.2.1.1 _ _ (lKd_c hL.1.n.2 hCe)) 2 2 rfl rfl (by decide) (gLk.n hK q256) (fun _ h => h) (Or.inl rfl) rfl (v := ρ 20 (w : Int)) rfl rfl (by omega) dX1_put_134 (fun H locs hM6 => ?_)
                        refine x_iinc (lv' := [(5, .int (jI (((w : Int)) + 1))), (6, .ref (G.2.2 (cT ((q : Int)) (ρ 19 (w : Int))))), (0, .ref (G.2.2 60)), (1, .int (jI ((L : Int)))), (2, .int (jI ((D : Int)))), (3, .int (jI ((q : Int)))), (4, .int (jI ((S : Int))))]) hx hb dX1_put_137 hl (k := 6) rfl (by decide) rfl (fun ls hl => ?_)
                        refine lv_goto (tgt := 68) hx hb dX1_put_140 (by decide) ?_
                        exact ih68  ((w + 1)) (up2 τ2 (cT ((q : Int)) (ρ 19 (w : Int))) 2 (ρ 20 (w : Int))) _ _ _ (by first | omega | assumption | rfl) (by rw [laW_y b84 (by omega)]; exact stR_s hn.2 hst3 hCe) (by omega) hM6 (lv_sub hl [2, 3, 4, 5, 6, 0] rfl)
                    · refine lv_null hx hb dX1_put_87 ?_
                      refine lv_goto (tgt := 110) hx hb dX1_put_88 (by decide) ?_
                      refine lv_astoreN (lv' := [(6, .null), (0, .ref (G.2.2 60)), (1, .int (jI ((L : Int)))), (2, .int (jI ((D : Int)))), (3, .int (jI ((q : Int)))), (4, .int (jI ((S : Int)))), (5, .int (jI ((w : Int))))]) hx hb dX1_put_110 hl (by decide) rfl (fun ls hl => ?_)
                      refine lv_aloadN hx hb dX1_put_112 (lv_at hl 0 rfl) ?_
                      refine lv_ifnullN (tgt := 137) hx hb dX1_put_114 (by decide) ?_
                      refine x_iinc (lv' := [(5, .int (jI (((w : Int)) + 1))), (6, .null), (0, .ref (G.2.2 60)), (1, .int (jI ((L : Int)))), (2, .int (jI ((D : Int)))), (3, .int (jI ((q : Int)))), (4, .int (jI ((S : Int))))]) hx hb dX1_put_137 hl (k := 6) rfl (by decide) rfl (fun ls hl => ?_)
                      refine lv_goto (tgt := 68) hx hb dX1_put_140 (by decide) ?_
                      exact ih68  ((w + 1)) τ2 _ _ _ (by first | omega | assumption | rfl) (by rw [laW_n (fun z => by first | exact b84 z.1 | (have := z.2; omega))]; exact hst3) (by omega) hM4 (lv_sub hl [2, 3, 4, 5, 6, 0] rfl)
              exact c68 _ 0 (up2 (up2 τ1 60 22 va) 60 23 vb) _ _ _ (by first | omega | assumption | rfl) hst2 (Nat.lt_succ_self _) hM3 (lv_sub hl [2, 3, 4, 5, 1, 0] rfl)
        exact c52 _ 0 0 ((la0 ρ)) τ _ _ _ (by first | omega | assumption | rfl) rfl (by have z := hst; rw [show j = 12 * (ρ 60 0).toNat by omega, zeP_la hO] at z; exact z) (by rw [show ((L : Int) - ((0 : Nat) : Int)).toNat = (L : Int).toNat by omega]; exact hfit) hp0 (Nat.lt_succ_self _) hM1 (lv_sub hl [2, 3, 1, 0] rfl)
      · refine lv_aload_n hx hb dX1_put_17 rfl (lv_at hl 2 rfl) ?_
        refine lv_iload hx hb dX1_put_18 (lv_at hl 4 rfl) ?_
        refine g_aaldc CF hK hM1 3 (hL.2.1.1 3 _ rfl) (by decide) rfl (i := (j : Int)) (by omega) (by omega) (by omega) (hL.2.1.at hL.1.n.1 hL.1.n.2 (by omega)) dX1_put_20 (fun hCe => ?_) (fun hCe => ?_)
        · refine lv_astore (lv' := [(5, .ref (G.2.2 (cT ((j : Int) / ρ 60 0) ((j : Int) % ρ 60 0)))), (0, .ref (G.2.2 60)), (1, .int (jI ((L : Int)))), (2, .ref (G.2.2 3)), (3, .int (jI (((12 * (ρ 60 0).toNat : Nat) : Int)))), (4, .int (jI ((j : Int))))]) hx hb dX1_put_21 hl (by decide) rfl (fun ls hl => ?_)
          refine lv_aload hx hb dX1_put_23 (lv_at hl 0 rfl) ?_
          refine lv_ifnull hx hb dX1_put_25 ?_
          have hx5 := cell_ix hCe hn.2
          have hpl := hO.p _ hx5.2.2.1 hx5.2.2.2
          refine lv_aload hx hb dX1_put_28 (lv_at hl 0 rfl) ?_
          refine g_calli (r := (if ρ 4 (6 * ((j : Int) / ρ 60 0) + ((j : Int) % ρ 60 0)) ≠ -1 then 1 else 0)) hM1 hA (g_runV (As := []) (rest := []) CF hK hM1 (hL.2.1.1 _ _ (lKd_c hL.1.n.2 hCe)) rfl (l_isDead l E _ _ _ ρ ((j : Int) / ρ 60 0) ((j : Int) % ρ 60 0)  (hst.w hL) (by first | omega | assumption | (refine ⟨?_, ?_⟩ <;> omega))) (cwV 0 hts (lw_V q408 q409 q410 q71 q411) rfl rfl rfl (by decide +kernel) ⟨Nat.le_of_ble_eq_true rfl, Nat.le_of_ble_eq_true rfl⟩) rfl hl.1 rfl (Nat.le_of_ble_eq_true rfl) dX1_put_30 ⟨Nat.le_of_ble_eq_true rfl, Nat.le_of_ble_eq_true rfl⟩) (fun H locs hM7 => ?_)
          refine x_bif_ne (tgt := 42) hx hb dX1_put_33 (by decide) (fun b33 => ?_) (fun b33 => ?_)
          · refine x_iinc (lv' := [(4, .int (jI (((j : Int)) + 1))), (5, .ref (G.2.2 (cT ((j : Int) / ρ 60 0) ((j : Int) % ρ 60 0)))), (0, .ref (G.2.2 60)), (1, .int (jI ((L : Int)))), (2, .ref (G.2.2 3)), (3, .int (jI (((12 * (ρ 60 0).toNat : Nat) : Int))))]) hx hb dX1_put_42 hl (k := 5) rfl (by decide) rfl (fun ls hl => ?_)
            refine lv_goto (tgt := 11) hx hb dX1_put_45 (by decide) ?_
            exact ih11  ((j + 1)) τ _ _ _ (by first | omega | assumption | rfl) (by rw [cJ_y hCe, zeP_a, if_neg (show ¬ ρ 4 (6 * ((j : Int) / ρ 60 0) + (j : Int) % ρ 60 0) < 0 by omega)]; exact hst) (by omega) hM7 (lv_sub hl [2, 3, 4, 5, 0] rfl)
          · refine lv_aload hx hb dX1_put_36 (lv_at hl 0 rfl) ?_
            refine lv_iconst (v := jI 0) hx hb dX1_put_38 rfl ?_
            refine g_puti CF hK hM7 (cT ((j : Int) / ρ 60 0) ((j : Int) % ρ 60 0)) (cT_ne (by decide)) (hL.2.1.1 _ _ (lKd_c hL.1.n.2 hCe)) 2 2 rfl rfl (by decide) (gLk.n hK q256) (fun _ h => h) (Or.inl rfl) rfl (v := 0) rfl rfl (by omega) dX1_put_39 (fun H locs hM8 => ?_)
            refine x_iinc (lv' := [(4, .int (jI (((j : Int)) + 1))), (5, .ref (G.2.2 (cT ((j : Int) / ρ 60 0) ((j : Int) % ρ 60 0)))), (0, .ref (G.2.2 60)), (1, .int (jI ((L : Int)))), (2, .ref (G.2.2 3)), (3, .int (jI (((12 * (ρ 60 0).toNat : Nat) : Int))))]) hx hb dX1_put_42 hl (k := 5) rfl (by decide) rfl (fun ls hl => ?_)
            refine lv_goto (tgt := 11) hx hb dX1_put_45 (by decide) ?_
            exact ih11  ((j + 1)) (up2 τ (cT ((j : Int) / ρ 60 0) ((j : Int) % ρ 60 0)) 2 0) _ _ _ (by first | omega | assumption | rfl) (by rw [cJ_y hCe, zeP_a, if_pos (show ρ 4 (6 * ((j : Int) / ρ 60 0) + (j : Int) % ρ 60 0) < 0 by omega)]; exact stR_s hn.2 hst hCe) (by omega) hM8 (lv_sub hl [2, 3, 4, 5, 0] rfl)
        · refine lv_astoreN (lv' := [(5, .null), (0, .ref (G.2.2 60)), (1, .int (jI ((L : Int)))), (2, .ref (G.2.2 3)), (3, .int (jI (((12 * (ρ 60 0).toNat : Nat) : Int)))), (4, .int (jI ((j : Int))))]) hx hb dX1_put_21 hl (by decide) rfl (fun ls hl => ?_)
          refine lv_aloadN hx hb dX1_put_23 (lv_at hl 0 rfl) ?_
          refine lv_ifnullN (tgt := 42) hx hb dX1_put_25 (by decide) ?_
          refine x_iinc (lv' := [(4, .int (jI (((j : Int)) + 1))), (5, .null), (0, .ref (G.2.2 60)), (1, .int (jI ((L : Int)))), (2, .ref (G.2.2 3)), (3, .int (jI (((12 * (ρ 60 0).toNat : Nat) : Int))))]) hx hb dX1_put_42 hl (k := 5) rfl (by decide) rfl (fun ls hl => ?_)
          refine lv_goto (tgt := 11) hx hb dX1_put_45 (by decide) ?_
          exact ih11  ((j + 1)) τ _ _ _ (by first | omega | assumption | rfl) (by rw [cJ_n hCe]; exact hst) (by omega) hM1 (lv_sub hl [2, 3, 4, 5, 0] rfl)
  exact c11 _ 0 σ _ _ _ (by first | omega | assumption | rfl) (stR_0 hL) (Nat.lt_succ_self _) hM0 (lv_sub hl [3, 4, 2, 1, 0] rfl)
set_option maxHeartbeats 400000 in
theorem l_lay (l : Launch) (E : y_E) (G : y_G) (σ : y_S) (sz : Nat) (ρ : y_S) (hL : lgR E ρ G σ) : gCt l yX1_lay cX1_lay 2 (some .int) ({ frames := 6, cells := 0, slots := 0, locals := 142 }) E [.ref (G.2.2 60)] G σ sz (lPo E (oLay ρ)) 0 0 := by
  refine g_met (by decide) (Nat.le_of_ble_eq_true rfl) ?_
  intro p e s m below meth c ls CF hr hlocks hnm hK hM0 hA hl
  have hx := CF.1
  have hb := CF.2.1
  have hts := CF.2.2.2.2
  have hl : lv_has ls 2 [(0, .ref (G.2.2 60))] := hl
  obtain ⟨hO, hS, ⟨hm1, hm2, hm3, hm4, hm5⟩, hX, hD, hZ⟩ := id hL
  have hn := hO.n
  refine lv_iconst (v := jI 0) hx hb dX1_lay_0 rfl ?_
  refine lv_istore_n (lv' := [(1, .int (jI 0)), (0, .ref (G.2.2 60))]) hx hb dX1_lay_1 rfl hl (by decide) rfl (fun ls hl => ?_)
  have c2 : ∀ (n2 : Nat) (q : Nat) (τ : y_S) (H : Heap) (locs : List Loc) (ls : Array Slot), (q ≤ 13) → (lgR E ρ G τ) → (∀ z : Nat, z < q → ¬ (bAb ρ z ∧ mFit ρ (z : Int))) → (13 - q < n2) → gM E (gA G sz) G τ s.heap H locs → lv_has ls 2 [(0, .ref (G.2.2 60)), (1, .int (jI ((q : Int))))] → W p l e ({ frames := 6, cells := 0, slots := 0, locals := 142 } : Room) s m ([.ref (G.2.2 60)] : List Value).toArray below meth c H locs 0 0 (MQ below (gQ E G sz (lPo E (oLay ρ))) ([.ref (G.2.2 60)] : List Value).toArray s 0 0 (gA G sz)) (F0 m 2 ls []) := by
    intro n2
    induction n2 with
    | zero => intro q τ H locs ls hq hLτ hno hmu; exact absurd hmu (Nat.not_lt_zero _)
    | succ n2 ih2 =>
      intro q τ H locs ls hq hLτ hno hmu2 hM1 hl
      refine lv_iload_n hx hb dX1_lay_2 rfl (lv_at hl 1 rfl) ?_
      refine lv_bipush (v := jI 12) hx hb dX1_lay_3 (by decide) ?_
      refine x_icmp_gt (tgt := 32) hx hb dX1_lay_5 (by decide) (by omega) (by omega) (fun b5 => ?_) (fun b5 => ?_)
      · refine lv_bipush (v := jI (-5)) hx hb dX1_lay_32 (by decide) ?_
        exact g_iret CF hr hlocks hM1 (have hly : layL ρ = -5 := layL_n (fun z a => hno z (by omega)); lPo_i (by rw [oLay_n hly]) (by have hk := ok_lay hO; rw [oLay_n hly] at hk ⊢; exact hLτ.rho hk lgE_22)) (by decide) (by decide) dX1_lay_34
      · refine lv_aload_n hx hb dX1_lay_8 rfl (lv_at hl 0 rfl) ?_
        refine lv_iload_n hx hb dX1_lay_9 rfl (lv_at hl 1 rfl) ?_
        refine g_callPI hM1 hA (g_runV (As := [.int (jI ((q : Int)))]) (rest := []) CF hK hM1 (hL.2.1.1 60 _ rfl) rfl (l_fits l E _ _ _ ρ q hLτ (by first | omega | assumption | (refine ⟨?_, ?_⟩ <;> omega))) (cwV 1 hts (lw_V q575 q577 qs7 q60 q578) rfl rfl rfl (by decide +kernel) ⟨Nat.le_of_ble_eq_true rfl, Nat.le_of_ble_eq_true rfl⟩) rfl hl.1 rfl (Nat.le_of_ble_eq_true rfl) dX1_lay_10 ⟨Nat.le_of_ble_eq_true rfl, Nat.le_of_ble_eq_true rfl⟩) (fun rr G2 τ9 H locs hp hM2 => ?_)
        obtain ⟨rfl, hL9, hfi⟩ := hp
        have fa3 := (show rr = 0 ∨ rr = 1 from hfi.elim (fun z => Or.inr z.1) (fun z => Or.inl z.1))
        refine x_if_ne (tgt := 19) hx hb dX1_lay_13 (by decide) (by have f0 := (show rr = 0 ∨ rr = 1 from hfi.elim (fun z => Or.inr z.1) (fun z => Or.inl z.1)); omega) (fun b13 => ?_) (fun b13 => ?_)
        · obtain ⟨hr1, hbA, hft, hrw⟩ : rr = 1 ∧ bAb ρ q ∧ mFit ρ (q : Int) ∧ ∀ l2 : Nat, l2 ≤ q → cRw ρ (q : Int) l2 τ9 := hfi.elim id (fun z => absurd z.1 b13)
          have hly := layL_y (by omega) hno hbA hft
          refine lv_aload_n hx hb dX1_lay_19 rfl (lv_at hl 0 rfl) ?_
          refine lv_iload_n hx hb dX1_lay_20 rfl (lv_at hl 1 rfl) ?_
          refine g_callPV hM2 hA (g_runV (As := [.int (jI ((q : Int)))]) (rest := []) CF hK hM2 (hL.2.1.1 60 _ rfl) rfl (l_put l E _ _ _ ρ q hL9 (by first | omega | assumption | (refine ⟨?_, ?_⟩ <;> omega)) hft hrw) (cwV 1 hts (lw_V q598 q600 qs12 q60 q601) rfl rfl rfl (by decide +kernel) ⟨Nat.le_of_ble_eq_true rfl, Nat.le_of_ble_eq_true rfl⟩) rfl hl.1 rfl (Nat.le_of_ble_eq_true rfl) dX1_lay_21 ⟨Nat.le_of_ble_eq_true rfl, Nat.le_of_ble_eq_true rfl⟩) (fun G2 τ8 H locs hp hM4 => ?_)
          obtain ⟨rfl, hL8⟩ := hp
          refine lv_iload_n hx hb dX1_lay_24 rfl (lv_at hl 1 rfl) ?_
          exact g_iret CF hr hlocks hM4 (lPo_i (by rw [oLay_y hly (by omega)]) (by have hk := ok_lay hO; rw [oLay_y hly (by omega)] at hk ⊢; refine hL8.rho hk ?_; show lgE (upT ρ 3 (laL ρ (q : Int) q).2) (upT (upT ρ 22 (cRow ρ (q : Int) (-1) 0)) 3 (laL ρ (q : Int) (q : Int).toNat).2); rw [upT_comm _ (by decide)]; exact lgE_22)) (by decide) (by decide) dX1_lay_25
        · refine lv_goto (tgt := 26) hx hb dX1_lay_16 (by decide) ?_
          refine x_iinc (lv' := [(1, .int (jI (((q : Int)) + 1))), (0, .ref (G.2.2 60))]) hx hb dX1_lay_26 hl (k := 1) rfl (by decide) rfl (fun ls hl => ?_)
          refine lv_goto (tgt := 2) hx hb dX1_lay_29 (by decide) ?_
          exact ih2  ((q + 1)) τ9 _ _ _ (by first | omega | assumption | rfl) hL9 (fun z a => Or.elim (Nat.lt_or_ge z q) (fun y => hno z y) (fun y => (by have e : z = q := (by omega); subst e; exact hfi.elim (fun z => absurd z.1 (by omega)) (fun z => z.2)))) (by omega) hM2 (lv_sub hl [1, 0] rfl)
  exact c2 _ 0 σ _ _ _ (by first | omega | assumption | rfl) hL (fun z a => absurd a (by omega)) (Nat.lt_succ_self _) hM0 (lv_sub hl [1, 0] rfl)
