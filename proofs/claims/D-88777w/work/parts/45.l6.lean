set_option maxHeartbeats 400000 in
theorem l_right (l : Launch) (E : y_E) (G : y_G) (σ : y_S) (sz : Nat) (ρ : y_S) (hL : lgR E ρ G σ) : gCt l yX1_right cX1_right 6 (some .int) ({ frames := 2, cells := 0, slots := 0, locals := 46 }) E [.ref (G.2.2 60)] G σ sz (lPo E (oRight ρ)) 0 0 := by
  refine g_met (by decide) (Nat.le_of_ble_eq_true rfl) ?_
  intro p e s m below meth c ls CF hr hlocks hnm hK hM0 hA hl
  have hx := CF.1
  have hb := CF.2.1
  have hts := CF.2.2.2.2
  have hl : lv_has ls 6 [(0, .ref (G.2.2 60))] := hl
  obtain ⟨hO, hS, ⟨hm1, hm2, hm3, hm4, hm5⟩, hX, hD, hZ⟩ := id hL
  have hn := hO.n
  have hTd := hO.td
  refine lv_iconst (v := jI 0) hx hb dX1_right_0 rfl ?_
  refine lv_istore_n (lv' := [(1, .int (jI 0)), (0, .ref (G.2.2 60))]) hx hb dX1_right_1 rfl hl (by decide) rfl (fun ls hl => ?_)
  have c2 : ∀ (n2 : Nat) (a : Nat) (H : Heap) (locs : List Loc) (ls : Array Slot), ((a : Int) ≤ ρ 60 0) → (∀ x y : Int, 0 ≤ y → y ≤ x → x < (a : Int) → sumR (ρ 11) x y (ρ 60 0).toNat % 97 = if x = y then 1 else 0) → ((ρ 60 0).toNat - a < n2) → gM E (gA G sz) G σ s.heap H locs → lv_has ls 6 [(0, .ref (G.2.2 60)), (1, .int (jI ((a : Int))))] → W p l e ({ frames := 2, cells := 0, slots := 0, locals := 46 } : Room) s m ([.ref (G.2.2 60)] : List Value).toArray below meth c H locs 0 0 (MQ below (gQ E G sz (lPo E (oRight ρ))) ([.ref (G.2.2 60)] : List Value).toArray s 0 0 (gA G sz)) (F0 m 2 ls []) := by
    intro n2
    induction n2 with
    | zero => intro a H locs ls ha hA2 hmu; exact absurd hmu (Nat.not_lt_zero _)
    | succ n2 ih2 =>
      intro a H locs ls ha hA2 hmu2 hM1 hl
      refine lv_iload_n hx hb dX1_right_2 rfl (lv_at hl 1 rfl) ?_
      refine lv_aload_n hx hb dX1_right_3 rfl (lv_at hl 0 rfl) ?_
      refine g_geti CF hK hM1 60 (hL.2.1.1 60 _ rfl) 2 2 rfl rfl (by decide) (Or.inl (hts _ q284)) (fun _ h => h) rfl dX1_right_4 ?_
      refine x_top (b := ρ 60 0) hm1 ?_
      refine x_icmp_ge (tgt := 91) hx hb dX1_right_7 (by decide) (by omega) (by omega) (fun b7 => ?_) (fun b7 => ?_)
      · refine lv_iconst (v := jI 1) hx hb dX1_right_91 rfl ?_
        exact g_iret CF hr hlocks hM1 (have hy : mRt ρ := fun x y p q r s => Or.elim (Decidable.em (y ≤ x)) (fun e => hA2 x y r e (by omega)) (fun e => (by have z := hA2 y x p (by omega) (by omega); rw [sumR_sym, z]; exact Or.elim (Decidable.em (x = y)) (fun e2 => (by rw [if_pos e2, if_pos e2.symm])) (fun e2 => (by rw [if_neg e2, if_neg (fun q => e2 q.symm)])))); lPo_i (by rw [oRight_1 hy]) (by rw [oRight_1 hy]; exact hL)) (by decide) (by decide) dX1_right_92
      · refine lv_iconst (v := jI 0) hx hb dX1_right_10 rfl ?_
        refine lv_istore_n (lv' := [(2, .int (jI 0)), (0, .ref (G.2.2 60)), (1, .int (jI ((a : Int))))]) hx hb dX1_right_11 rfl hl (by decide) rfl (fun ls hl => ?_)
        have c12 : ∀ (n12 : Nat) (b : Nat) (H : Heap) (locs : List Loc) (ls : Array Slot), (b ≤ a + 1) → (∀ y : Int, 0 ≤ y → y < (b : Int) → sumR (ρ 11) (a : Int) y (ρ 60 0).toNat % 97 = if (a : Int) = y then 1 else 0) → (a + 1 - b < n12) → gM E (gA G sz) G σ s.heap H locs → lv_has ls 6 [(0, .ref (G.2.2 60)), (1, .int (jI ((a : Int)))), (2, .int (jI ((b : Int))))] → W p l e ({ frames := 2, cells := 0, slots := 0, locals := 46 } : Room) s m ([.ref (G.2.2 60)] : List Value).toArray below meth c H locs 0 0 (MQ below (gQ E G sz (lPo E (oRight ρ))) ([.ref (G.2.2 60)] : List Value).toArray s 0 0 (gA G sz)) (F0 m 12 ls []) := by
          intro n12
          induction n12 with
          | zero => intro b H locs ls hb2 hB2 hmu; exact absurd hmu (Nat.not_lt_zero _)
          | succ n12 ih12 =>
            intro b H locs ls hb2 hB2 hmu12 hM2 hl
            refine lv_iload_n hx hb dX1_right_12 rfl (lv_at hl 2 rfl) ?_
            refine lv_iload_n hx hb dX1_right_13 rfl (lv_at hl 1 rfl) ?_
            refine x_icmp_gt (tgt := 85) hx hb dX1_right_14 (by decide) (by omega) (by omega) (fun b14 => ?_) (fun b14 => ?_)
            · refine x_iinc (lv' := [(1, .int (jI (((a : Int)) + 1))), (0, .ref (G.2.2 60)), (2, .int (jI ((b : Int))))]) hx hb dX1_right_85 hl (k := 1) rfl (by decide) rfl (fun ls hl => ?_)
              refine lv_goto (tgt := 2) hx hb dX1_right_88 (by decide) ?_
              exact ih2  ((a + 1)) _ _ _ (by first | omega | assumption | rfl) (fun x y p q r => Or.elim (Decidable.em (x = (a : Int))) (fun e => (by subst e; exact hB2 y p (by omega))) (fun e => hA2 x y p q (by omega))) (by omega) hM2 (lv_sub hl [1, 0] rfl)
            · refine lv_lconst (v := jL 0) hx hb dX1_right_17 rfl ?_
              refine lv_lstore_n (lv' := [(3, .long (jL 0)), (0, .ref (G.2.2 60)), (1, .int (jI ((a : Int)))), (2, .int (jI ((b : Int))))]) hx hb dX1_right_18 rfl hl (by decide) rfl (fun ls hl => ?_)
              refine lv_iconst (v := jI 0) hx hb dX1_right_19 rfl ?_
              refine lv_istore (lv' := [(5, .int (jI 0)), (3, .long (jL 0)), (0, .ref (G.2.2 60)), (1, .int (jI ((a : Int)))), (2, .int (jI ((b : Int))))]) hx hb dX1_right_20 hl (by decide) rfl (fun ls hl => ?_)
              have c22 : ∀ (n22 : Nat) (r : Nat) (H : Heap) (locs : List Loc) (ls : Array Slot), ((r : Int) ≤ ρ 60 0) → ((ρ 60 0).toNat - r < n22) → gM E (gA G sz) G σ s.heap H locs → lv_has ls 6 [(0, .ref (G.2.2 60)), (1, .int (jI ((a : Int)))), (2, .int (jI ((b : Int)))), (3, .long (jL (sumR (ρ 11) (a : Int) (b : Int) r))), (5, .int (jI ((r : Int))))] → W p l e ({ frames := 2, cells := 0, slots := 0, locals := 46 } : Room) s m ([.ref (G.2.2 60)] : List Value).toArray below meth c H locs 0 0 (MQ below (gQ E G sz (lPo E (oRight ρ))) ([.ref (G.2.2 60)] : List Value).toArray s 0 0 (gA G sz)) (F0 m 22 ls []) := by
                intro n22
                induction n22 with
                | zero => intro r H locs ls hr2 hmu; exact absurd hmu (Nat.not_lt_zero _)
                | succ n22 ih22 =>
                  intro r H locs ls hr2 hmu22 hM3 hl
                  have hsr := sumR_r hTd (a := (a : Int)) (b := (b : Int)) (by omega) (by omega) (by omega) (by omega) r (by omega)
                  refine lv_iload hx hb dX1_right_22 (lv_at hl 4 rfl) ?_
                  refine lv_aload_n hx hb dX1_right_24 rfl (lv_at hl 0 rfl) ?_
                  refine g_geti CF hK hM3 60 (hL.2.1.1 60 _ rfl) 2 2 rfl rfl (by decide) (Or.inl (hts _ q284)) (fun _ h => h) rfl dX1_right_25 ?_
                  refine x_top (b := ρ 60 0) hm1 ?_
                  refine x_icmp_ge (tgt := 60) hx hb dX1_right_28 (by decide) (by omega) (by omega) (fun b28 => ?_) (fun b28 => ?_)
                  · refine lv_lload_n hx hb dX1_right_60 rfl (lv_at hl 3 rfl) ?_
                    refine g_calli (r := (sumR (ρ 11) (a : Int) (b : Int) r) % 97) hM3 hA (g_runS (As := [.long (jL (sumR (ρ 11) (a : Int) (b : Int) r))]) (rest := []) CF hK hM3 (l_part l E _ _ _  (sumR (ρ 11) (a : Int) (b : Int) r) (by first | omega | assumption | (refine ⟨?_, ?_⟩ <;> omega))) (va_cwS 1 hts (lw_S q112 q113 q60 q114) rfl rfl rfl (by decide +kernel) ⟨Nat.le_of_ble_eq_true rfl, Nat.le_of_ble_eq_true rfl⟩) rfl hl.1 rfl (Nat.le_of_ble_eq_true rfl) dX1_right_61 ⟨Nat.le_of_ble_eq_true rfl, Nat.le_of_ble_eq_true rfl⟩) (fun H locs hM4 => ?_)
                    have hsum : sumR (ρ 11) (a : Int) (b : Int) r % 97 = sumR (ρ 11) (a : Int) (b : Int) (ρ 60 0).toNat % 97 := (by rw [show (ρ 60 0).toNat = r by omega])
                    refine lv_iload_n hx hb dX1_right_64 rfl (lv_at hl 1 rfl) ?_
                    refine lv_iload_n hx hb dX1_right_65 rfl (lv_at hl 2 rfl) ?_
                    refine x_icmp_ne (tgt := 73) hx hb dX1_right_66 (by decide) (by omega) (by omega) (fun b66 => ?_) (fun b66 => ?_)
                    · refine lv_iconst (v := jI 0) hx hb dX1_right_73 rfl ?_
                      refine x_icmp_eq (tgt := 79) hx hb dX1_right_74 (by decide) (by omega) (by omega) (fun b74 => ?_) (fun b74 => ?_)
                      · refine x_iinc (lv' := [(2, .int (jI (((b : Int)) + 1))), (0, .ref (G.2.2 60)), (1, .int (jI ((a : Int)))), (3, .long (jL (sumR (ρ 11) (a : Int) (b : Int) r))), (5, .int (jI ((r : Int))))]) hx hb dX1_right_79 hl (k := 2) rfl (by decide) rfl (fun ls hl => ?_)
                        refine lv_goto (tgt := 12) hx hb dX1_right_82 (by decide) ?_
                        exact ih12  ((b + 1)) _ _ _ (by first | omega | assumption | rfl) (fun y p r => Or.elim (Decidable.em (y = (b : Int))) (fun e => (by subst e; first | (rw [if_pos b66]; exact hsum.symm.trans b74) | (rw [if_neg b66]; exact hsum.symm.trans b74))) (fun e => hB2 y p (by omega))) (by omega) hM4 (lv_sub hl [1, 2, 0] rfl)
                      · refine lv_iconst (v := jI 0) hx hb dX1_right_77 rfl ?_
                        exact g_iret CF hr hlocks hM4 (have hno : ¬ mRt ρ := fun q => (by have z := q (a : Int) (b : Int) (by omega) (by omega) (by omega) (by omega); rw [← hsum] at z; first | (rw [if_pos b66] at z; exact b74 z) | (rw [if_neg b66] at z; exact b74 z)); lPo_i (by rw [oRight_0 hno]) (by rw [oRight_0 hno]; exact hL)) (by decide) (by decide) dX1_right_78
                    · refine lv_iconst (v := jI 1) hx hb dX1_right_69 rfl ?_
                      refine lv_goto (tgt := 74) hx hb dX1_right_70 (by decide) ?_
                      refine x_icmp_eq (tgt := 79) hx hb dX1_right_74 (by decide) (by omega) (by omega) (fun b74 => ?_) (fun b74 => ?_)
                      · refine x_iinc (lv' := [(2, .int (jI (((b : Int)) + 1))), (0, .ref (G.2.2 60)), (1, .int (jI ((a : Int)))), (3, .long (jL (sumR (ρ 11) (a : Int) (b : Int) r))), (5, .int (jI ((r : Int))))]) hx hb dX1_right_79 hl (k := 2) rfl (by decide) rfl (fun ls hl => ?_)
                        refine lv_goto (tgt := 12) hx hb dX1_right_82 (by decide) ?_
                        exact ih12  ((b + 1)) _ _ _ (by first | omega | assumption | rfl) (fun y p r => Or.elim (Decidable.em (y = (b : Int))) (fun e => (by subst e; first | (rw [if_pos b66]; exact hsum.symm.trans b74) | (rw [if_neg b66]; exact hsum.symm.trans b74))) (fun e => hB2 y p (by omega))) (by omega) hM4 (lv_sub hl [1, 2, 0] rfl)
                      · refine lv_iconst (v := jI 0) hx hb dX1_right_77 rfl ?_
                        exact g_iret CF hr hlocks hM4 (have hno : ¬ mRt ρ := fun q => (by have z := q (a : Int) (b : Int) (by omega) (by omega) (by omega) (by omega); rw [← hsum] at z; first | (rw [if_pos b66] at z; exact b74 z) | (rw [if_neg b66] at z; exact b74 z)); lPo_i (by rw [oRight_0 hno]) (by rw [oRight_0 hno]; exact hL)) (by decide) (by decide) dX1_right_78
                  · have t1 := hTd (6 * (r : Int) + (a : Int)) (by omega) (by omega)
                    have t2 := hTd (6 * (r : Int) + (b : Int)) (by omega) (by omega)
                    have t3 := mul96 t1 t2
                    refine lv_lload_n hx hb dX1_right_31 rfl (lv_at hl 3 rfl) ?_
                    refine lv_aload_n hx hb dX1_right_32 rfl (lv_at hl 0 rfl) ?_
                    refine g_getr CF hK hM3 60 (hL.2.1.1 60 _ rfl) 10 10 rfl rfl (by decide) (Or.inl (hts _ q296)) (fun _ h => h) rfl (G.2.2 10) (hL.2.1.2.1 10 10 rfl) dX1_right_33 ?_
                    refine lv_iload_n hx hb dX1_right_36 rfl (lv_at hl 1 rfl) ?_
                    refine g_aaldr CF hK hM3 10 (hL.2.1.1 10 _ rfl) (by decide) rfl (i := (a : Int)) (by omega) (by omega) (by omega) (G.2.2 (200 + a)) ((hL.2.1.2.2.2.2.2.2.2.2.2.1 a (by omega)).1) dX1_right_37 ?_
                    refine lv_iload hx hb dX1_right_38 (lv_at hl 4 rfl) ?_
                    refine g_iald CF hK hM3 (200 + a) (hL.2.1.1 _ _ (lKd_to (by omega)).1) (i := (r : Int)) (by omega) (by omega) (by omega) dX1_right_40 ?_
                    refine x_top (b := ρ 11 (6 * (r : Int) + (a : Int))) (hX.1 a (r : Int) (by omega) (by omega) (by omega)) ?_
                    refine lv_aload_n hx hb dX1_right_41 rfl (lv_at hl 0 rfl) ?_
                    refine g_getr CF hK hM3 60 (hL.2.1.1 60 _ rfl) 10 10 rfl rfl (by decide) (Or.inl (hts _ q296)) (fun _ h => h) rfl (G.2.2 10) (hL.2.1.2.1 10 10 rfl) dX1_right_42 ?_
                    refine lv_iload_n hx hb dX1_right_45 rfl (lv_at hl 2 rfl) ?_
                    refine g_aaldr CF hK hM3 10 (hL.2.1.1 10 _ rfl) (by decide) rfl (i := (b : Int)) (by omega) (by omega) (by omega) (G.2.2 (200 + b)) ((hL.2.1.2.2.2.2.2.2.2.2.2.1 b (by omega)).1) dX1_right_46 ?_
                    refine lv_iload hx hb dX1_right_47 (lv_at hl 4 rfl) ?_
                    refine g_iald CF hK hM3 (200 + b) (hL.2.1.1 _ _ (lKd_to (by omega)).1) (i := (r : Int)) (by omega) (by omega) (by omega) dX1_right_49 ?_
                    refine x_top (b := ρ 11 (6 * (r : Int) + (b : Int))) (hX.1 b (r : Int) (by omega) (by omega) (by omega)) ?_
                    refine x_imul hx hb dX1_right_50 ?_
                    refine x_i2l hx hb dX1_right_51 (by omega) ?_
                    refine x_ladd hx hb dX1_right_52 ?_
                    refine lv_lstore_n (lv' := [(3, .long (jL ((sumR (ρ 11) (a : Int) (b : Int) r) + ((ρ 11 (6 * (r : Int) + (a : Int))) * (ρ 11 (6 * (r : Int) + (b : Int))))))), (0, .ref (G.2.2 60)), (1, .int (jI ((a : Int)))), (2, .int (jI ((b : Int)))), (5, .int (jI ((r : Int))))]) hx hb dX1_right_53 rfl hl (by decide) rfl (fun ls hl => ?_)
                    refine x_iinc (lv' := [(5, .int (jI (((r : Int)) + 1))), (3, .long (jL ((sumR (ρ 11) (a : Int) (b : Int) r) + ((ρ 11 (6 * (r : Int) + (a : Int))) * (ρ 11 (6 * (r : Int) + (b : Int))))))), (0, .ref (G.2.2 60)), (1, .int (jI ((a : Int)))), (2, .int (jI ((b : Int))))]) hx hb dX1_right_54 hl (k := 4) rfl (by decide) rfl (fun ls hl => ?_)
                    refine lv_goto (tgt := 22) hx hb dX1_right_57 (by decide) ?_
                    exact ih22  ((r + 1)) _ _ _ (by first | omega | assumption | rfl) (by omega) hM3 (lv_sub hl [2, 3, 4, 1, 0] rfl)
              exact c22 _ 0 _ _ _ (by first | omega | assumption | rfl) (Nat.lt_succ_self _) hM2 (lv_sub hl [2, 3, 4, 1, 0] rfl)
        exact c12 _ 0 _ _ _ (by first | omega | assumption | rfl) (fun y p r => absurd r (by omega)) (Nat.lt_succ_self _) hM1 (lv_sub hl [1, 2, 0] rfl)
  exact c2 _ 0 _ _ _ (by first | omega | assumption | rfl) (fun x y p q r => absurd r (by omega)) (Nat.lt_succ_self _) hM0 (lv_sub hl [1, 0] rfl)
set_option maxHeartbeats 400000 in
theorem l_undo (l : Launch) (E : y_E) (G : y_G) (σ : y_S) (sz : Nat) (ρ : y_S) (hL : lgR E ρ G σ) : gCt l yX1_undo cX1_undo 3 (some .int) ({ frames := 3, cells := 0, slots := 0, locals := 64 }) E [.ref (G.2.2 60)] G σ sz (lPo E (oUndo ρ)) 0 0 := by
  refine g_met (by decide) (Nat.le_of_ble_eq_true rfl) ?_
  intro p e s m below meth c ls CF hr hlocks hnm hK hM0 hA hl
  have hx := CF.1
  have hb := CF.2.1
  have hts := CF.2.2.2.2
  have hl : lv_has ls 3 [(0, .ref (G.2.2 60))] := hl
  obtain ⟨hO, hS, ⟨hm1, hm2, hm3, hm4, hm5⟩, hX, hD, hZ⟩ := id hL
  have hn := hO.n
  obtain ⟨hx1, ⟨hx2, hx3, hx4⟩, hx5, hx6, ⟨hx7, hx8⟩, hx9⟩ := id hX
  have hst := hO.st
  have hwk := hO.wk
  have h1718 := hO.2.1.2.2.2.2.2.2.2.2.2.2
  refine lv_aload_n hx hb dX1_undo_0 rfl (lv_at hl 0 rfl) ?_
  refine g_geti CF hK hM0 60 (hL.2.1.1 60 _ rfl) 17 17 rfl rfl (by decide) (Or.inl (hts _ q303)) (fun _ h => h) rfl dX1_undo_1 ?_
  refine x_top (b := ρ 60 17) hx3 ?_
  refine x_if_eq (tgt := 15) hx hb dX1_undo_4 (by decide) (by omega) (fun b4 => ?_) (fun b4 => ?_)
  · refine lv_bipush (v := jI (-3)) hx hb dX1_undo_15 (by decide) ?_
    exact g_iret CF hr hlocks hM0 (lPo_i (by unfold oUndo; rw [if_pos (by first | exact Or.inl b4 | exact Or.inr (fun q => b12 ((hx4 b4).mpr q)))]) (by unfold oUndo; rw [if_pos (by first | exact Or.inl b4 | exact Or.inr (fun q => b12 ((hx4 b4).mpr q)))]; exact hL)) (by decide) (by decide) dX1_undo_17
  · refine lv_aload_n hx hb dX1_undo_7 rfl (lv_at hl 0 rfl) ?_
    refine g_geti CF hK hM0 60 (hL.2.1.1 60 _ rfl) 16 16 rfl rfl (by decide) (Or.inl (hts _ q302)) (fun _ h => h) rfl dX1_undo_8 ?_
    refine lv_iconst (v := jI (-1)) hx hb dX1_undo_11 rfl ?_
    have fa1 := hM0.r 60 16
    refine x_icmp_eq (tgt := 18) hx hb dX1_undo_12 (by decide) (by have f0 := hM0.r 60 16; omega) (by omega) (fun b12 => ?_) (fun b12 => ?_)
    · refine lv_iconst (v := jI 0) hx hb dX1_undo_18 rfl ?_
      refine lv_istore_n (lv' := [(1, .int (jI 0)), (0, .ref (G.2.2 60))]) hx hb dX1_undo_19 rfl hl (by decide) rfl (fun ls hl => ?_)
      refine lv_iconst (v := jI 0) hx hb dX1_undo_20 rfl ?_
      refine lv_istore_n (lv' := [(2, .int (jI 0)), (1, .int (jI 0)), (0, .ref (G.2.2 60))]) hx hb dX1_undo_21 rfl hl (by decide) rfl (fun ls hl => ?_)
      have c22 : ∀ (n22 : Nat) (j : Nat) (H : Heap) (locs : List Loc) (ls : Array Slot), ((j : Int) ≤ ρ 60 16) → ((ρ 60 16).toNat - j < n22) → gM E (gA G sz) G σ s.heap H locs → lv_has ls 3 [(0, .ref (G.2.2 60)), (1, .int (jI (unC (ρ 14) j))), (2, .int (jI ((j : Int))))] → W p l e ({ frames := 3, cells := 0, slots := 0, locals := 64 } : Room) s m ([.ref (G.2.2 60)] : List Value).toArray below meth c H locs 0 0 (MQ below (gQ E G sz (lPo E (oUndo ρ))) ([.ref (G.2.2 60)] : List Value).toArray s 0 0 (gA G sz)) (F0 m 22 ls []) := by
        intro n22
        induction n22 with
        | zero => intro j H locs ls hj hmu; exact absurd hmu (Nat.not_lt_zero _)
        | succ n22 ih22 =>
          intro j H locs ls hj hmu22 hM2 hl
          have hun := unC_r (ρ 14) j
          refine lv_iload_n hx hb dX1_undo_22 rfl (lv_at hl 2 rfl) ?_
          refine lv_aload_n hx hb dX1_undo_23 rfl (lv_at hl 0 rfl) ?_
          refine g_geti CF hK hM2 60 (hL.2.1.1 60 _ rfl) 15 15 rfl rfl (by decide) (Or.inl (hts _ q301)) (fun _ h => h) rfl dX1_undo_24 ?_
          refine x_top (b := ρ 60 16) hx2 ?_
          refine x_icmp_ge (tgt := 53) hx hb dX1_undo_27 (by decide) (by omega) (by omega) (fun b27 => ?_) (fun b27 => ?_)
          · refine lv_iload_n hx hb dX1_undo_53 rfl (lv_at hl 1 rfl) ?_
            refine lv_bipush (v := jI 10) hx hb dX1_undo_54 (by decide) ?_
            refine x_icmp_le (tgt := 62) hx hb dX1_undo_56 (by decide) (by omega) (by omega) (fun b56 => ?_) (fun b56 => ?_)
            · refine lv_aload_n hx hb dX1_undo_62 rfl (lv_at hl 0 rfl) ?_
              refine lv_iconst (v := jI 0) hx hb dX1_undo_63 rfl ?_
              refine g_puti CF hK hM2 60 (by decide) (hL.2.1.1 60 _ rfl) 20 20 rfl rfl (by decide) (Or.inl (hts _ q306)) (fun _ h => h) (Or.inl rfl) rfl (v := 0) rfl rfl (by omega) dX1_undo_64 (fun H locs hM3 => ?_)
              refine lv_aload_n hx hb dX1_undo_67 rfl (lv_at hl 0 rfl) ?_
              refine g_geti CF hK hM3 60 (hL.2.1.1 60 _ rfl) 15 15 rfl rfl (by decide) (Or.inl (hts _ q301)) (fun _ h => h) rfl dX1_undo_68 ?_
              refine x_top (b := σ 60 15) rfl ?_
              refine x_top (b := ρ 60 16) hx2 ?_
              refine lv_iconst (v := jI 1) hx hb dX1_undo_71 rfl ?_
              refine x_isub hx hb dX1_undo_72 ?_
              refine lv_istore_n (lv' := [(2, .int (jI ((ρ 60 16) - 1))), (0, .ref (G.2.2 60)), (1, .int (jI (unC (ρ 14) j)))]) hx hb dX1_undo_73 rfl hl (by decide) rfl (fun ls hl => ?_)
              have c74 : ∀ (n74 : Nat) (k : Nat) (κ : y_S) (τ : y_S) (H : Heap) (locs : List Loc) (ls : Array Slot), (k ≤ 15) → (lgR E κ G τ) → (κ 13 = ρ 13) → (κ 14 = ρ 14) → (κ 60 21 + unC (ρ 14) k ≤ 10) → (unW k κ = unW (ρ 60 16).toNat (up2 ρ 60 21 0)) → (k < n74) → gM E (gA G sz) G τ s.heap H locs → lv_has ls 3 [(0, .ref (G.2.2 60)), (2, .int (jI ((k : Int) - 1)))] → W p l e ({ frames := 3, cells := 0, slots := 0, locals := 64 } : Room) s m ([.ref (G.2.2 60)] : List Value).toArray below meth c H locs 0 0 (MQ below (gQ E G sz (lPo E (oUndo ρ))) ([.ref (G.2.2 60)] : List Value).toArray s 0 0 (gA G sz)) (F0 m 74 ls []) := by
                intro n74
                induction n74 with
                | zero => intro k κ τ H locs ls hk hLκ e13 e14 hcn hg hmu; exact absurd hmu (Nat.not_lt_zero _)
                | succ n74 ih74 =>
                  intro k κ τ H locs ls hk hLκ e13 e14 hcn hg hmu74 hM4 hl
                  refine lv_iload_n hx hb dX1_undo_74 rfl (lv_at hl 1 rfl) ?_
                  refine x_if_lt (tgt := 112) hx hb dX1_undo_75 (by decide) (by omega) (fun b75 => ?_) (fun b75 => ?_)
                  · refine lv_aload_n hx hb dX1_undo_112 rfl (lv_at hl 0 rfl) ?_
                    refine g_geti CF hK hM4 60 (hL.2.1.1 60 _ rfl) 20 20 rfl rfl (by decide) (Or.inl (hts _ q306)) (fun _ h => h) rfl dX1_undo_113 ?_
                    exact g_iret CF hr hlocks hM4 (have h1 : ¬ (ρ 60 17 = 0 ∨ ρ 60 18 ≠ 0) := fun q => Or.elim q b4 (fun z => z ((hx4 b4).mp b12)); have h2 : ¬ 10 < unC (ρ 14) (ρ 60 16).toNat := (by rw [show (ρ 60 16).toNat = j by omega]; omega); have h3 : unW (ρ 60 16).toNat (up2 ρ 60 21 0) = κ := (by rw [← hg, show k = 0 by omega]; rfl); lPo_i (by unfold oUndo; rw [if_neg h1, if_neg h2, h3]; exact hLκ.2.2.2.1.2.2.2.2.1.1.symm) (by unfold oUndo; rw [if_neg h1, if_neg h2, h3]; exact hLκ)) (by decide) (by decide) dX1_undo_116
                  · obtain ⟨k', rfl⟩ : ∃ z : Nat, k = z + 1 := ⟨k - 1, by omega⟩
                    have ek : ((k' + 1 : Nat) : Int) - 1 = (k' : Int) := (by omega)
                    have h14 := hO.st2 (k' : Int) (by omega) (by omega)
                    have hun := unC_r (ρ 14) k'
                    have hun2 : unC (ρ 14) (k' + 1) = unC (ρ 14) k' + (if 0 < ρ 14 (k' : Int) then 1 else 0) := rfl
                    have hwκ := hLκ.1.wk
                    have hw20 := hLκ.2.2.2.1.2.2.2.2.1.1
                    have h5 := hLκ.2.2.2.1.2.2.1 (k' : Int) (by omega) (by omega)
                    rw [e13, e14] at h5
                    refine lv_aload_n hx hb dX1_undo_78 rfl (lv_at hl 0 rfl) ?_
                    refine g_getr CF hK hM4 60 (hL.2.1.1 60 _ rfl) 13 13 rfl rfl (by decide) (Or.inl (hts _ q299)) (fun _ h => h) rfl (G.2.2 13) (hL.2.1.2.1 13 13 rfl) dX1_undo_79 ?_
                    refine lv_iload_n hx hb dX1_undo_82 rfl (lv_at hl 1 rfl) ?_
                    refine g_iald CF hK hM4 13 (hL.2.1.1 13 _ rfl) (i := ((k' + 1 : Nat) : Int) - 1) (by omega) (by omega) (by omega) dX1_undo_83 ?_
                    refine x_top (b := ρ 14 (k' : Int)) (by rw [ek]; exact h5.2) ?_
                    refine x_if_eq (tgt := 106) hx hb dX1_undo_84 (by decide) (by omega) (fun b84 => ?_) (fun b84 => ?_)
                    · refine x_iinc (lv' := [(2, .int (jI ((((k' + 1 : Nat) : Int) - 1) - 1))), (0, .ref (G.2.2 60))]) hx hb dX1_undo_106 hl (k := 1) rfl (by decide) rfl (fun ls hl => ?_)
                      refine lv_goto (tgt := 74) hx hb dX1_undo_109 (by decide) ?_
                      exact ih74  k' κ τ _ _ _ (by first | omega | assumption | rfl) hLκ e13 e14 (by rw [hun2, if_neg (by omega)] at hcn; omega) (by rw [← hg, unW, if_pos (by rw [e14]; exact b84)]) (by omega) hM4 (lv_cast (lv_sub hl [1, 0] rfl) (by rw [(show ((k' + 1 : Nat) : Int) - 1 - 1 = (k' : Int) - 1 by omega)]; rfl))
                    · have hlt : κ 60 21 < 10 := (by rw [hun2, if_pos (by omega)] at hcn; omega)
                      have hm96 : (96 - ρ 14 (k' : Int)) % 96 = 96 - ρ 14 (k' : Int) := Int.emod_eq_of_lt (by omega) (by omega)
                      have hLn : lgR E (up2 (up2 (up2 κ 19 (κ 60 21) (κ 13 (k' : Int))) 20 (κ 60 21) (96 - κ 14 (k' : Int))) 60 21 (κ 60 21 + 1)) G (up2 (up2 (up2 τ 18 (τ 60 20) (ρ 13 (k' : Int))) 60 20 (τ 60 20 + 1)) 19 (τ 60 20) ((96 - ρ 14 (k' : Int)) % 96)) := (by rw [hw20, hm96, e13, e14]; exact lgR_wk1 hLκ rfl (ok_wk1 hLκ.1 h14.1.1 h14.1.2 (by omega) (by omega) (by omega) (by omega)))
                      refine lv_aload_n hx hb dX1_undo_87 rfl (lv_at hl 0 rfl) ?_
                      refine lv_aload_n hx hb dX1_undo_88 rfl (lv_at hl 0 rfl) ?_
                      refine g_getr CF hK hM4 60 (hL.2.1.1 60 _ rfl) 12 12 rfl rfl (by decide) (Or.inl (hts _ q298)) (fun _ h => h) rfl (G.2.2 12) (hL.2.1.2.1 12 12 rfl) dX1_undo_89 ?_
                      refine lv_iload_n hx hb dX1_undo_92 rfl (lv_at hl 1 rfl) ?_
                      refine g_iald CF hK hM4 12 (hL.2.1.1 12 _ rfl) (i := ((k' + 1 : Nat) : Int) - 1) (by omega) (by omega) (by omega) dX1_undo_93 ?_
                      refine x_top (b := ρ 13 (k' : Int)) (by rw [ek]; exact h5.1) ?_
                      refine lv_bipush (v := jI 96) hx hb dX1_undo_94 (by decide) ?_
                      refine lv_aload_n hx hb dX1_undo_96 rfl (lv_at hl 0 rfl) ?_
                      refine g_getr CF hK hM4 60 (hL.2.1.1 60 _ rfl) 13 13 rfl rfl (by decide) (Or.inl (hts _ q299)) (fun _ h => h) rfl (G.2.2 13) (hL.2.1.2.1 13 13 rfl) dX1_undo_97 ?_
                      refine lv_iload_n hx hb dX1_undo_100 rfl (lv_at hl 1 rfl) ?_
                      refine g_iald CF hK hM4 13 (hL.2.1.1 13 _ rfl) (i := ((k' + 1 : Nat) : Int) - 1) (by omega) (by omega) (by omega) dX1_undo_101 ?_
                      refine x_top (b := ρ 14 (k' : Int)) (by rw [ek]; exact h5.2) ?_
                      refine x_isub hx hb dX1_undo_102 ?_
                      refine g_callv hM4 hA (g_runV (As := [.int (jI (ρ 13 (k' : Int))), .int (jI (96 - (ρ 14 (k' : Int))))]) (rest := []) CF hK hM4 (hL.2.1.1 60 _ rfl) rfl (l_adds l E _ _ _ κ (ρ 13 (k' : Int)) (96 - (ρ 14 (k' : Int))) hLκ (by first | omega | assumption | (refine ⟨?_, ?_⟩ <;> omega)) (by first | omega | assumption | (refine ⟨?_, ?_⟩ <;> omega)) (by first | omega | assumption | (refine ⟨?_, ?_⟩ <;> omega))) (cwV 2 hts (lw_V q563 q565 qs6 q60 q566) rfl rfl rfl (by decide +kernel) ⟨Nat.le_of_ble_eq_true rfl, Nat.le_of_ble_eq_true rfl⟩) rfl hl.1 rfl (Nat.le_of_ble_eq_true rfl) dX1_undo_103 ⟨Nat.le_of_ble_eq_true rfl, Nat.le_of_ble_eq_true rfl⟩) (fun H locs hM5 => ?_)
                      refine x_iinc (lv' := [(2, .int (jI ((((k' + 1 : Nat) : Int) - 1) - 1))), (0, .ref (G.2.2 60))]) hx hb dX1_undo_106 hl (k := 1) rfl (by decide) rfl (fun ls hl => ?_)
                      refine lv_goto (tgt := 74) hx hb dX1_undo_109 (by decide) ?_
                      exact ih74  k' ((up2 (up2 (up2 κ 19 (κ 60 21) (κ 13 (k' : Int))) 20 (κ 60 21) (96 - κ 14 (k' : Int))) 60 21 (κ 60 21 + 1))) (up2 (up2 (up2 τ 18 (τ 60 20) (ρ 13 (k' : Int))) 60 20 (τ 60 20 + 1)) 19 (τ 60 20) ((96 - (ρ 14 (k' : Int))) % 96)) _ _ _ (by first | omega | assumption | rfl) hLn e13 e14 (by rw [hun2, if_pos (by omega)] at hcn; show κ 60 21 + 1 + _ ≤ 10; omega) (by rw [← hg, unW, if_neg (by rw [e14]; exact b84)]) (by omega) hM5 (lv_cast (lv_sub hl [1, 0] rfl) (by rw [(show ((k' + 1 : Nat) : Int) - 1 - 1 = (k' : Int) - 1 by omega)]; rfl))
              exact c74 _ ((ρ 60 16).toNat) ((up2 ρ 60 21 0)) (up2 σ 60 20 0) _ _ _ (by first | omega | assumption | rfl) (lgR_wk0 hL (ok_wk0 hO)) rfl rfl (by show 0 + unC (ρ 14) (ρ 60 16).toNat ≤ 10; rw [show (ρ 60 16).toNat = j by omega]; omega) rfl (Nat.lt_succ_self _) hM3 (lv_cast (lv_sub hl [1, 0] rfl) (by rw [Int.toNat_of_nonneg (show 0 ≤ ρ 60 16 by omega)]; rfl))
            · refine lv_bipush (v := jI (-4)) hx hb dX1_undo_59 (by decide) ?_
              exact g_iret CF hr hlocks hM2 (have h1 : ¬ (ρ 60 17 = 0 ∨ ρ 60 18 ≠ 0) := fun q => Or.elim q b4 (fun z => z ((hx4 b4).mp b12)); have h2 : 10 < unC (ρ 14) (ρ 60 16).toNat := (by rw [show (ρ 60 16).toNat = j by omega]; omega); lPo_i (by unfold oUndo; rw [if_neg h1, if_pos h2]) (by unfold oUndo; rw [if_neg h1, if_pos h2]; exact hL)) (by decide) (by decide) dX1_undo_61
          · have h14 := hO.st2 (j : Int) (by omega) (by omega)
            refine lv_iload_n hx hb dX1_undo_30 rfl (lv_at hl 1 rfl) ?_
            refine lv_aload_n hx hb dX1_undo_31 rfl (lv_at hl 0 rfl) ?_
            refine g_getr CF hK hM2 60 (hL.2.1.1 60 _ rfl) 13 13 rfl rfl (by decide) (Or.inl (hts _ q299)) (fun _ h => h) rfl (G.2.2 13) (hL.2.1.2.1 13 13 rfl) dX1_undo_32 ?_
            refine lv_iload_n hx hb dX1_undo_35 rfl (lv_at hl 2 rfl) ?_
            refine g_iald CF hK hM2 13 (hL.2.1.1 13 _ rfl) (i := (j : Int)) (by omega) (by omega) (by omega) dX1_undo_36 ?_
            refine x_top (b := ρ 14 (j : Int)) (hx5 (j : Int) (by omega) (by omega)).2 ?_
            refine x_if_ne (tgt := 44) hx hb dX1_undo_37 (by decide) (by omega) (fun b37 => ?_) (fun b37 => ?_)
            · refine lv_iconst (v := jI 1) hx hb dX1_undo_44 rfl ?_
              refine x_iadd hx hb dX1_undo_45 ?_
              refine lv_istore_n (lv' := [(1, .int (jI ((unC (ρ 14) j) + 1))), (0, .ref (G.2.2 60)), (2, .int (jI ((j : Int))))]) hx hb dX1_undo_46 rfl hl (by decide) rfl (fun ls hl => ?_)
              refine x_iinc (lv' := [(2, .int (jI (((j : Int)) + 1))), (1, .int (jI ((unC (ρ 14) j) + 1))), (0, .ref (G.2.2 60))]) hx hb dX1_undo_47 hl (k := 2) rfl (by decide) rfl (fun ls hl => ?_)
              refine lv_goto (tgt := 22) hx hb dX1_undo_50 (by decide) ?_
              exact ih22  ((j + 1)) _ _ _ (by first | omega | assumption | rfl) (by omega) hM2 (lv_cast (lv_sub hl [2, 1, 0] rfl) (by rw [(show unC (ρ 14) (j + 1) = unC (ρ 14) j + (if 0 < ρ 14 (j : Int) then 1 else 0) from rfl), if_pos (show 0 < ρ 14 (j : Int) by omega)]; rfl))
            · refine lv_iconst (v := jI 0) hx hb dX1_undo_40 rfl ?_
              refine lv_goto (tgt := 45) hx hb dX1_undo_41 (by decide) ?_
              refine x_iadd hx hb dX1_undo_45 ?_
              refine lv_istore_n (lv' := [(1, .int (jI ((unC (ρ 14) j) + 0))), (0, .ref (G.2.2 60)), (2, .int (jI ((j : Int))))]) hx hb dX1_undo_46 rfl hl (by decide) rfl (fun ls hl => ?_)
              refine x_iinc (lv' := [(2, .int (jI (((j : Int)) + 1))), (1, .int (jI ((unC (ρ 14) j) + 0))), (0, .ref (G.2.2 60))]) hx hb dX1_undo_47 hl (k := 2) rfl (by decide) rfl (fun ls hl => ?_)
              refine lv_goto (tgt := 22) hx hb dX1_undo_50 (by decide) ?_
              exact ih22  ((j + 1)) _ _ _ (by first | omega | assumption | rfl) (by omega) hM2 (lv_cast (lv_sub hl [2, 1, 0] rfl) (by rw [(show unC (ρ 14) (j + 1) = unC (ρ 14) j + (if 0 < ρ 14 (j : Int) then 1 else 0) from rfl), if_neg (show ¬ 0 < ρ 14 (j : Int) by omega)]; rfl))
      exact c22 _ 0 _ _ _ (by first | omega | assumption | rfl) (Nat.lt_succ_self _) hM0 (lv_sub hl [2, 1, 0] rfl)
    · refine lv_bipush (v := jI (-3)) hx hb dX1_undo_15 (by decide) ?_
      exact g_iret CF hr hlocks hM0 (lPo_i (by unfold oUndo; rw [if_pos (by first | exact Or.inl b4 | exact Or.inr (fun q => b12 ((hx4 b4).mpr q)))]) (by unfold oUndo; rw [if_pos (by first | exact Or.inl b4 | exact Or.inr (fun q => b12 ((hx4 b4).mpr q)))]; exact hL)) (by decide) (by decide) dX1_undo_17
set_option maxHeartbeats 400000 in
theorem l_take (l : Launch) (E : y_E) (G : y_G) (σ : y_S) (sz : Nat) (ρ : y_S) (hL : lgR E ρ G σ) : gCt l yX1_take cX1_take 4 (some .int) ({ frames := 5, cells := 0, slots := 0, locals := 119 }) E [.ref (G.2.2 60)] G σ sz (lPo E (oTake ρ)) 0 0 := by
  refine g_met (by decide) (Nat.le_of_ble_eq_true rfl) ?_
  intro p e s m below meth c ls CF hr hlocks hnm hK hM0 hA hl
  have hx := CF.1
  have hb := CF.2.1
  have hts := CF.2.2.2.2
  have hl : lv_has ls 4 [(0, .ref (G.2.2 60))] := hl
  obtain ⟨hO, hS, ⟨hm1, hm2, hm3, hm4, hm5⟩, hX, hD, hZ⟩ := id hL
  have hn := hO.n
  refine lv_iconst (v := jI 0) hx hb dX1_take_0 rfl ?_
  refine lv_istore_n (lv' := [(1, .int (jI 0)), (0, .ref (G.2.2 60))]) hx hb dX1_take_1 rfl hl (by decide) rfl (fun ls hl => ?_)
  refine lv_iconst (v := jI 0) hx hb dX1_take_2 rfl ?_
  refine lv_istore_n (lv' := [(2, .int (jI 0)), (1, .int (jI 0)), (0, .ref (G.2.2 60))]) hx hb dX1_take_3 rfl hl (by decide) rfl (fun ls hl => ?_)
  have c4 : ∀ (n4 : Nat) (co : Nat) (o : Nat) (κ : y_S) (τ : y_S) (f : Nat) (H : Heap) (locs : List Loc) (ls : Array Slot), ((co : Int) ≤ ρ 60 0) → (o ≤ 1) → (lgR E κ G τ) → (κ 60 0 = ρ 60 0) → (6 ≤ f + co) → (takeO f (co : Int) (o : Int) κ = oTake ρ) → ((ρ 60 0).toNat - co < n4) → gM E (gA G sz) G τ s.heap H locs → lv_has ls 4 [(0, .ref (G.2.2 60)), (1, .int (jI ((o : Int)))), (2, .int (jI ((co : Int))))] → W p l e ({ frames := 5, cells := 0, slots := 0, locals := 119 } : Room) s m ([.ref (G.2.2 60)] : List Value).toArray below meth c H locs 0 0 (MQ below (gQ E G sz (lPo E (oTake ρ))) ([.ref (G.2.2 60)] : List Value).toArray s 0 0 (gA G sz)) (F0 m 4 ls []) := by
    intro n4
    induction n4 with
    | zero => intro co o κ τ f H locs ls hc ho hLκ he hf hg hmu; exact absurd hmu (Nat.not_lt_zero _)
    | succ n4 ih4 =>
      intro co o κ τ f H locs ls hc ho hLκ he hf hg hmu4 hM1 hl
      have hmκ : τ 60 2 = ρ 60 0 := hLκ.2.2.1.1.trans he
      refine lv_iload_n hx hb dX1_take_4 rfl (lv_at hl 2 rfl) ?_
      refine lv_aload_n hx hb dX1_take_5 rfl (lv_at hl 0 rfl) ?_
      refine g_geti CF hK hM1 60 (hL.2.1.1 60 _ rfl) 2 2 rfl rfl (by decide) (Or.inl (hts _ q284)) (fun _ h => h) rfl dX1_take_6 ?_
      refine x_top (b := ρ 60 0) hmκ ?_
      refine x_icmp_ge (tgt := 82) hx hb dX1_take_9 (by decide) (by omega) (by omega) (fun b9 => ?_) (fun b9 => ?_)
      · refine lv_iload_n hx hb dX1_take_82 rfl (lv_at hl 1 rfl) ?_
        exact g_iret CF hr hlocks hM1 (have h1 : oTake ρ = ((o : Int), κ) := (by rw [← hg, takeO_e (by omega)]); lPo_i (by rw [h1]) (by rw [h1]; exact hLκ)) (by decide) (by decide) dX1_take_83
      · obtain ⟨f', rfl⟩ : ∃ z : Nat, f = z + 1 := ⟨f - 1, by omega⟩
        refine lv_aload_n hx hb dX1_take_12 rfl (lv_at hl 0 rfl) ?_
        refine lv_aload_n hx hb dX1_take_13 rfl (lv_at hl 0 rfl) ?_
        refine g_getr CF hK hM1 60 (hL.2.1.1 60 _ rfl) 5 5 rfl rfl (by decide) (Or.inl (hts _ q291)) (fun _ h => h) rfl (G.2.2 5) (hL.2.1.2.1 5 5 rfl) dX1_take_14 ?_
        refine lv_iload_n hx hb dX1_take_17 rfl (lv_at hl 2 rfl) ?_
        refine g_callv hM1 hA (g_runV (As := [.ref (G.2.2 5), .int (jI ((co : Int)))]) (rest := []) CF hK hM1 (hL.2.1.1 60 _ rfl) rfl (l_send5 l E _ _ _ κ (mEnt (mNow κ) (co : Int)) ((co : Int)) hLκ (mEntN_same κ (co : Int)) (mBy_nowE hLκ.1.s (co : Int)) lk5_now (by first | omega | assumption | (refine ⟨?_, ?_⟩ <;> omega))) (cwV 2 hts (lw_V q514 q516 qs3 q60 q517) rfl rfl rfl (by decide +kernel) ⟨Nat.le_of_ble_eq_true rfl, Nat.le_of_ble_eq_true rfl⟩) rfl hl.1 rfl (Nat.le_of_ble_eq_true rfl) dX1_take_18 ⟨Nat.le_of_ble_eq_true rfl, Nat.le_of_ble_eq_true rfl⟩) (fun H locs hM2 => ?_)
        refine lv_iconst (v := jI 0) hx hb dX1_take_21 rfl ?_
        refine lv_istore_n (lv' := [(3, .int (jI 0)), (0, .ref (G.2.2 60)), (1, .int (jI ((o : Int)))), (2, .int (jI ((co : Int))))]) hx hb dX1_take_22 rfl hl (by decide) rfl (fun ls hl => ?_)
        have c23 : ∀ (n23 : Nat) (r : Nat) (o2 : Nat) (κ2 : y_S) (τ2 : y_S) (f2 : Nat) (H : Heap) (locs : List Loc) (ls : Array Slot), ((r : Int) ≤ ρ 60 0) → (o2 ≤ 1) → (lgR E κ2 G τ2) → (κ2 60 0 = ρ 60 0) → (6 ≤ f2 + r) → (takeI (co : Int) f2 (r : Int) (o2 : Int) κ2 = takeI (co : Int) 6 0 (o : Int) κ) → (∀ j : Int, 0 ≤ j → j < ρ 60 0 → τ2 9 j = mTab κ2 (co : Int) 10 j) → ((ρ 60 0).toNat - r < n23) → gM E (gA G sz) G τ2 s.heap H locs → lv_has ls 4 [(0, .ref (G.2.2 60)), (1, .int (jI ((o2 : Int)))), (2, .int (jI ((co : Int)))), (3, .int (jI ((r : Int))))] → W p l e ({ frames := 5, cells := 0, slots := 0, locals := 119 } : Room) s m ([.ref (G.2.2 60)] : List Value).toArray below meth c H locs 0 0 (MQ below (gQ E G sz (lPo E (oTake ρ))) ([.ref (G.2.2 60)] : List Value).toArray s 0 0 (gA G sz)) (F0 m 23 ls []) := by
          intro n23
          induction n23 with
          | zero => intro r o2 κ2 τ2 f2 H locs ls hr2 ho2 hLκ2 he2 hf2 hg2 hli hmu; exact absurd hmu (Nat.not_lt_zero _)
          | succ n23 ih23 =>
            intro r o2 κ2 τ2 f2 H locs ls hr2 ho2 hLκ2 he2 hf2 hg2 hli hmu23 hM3 hl
            have hmκ2 : τ2 60 2 = ρ 60 0 := hLκ2.2.2.1.1.trans he2
            refine lv_iload_n hx hb dX1_take_23 rfl (lv_at hl 3 rfl) ?_
            refine lv_aload_n hx hb dX1_take_24 rfl (lv_at hl 0 rfl) ?_
            refine g_geti CF hK hM3 60 (hL.2.1.1 60 _ rfl) 2 2 rfl rfl (by decide) (Or.inl (hts _ q284)) (fun _ h => h) rfl dX1_take_25 ?_
            refine x_top (b := ρ 60 0) hmκ2 ?_
            refine x_icmp_ge (tgt := 76) hx hb dX1_take_28 (by decide) (by omega) (by omega) (fun b28 => ?_) (fun b28 => ?_)
            · refine x_iinc (lv' := [(2, .int (jI (((co : Int)) + 1))), (0, .ref (G.2.2 60)), (1, .int (jI ((o2 : Int)))), (3, .int (jI ((r : Int))))]) hx hb dX1_take_76 hl (k := 2) rfl (by decide) rfl (fun ls hl => ?_)
              refine lv_goto (tgt := 4) hx hb dX1_take_79 (by decide) ?_
              exact ih4  ((co + 1)) o2 κ2 τ2 f' _ _ _ (by first | omega | assumption | rfl) (by first | omega | assumption | rfl) hLκ2 he2 (by first | omega | assumption | rfl) (by have z : takeI (co : Int) 6 0 (o : Int) κ = ((o2 : Int), κ2) := (by rw [← hg2, takeI_e (by omega)]); rw [takeO_s (by omega), z] at hg; exact hg) (by omega) hM3 (lv_sub hl [1, 2, 0] rfl)
            · obtain ⟨f2', rfl⟩ : ∃ z : Nat, f2 = z + 1 := ⟨f2 - 1, by omega⟩
              have hmt := mTab_r κ2 (co : Int) (r := (r : Int)) (by omega) (by omega)
              have htd := hLκ2.1.td (6 * (r : Int) + (co : Int)) (by omega) (by omega)
              refine lv_iload_n hx hb dX1_take_31 rfl (lv_at hl 1 rfl) ?_
              refine lv_aload_n hx hb dX1_take_32 rfl (lv_at hl 0 rfl) ?_
              refine g_getr CF hK hM3 60 (hL.2.1.1 60 _ rfl) 10 10 rfl rfl (by decide) (Or.inl (hts _ q296)) (fun _ h => h) rfl (G.2.2 10) (hL.2.1.2.1 10 10 rfl) dX1_take_33 ?_
              refine lv_iload_n hx hb dX1_take_36 rfl (lv_at hl 2 rfl) ?_
              refine g_aaldr CF hK hM3 10 (hL.2.1.1 10 _ rfl) (by decide) rfl (i := (co : Int)) (by omega) (by omega) (by omega) (G.2.2 (200 + co)) ((hL.2.1.2.2.2.2.2.2.2.2.2.1 co (by omega)).1) dX1_take_37 ?_
              refine lv_iload_n hx hb dX1_take_38 rfl (lv_at hl 3 rfl) ?_
              refine g_iald CF hK hM3 (200 + co) (hL.2.1.1 _ _ (lKd_to (by omega)).1) (i := (r : Int)) (by omega) (by omega) (by omega) dX1_take_39 ?_
              refine x_top (b := κ2 11 (6 * (r : Int) + (co : Int))) (hLκ2.2.2.2.1.1 co (r : Int) (by omega) (by omega) (by omega)) ?_
              refine lv_aload_n hx hb dX1_take_40 rfl (lv_at hl 0 rfl) ?_
              refine g_getr CF hK hM3 60 (hL.2.1.1 60 _ rfl) 9 9 rfl rfl (by decide) (Or.inl (hts _ q295)) (fun _ h => h) rfl (G.2.2 9) (hL.2.1.2.1 9 9 rfl) dX1_take_41 ?_
              refine lv_iload_n hx hb dX1_take_44 rfl (lv_at hl 3 rfl) ?_
              refine g_iald CF hK hM3 9 (hL.2.1.1 9 _ rfl) (i := (r : Int)) (by omega) (by omega) (by omega) dX1_take_45 ?_
              refine x_top (b := mTab κ2 (co : Int) 10 (r : Int)) (hli (r : Int) (by omega) (by omega)) ?_
              refine x_icmp_ne (tgt := 53) hx hb dX1_take_46 (by decide) (by omega) (by omega) (fun b46 => ?_) (fun b46 => ?_)
              · refine lv_iconst (v := jI 1) hx hb dX1_take_53 rfl ?_
                refine x_orN (a := o2) (b := 1) hx hb dX1_take_54 ?_
                refine x_top (b := 1) (by rw [or_01 ho2]; rfl) ?_
                refine lv_istore_n (lv' := [(1, .int (jI 1)), (0, .ref (G.2.2 60)), (2, .int (jI ((co : Int)))), (3, .int (jI ((r : Int))))]) hx hb dX1_take_55 rfl hl (by decide) rfl (fun ls hl => ?_)
                refine lv_aload_n hx hb dX1_take_56 rfl (lv_at hl 1 rfl) ?_
                refine g_getr CF hK hM3 60 (hL.2.1.1 60 _ rfl) 10 10 rfl rfl (by decide) (Or.inl (hts _ q296)) (fun _ h => h) rfl (G.2.2 10) (hL.2.1.2.1 10 10 rfl) dX1_take_57 ?_
                refine lv_iload_n hx hb dX1_take_60 rfl (lv_at hl 2 rfl) ?_
                refine g_aaldr CF hK hM3 10 (hL.2.1.1 10 _ rfl) (by decide) rfl (i := (co : Int)) (by omega) (by omega) (by omega) (G.2.2 (200 + co)) ((hL.2.1.2.2.2.2.2.2.2.2.2.1 co (by omega)).1) dX1_take_61 ?_
                refine lv_iload_n hx hb dX1_take_62 rfl (lv_at hl 3 rfl) ?_
                refine lv_aload_n hx hb dX1_take_63 rfl (lv_at hl 1 rfl) ?_
                refine g_getr CF hK hM3 60 (hL.2.1.1 60 _ rfl) 9 9 rfl rfl (by decide) (Or.inl (hts _ q295)) (fun _ h => h) rfl (G.2.2 9) (hL.2.1.2.1 9 9 rfl) dX1_take_64 ?_
                refine lv_iload_n hx hb dX1_take_67 rfl (lv_at hl 3 rfl) ?_
                refine g_iald CF hK hM3 9 (hL.2.1.1 9 _ rfl) (i := (r : Int)) (by omega) (by omega) (by omega) dX1_take_68 ?_
                refine x_top (b := mTab κ2 (co : Int) 10 (r : Int)) (hli (r : Int) (by omega) (by omega)) ?_
                refine g_iast CF hK hM3 (200 + co) (by omega) (hL.2.1.1 _ _ (lKd_to (by omega)).1) (i := (r : Int)) (v := mTab κ2 (co : Int) 10 (r : Int)) (by omega) (by omega) (by omega) (by omega) dX1_take_69 (fun H locs hM4 => ?_)
                refine x_iinc (lv' := [(3, .int (jI (((r : Int)) + 1))), (1, .int (jI 1)), (0, .ref (G.2.2 60)), (2, .int (jI ((co : Int))))]) hx hb dX1_take_70 hl (k := 3) rfl (by decide) rfl (fun ls hl => ?_)
                refine lv_goto (tgt := 23) hx hb dX1_take_73 (by decide) ?_
                exact ih23  ((r + 1)) 1 ((up2 (mTab κ2 (co : Int)) 11 (6 * (r : Int) + (co : Int)) (mTab κ2 (co : Int) 10 (r : Int)))) (up2 τ2 (200 + co) ((r : Int)) (mTab κ2 (co : Int) 10 (r : Int))) f2' _ _ _ (by first | omega | assumption | rfl) (by omega) (told_tab hLκ2 (by omega) (by omega)) he2 (by first | omega | assumption | rfl) ((takeI_x (by omega) b46).symm.trans hg2) (fun j a b => (by rw [up2_n _ _ _ (by omega), hli j a b]; exact (tab_told hLκ2.1.n j a (by omega)).symm)) (by omega) hM4 (lv_sub hl [2, 1, 3, 0] rfl)
              · refine lv_iconst (v := jI 0) hx hb dX1_take_49 rfl ?_
                refine lv_goto (tgt := 54) hx hb dX1_take_50 (by decide) ?_
                refine x_orN (a := o2) (b := 0) hx hb dX1_take_54 ?_
                refine x_top (b := (o2 : Int)) (by rw [Nat.or_zero]) ?_
                refine lv_istore_n (lv' := [(1, .int (jI ((o2 : Int)))), (0, .ref (G.2.2 60)), (2, .int (jI ((co : Int)))), (3, .int (jI ((r : Int))))]) hx hb dX1_take_55 rfl hl (by decide) rfl (fun ls hl => ?_)
                refine lv_aload_n hx hb dX1_take_56 rfl (lv_at hl 1 rfl) ?_
                refine g_getr CF hK hM3 60 (hL.2.1.1 60 _ rfl) 10 10 rfl rfl (by decide) (Or.inl (hts _ q296)) (fun _ h => h) rfl (G.2.2 10) (hL.2.1.2.1 10 10 rfl) dX1_take_57 ?_
                refine lv_iload_n hx hb dX1_take_60 rfl (lv_at hl 2 rfl) ?_
                refine g_aaldr CF hK hM3 10 (hL.2.1.1 10 _ rfl) (by decide) rfl (i := (co : Int)) (by omega) (by omega) (by omega) (G.2.2 (200 + co)) ((hL.2.1.2.2.2.2.2.2.2.2.2.1 co (by omega)).1) dX1_take_61 ?_
                refine lv_iload_n hx hb dX1_take_62 rfl (lv_at hl 3 rfl) ?_
                refine lv_aload_n hx hb dX1_take_63 rfl (lv_at hl 1 rfl) ?_
                refine g_getr CF hK hM3 60 (hL.2.1.1 60 _ rfl) 9 9 rfl rfl (by decide) (Or.inl (hts _ q295)) (fun _ h => h) rfl (G.2.2 9) (hL.2.1.2.1 9 9 rfl) dX1_take_64 ?_
                refine lv_iload_n hx hb dX1_take_67 rfl (lv_at hl 3 rfl) ?_
                refine g_iald CF hK hM3 9 (hL.2.1.1 9 _ rfl) (i := (r : Int)) (by omega) (by omega) (by omega) dX1_take_68 ?_
                refine x_top (b := mTab κ2 (co : Int) 10 (r : Int)) (hli (r : Int) (by omega) (by omega)) ?_
                refine g_iast CF hK hM3 (200 + co) (by omega) (hL.2.1.1 _ _ (lKd_to (by omega)).1) (i := (r : Int)) (v := mTab κ2 (co : Int) 10 (r : Int)) (by omega) (by omega) (by omega) (by omega) dX1_take_69 (fun H locs hM5 => ?_)
                refine x_iinc (lv' := [(3, .int (jI (((r : Int)) + 1))), (1, .int (jI ((o2 : Int)))), (0, .ref (G.2.2 60)), (2, .int (jI ((co : Int))))]) hx hb dX1_take_70 hl (k := 3) rfl (by decide) rfl (fun ls hl => ?_)
                refine lv_goto (tgt := 23) hx hb dX1_take_73 (by decide) ?_
                exact ih23  ((r + 1)) o2 ((up2 (mTab κ2 (co : Int)) 11 (6 * (r : Int) + (co : Int)) (mTab κ2 (co : Int) 10 (r : Int)))) (up2 τ2 (200 + co) ((r : Int)) (mTab κ2 (co : Int) 10 (r : Int))) f2' _ _ _ (by first | omega | assumption | rfl) ho2 (told_tab hLκ2 (by omega) (by omega)) he2 (by first | omega | assumption | rfl) ((takeI_y (by omega) b46).symm.trans hg2) (fun j a b => (by rw [up2_n _ _ _ (by omega), hli j a b]; exact (tab_told hLκ2.1.n j a (by omega)).symm)) (by omega) hM5 (lv_sub hl [2, 1, 3, 0] rfl)
        exact c23 _ 0 o κ (upT τ 9 (goR (κ 60 0) (κ 1) (κ 2) (mTf (mEnt (mNow κ) (co : Int)) 0) (fillN (τ 9) (eNT ((co : Int))) (κ 60 0)))) 6 _ _ _ (by first | omega | assumption | rfl) ho (hLκ.uT (by unfold lgT; omega) (by decide)) he (by first | omega | assumption | rfl) rfl (fun j a b => lSend (κ := mNow κ) (ρ := κ) hLκ.1.n rfl rfl rfl j a (by omega)) (Nat.lt_succ_self _) hM2 (lv_sub hl [1, 2, 3, 0] rfl)
  exact c4 _ 0 0 ρ σ 6 _ _ _ (by first | omega | assumption | rfl) (by first | omega | assumption | rfl) hL rfl (by first | omega | assumption | rfl) rfl (Nat.lt_succ_self _) hM0 (lv_sub hl [2, 1, 0] rfl)
