set_option maxHeartbeats 400000 in
theorem l_areNear (l : Launch) (E : y_E) (G : y_G) (σ : y_S) (sz : Nat) (ρ : y_S) (a : Nat) (b : Nat) (hL : lgW ρ G σ) (ha2 : a < wkN ρ) (hb2 : b < wkN ρ) : gCt l yX1_areNear cX1_areNear 3 (some .boolean) ({ frames := 1, cells := 0, slots := 0, locals := 20 }) E [.ref (G.2.2 60), .int (jI ((a : Int))), .int (jI ((b : Int)))] G σ sz (gR (some (.int (jI (if -1 ≤ ρ 19 (a : Int) - ρ 19 (b : Int) ∧ ρ 19 (a : Int) - ρ 19 (b : Int) ≤ 1 then 1 else 0)))) G σ) 0 0 := by
  refine g_met (by decide) (Nat.le_of_ble_eq_true rfl) ?_
  intro p e s m below meth c ls CF hr hlocks hnm hK hM0 hA hl
  have hx := CF.1
  have hb := CF.2.1
  have hts := CF.2.2.2.2
  have hl : lv_has ls 3 [(0, .ref (G.2.2 60)), (1, .int (jI ((a : Int)))), (2, .int (jI ((b : Int))))] := hl
  have hO := hL.1
  have hn := hO.n
  have hwk := hO.wk
  have hW10 : wkN ρ ≤ 10 := (by unfold wkN; omega)
  have hWI : ((wkN ρ : Nat) : Int) = ρ 60 21 := (by unfold wkN; omega)
  have hp2 := pw10 hW10
  have h1 := hL.2.2.2.1.2 (a : Int) (by omega) (by omega)
  have h2 := hL.2.2.2.1.2 (b : Int) (by omega) (by omega)
  have h3 := hO.wl (a : Int) (by omega) (by omega)
  have h4 := hO.wl (b : Int) (by omega) (by omega)
  refine lv_aload_n hx hb dX1_areNear_0 rfl (lv_at hl 0 rfl) ?_
  refine g_getr CF hK hM0 60 (hL.2.1.1 60 _ rfl) 18 18 rfl rfl (by decide) (Or.inl (hts _ q304)) (fun _ h => h) rfl (G.2.2 18) (hL.2.1.2.1 18 18 rfl) dX1_areNear_1 ?_
  refine lv_iload_n hx hb dX1_areNear_4 rfl (lv_at hl 1 rfl) ?_
  refine g_iald CF hK hM0 18 (hL.2.1.1 18 _ rfl) (i := (a : Int)) (by omega) (by omega) (by omega) dX1_areNear_5 ?_
  refine x_top (b := ρ 19 (a : Int)) h1.1 ?_
  refine lv_aload_n hx hb dX1_areNear_6 rfl (lv_at hl 0 rfl) ?_
  refine g_getr CF hK hM0 60 (hL.2.1.1 60 _ rfl) 18 18 rfl rfl (by decide) (Or.inl (hts _ q304)) (fun _ h => h) rfl (G.2.2 18) (hL.2.1.2.1 18 18 rfl) dX1_areNear_7 ?_
  refine lv_iload_n hx hb dX1_areNear_10 rfl (lv_at hl 2 rfl) ?_
  refine g_iald CF hK hM0 18 (hL.2.1.1 18 _ rfl) (i := (b : Int)) (by omega) (by omega) (by omega) dX1_areNear_11 ?_
  refine x_top (b := ρ 19 (b : Int)) h2.1 ?_
  refine x_isub hx hb dX1_areNear_12 ?_
  refine g_calli (r := if ((ρ 19 (a : Int)) - (ρ 19 (b : Int))) < 0 then -((ρ 19 (a : Int)) - (ρ 19 (b : Int))) else ((ρ 19 (a : Int)) - (ρ 19 (b : Int)))) hM0 hA (g_runS (As := [.int (jI ((ρ 19 (a : Int)) - (ρ 19 (b : Int))))]) (rest := []) CF hK hM0 (j_abs l E _ _ _  ((ρ 19 (a : Int)) - (ρ 19 (b : Int))) (by first | omega | assumption | (refine ⟨?_, ?_⟩ <;> omega))) (va_cwS 1 hts (lw_S q595 q596 q61 q597) rfl rfl rfl (by decide +kernel) ⟨Nat.le_of_ble_eq_true rfl, Nat.le_of_ble_eq_true rfl⟩) rfl hl.1 rfl (Nat.le_of_ble_eq_true rfl) dX1_areNear_13 ⟨Nat.le_of_ble_eq_true rfl, Nat.le_of_ble_eq_true rfl⟩) (fun H locs hM1 => ?_)
  refine lv_iconst (v := jI 2) hx hb dX1_areNear_16 rfl ?_
  refine x_icmp_ge (tgt := 24) hx hb dX1_areNear_17 (by decide) (by omega) (by omega) (fun b17 => ?_) (fun b17 => ?_)
  · refine lv_iconst (v := jI 0) hx hb dX1_areNear_24 rfl ?_
    exact g_zret CF hr hlocks hM1 (by omega) (g_pi (by (repeat' split) <;> first | rfl | omega)) (by decide) (by decide) dX1_areNear_25
  · refine lv_iconst (v := jI 1) hx hb dX1_areNear_20 rfl ?_
    refine lv_goto (tgt := 25) hx hb dX1_areNear_21 (by decide) ?_
    exact g_zret CF hr hlocks hM1 (by omega) (g_pi (by (repeat' split) <;> first | rfl | omega)) (by decide) (by decide) dX1_areNear_25
set_option maxHeartbeats 400000 in
theorem l_nextAt (l : Launch) (E : y_E) (G : y_G) (σ : y_S) (sz : Nat) (ρ : y_S) (l1 : Int) (i : Int) (D : Nat) (hL : lgW ρ G σ) (hCe : mCell (ρ 60 0) l1 i) (hD : D < 2 ^ wkN ρ) : gCt l yX1_nextAt cX1_nextAt 5 (some .int) ({ frames := 2, cells := 0, slots := 0, locals := 42 }) E [.ref (G.2.2 60), .ref (G.2.2 (cT l1 i)), .int (jI ((D : Int)))] G σ sz (gR (some (.int (jI (nxF ρ l1 i D)))) G σ) 0 0 := by
  refine g_met (by decide) (Nat.le_of_ble_eq_true rfl) ?_
  intro p e s m below meth c ls CF hr hlocks hnm hK hM0 hA hl
  have hx := CF.1
  have hb := CF.2.1
  have hts := CF.2.2.2.2
  have hl : lv_has ls 5 [(0, .ref (G.2.2 60)), (1, .ref (G.2.2 (cT l1 i))), (2, .int (jI ((D : Int))))] := hl
  have hO := hL.1
  have hn := hO.n
  have hwk := hO.wk
  have hW10 : wkN ρ ≤ 10 := (by unfold wkN; omega)
  have hWI : ((wkN ρ : Nat) : Int) = ρ 60 21 := (by unfold wkN; omega)
  have hp2 := pw10 hW10
  have hc5 := hL.2.2.2.2 l1 i hCe
  have hpl := hO.p (6 * l1 + i) (by omega) (by omega)
  have hw20 := hL.2.2.2.1.1
  refine lv_iconst (v := jI 0) hx hb dX1_nextAt_0 rfl ?_
  refine lv_istore_n (lv' := [(3, .int (jI 0)), (0, .ref (G.2.2 60)), (1, .ref (G.2.2 (cT l1 i))), (2, .int (jI ((D : Int))))]) hx hb dX1_nextAt_1 rfl hl (by decide) rfl (fun ls hl => ?_)
  have c2 : ∀ (n2 : Nat) (w : Nat) (H : Heap) (locs : List Loc) (ls : Array Slot), (w ≤ wkN ρ) → (∀ v : Nat, v < w → ρ 19 (v : Int) = i → D.testBit v = true) → (wkN ρ - w < n2) → gM E (gA G sz) G σ s.heap H locs → lv_has ls 5 [(0, .ref (G.2.2 60)), (1, .ref (G.2.2 (cT l1 i))), (2, .int (jI ((D : Int)))), (3, .int (jI ((w : Int))))] → W p l e ({ frames := 2, cells := 0, slots := 0, locals := 42 } : Room) s m ([.ref (G.2.2 60), .ref (G.2.2 (cT l1 i)), .int (jI ((D : Int)))] : List Value).toArray below meth c H locs 0 0 (MQ below (gQ E G sz (gR (some (.int (jI (nxF ρ l1 i D)))) G σ)) ([.ref (G.2.2 60), .ref (G.2.2 (cT l1 i)), .int (jI ((D : Int)))] : List Value).toArray s 0 0 (gA G sz)) (F0 m 2 ls []) := by
    intro n2
    induction n2 with
    | zero => intro w H locs ls hw hno hmu; exact absurd hmu (Nat.not_lt_zero _)
    | succ n2 ih2 =>
      intro w H locs ls hw hno hmu2 hM1 hl
      refine lv_iload_n hx hb dX1_nextAt_2 rfl (lv_at hl 3 rfl) ?_
      refine lv_aload_n hx hb dX1_nextAt_3 rfl (lv_at hl 0 rfl) ?_
      refine g_geti CF hK hM1 60 (hL.2.1.1 60 _ rfl) 20 20 rfl rfl (by decide) (Or.inl (hts _ q306)) (fun _ h => h) rfl dX1_nextAt_4 ?_
      refine x_top (b := ((wkN ρ : Nat) : Int)) (by omega) ?_
      refine x_icmp_ge (tgt := 103) hx hb dX1_nextAt_7 (by decide) (by omega) (by omega) (fun b7 => ?_) (fun b7 => ?_)
      · refine lv_iconst (v := jI (-1)) hx hb dX1_nextAt_103 rfl ?_
        exact g_iret CF hr hlocks hM1 (g_pi (nxF_n (fun v q => q.2.2.1 (hno v (by have := q.1; omega) q.2.1)))) (by decide) (by decide) dX1_nextAt_104
      · have hwk2 := hL.2.2.2.1.2 (w : Int) (by omega) (by omega)
        have hwl := hO.wl (w : Int) (by omega) (by omega)
        refine lv_iload_n hx hb dX1_nextAt_10 rfl (lv_at hl 2 rfl) ?_
        refine lv_iload_n hx hb dX1_nextAt_11 rfl (lv_at hl 3 rfl) ?_
        refine x_shrN (S := D) (w := w) hx hb dX1_nextAt_12 (by omega) (by omega) ?_
        refine lv_iconst (v := jI 1) hx hb dX1_nextAt_13 rfl ?_
        refine x_tb (S := D) (w := w) hx hb dX1_nextAt_14 ?_
        refine lv_iconst (v := jI 1) hx hb dX1_nextAt_15 rfl ?_
        refine x_bicmp_eq (tgt := 97) hx hb dX1_nextAt_16 (by decide) (fun b16 => ?_) (fun b16 => ?_)
        · refine x_iinc (lv' := [(3, .int (jI (((w : Int)) + 1))), (0, .ref (G.2.2 60)), (1, .ref (G.2.2 (cT l1 i))), (2, .int (jI ((D : Int))))]) hx hb dX1_nextAt_97 hl (k := 3) rfl (by decide) rfl (fun ls hl => ?_)
          refine lv_goto (tgt := 2) hx hb dX1_nextAt_100 (by decide) ?_
          exact ih2  ((w + 1)) _ _ _ (by first | omega | assumption | rfl) (fun v a q => Or.elim (Nat.lt_or_ge v w) (fun z => hno v z q) (fun z => (by have e : v = w := (by omega); subst e; first | exact b16 | exact absurd q b29))) (by omega) hM1 (lv_sub hl [1, 2, 3, 0] rfl)
        · refine lv_aload_n hx hb dX1_nextAt_19 rfl (lv_at hl 0 rfl) ?_
          refine g_getr CF hK hM1 60 (hL.2.1.1 60 _ rfl) 18 18 rfl rfl (by decide) (Or.inl (hts _ q304)) (fun _ h => h) rfl (G.2.2 18) (hL.2.1.2.1 18 18 rfl) dX1_nextAt_20 ?_
          refine lv_iload_n hx hb dX1_nextAt_23 rfl (lv_at hl 3 rfl) ?_
          refine g_iald CF hK hM1 18 (hL.2.1.1 18 _ rfl) (i := (w : Int)) (by omega) (by omega) (by omega) dX1_nextAt_24 ?_
          refine x_top (b := ρ 19 (w : Int)) hwk2.1 ?_
          refine lv_aload_n hx hb dX1_nextAt_25 rfl (lv_at hl 1 rfl) ?_
          refine g_geti CF hK hM1 (cT l1 i) (hL.2.1.1 _ _ (lKd_c hL.1.n.2 hCe)) 1 1 rfl rfl (by decide) (gLk.n hK q252) (fun _ h => h) rfl dX1_nextAt_26 ?_
          refine x_top (b := i) hc5.2.1 ?_
          refine x_icmp_eq (tgt := 35) hx hb dX1_nextAt_29 (by decide) (by omega) (by omega) (fun b29 => ?_) (fun b29 => ?_)
          · refine lv_iconst (v := jI 0) hx hb dX1_nextAt_35 rfl ?_
            refine lv_istore (lv' := [(4, .int (jI 0)), (0, .ref (G.2.2 60)), (1, .ref (G.2.2 (cT l1 i))), (2, .int (jI ((D : Int)))), (3, .int (jI ((w : Int))))]) hx hb dX1_nextAt_36 hl (by decide) rfl (fun ls hl => ?_)
            have c38 : ∀ (n38 : Nat) (b : Nat) (H : Heap) (locs : List Loc) (ls : Array Slot), (b ≤ w) → (∀ v : Nat, v < b → (-1 ≤ ρ 19 (v : Int) - ρ 19 (w : Int) ∧ ρ 19 (v : Int) - ρ 19 (w : Int) ≤ 1) → D.testBit v = true) → (w - b < n38) → gM E (gA G sz) G σ s.heap H locs → lv_has ls 5 [(0, .ref (G.2.2 60)), (1, .ref (G.2.2 (cT l1 i))), (2, .int (jI ((D : Int)))), (3, .int (jI ((w : Int)))), (4, .int (jI ((b : Int))))] → W p l e ({ frames := 2, cells := 0, slots := 0, locals := 42 } : Room) s m ([.ref (G.2.2 60), .ref (G.2.2 (cT l1 i)), .int (jI ((D : Int)))] : List Value).toArray below meth c H locs 0 0 (MQ below (gQ E G sz (gR (some (.int (jI (nxF ρ l1 i D)))) G σ)) ([.ref (G.2.2 60), .ref (G.2.2 (cT l1 i)), .int (jI ((D : Int)))] : List Value).toArray s 0 0 (gA G sz)) (F0 m 38 ls []) := by
              intro n38
              induction n38 with
              | zero => intro b H locs ls hb2 hbn hmu; exact absurd hmu (Nat.not_lt_zero _)
              | succ n38 ih38 =>
                intro b H locs ls hb2 hbn hmu38 hM2 hl
                refine lv_iload hx hb dX1_nextAt_38 (lv_at hl 4 rfl) ?_
                refine lv_iload_n hx hb dX1_nextAt_40 rfl (lv_at hl 3 rfl) ?_
                refine x_icmp_ge (tgt := 71) hx hb dX1_nextAt_41 (by decide) (by omega) (by omega) (fun b41 => ?_) (fun b41 => ?_)
                · refine lv_aload_n hx hb dX1_nextAt_71 rfl (lv_at hl 1 rfl) ?_
                  refine g_calli (r := (if ρ 4 (6 * l1 + i) ≠ -1 then 1 else 0)) hM2 hA (g_runV (As := []) (rest := []) CF hK hM2 (hL.2.1.1 _ _ (lKd_c hL.1.n.2 hCe)) rfl (l_isDead l E _ _ _ ρ l1 i  hL hCe) (cwV 0 hts (lw_V q408 q409 q410 q71 q411) rfl rfl rfl (by decide +kernel) ⟨Nat.le_of_ble_eq_true rfl, Nat.le_of_ble_eq_true rfl⟩) rfl hl.1 rfl (Nat.le_of_ble_eq_true rfl) dX1_nextAt_72 ⟨Nat.le_of_ble_eq_true rfl, Nat.le_of_ble_eq_true rfl⟩) (fun H locs hM3 => ?_)
                  refine x_bif_eq (tgt := 91) hx hb dX1_nextAt_75 (by decide) (fun b75 => ?_) (fun b75 => ?_)
                  · refine lv_iload_n hx hb dX1_nextAt_91 rfl (lv_at hl 3 rfl) ?_
                    refine lv_goto (tgt := 96) hx hb dX1_nextAt_92 (by decide) ?_
                    exact g_iret CF hr hlocks hM3 (g_pi (nxF_y ⟨by omega, b29, b16, ⟨by rw [b29]; exact hCe, by rw [b29]; omega, fun v a q => hbn v (by omega) q⟩⟩)) (by decide) (by decide) dX1_nextAt_96
                  · refine lv_aload_n hx hb dX1_nextAt_78 rfl (lv_at hl 1 rfl) ?_
                    refine g_geti CF hK hM3 (cT l1 i) (hL.2.1.1 _ _ (lKd_c hL.1.n.2 hCe)) 3 3 rfl rfl (by decide) (gLk.n hK q259) (fun _ h => h) rfl dX1_nextAt_79 ?_
                    refine x_top (b := ρ 4 (6 * l1 + i)) hc5.2.2 ?_
                    refine lv_aload_n hx hb dX1_nextAt_82 rfl (lv_at hl 0 rfl) ?_
                    refine g_getr CF hK hM3 60 (hL.2.1.1 60 _ rfl) 19 19 rfl rfl (by decide) (Or.inl (hts _ q305)) (fun _ h => h) rfl (G.2.2 19) (hL.2.1.2.1 19 19 rfl) dX1_nextAt_83 ?_
                    refine lv_iload_n hx hb dX1_nextAt_86 rfl (lv_at hl 3 rfl) ?_
                    refine g_iald CF hK hM3 19 (hL.2.1.1 19 _ rfl) (i := (w : Int)) (by omega) (by omega) (by omega) dX1_nextAt_87 ?_
                    refine x_top (b := ρ 20 (w : Int)) hwk2.2 ?_
                    refine x_icmp_ne (tgt := 95) hx hb dX1_nextAt_88 (by decide) (by omega) (by omega) (fun b88 => ?_) (fun b88 => ?_)
                    · refine lv_iconst (v := jI (-1)) hx hb dX1_nextAt_95 rfl ?_
                      exact g_iret CF hr hlocks hM3 (g_pi (nxF_n (nx_no hno b29 b16 (fun q => (by have z := q.2.1; rw [b29] at z; omega))))) (by decide) (by decide) dX1_nextAt_96
                    · refine lv_iload_n hx hb dX1_nextAt_91 rfl (lv_at hl 3 rfl) ?_
                      refine lv_goto (tgt := 96) hx hb dX1_nextAt_92 (by decide) ?_
                      exact g_iret CF hr hlocks hM3 (g_pi (nxF_y ⟨by omega, b29, b16, ⟨by rw [b29]; exact hCe, by rw [b29]; omega, fun v a q => hbn v (by omega) q⟩⟩)) (by decide) (by decide) dX1_nextAt_96
                · refine lv_iload_n hx hb dX1_nextAt_44 rfl (lv_at hl 2 rfl) ?_
                  refine lv_iload hx hb dX1_nextAt_45 (lv_at hl 4 rfl) ?_
                  refine x_shrN (S := D) (w := b) hx hb dX1_nextAt_47 (by omega) (by omega) ?_
                  refine lv_iconst (v := jI 1) hx hb dX1_nextAt_48 rfl ?_
                  refine x_tb (S := D) (w := b) hx hb dX1_nextAt_49 ?_
                  refine x_bif_ne (tgt := 65) hx hb dX1_nextAt_50 (by decide) (fun b50 => ?_) (fun b50 => ?_)
                  · refine x_iinc (lv' := [(4, .int (jI (((b : Int)) + 1))), (0, .ref (G.2.2 60)), (1, .ref (G.2.2 (cT l1 i))), (2, .int (jI ((D : Int)))), (3, .int (jI ((w : Int))))]) hx hb dX1_nextAt_65 hl (k := 4) rfl (by decide) rfl (fun ls hl => ?_)
                    refine lv_goto (tgt := 38) hx hb dX1_nextAt_68 (by decide) ?_
                    exact ih38  ((b + 1)) _ _ _ (by first | omega | assumption | rfl) (fun v a q => Or.elim (Nat.lt_or_ge v b) (fun z => hbn v z q) (fun z => (by have e : v = b := (by omega); subst e; first | exact b50 | exact absurd q b60))) (by omega) hM2 (lv_sub hl [1, 2, 3, 4, 0] rfl)
                  · refine lv_aload_n hx hb dX1_nextAt_53 rfl (lv_at hl 0 rfl) ?_
                    refine lv_iload hx hb dX1_nextAt_54 (lv_at hl 4 rfl) ?_
                    refine lv_iload_n hx hb dX1_nextAt_56 rfl (lv_at hl 3 rfl) ?_
                    refine g_calli (r := (if -1 ≤ ρ 19 (b : Int) - ρ 19 (w : Int) ∧ ρ 19 (b : Int) - ρ 19 (w : Int) ≤ 1 then 1 else 0)) hM2 hA (g_runV (As := [.int (jI ((b : Int))), .int (jI ((w : Int)))]) (rest := []) CF hK hM2 (hL.2.1.1 60 _ rfl) rfl (l_areNear l E _ _ _ ρ b w hL (by first | omega | assumption | (refine ⟨?_, ?_⟩ <;> omega)) (by first | omega | assumption | (refine ⟨?_, ?_⟩ <;> omega))) (cwV 2 hts (lw_V q591 q593 qs11 q60 q594) rfl rfl rfl (by decide +kernel) ⟨Nat.le_of_ble_eq_true rfl, Nat.le_of_ble_eq_true rfl⟩) rfl hl.1 rfl (Nat.le_of_ble_eq_true rfl) dX1_nextAt_57 ⟨Nat.le_of_ble_eq_true rfl, Nat.le_of_ble_eq_true rfl⟩) (fun H locs hM4 => ?_)
                    refine x_bif_eq (tgt := 65) hx hb dX1_nextAt_60 (by decide) (fun b60 => ?_) (fun b60 => ?_)
                    · refine x_iinc (lv' := [(4, .int (jI (((b : Int)) + 1))), (0, .ref (G.2.2 60)), (1, .ref (G.2.2 (cT l1 i))), (2, .int (jI ((D : Int)))), (3, .int (jI ((w : Int))))]) hx hb dX1_nextAt_65 hl (k := 4) rfl (by decide) rfl (fun ls hl => ?_)
                      refine lv_goto (tgt := 38) hx hb dX1_nextAt_68 (by decide) ?_
                      exact ih38  ((b + 1)) _ _ _ (by first | omega | assumption | rfl) (fun v a q => Or.elim (Nat.lt_or_ge v b) (fun z => hbn v z q) (fun z => (by have e : v = b := (by omega); subst e; first | exact b50 | exact absurd q b60))) (by omega) hM4 (lv_sub hl [1, 2, 3, 4, 0] rfl)
                    · refine lv_iconst (v := jI (-1)) hx hb dX1_nextAt_63 rfl ?_
                      exact g_iret CF hr hlocks hM4 (g_pi (nxF_n (nx_no hno b29 b16 (fun q => b50 (q.2.2 b (by omega) b60))))) (by decide) (by decide) dX1_nextAt_64
            exact c38 _ 0 _ _ _ (by first | omega | assumption | rfl) (fun v a => absurd a (by omega)) (Nat.lt_succ_self _) hM1 (lv_sub hl [1, 2, 3, 4, 0] rfl)
          · refine lv_goto (tgt := 97) hx hb dX1_nextAt_32 (by decide) ?_
            refine x_iinc (lv' := [(3, .int (jI (((w : Int)) + 1))), (0, .ref (G.2.2 60)), (1, .ref (G.2.2 (cT l1 i))), (2, .int (jI ((D : Int))))]) hx hb dX1_nextAt_97 hl (k := 3) rfl (by decide) rfl (fun ls hl => ?_)
            refine lv_goto (tgt := 2) hx hb dX1_nextAt_100 (by decide) ?_
            exact ih2  ((w + 1)) _ _ _ (by first | omega | assumption | rfl) (fun v a q => Or.elim (Nat.lt_or_ge v w) (fun z => hno v z q) (fun z => (by have e : v = w := (by omega); subst e; first | exact b16 | exact absurd q b29))) (by omega) hM1 (lv_sub hl [1, 2, 3, 0] rfl)
  exact c2 _ 0 _ _ _ (by first | omega | assumption | rfl) (fun v a => absurd a (by omega)) (Nat.lt_succ_self _) hM0 (lv_sub hl [1, 2, 3, 0] rfl)
set_option maxHeartbeats 400000 in
theorem l_look (l : Launch) (E : y_E) (G : y_G) (σ : y_S) (sz : Nat) (ρ : y_S) (l1 : Int) (D : Nat) (hL : lgW ρ G σ) (hl10 : 0 ≤ l1) (hl11 : l1 ≤ 11) (hD : D < 2 ^ wkN ρ) : gCt l yX1_look cX1_look 6 none ({ frames := 3, cells := 0, slots := 0, locals := 66 }) E [.ref (G.2.2 60), .int (jI l1), .int (jI ((D : Int)))] G σ sz (gPV (fun G' τ' => G = G' ∧ ∃ (A M : Nat) (bz : Bool), τ' = up2 (up2 σ 60 22 (A : Int)) 60 23 (if bz = true then -1 else (M : Int)) ∧ lkA ρ l1 D (ρ 60 0) A ∧ lkB ρ l1 D (ρ 60 0) bz ∧ lkM ρ l1 D (ρ 60 0) M)) 0 0 := by
  refine g_met (by decide) (Nat.le_of_ble_eq_true rfl) ?_
  intro p e s m below meth c ls CF hr hlocks hnm hK hM0 hA hl
  have hx := CF.1
  have hb := CF.2.1
  have hts := CF.2.2.2.2
  have hl : lv_has ls 6 [(0, .ref (G.2.2 60)), (1, .int (jI l1)), (2, .int (jI ((D : Int))))] := hl
  have hO := hL.1
  have hn := hO.n
  have hwk := hO.wk
  have hW10 : wkN ρ ≤ 10 := (by unfold wkN; omega)
  have hWI : ((wkN ρ : Nat) : Int) = ρ 60 21 := (by unfold wkN; omega)
  have hp2 := pw10 hW10
  refine lv_aload_n hx hb dX1_look_0 rfl (lv_at hl 0 rfl) ?_
  refine lv_iconst (v := jI 0) hx hb dX1_look_1 rfl ?_
  refine g_puti CF hK hM0 60 (by decide) (hL.2.1.1 60 _ rfl) 22 22 rfl rfl (by decide) (Or.inl (hts _ q308)) (fun _ h => h) (Or.inl rfl) rfl (v := 0) rfl rfl (by omega) dX1_look_2 (fun H locs hM1 => ?_)
  refine lv_aload_n hx hb dX1_look_5 rfl (lv_at hl 0 rfl) ?_
  refine lv_iconst (v := jI 0) hx hb dX1_look_6 rfl ?_
  refine g_puti CF hK hM1 60 (by decide) (hL.2.1.1 60 _ rfl) 23 23 rfl rfl (by decide) (Or.inl (hts _ q309)) (fun _ h => h) (Or.inl rfl) rfl (v := 0) rfl rfl (by omega) dX1_look_7 (fun H locs hM2 => ?_)
  refine lv_iload_n hx hb dX1_look_10 rfl (lv_at hl 1 rfl) ?_
  refine lv_iconst (v := jI 2) hx hb dX1_look_11 rfl ?_
  refine x_irem hx hb dX1_look_12 (by omega) (by omega) (by omega) ?_
  refine x_top (b := l1 % 2) (by have := tm2 l1; omega) ?_
  refine lv_istore_n (lv' := [(3, .int (jI (l1 % 2))), (0, .ref (G.2.2 60)), (1, .int (jI l1)), (2, .int (jI ((D : Int))))]) hx hb dX1_look_13 rfl hl (by decide) rfl (fun ls hl => ?_)
  have c14 : ∀ (n14 : Nat) (i : Int) (A : Nat) (bz : Bool) (M : Nat) (H : Heap) (locs : List Loc) (ls : Array Slot), (0 ≤ i) → (i % 2 = l1 % 2) → (i ≤ ρ 60 0) → (lkA ρ l1 D i A) → (lkB ρ l1 D i bz) → (lkM ρ l1 D i M) → ((ρ 60 0 + 2 - i).toNat < n14) → gM E (gA G sz) G (up2 (up2 σ 60 22 ((A : Int))) 60 23 ((if bz = true then -1 else (M : Int)))) s.heap H locs → lv_has ls 6 [(0, .ref (G.2.2 60)), (1, .int (jI l1)), (2, .int (jI ((D : Int)))), (3, .int (jI i))] → W p l e ({ frames := 3, cells := 0, slots := 0, locals := 66 } : Room) s m ([.ref (G.2.2 60), .int (jI l1), .int (jI ((D : Int)))] : List Value).toArray below meth c H locs 0 0 (MQ below (gQ E G sz (gPV (fun G' τ' => G = G' ∧ ∃ (A M : Nat) (bz : Bool), τ' = up2 (up2 σ 60 22 (A : Int)) 60 23 (if bz = true then -1 else (M : Int)) ∧ lkA ρ l1 D (ρ 60 0) A ∧ lkB ρ l1 D (ρ 60 0) bz ∧ lkM ρ l1 D (ρ 60 0) M))) ([.ref (G.2.2 60), .int (jI l1), .int (jI ((D : Int)))] : List Value).toArray s 0 0 (gA G sz)) (F0 m 14 ls []) := by
    intro n14
    induction n14 with
    | zero => intro i A bz M H locs ls hi0 hip hi1 hkA hkB hkM hmu; exact absurd hmu (Nat.not_lt_zero _)
    | succ n14 ih14 =>
      intro i A bz M H locs ls hi0 hip hi1 hkA hkB hkM hmu14 hM3 hl
      have hLm : lgW ρ G (up2 (up2 σ 60 22 ((A : Int))) 60 23 ((if bz = true then -1 else (M : Int)))) := (hL.u60 (by decide)).u60 (by decide)
      have hAl := lkA_lt hkA
      have hMl := lkM_lt hkM
      refine lv_iload_n hx hb dX1_look_14 rfl (lv_at hl 3 rfl) ?_
      refine lv_aload_n hx hb dX1_look_15 rfl (lv_at hl 0 rfl) ?_
      refine g_geti CF hK hM3 60 (hL.2.1.1 60 _ rfl) 2 2 rfl rfl (by decide) (Or.inl (hts _ q284)) (fun _ h => h) rfl dX1_look_16 ?_
      refine x_top (b := σ 60 2) rfl ?_
      refine x_top (b := ρ 60 0) hL.2.2.1 ?_
      refine lv_iconst (v := jI 1) hx hb dX1_look_19 rfl ?_
      refine x_isub hx hb dX1_look_20 ?_
      refine x_icmp_ge (tgt := 124) hx hb dX1_look_21 (by decide) (by omega) (by omega) (fun b21 => ?_) (fun b21 => ?_)
      · exact g_vret CF hr hlocks hM3 ⟨rfl, rfl, A, M, bz, rfl, (fun z => (by rw [hkA z]; exact ⟨fun ⟨j, a, b, c⟩ => ⟨j, by omega, b, c⟩, fun ⟨j, a, b, c⟩ => ⟨j, by omega, b, c⟩⟩)), ⟨fun z => (by obtain ⟨j, a, b, c⟩ := hkB.mp z; exact ⟨j, by omega, b, c⟩), fun ⟨j, a, b, c⟩ => hkB.mpr ⟨j, by omega, b, c⟩⟩, (fun z => (by rw [hkM z]; exact ⟨fun ⟨j, a, b, c⟩ => ⟨j, by omega, b, c⟩, fun ⟨j, a, b, c⟩ => ⟨j, by omega, b, c⟩⟩))⟩ (by decide) (by decide) dX1_look_124
      · have hCe : mCell (ρ 60 0) l1 i := ⟨by omega, by omega, by omega, by omega, hip⟩
        have hmul : 0 ≤ l1 * ρ 60 0 ∧ l1 * ρ 60 0 ≤ 11 * ρ 60 0 := ⟨Int.mul_nonneg (by omega) (by omega), Int.mul_le_mul_of_nonneg_right (by omega) (by omega)⟩
        have hpl := hO.p (6 * l1 + i) (by omega) (by omega)
        refine lv_aload_n hx hb dX1_look_24 rfl (lv_at hl 0 rfl) ?_
        refine g_getr CF hK hM3 60 (hL.2.1.1 60 _ rfl) 3 3 rfl rfl (by decide) (Or.inl (hts _ q288)) (fun _ h => h) rfl (G.2.2 3) (hL.2.1.2.1 3 3 rfl) dX1_look_25 ?_
        refine lv_iload_n hx hb dX1_look_28 rfl (lv_at hl 1 rfl) ?_
        refine lv_aload_n hx hb dX1_look_29 rfl (lv_at hl 0 rfl) ?_
        refine g_geti CF hK hM3 60 (hL.2.1.1 60 _ rfl) 2 2 rfl rfl (by decide) (Or.inl (hts _ q284)) (fun _ h => h) rfl dX1_look_30 ?_
        refine x_top (b := σ 60 2) rfl ?_
        refine x_imul hx hb dX1_look_33 ?_
        refine x_top (b := l1 * ρ 60 0) (by rw [hL.2.2.1]) ?_
        refine lv_iload_n hx hb dX1_look_34 rfl (lv_at hl 3 rfl) ?_
        refine x_iadd hx hb dX1_look_35 ?_
        refine g_aaldr CF hK hM3 3 (hL.2.1.1 3 _ rfl) (by decide) rfl (i := (l1 * ρ 60 0) + i) (by omega) (by omega) (by omega) (G.2.2 (cT l1 i)) (by have z := hL.2.1.2.2.1 l1 i (by omega) (by omega) (by omega) (by omega); rw [if_pos hCe] at z; exact z) dX1_look_36 ?_
        refine lv_astore (lv' := [(4, .ref (G.2.2 (cT l1 i))), (0, .ref (G.2.2 60)), (1, .int (jI l1)), (2, .int (jI ((D : Int)))), (3, .int (jI i))]) hx hb dX1_look_37 hl (by decide) rfl (fun ls hl => ?_)
        refine lv_aload_n hx hb dX1_look_39 rfl (lv_at hl 1 rfl) ?_
        refine lv_aload hx hb dX1_look_40 (lv_at hl 0 rfl) ?_
        refine lv_iload_n hx hb dX1_look_42 rfl (lv_at hl 3 rfl) ?_
        refine g_calli (r := nxF ρ l1 i D) hM3 hA (g_runV (As := [.ref (G.2.2 (cT l1 i)), .int (jI ((D : Int)))]) (rest := []) CF hK hM3 (hL.2.1.1 60 _ rfl) rfl (l_nextAt l E _ _ _ ρ l1 i D hLm (by first | omega | assumption | (refine ⟨?_, ?_⟩ <;> omega)) (by first | omega | assumption | (refine ⟨?_, ?_⟩ <;> omega))) (cwV 2 hts (lw_V q587 q589 qs10 q60 q590) rfl rfl rfl (by decide +kernel) ⟨Nat.le_of_ble_eq_true rfl, Nat.le_of_ble_eq_true rfl⟩) rfl hl.1 rfl (Nat.le_of_ble_eq_true rfl) dX1_look_43 ⟨Nat.le_of_ble_eq_true rfl, Nat.le_of_ble_eq_true rfl⟩) (fun H locs hM4 => ?_)
        refine lv_istore (lv' := [(5, .int (jI (nxF ρ l1 i D))), (4, .ref (G.2.2 (cT l1 i))), (0, .ref (G.2.2 60)), (1, .int (jI l1)), (2, .int (jI ((D : Int)))), (3, .int (jI i))]) hx hb dX1_look_46 hl (by decide) rfl (fun ls hl => ?_)
        have hnr : -1 ≤ nxF ρ l1 i D ∧ nxF ρ l1 i D ≤ 10 := (nxF_c ρ l1 i D).elim (fun q => by rw [q.1]; omega) (fun ⟨z, q1, q2⟩ => by have := q2.1; rw [q1]; omega)
        refine lv_aload_n hx hb dX1_look_48 rfl (lv_at hl 2 rfl) ?_
        refine lv_dup hx hb dX1_look_49 rfl ?_
        refine g_geti CF hK hM4 60 (hL.2.1.1 60 _ rfl) 22 22 rfl rfl (by decide) (Or.inl (hts _ q308)) (fun _ h => h) rfl dX1_look_50 ?_
        refine x_top (b := (A : Int)) rfl ?_
        refine x_top (b := (A : Int)) rfl ?_
        refine lv_iload hx hb dX1_look_53 (lv_at hl 0 rfl) ?_
        refine lv_iconst (v := jI (-1)) hx hb dX1_look_55 rfl ?_
        refine x_icmp_ne (tgt := 63) hx hb dX1_look_56 (by decide) (by omega) (by omega) (fun b56 => ?_) (fun b56 => ?_)
        · obtain ⟨w, hxe, hxw⟩ : ∃ w : Nat, nxF ρ l1 i D = (w : Int) ∧ nxP ρ l1 i D w := (nxF_c ρ l1 i D).elim (fun q => absurd q.1 b56) id
          have hwlt := hxw.1
          have hl := lv_cast hl (b := [(5, .int (jI ((w : Int)))), (4, .ref (G.2.2 (cT l1 i))), (0, .ref (G.2.2 60)), (1, .int (jI l1)), (2, .int (jI ((D : Int)))), (3, .int (jI i))]) (by rw [hxe])
          refine lv_iconst (v := jI 1) hx hb dX1_look_63 rfl ?_
          refine lv_iload hx hb dX1_look_64 (lv_at hl 0 rfl) ?_
          refine x_shl1 (w := w) hx hb dX1_look_66 (by omega) ?_
          refine x_orN (a := A) (b := 2 ^ w) hx hb dX1_look_67 ?_
          refine x_top (b := ((A ||| (2 ^ w) : Nat) : Int)) rfl ?_
          refine g_puti CF hK hM4 60 (by decide) (hL.2.1.1 60 _ rfl) 22 22 rfl rfl (by decide) (Or.inl (hts _ q308)) (fun _ h => h) (Or.inl rfl) rfl (v := ((A ||| (2 ^ w) : Nat) : Int)) rfl rfl (by first | omega | (have := or_l10 hW10 hAl hwlt; omega)) dX1_look_68 (fun H locs hM5 => ?_)
          have hM6 := gM_eq (σ' := up2 (up2 σ 60 22 (((A ||| 2 ^ w : Nat) : Int))) 60 23 ((if bz = true then -1 else (M : Int)))) (mm_a _ _ _ _) hM5
          have hLm2 : lgW ρ G (up2 (up2 σ 60 22 (((A ||| 2 ^ w : Nat) : Int))) 60 23 ((if bz = true then -1 else (M : Int)))) := (hL.u60 (by decide)).u60 (by decide)
          refine lv_aload hx hb dX1_look_71 (lv_at hl 1 rfl) ?_
          refine g_calli (r := (if ρ 4 (6 * l1 + i) ≠ -1 then 1 else 0)) hM6 hA (g_runV (As := []) (rest := []) CF hK hM6 (hL.2.1.1 _ _ (lKd_c hL.1.n.2 hCe)) rfl (l_isDead l E _ _ _ ρ l1 i  hLm2 (by first | omega | assumption | (refine ⟨?_, ?_⟩ <;> omega))) (cwV 0 hts (lw_V q408 q409 q410 q71 q411) rfl rfl rfl (by decide +kernel) ⟨Nat.le_of_ble_eq_true rfl, Nat.le_of_ble_eq_true rfl⟩) rfl hl.1 rfl (Nat.le_of_ble_eq_true rfl) dX1_look_73 ⟨Nat.le_of_ble_eq_true rfl, Nat.le_of_ble_eq_true rfl⟩) (fun H locs hM7 => ?_)
          refine x_bif_eq (tgt := 118) hx hb dX1_look_76 (by decide) (fun b76 => ?_) (fun b76 => ?_)
          · refine x_iinc (lv' := [(3, .int (jI (i + 2))), (5, .int (jI ((w : Int)))), (4, .ref (G.2.2 (cT l1 i))), (0, .ref (G.2.2 60)), (1, .int (jI l1)), (2, .int (jI ((D : Int))))]) hx hb dX1_look_118 hl (k := 5) rfl (by decide) rfl (fun ls hl => ?_)
            refine lv_goto (tgt := 14) hx hb dX1_look_121 (by decide) ?_
            exact ih14  (i + 2) ((A ||| 2 ^ w)) bz M _ _ _ (by first | omega | assumption | rfl) (by first | omega | assumption | rfl) (by first | omega | assumption | rfl) (lkA_y hkA hip hCe hxw) (lkB_n hkB hip (fun q => by omega)) (lkM_n hkM hip (fun _ q => by omega)) (by omega) (gM_eq rfl hM7) (lv_sub hl [3, 4, 5, 0] rfl)
          · refine lv_aload hx hb dX1_look_79 (lv_at hl 1 rfl) ?_
            refine g_geti CF hK hM7 (cT l1 i) (hL.2.1.1 _ _ (lKd_c hL.1.n.2 hCe)) 3 3 rfl rfl (by decide) (gLk.n hK q259) (fun _ h => h) rfl dX1_look_81 ?_
            refine x_top (b := ρ 4 (6 * l1 + i)) (hLm2.2.2.2.2 l1 i hCe).2.2 ?_
            refine x_if_le (tgt := 118) hx hb dX1_look_84 (by decide) (by omega) (fun b84 => ?_) (fun b84 => ?_)
            · refine x_iinc (lv' := [(3, .int (jI (i + 2))), (5, .int (jI ((w : Int)))), (4, .ref (G.2.2 (cT l1 i))), (0, .ref (G.2.2 60)), (1, .int (jI l1)), (2, .int (jI ((D : Int))))]) hx hb dX1_look_118 hl (k := 5) rfl (by decide) rfl (fun ls hl => ?_)
              refine lv_goto (tgt := 14) hx hb dX1_look_121 (by decide) ?_
              exact ih14  (i + 2) ((A ||| 2 ^ w)) bz M _ _ _ (by first | omega | assumption | rfl) (by first | omega | assumption | rfl) (by first | omega | assumption | rfl) (lkA_y hkA hip hCe hxw) (lkB_n hkB hip (fun q => by omega)) (lkM_n hkM hip (fun _ q => by omega)) (by omega) (gM_eq rfl hM7) (lv_sub hl [3, 4, 5, 0] rfl)
            · refine lv_aload_n hx hb dX1_look_87 rfl (lv_at hl 2 rfl) ?_
              refine lv_iload hx hb dX1_look_88 (lv_at hl 0 rfl) ?_
              refine lv_iconst (v := jI (-1)) hx hb dX1_look_90 rfl ?_
              refine x_icmp_eq (tgt := 102) hx hb dX1_look_91 (by decide) (by omega) (by omega) (fun b91 => ?_) (fun b91 => ?_)
              · exact absurd b91 (by omega)
              · refine lv_aload_n hx hb dX1_look_94 rfl (lv_at hl 2 rfl) ?_
                refine g_geti CF hK hM7 60 (hL.2.1.1 60 _ rfl) 23 23 rfl rfl (by decide) (Or.inl (hts _ q309)) (fun _ h => h) rfl dX1_look_95 ?_
                refine x_top (b := (if bz = true then -1 else (M : Int))) rfl ?_
                refine x_top (b := (if bz = true then -1 else (M : Int))) rfl ?_
                refine lv_iconst (v := jI (-1)) hx hb dX1_look_98 rfl ?_
                have fa8 := (show -1 ≤ (if bz = true then -1 else (M : Int)) ∧ (if bz = true then -1 else (M : Int)) ≤ 1024 by split <;> omega)
                refine x_icmp_ne (tgt := 106) hx hb dX1_look_99 (by decide) (by have f0 := (show -1 ≤ (if bz = true then -1 else (M : Int)) ∧ (if bz = true then -1 else (M : Int)) ≤ 1024 by split <;> omega); omega) (by omega) (fun b99 => ?_) (fun b99 => ?_)
                · have hbz : ¬ bz = true := fun q => b99 (if_pos q)
                  have hbf : bz = false := Bool.eq_false_iff.mpr hbz
                  refine lv_aload_n hx hb dX1_look_106 rfl (lv_at hl 2 rfl) ?_
                  refine g_geti CF hK hM7 60 (hL.2.1.1 60 _ rfl) 23 23 rfl rfl (by decide) (Or.inl (hts _ q309)) (fun _ h => h) rfl dX1_look_107 ?_
                  refine x_top (b := (if bz = true then -1 else (M : Int))) rfl ?_
                  refine x_top (b := (M : Int)) (if_neg hbz) ?_
                  refine lv_iconst (v := jI 1) hx hb dX1_look_110 rfl ?_
                  refine lv_iload hx hb dX1_look_111 (lv_at hl 0 rfl) ?_
                  refine x_shl1 (w := w) hx hb dX1_look_113 (by omega) ?_
                  refine x_orN (a := M) (b := 2 ^ w) hx hb dX1_look_114 ?_
                  refine g_puti CF hK hM7 60 (by decide) (hL.2.1.1 60 _ rfl) 23 23 rfl rfl (by decide) (Or.inl (hts _ q309)) (fun _ h => h) (Or.inl rfl) rfl (v := ((M ||| (2 ^ w) : Nat) : Int)) rfl rfl (by first | omega | (have := or_l10 hW10 hMl hwlt; omega)) dX1_look_115 (fun H locs hM9 => ?_)
                  have hM10 := gM_eq (σ' := up2 (up2 σ 60 22 (((A ||| 2 ^ w : Nat) : Int))) 60 23 (((M ||| (2 ^ w) : Nat) : Int))) (up2_up2 _ _ _ _ _) hM9
                  refine x_iinc (lv' := [(3, .int (jI (i + 2))), (5, .int (jI ((w : Int)))), (4, .ref (G.2.2 (cT l1 i))), (0, .ref (G.2.2 60)), (1, .int (jI l1)), (2, .int (jI ((D : Int))))]) hx hb dX1_look_118 hl (k := 5) rfl (by decide) rfl (fun ls hl => ?_)
                  refine lv_goto (tgt := 14) hx hb dX1_look_121 (by decide) ?_
                  exact ih14  (i + 2) ((A ||| 2 ^ w)) false ((M ||| 2 ^ w)) _ _ _ (by first | omega | assumption | rfl) (by first | omega | assumption | rfl) (by first | omega | assumption | rfl) (lkA_y hkA hip hCe hxw) (lkB_n (hbf ▸ hkB) hip (fun q => q.2 w hxw)) (lkM_y hkM hip hCe (by omega) hxw) (by omega) (gM_eq rfl hM10) (lv_sub hl [3, 4, 5, 0] rfl)
                · have hbt : bz = true := Decidable.byContradiction (fun q => absurd b99 (by rw [if_neg q]; omega))
                  refine lv_iconst (v := jI (-1)) hx hb dX1_look_102 rfl ?_
                  refine lv_goto (tgt := 115) hx hb dX1_look_103 (by decide) ?_
                  refine g_puti CF hK hM7 60 (by decide) (hL.2.1.1 60 _ rfl) 23 23 rfl rfl (by decide) (Or.inl (hts _ q309)) (fun _ h => h) (Or.inl rfl) rfl (v := (-1)) rfl rfl (by first | omega | (have := or_l10 hW10 hMl hwlt; omega)) dX1_look_115 (fun H locs hM11 => ?_)
                  have hM12 := gM_eq (σ' := up2 (up2 σ 60 22 (((A ||| 2 ^ w : Nat) : Int))) 60 23 ((-1))) (up2_up2 _ _ _ _ _) hM11
                  refine x_iinc (lv' := [(3, .int (jI (i + 2))), (5, .int (jI ((w : Int)))), (4, .ref (G.2.2 (cT l1 i))), (0, .ref (G.2.2 60)), (1, .int (jI l1)), (2, .int (jI ((D : Int))))]) hx hb dX1_look_118 hl (k := 5) rfl (by decide) rfl (fun ls hl => ?_)
                  refine lv_goto (tgt := 14) hx hb dX1_look_121 (by decide) ?_
                  exact ih14  (i + 2) ((A ||| 2 ^ w)) true ((M ||| 2 ^ w)) _ _ _ (by first | omega | assumption | rfl) (by first | omega | assumption | rfl) (by first | omega | assumption | rfl) (lkA_y hkA hip hCe hxw) (lkB_t (hbt ▸ hkB)) (lkM_y hkM hip hCe (by omega) hxw) (by omega) (gM_eq rfl hM12) (lv_sub hl [3, 4, 5, 0] rfl)
        · have hxn : ∀ w, ¬ nxP ρ l1 i D w := (nxF_c ρ l1 i D).elim (fun q => q.2) (fun ⟨z, q1, q2⟩ => absurd b56 (by rw [q1]; omega))
          refine lv_iconst (v := jI 0) hx hb dX1_look_59 rfl ?_
          refine lv_goto (tgt := 67) hx hb dX1_look_60 (by decide) ?_
          refine x_orN (a := A) (b := 0) hx hb dX1_look_67 ?_
          refine x_top (b := (A : Int)) (by rw [Nat.or_zero]) ?_
          refine g_puti CF hK hM4 60 (by decide) (hL.2.1.1 60 _ rfl) 22 22 rfl rfl (by decide) (Or.inl (hts _ q308)) (fun _ h => h) (Or.inl rfl) rfl (v := (A : Int)) rfl rfl (by first | omega | (have := or_l10 hW10 hAl hwlt; omega)) dX1_look_68 (fun H locs hM13 => ?_)
          have hM14 := gM_eq (σ' := up2 (up2 σ 60 22 ((A : Int))) 60 23 ((if bz = true then -1 else (M : Int)))) (mm_a _ _ _ _) hM13
          have hLm2 : lgW ρ G (up2 (up2 σ 60 22 ((A : Int))) 60 23 ((if bz = true then -1 else (M : Int)))) := (hL.u60 (by decide)).u60 (by decide)
          refine lv_aload hx hb dX1_look_71 (lv_at hl 1 rfl) ?_
          refine g_calli (r := (if ρ 4 (6 * l1 + i) ≠ -1 then 1 else 0)) hM14 hA (g_runV (As := []) (rest := []) CF hK hM14 (hL.2.1.1 _ _ (lKd_c hL.1.n.2 hCe)) rfl (l_isDead l E _ _ _ ρ l1 i  hLm2 (by first | omega | assumption | (refine ⟨?_, ?_⟩ <;> omega))) (cwV 0 hts (lw_V q408 q409 q410 q71 q411) rfl rfl rfl (by decide +kernel) ⟨Nat.le_of_ble_eq_true rfl, Nat.le_of_ble_eq_true rfl⟩) rfl hl.1 rfl (Nat.le_of_ble_eq_true rfl) dX1_look_73 ⟨Nat.le_of_ble_eq_true rfl, Nat.le_of_ble_eq_true rfl⟩) (fun H locs hM15 => ?_)
          refine x_bif_eq (tgt := 118) hx hb dX1_look_76 (by decide) (fun b76 => ?_) (fun b76 => ?_)
          · refine x_iinc (lv' := [(3, .int (jI (i + 2))), (5, .int (jI (nxF ρ l1 i D))), (4, .ref (G.2.2 (cT l1 i))), (0, .ref (G.2.2 60)), (1, .int (jI l1)), (2, .int (jI ((D : Int))))]) hx hb dX1_look_118 hl (k := 5) rfl (by decide) rfl (fun ls hl => ?_)
            refine lv_goto (tgt := 14) hx hb dX1_look_121 (by decide) ?_
            exact ih14  (i + 2) A bz M _ _ _ (by first | omega | assumption | rfl) (by first | omega | assumption | rfl) (by first | omega | assumption | rfl) (lkA_n hkA hip hCe hxn) (lkB_n hkB hip (fun q => by omega)) (lkM_n hkM hip (fun _ q => by omega)) (by omega) (gM_eq rfl hM15) (lv_sub hl [3, 4, 5, 0] rfl)
          · refine lv_aload hx hb dX1_look_79 (lv_at hl 1 rfl) ?_
            refine g_geti CF hK hM15 (cT l1 i) (hL.2.1.1 _ _ (lKd_c hL.1.n.2 hCe)) 3 3 rfl rfl (by decide) (gLk.n hK q259) (fun _ h => h) rfl dX1_look_81 ?_
            refine x_top (b := ρ 4 (6 * l1 + i)) (hLm2.2.2.2.2 l1 i hCe).2.2 ?_
            refine x_if_le (tgt := 118) hx hb dX1_look_84 (by decide) (by omega) (fun b84 => ?_) (fun b84 => ?_)
            · refine x_iinc (lv' := [(3, .int (jI (i + 2))), (5, .int (jI (nxF ρ l1 i D))), (4, .ref (G.2.2 (cT l1 i))), (0, .ref (G.2.2 60)), (1, .int (jI l1)), (2, .int (jI ((D : Int))))]) hx hb dX1_look_118 hl (k := 5) rfl (by decide) rfl (fun ls hl => ?_)
              refine lv_goto (tgt := 14) hx hb dX1_look_121 (by decide) ?_
              exact ih14  (i + 2) A bz M _ _ _ (by first | omega | assumption | rfl) (by first | omega | assumption | rfl) (by first | omega | assumption | rfl) (lkA_n hkA hip hCe hxn) (lkB_n hkB hip (fun q => by omega)) (lkM_n hkM hip (fun _ q => by omega)) (by omega) (gM_eq rfl hM15) (lv_sub hl [3, 4, 5, 0] rfl)
            · refine lv_aload_n hx hb dX1_look_87 rfl (lv_at hl 2 rfl) ?_
              refine lv_iload hx hb dX1_look_88 (lv_at hl 0 rfl) ?_
              refine lv_iconst (v := jI (-1)) hx hb dX1_look_90 rfl ?_
              refine x_icmp_eq (tgt := 102) hx hb dX1_look_91 (by decide) (by omega) (by omega) (fun b91 => ?_) (fun b91 => ?_)
              · refine lv_iconst (v := jI (-1)) hx hb dX1_look_102 rfl ?_
                refine lv_goto (tgt := 115) hx hb dX1_look_103 (by decide) ?_
                refine g_puti CF hK hM15 60 (by decide) (hL.2.1.1 60 _ rfl) 23 23 rfl rfl (by decide) (Or.inl (hts _ q309)) (fun _ h => h) (Or.inl rfl) rfl (v := (-1)) rfl rfl (by first | omega | (have := or_l10 hW10 hMl hwlt; omega)) dX1_look_115 (fun H locs hM16 => ?_)
                have hM17 := gM_eq (σ' := up2 (up2 σ 60 22 ((A : Int))) 60 23 ((-1))) (up2_up2 _ _ _ _ _) hM16
                refine x_iinc (lv' := [(3, .int (jI (i + 2))), (5, .int (jI (nxF ρ l1 i D))), (4, .ref (G.2.2 (cT l1 i))), (0, .ref (G.2.2 60)), (1, .int (jI l1)), (2, .int (jI ((D : Int))))]) hx hb dX1_look_118 hl (k := 5) rfl (by decide) rfl (fun ls hl => ?_)
                refine lv_goto (tgt := 14) hx hb dX1_look_121 (by decide) ?_
                exact ih14  (i + 2) A true M _ _ _ (by first | omega | assumption | rfl) (by first | omega | assumption | rfl) (by first | omega | assumption | rfl) (lkA_n hkA hip hCe hxn) (lkB_y hCe ⟨by omega, hxn⟩) (lkM_n hkM hip (fun z q => hxn z q.2)) (by omega) (gM_eq rfl hM17) (lv_sub hl [3, 4, 5, 0] rfl)
              · exact absurd b56 b91
  exact c14 _ (l1 % 2) 0 false 0 _ _ _ (by first | omega | assumption | rfl) (by first | omega | assumption | rfl) (by first | omega | assumption | rfl) (lkA_0 rfl) (lkB_0 rfl) (lkM_0 rfl) (Nat.lt_succ_self _) (gM_eq rfl hM2) (lv_sub hl [1, 2, 3, 0] rfl)
set_option maxHeartbeats 400000 in
theorem l_choose (l : Launch) (E : y_E) (G : y_G) (σ : y_S) (sz : Nat) (ρ : y_S) (L : Int) (l1 : Nat) (D : Nat) (hL : lgW ρ G σ) (hl11 : l1 ≤ 11) (hD : D < 2 ^ wkN ρ) (hR : cRw ρ L (l1 + 1) σ) : gCt l yX1_choose cX1_choose 6 (some .int) ({ frames := 4, cells := 0, slots := 0, locals := 91 }) E [.ref (G.2.2 60), .int (jI ((l1 : Int))), .int (jI ((D : Int)))] G σ sz (gPI (fun r G' τ' => G = G' ∧ (∃ a b : Int, τ' = up2 (up2 σ 60 22 a) 60 23 b) ∧ ((∃ S : Nat, r = (S : Int) ∧ mGr (cP ρ L (l1 : Int) D) S) ∨ (r = -1 ∧ ∀ T, ¬ cP ρ L (l1 : Int) D T)))) 0 0 := by
  refine g_met (by decide) (Nat.le_of_ble_eq_true rfl) ?_
  intro p e s m below meth c ls CF hr hlocks hnm hK hM0 hA hl
  have hx := CF.1
  have hb := CF.2.1
  have hts := CF.2.2.2.2
  have hl : lv_has ls 6 [(0, .ref (G.2.2 60)), (1, .int (jI ((l1 : Int)))), (2, .int (jI ((D : Int))))] := hl
  have hO := hL.1
  have hn := hO.n
  have hwk := hO.wk
  have hW10 : wkN ρ ≤ 10 := (by unfold wkN; omega)
  have hWI : ((wkN ρ : Nat) : Int) = ρ 60 21 := (by unfold wkN; omega)
  have hp2 := pw10 hW10
  refine lv_aload_n hx hb dX1_choose_0 rfl (lv_at hl 0 rfl) ?_
  refine lv_iload_n hx hb dX1_choose_1 rfl (lv_at hl 1 rfl) ?_
  refine lv_iload_n hx hb dX1_choose_2 rfl (lv_at hl 2 rfl) ?_
  refine g_callPV hM0 hA (g_runV (As := [.int (jI ((l1 : Int))), .int (jI ((D : Int)))]) (rest := []) CF hK hM0 (hL.2.1.1 60 _ rfl) rfl (l_look l E _ _ _ ρ ((l1 : Int)) D hL (by omega) (by omega) (by first | omega | assumption | (refine ⟨?_, ?_⟩ <;> omega))) (cwV 2 hts (lw_V q583 q585 qs9 q60 q586) rfl rfl rfl (by decide +kernel) ⟨Nat.le_of_ble_eq_true rfl, Nat.le_of_ble_eq_true rfl⟩) rfl hl.1 rfl (Nat.le_of_ble_eq_true rfl) dX1_choose_3 ⟨Nat.le_of_ble_eq_true rfl, Nat.le_of_ble_eq_true rfl⟩) (fun G2 τ2 H locs hp hM1 => ?_)
  obtain ⟨rfl, A, M, bz, rfl, hkA, hkB, hkM⟩ := hp
  have hAl := lkA_lt hkA
  have hMl := lkM_lt hkM
  refine lv_aload_n hx hb dX1_choose_6 rfl (lv_at hl 0 rfl) ?_
  refine g_geti CF hK hM1 60 (hL.2.1.1 60 _ rfl) 23 23 rfl rfl (by decide) (Or.inl (hts _ q309)) (fun _ h => h) rfl dX1_choose_7 ?_
  refine x_top (b := (if bz = true then -1 else (M : Int))) rfl ?_
  refine x_top (b := (if bz = true then -1 else (M : Int))) rfl ?_
  refine lv_iconst (v := jI (-1)) hx hb dX1_choose_10 rfl ?_
  have fa2 := (show -1 ≤ (if bz = true then -1 else (M : Int)) ∧ (if bz = true then -1 else (M : Int)) ≤ 1024 by split <;> omega)
  refine x_icmp_ne (tgt := 16) hx hb dX1_choose_11 (by decide) (by have f0 := (show -1 ≤ (if bz = true then -1 else (M : Int)) ∧ (if bz = true then -1 else (M : Int)) ≤ 1024 by split <;> omega); omega) (by omega) (fun b11 => ?_) (fun b11 => ?_)
  · have hbz : ¬ bz = true := fun q => b11 (if_pos q)
    have hbf : bz = false := Bool.eq_false_iff.mpr hbz
    have hkF : lkB ρ (l1 : Int) D (ρ 60 0) false := hbf ▸ hkB
    have hsub : ∀ T, cP ρ L (l1 : Int) D T → T &&& A = T := fun T hT => ((ch_iff hD hkA hkM hkF).mpr ⟨hT.1, hT.2.1⟩).1
    refine lv_aload_n hx hb dX1_choose_16 rfl (lv_at hl 0 rfl) ?_
    refine g_geti CF hK hM1 60 (hL.2.1.1 60 _ rfl) 22 22 rfl rfl (by decide) (Or.inl (hts _ q308)) (fun _ h => h) rfl dX1_choose_17 ?_
    refine x_top (b := (A : Int)) rfl ?_
    refine x_top (b := (A : Int)) rfl ?_
    refine lv_istore_n (lv' := [(3, .int (jI ((A : Int)))), (0, .ref (G.2.2 60)), (1, .int (jI ((l1 : Int)))), (2, .int (jI ((D : Int))))]) hx hb dX1_choose_20 rfl hl (by decide) rfl (fun ls hl => ?_)
    refine lv_aload_n hx hb dX1_choose_21 rfl (lv_at hl 1 rfl) ?_
    refine g_geti CF hK hM1 60 (hL.2.1.1 60 _ rfl) 23 23 rfl rfl (by decide) (Or.inl (hts _ q309)) (fun _ h => h) rfl dX1_choose_22 ?_
    refine x_top (b := (if bz = true then -1 else (M : Int))) rfl ?_
    refine x_top (b := (M : Int)) (if_neg hbz) ?_
    refine lv_istore (lv' := [(4, .int (jI ((M : Int)))), (3, .int (jI ((A : Int)))), (0, .ref (G.2.2 60)), (1, .int (jI ((l1 : Int)))), (2, .int (jI ((D : Int))))]) hx hb dX1_choose_25 hl (by decide) rfl (fun ls hl => ?_)
    refine lv_iload_n hx hb dX1_choose_27 rfl (lv_at hl 1 rfl) ?_
    refine lv_istore (lv' := [(5, .int (jI ((A : Int)))), (4, .int (jI ((M : Int)))), (3, .int (jI ((A : Int)))), (0, .ref (G.2.2 60)), (1, .int (jI ((l1 : Int)))), (2, .int (jI ((D : Int))))]) hx hb dX1_choose_28 hl (by decide) rfl (fun ls hl => ?_)
    have c30 : ∀ (n30 : Nat) (S : Nat) (H : Heap) (locs : List Loc) (ls : Array Slot), (S &&& A = S) → (∀ T, cP ρ L (l1 : Int) D T → T ≤ S) → (S < n30) → gM E (gA G sz) G (up2 (up2 σ 60 22 ((A : Int))) 60 23 ((if bz = true then -1 else (M : Int)))) s.heap H locs → lv_has ls 6 [(0, .ref (G.2.2 60)), (1, .int (jI ((l1 : Int)))), (2, .int (jI ((D : Int)))), (3, .int (jI ((A : Int)))), (4, .int (jI ((M : Int)))), (5, .int (jI ((S : Int))))] → W p l e ({ frames := 4, cells := 0, slots := 0, locals := 91 } : Room) s m ([.ref (G.2.2 60), .int (jI ((l1 : Int))), .int (jI ((D : Int)))] : List Value).toArray below meth c H locs 0 0 (MQ below (gQ E G sz (gPI (fun r G' τ' => G = G' ∧ (∃ a b : Int, τ' = up2 (up2 σ 60 22 a) 60 23 b) ∧ ((∃ S : Nat, r = (S : Int) ∧ mGr (cP ρ L (l1 : Int) D) S) ∨ (r = -1 ∧ ∀ T, ¬ cP ρ L (l1 : Int) D T))))) ([.ref (G.2.2 60), .int (jI ((l1 : Int))), .int (jI ((D : Int)))] : List Value).toArray s 0 0 (gA G sz)) (F0 m 30 ls []) := by
      intro n30
      induction n30 with
      | zero => intro S H locs ls hSA hall hmu; exact absurd hmu (Nat.not_lt_zero _)
      | succ n30 ih30 =>
        intro S H locs ls hSA hall hmu30 hM3 hl
        have hSl := and_le hSA
        refine lv_iload hx hb dX1_choose_30 (lv_at hl 5 rfl) ?_
        refine lv_iload hx hb dX1_choose_32 (lv_at hl 4 rfl) ?_
        refine x_andN (a := S) (b := M) hx hb dX1_choose_34 ?_
        refine lv_iload hx hb dX1_choose_35 (lv_at hl 4 rfl) ?_
        have fa4 := Nat.and_le_left (n := S) (m := M)
        refine x_icmp_ne (tgt := 59) hx hb dX1_choose_37 (by decide) (by have f0 := Nat.and_le_left (n := S) (m := M); omega) (by omega) (fun b37 => ?_) (fun b37 => ?_)
        · have hno : ¬ cP ρ L (l1 : Int) D S := fun q => b37 (by rw [((ch_iff hD hkA hkM hkF).mpr ⟨q.1, q.2.1⟩).2])
          refine lv_iload hx hb dX1_choose_59 (lv_at hl 5 rfl) ?_
          refine x_if_ne (tgt := 66) hx hb dX1_choose_61 (by decide) (by omega) (fun b61 => ?_) (fun b61 => ?_)
          · refine lv_iload hx hb dX1_choose_66 (lv_at hl 5 rfl) ?_
            refine lv_iconst (v := jI 1) hx hb dX1_choose_68 rfl ?_
            refine x_isub hx hb dX1_choose_69 ?_
            refine lv_iload_n hx hb dX1_choose_70 rfl (lv_at hl 3 rfl) ?_
            refine x_nxt (S := S) (F := A) hx hb dX1_choose_71 ?_
            refine lv_istore (lv' := [(5, .int (jI (((nxS S A : Nat) : Int)))), (0, .ref (G.2.2 60)), (1, .int (jI ((l1 : Int)))), (2, .int (jI ((D : Int)))), (3, .int (jI ((A : Int)))), (4, .int (jI ((M : Int))))]) hx hb dX1_choose_72 hl (by decide) rfl (fun ls hl => ?_)
            refine lv_goto (tgt := 30) hx hb dX1_choose_74 (by decide) ?_
            exact ih30  (nxS S A) _ _ _ (nxS_sub _ _) (nx_all hsub hSA hall hno (by omega)) (by have := nxS_lt (S := S) (F := A) (by omega); omega) hM3 (lv_sub hl [1, 2, 3, 4, 5, 0] rfl)
          · refine lv_iconst (v := jI (-1)) hx hb dX1_choose_64 rfl ?_
            exact g_iret CF hr hlocks hM3 ⟨-1, rfl, rfl, ⟨_, _, rfl⟩, Or.inr ⟨rfl, fun T hT => (by have z := hall T hT; have e : T = S := (by omega); exact hno (e ▸ hT))⟩⟩ (by decide) (by decide) dX1_choose_65
        · have hMS : S &&& M = M := (by omega)
          have hmay := (ch_iff hD hkA hkM hkF).mp ⟨hSA, hMS⟩
          have hDS := or_lt hD hmay.1
          refine lv_aload_n hx hb dX1_choose_40 rfl (lv_at hl 0 rfl) ?_
          refine g_getr CF hK hM3 60 (hL.2.1.1 60 _ rfl) 21 21 rfl rfl (by decide) (Or.inl (hts _ q307)) (fun _ h => h) rfl (G.2.2 21) (hL.2.1.2.1 21 21 rfl) dX1_choose_41 ?_
          refine lv_iload_n hx hb dX1_choose_44 rfl (lv_at hl 1 rfl) ?_
          refine lv_iconst (v := jI 1) hx hb dX1_choose_45 rfl ?_
          refine x_iadd hx hb dX1_choose_46 ?_
          refine g_aaldr CF hK hM3 21 (hL.2.1.1 21 _ rfl) (by decide) rfl (i := ((l1 : Int)) + 1) (by omega) (by omega) (by omega) (G.2.2 (240 + (l1 + 1))) (hL.2.1.2.2.2.2.2.2.2.2.2.2 (l1 + 1) (by omega)) dX1_choose_47 ?_
          refine lv_iload_n hx hb dX1_choose_48 rfl (lv_at hl 2 rfl) ?_
          refine lv_iload hx hb dX1_choose_49 (lv_at hl 5 rfl) ?_
          refine x_orN (a := D) (b := S) hx hb dX1_choose_51 ?_
          refine g_zald CF hK hM3 (240 + (l1 + 1)) (hL.2.1.1 _ _ (lKd_ce (by omega))) (i := ((D ||| S : Nat) : Int)) (by omega) (by omega) (by omega) dX1_choose_52 ?_
          refine x_top (b := (if pB (mCan ρ L (L - ((l1 : Int) + 1)).toNat (D ||| S)) = true then 1 else 0)) (by rw [up2_n _ _ _ (by omega), up2_n _ _ _ (by omega)]; exact hR (D ||| S) hDS) ?_
          refine x_bif_eq (tgt := 59) hx hb dX1_choose_53 (by decide) (fun b53 => ?_) (fun b53 => ?_)
          · have hno : ¬ cP ρ L (l1 : Int) D S := fun q => b53 (pB_t.mpr q.2.2)
            refine lv_iload hx hb dX1_choose_59 (lv_at hl 5 rfl) ?_
            refine x_if_ne (tgt := 66) hx hb dX1_choose_61 (by decide) (by omega) (fun b61 => ?_) (fun b61 => ?_)
            · refine lv_iload hx hb dX1_choose_66 (lv_at hl 5 rfl) ?_
              refine lv_iconst (v := jI 1) hx hb dX1_choose_68 rfl ?_
              refine x_isub hx hb dX1_choose_69 ?_
              refine lv_iload_n hx hb dX1_choose_70 rfl (lv_at hl 3 rfl) ?_
              refine x_nxt (S := S) (F := A) hx hb dX1_choose_71 ?_
              refine lv_istore (lv' := [(5, .int (jI (((nxS S A : Nat) : Int)))), (0, .ref (G.2.2 60)), (1, .int (jI ((l1 : Int)))), (2, .int (jI ((D : Int)))), (3, .int (jI ((A : Int)))), (4, .int (jI ((M : Int))))]) hx hb dX1_choose_72 hl (by decide) rfl (fun ls hl => ?_)
              refine lv_goto (tgt := 30) hx hb dX1_choose_74 (by decide) ?_
              exact ih30  (nxS S A) _ _ _ (nxS_sub _ _) (nx_all hsub hSA hall hno (by omega)) (by have := nxS_lt (S := S) (F := A) (by omega); omega) hM3 (lv_sub hl [1, 2, 3, 4, 5, 0] rfl)
            · refine lv_iconst (v := jI (-1)) hx hb dX1_choose_64 rfl ?_
              exact g_iret CF hr hlocks hM3 ⟨-1, rfl, rfl, ⟨_, _, rfl⟩, Or.inr ⟨rfl, fun T hT => (by have z := hall T hT; have e : T = S := (by omega); exact hno (e ▸ hT))⟩⟩ (by decide) (by decide) dX1_choose_65
          · refine lv_iload hx hb dX1_choose_56 (lv_at hl 5 rfl) ?_
            exact g_iret CF hr hlocks hM3 ⟨(S : Int), rfl, rfl, ⟨_, _, rfl⟩, Or.inl ⟨S, rfl, ⟨hmay.1, hmay.2, pB_t.mp b53⟩, hall⟩⟩ (by decide) (by decide) dX1_choose_58
    exact c30 _ A _ _ _ (Nat.and_self _) (fun T hT => and_le (hsub T hT)) (Nat.lt_succ_self _) hM1 (lv_sub hl [3, 4, 5, 2, 1, 0] rfl)
  · have hbt : bz = true := Decidable.byContradiction (fun q => absurd b11 (by rw [if_neg q]; omega))
    subst hbt
    refine lv_iconst (v := jI (-1)) hx hb dX1_choose_14 rfl ?_
    exact g_iret CF hr hlocks hM1 ⟨-1, rfl, rfl, ⟨_, _, rfl⟩, Or.inr ⟨rfl, fun T hT => ch_bad hD hkB ⟨hT.1, hT.2.1⟩⟩⟩ (by decide) (by decide) dX1_choose_15
