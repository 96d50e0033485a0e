set_option maxHeartbeats 400000 in
theorem l_send5 (l : Launch) (E : y_E) (G : y_G) (σ : y_S) (sz : Nat) (ρ : y_S) (κ : y_S) (lane : Int) (hL : lgR E ρ G σ) (hκ : mSame [8, 9, 10] ρ κ) (hB : mBy κ) (hLk : lkK 5 ρ G σ κ) (hlane : R32 lane) : gCt l yX1_send cX1_send 4 none ({ frames := 4, cells := 0, slots := 0, locals := 96 }) E [.ref (G.2.2 60), .ref (G.2.2 5), .int (jI lane)] G σ sz (gR none G (upT σ 9 (goR (ρ 60 0) (ρ 1) (ρ 2) (mTf κ 0) (fillN (σ 9) (eNT lane) (ρ 60 0))))) 0 0 := by
  refine g_met (by decide) (Nat.le_of_ble_eq_true rfl) ?_
  intro p e s m below meth c ls CF hr hlocks hnm hK hM0 hA hl
  have hx := CF.1
  have hb := CF.2.1
  have hts := CF.2.2.2.2
  have hl : lv_has ls 4 [(0, .ref (G.2.2 60)), (1, .ref (G.2.2 5)), (2, .int (jI lane))] := hl
  obtain ⟨hO, hS, ⟨hm1, hm2, hm3, hm4, hm5⟩, hX, hD, hZ⟩ := id hL
  have hn := hO.n
  refine lv_iconst (v := jI 0) hx hb dX1_send_0 rfl ?_
  refine lv_istore_n (lv' := [(3, .int (jI 0)), (0, .ref (G.2.2 60)), (1, .ref (G.2.2 5)), (2, .int (jI lane))]) hx hb dX1_send_1 rfl hl (by decide) rfl (fun ls hl => ?_)
  have c2 : ∀ (n2 : Nat) (j : Int) (H : Heap) (locs : List Loc) (ls : Array Slot), (0 ≤ j) → (j ≤ ρ 60 0) → ((ρ 60 0 - j).toNat < n2) → gM E (gA G sz) G (upT σ 9 (fillN (σ 9) (eNT lane) j)) s.heap H locs → lv_has ls 4 [(0, .ref (G.2.2 60)), (1, .ref (G.2.2 5)), (2, .int (jI lane)), (3, .int (jI j))] → W p l e ({ frames := 4, cells := 0, slots := 0, locals := 96 } : Room) s m ([.ref (G.2.2 60), .ref (G.2.2 5), .int (jI lane)] : List Value).toArray below meth c H locs 0 0 (MQ below (gQ E G sz (gR none G (upT σ 9 (goR (ρ 60 0) (ρ 1) (ρ 2) (mTf κ 0) (fillN (σ 9) (eNT lane) (ρ 60 0)))))) ([.ref (G.2.2 60), .ref (G.2.2 5), .int (jI lane)] : List Value).toArray s 0 0 (gA G sz)) (F0 m 2 ls []) := by
    intro n2
    induction n2 with
    | zero => intro j H locs ls hj0 hj1 hmu; exact absurd hmu (Nat.not_lt_zero _)
    | succ n2 ih2 =>
      intro j H locs ls hj0 hj1 hmu2 hM1 hl
      refine lv_iload_n hx hb dX1_send_2 rfl (lv_at hl 3 rfl) ?_
      refine lv_aload_n hx hb dX1_send_3 rfl (lv_at hl 0 rfl) ?_
      refine g_geti CF hK hM1 60 (hL.2.1.1 60 _ rfl) 2 2 rfl rfl (by decide) (Or.inl (hts _ q284)) (fun _ h => h) rfl dX1_send_4 ?_
      refine x_top (b := σ 60 2) rfl ?_
      refine x_top (b := ρ 60 0) hm1 ?_
      refine x_icmp_ge (tgt := 32) hx hb dX1_send_7 (by decide) (by omega) (by omega) (fun b7 => ?_) (fun b7 => ?_)
      · have hM2 := gM_eq (σ' := upT σ 9 (fillN (σ 9) (eNT lane) (ρ 60 0))) (by rw [show j = ρ 60 0 by omega]) hM1
        have hL2 : lgR E ρ G (upT σ 9 (fillN (σ 9) (eNT lane) (ρ 60 0))) := hL.uT (by unfold lgT; omega) (by decide)
        have hLk2 := hLk.fr (τ' := upT σ 9 (fillN (σ 9) (eNT lane) (ρ 60 0))) rfl
        refine lv_aload_n hx hb dX1_send_32 rfl (lv_at hl 1 rfl) ?_
        refine lv_aload_n hx hb dX1_send_33 rfl (lv_at hl 0 rfl) ?_
        refine g_getr CF hK hM2 60 (hL.2.1.1 60 _ rfl) 9 9 rfl rfl (by decide) (Or.inl (hts _ q295)) (fun _ h => h) rfl (G.2.2 9) (hL.2.1.2.1 9 9 rfl) dX1_send_34 ?_
        refine g_callv hM2 hA (g_runU (As := [.ref (G.2.2 9)]) (rest := []) CF hK hM2 (hL.2.1.1 5 _ rfl) rfl (l_go5 l E _ _ _ ρ κ 9  hL2 hκ hB hLk2 (hL.2.1.1 9 _ rfl) (by decide) (by unfold lgT; omega) (by decide) (by decide) (by rw [upT_s]; intro q a b; rw [fillN_in a b]; show 0 ≤ (if q = lane then (1 : Int) else 0) ∧ (if q = lane then (1 : Int) else 0) ≤ 96; split <;> omega)) (g_cu 1 hts q518 q520 (va_Decl.abs (hK.2.2.1 _ q929 rfl)) (hts _ q523) q519 q62 q525 rfl rfl (by decide +kernel) ⟨Nat.le_of_ble_eq_true rfl, Nat.le_of_ble_eq_true rfl⟩) rfl hl.1 rfl (Nat.le_of_ble_eq_true rfl) dX1_send_37 ⟨Nat.le_of_ble_eq_true rfl, Nat.le_of_ble_eq_true rfl⟩) (fun H locs hM3 => ?_)
        have hM4 := gM_eq (σ' := upT σ 9 (goR (ρ 60 0) (ρ 1) (ρ 2) (mTf κ 0) (fillN (σ 9) (eNT lane) (ρ 60 0)))) (by rw [upT_upT, upT_s]) hM3
        exact g_vret CF hr hlocks hM4 (g_pv rfl) (by decide) (by decide) dX1_send_40
      · refine lv_aload_n hx hb dX1_send_10 rfl (lv_at hl 0 rfl) ?_
        refine g_getr CF hK hM1 60 (hL.2.1.1 60 _ rfl) 9 9 rfl rfl (by decide) (Or.inl (hts _ q295)) (fun _ h => h) rfl (G.2.2 9) (hL.2.1.2.1 9 9 rfl) dX1_send_11 ?_
        refine lv_iload_n hx hb dX1_send_14 rfl (lv_at hl 3 rfl) ?_
        refine lv_iload_n hx hb dX1_send_15 rfl (lv_at hl 3 rfl) ?_
        refine lv_iload_n hx hb dX1_send_16 rfl (lv_at hl 2 rfl) ?_
        refine x_icmp_ne (tgt := 24) hx hb dX1_send_17 (by decide) (by omega) (by omega) (fun b17 => ?_) (fun b17 => ?_)
        · refine lv_iconst (v := jI 0) hx hb dX1_send_24 rfl ?_
          refine g_iast CF hK hM1 9 (by decide) (hL.2.1.1 9 _ rfl) (i := j) (v := 0) (by omega) (by omega) (by omega) (by omega) dX1_send_25 (fun H locs hM5 => ?_)
          refine x_iinc (lv' := [(3, .int (jI (j + 1))), (0, .ref (G.2.2 60)), (1, .ref (G.2.2 5)), (2, .int (jI lane))]) hx hb dX1_send_26 hl (k := 3) rfl (by decide) rfl (fun ls hl => ?_)
          refine lv_goto (tgt := 2) hx hb dX1_send_29 (by decide) ?_
          exact ih2  (j + 1) _ _ _ (by first | omega | assumption | rfl) (by first | omega | assumption | rfl) (by omega) (gM_eq (up2_fill (by omega) (by first | exact (if_pos b17).symm | exact (if_neg b17).symm)) hM5) (lv_sub hl [1, 2, 3, 0] rfl)
        · refine lv_iconst (v := jI 1) hx hb dX1_send_20 rfl ?_
          refine lv_goto (tgt := 25) hx hb dX1_send_21 (by decide) ?_
          refine g_iast CF hK hM1 9 (by decide) (hL.2.1.1 9 _ rfl) (i := j) (v := 1) (by omega) (by omega) (by omega) (by omega) dX1_send_25 (fun H locs hM6 => ?_)
          refine x_iinc (lv' := [(3, .int (jI (j + 1))), (0, .ref (G.2.2 60)), (1, .ref (G.2.2 5)), (2, .int (jI lane))]) hx hb dX1_send_26 hl (k := 3) rfl (by decide) rfl (fun ls hl => ?_)
          refine lv_goto (tgt := 2) hx hb dX1_send_29 (by decide) ?_
          exact ih2  (j + 1) _ _ _ (by first | omega | assumption | rfl) (by first | omega | assumption | rfl) (by omega) (gM_eq (up2_fill (by omega) (by first | exact (if_pos b17).symm | exact (if_neg b17).symm)) hM6) (lv_sub hl [1, 2, 3, 0] rfl)
  exact c2 _ 0 _ _ _ (by first | omega | assumption | rfl) (by first | omega | assumption | rfl) (Nat.lt_succ_self _) (gM_eq fill_0 hM0) (lv_sub hl [1, 2, 3, 0] rfl)
set_option maxHeartbeats 400000 in
theorem l_send6 (l : Launch) (E : y_E) (G : y_G) (σ : y_S) (sz : Nat) (ρ : y_S) (κ : y_S) (lane : Int) (hL : lgR E ρ G σ) (hκ : mSame [8, 9, 10] ρ κ) (hB : mBy κ) (hLk : lkK 6 ρ G σ κ) (hlane : R32 lane) : gCt l yX1_send cX1_send 4 none ({ frames := 6, cells := 0, slots := 0, locals := 135 }) E [.ref (G.2.2 60), .ref (G.2.2 6), .int (jI lane)] G σ sz (gR none G (upT σ 9 (goR (ρ 60 0) (ρ 1) (ρ 2) (mTf κ 1) (fillN (σ 9) (eNT lane) (ρ 60 0))))) 0 0 := by
  refine g_met (by decide) (Nat.le_of_ble_eq_true rfl) ?_
  intro p e s m below meth c ls CF hr hlocks hnm hK hM0 hA hl
  have hx := CF.1
  have hb := CF.2.1
  have hts := CF.2.2.2.2
  have hl : lv_has ls 4 [(0, .ref (G.2.2 60)), (1, .ref (G.2.2 6)), (2, .int (jI lane))] := hl
  obtain ⟨hO, hS, ⟨hm1, hm2, hm3, hm4, hm5⟩, hX, hD, hZ⟩ := id hL
  have hn := hO.n
  refine lv_iconst (v := jI 0) hx hb dX1_send_0 rfl ?_
  refine lv_istore_n (lv' := [(3, .int (jI 0)), (0, .ref (G.2.2 60)), (1, .ref (G.2.2 6)), (2, .int (jI lane))]) hx hb dX1_send_1 rfl hl (by decide) rfl (fun ls hl => ?_)
  have c2 : ∀ (n2 : Nat) (j : Int) (H : Heap) (locs : List Loc) (ls : Array Slot), (0 ≤ j) → (j ≤ ρ 60 0) → ((ρ 60 0 - j).toNat < n2) → gM E (gA G sz) G (upT σ 9 (fillN (σ 9) (eNT lane) j)) s.heap H locs → lv_has ls 4 [(0, .ref (G.2.2 60)), (1, .ref (G.2.2 6)), (2, .int (jI lane)), (3, .int (jI j))] → W p l e ({ frames := 6, cells := 0, slots := 0, locals := 135 } : Room) s m ([.ref (G.2.2 60), .ref (G.2.2 6), .int (jI lane)] : List Value).toArray below meth c H locs 0 0 (MQ below (gQ E G sz (gR none G (upT σ 9 (goR (ρ 60 0) (ρ 1) (ρ 2) (mTf κ 1) (fillN (σ 9) (eNT lane) (ρ 60 0)))))) ([.ref (G.2.2 60), .ref (G.2.2 6), .int (jI lane)] : List Value).toArray s 0 0 (gA G sz)) (F0 m 2 ls []) := by
    intro n2
    induction n2 with
    | zero => intro j H locs ls hj0 hj1 hmu; exact absurd hmu (Nat.not_lt_zero _)
    | succ n2 ih2 =>
      intro j H locs ls hj0 hj1 hmu2 hM1 hl
      refine lv_iload_n hx hb dX1_send_2 rfl (lv_at hl 3 rfl) ?_
      refine lv_aload_n hx hb dX1_send_3 rfl (lv_at hl 0 rfl) ?_
      refine g_geti CF hK hM1 60 (hL.2.1.1 60 _ rfl) 2 2 rfl rfl (by decide) (Or.inl (hts _ q284)) (fun _ h => h) rfl dX1_send_4 ?_
      refine x_top (b := σ 60 2) rfl ?_
      refine x_top (b := ρ 60 0) hm1 ?_
      refine x_icmp_ge (tgt := 32) hx hb dX1_send_7 (by decide) (by omega) (by omega) (fun b7 => ?_) (fun b7 => ?_)
      · have hM2 := gM_eq (σ' := upT σ 9 (fillN (σ 9) (eNT lane) (ρ 60 0))) (by rw [show j = ρ 60 0 by omega]) hM1
        have hL2 : lgR E ρ G (upT σ 9 (fillN (σ 9) (eNT lane) (ρ 60 0))) := hL.uT (by unfold lgT; omega) (by decide)
        have hLk2 := hLk.fr (τ' := upT σ 9 (fillN (σ 9) (eNT lane) (ρ 60 0))) rfl
        refine lv_aload_n hx hb dX1_send_32 rfl (lv_at hl 1 rfl) ?_
        refine lv_aload_n hx hb dX1_send_33 rfl (lv_at hl 0 rfl) ?_
        refine g_getr CF hK hM2 60 (hL.2.1.1 60 _ rfl) 9 9 rfl rfl (by decide) (Or.inl (hts _ q295)) (fun _ h => h) rfl (G.2.2 9) (hL.2.1.2.1 9 9 rfl) dX1_send_34 ?_
        refine g_callv hM2 hA (g_runU (As := [.ref (G.2.2 9)]) (rest := []) CF hK hM2 (hL.2.1.1 6 _ rfl) rfl (l_go6 l E _ _ _ ρ κ 9  hL2 hκ hB hLk2 (hL.2.1.1 9 _ rfl) (by decide) (by unfold lgT; omega) (by decide) (by decide) (by rw [upT_s]; intro q a b; rw [fillN_in a b]; show 0 ≤ (if q = lane then (1 : Int) else 0) ∧ (if q = lane then (1 : Int) else 0) ≤ 96; split <;> omega)) (g_cu 1 hts q518 q520 (va_Decl.abs (hK.2.2.1 _ q929 rfl)) (hts _ q524) q519 q62 q525 rfl rfl (by decide +kernel) ⟨Nat.le_of_ble_eq_true rfl, Nat.le_of_ble_eq_true rfl⟩) rfl hl.1 rfl (Nat.le_of_ble_eq_true rfl) dX1_send_37 ⟨Nat.le_of_ble_eq_true rfl, Nat.le_of_ble_eq_true rfl⟩) (fun H locs hM3 => ?_)
        have hM4 := gM_eq (σ' := upT σ 9 (goR (ρ 60 0) (ρ 1) (ρ 2) (mTf κ 1) (fillN (σ 9) (eNT lane) (ρ 60 0)))) (by rw [upT_upT, upT_s]) hM3
        exact g_vret CF hr hlocks hM4 (g_pv rfl) (by decide) (by decide) dX1_send_40
      · refine lv_aload_n hx hb dX1_send_10 rfl (lv_at hl 0 rfl) ?_
        refine g_getr CF hK hM1 60 (hL.2.1.1 60 _ rfl) 9 9 rfl rfl (by decide) (Or.inl (hts _ q295)) (fun _ h => h) rfl (G.2.2 9) (hL.2.1.2.1 9 9 rfl) dX1_send_11 ?_
        refine lv_iload_n hx hb dX1_send_14 rfl (lv_at hl 3 rfl) ?_
        refine lv_iload_n hx hb dX1_send_15 rfl (lv_at hl 3 rfl) ?_
        refine lv_iload_n hx hb dX1_send_16 rfl (lv_at hl 2 rfl) ?_
        refine x_icmp_ne (tgt := 24) hx hb dX1_send_17 (by decide) (by omega) (by omega) (fun b17 => ?_) (fun b17 => ?_)
        · refine lv_iconst (v := jI 0) hx hb dX1_send_24 rfl ?_
          refine g_iast CF hK hM1 9 (by decide) (hL.2.1.1 9 _ rfl) (i := j) (v := 0) (by omega) (by omega) (by omega) (by omega) dX1_send_25 (fun H locs hM5 => ?_)
          refine x_iinc (lv' := [(3, .int (jI (j + 1))), (0, .ref (G.2.2 60)), (1, .ref (G.2.2 6)), (2, .int (jI lane))]) hx hb dX1_send_26 hl (k := 3) rfl (by decide) rfl (fun ls hl => ?_)
          refine lv_goto (tgt := 2) hx hb dX1_send_29 (by decide) ?_
          exact ih2  (j + 1) _ _ _ (by first | omega | assumption | rfl) (by first | omega | assumption | rfl) (by omega) (gM_eq (up2_fill (by omega) (by first | exact (if_pos b17).symm | exact (if_neg b17).symm)) hM5) (lv_sub hl [1, 2, 3, 0] rfl)
        · refine lv_iconst (v := jI 1) hx hb dX1_send_20 rfl ?_
          refine lv_goto (tgt := 25) hx hb dX1_send_21 (by decide) ?_
          refine g_iast CF hK hM1 9 (by decide) (hL.2.1.1 9 _ rfl) (i := j) (v := 1) (by omega) (by omega) (by omega) (by omega) dX1_send_25 (fun H locs hM6 => ?_)
          refine x_iinc (lv' := [(3, .int (jI (j + 1))), (0, .ref (G.2.2 60)), (1, .ref (G.2.2 6)), (2, .int (jI lane))]) hx hb dX1_send_26 hl (k := 3) rfl (by decide) rfl (fun ls hl => ?_)
          refine lv_goto (tgt := 2) hx hb dX1_send_29 (by decide) ?_
          exact ih2  (j + 1) _ _ _ (by first | omega | assumption | rfl) (by first | omega | assumption | rfl) (by omega) (gM_eq (up2_fill (by omega) (by first | exact (if_pos b17).symm | exact (if_neg b17).symm)) hM6) (lv_sub hl [1, 2, 3, 0] rfl)
  exact c2 _ 0 _ _ _ (by first | omega | assumption | rfl) (by first | omega | assumption | rfl) (Nat.lt_succ_self _) (gM_eq fill_0 hM0) (lv_sub hl [1, 2, 3, 0] rfl)
set_option maxHeartbeats 400000 in
theorem l_send7 (l : Launch) (E : y_E) (G : y_G) (σ : y_S) (sz : Nat) (ρ : y_S) (κ : y_S) (lane : Int) (hL : lgR E ρ G σ) (hκ : mSame [8, 9, 10] ρ κ) (hB : mBy κ) (hLk : lkK 7 ρ G σ κ) (hlane : R32 lane) : gCt l yX1_send cX1_send 4 none ({ frames := 7, cells := 0, slots := 0, locals := 157 }) E [.ref (G.2.2 60), .ref (G.2.2 7), .int (jI lane)] G σ sz (gR none G (upT σ 9 (goR (ρ 60 0) (ρ 1) (ρ 2) (mTf κ 1) (fillN (σ 9) (eNT lane) (ρ 60 0))))) 0 0 := by
  refine g_met (by decide) (Nat.le_of_ble_eq_true rfl) ?_
  intro p e s m below meth c ls CF hr hlocks hnm hK hM0 hA hl
  have hx := CF.1
  have hb := CF.2.1
  have hts := CF.2.2.2.2
  have hl : lv_has ls 4 [(0, .ref (G.2.2 60)), (1, .ref (G.2.2 7)), (2, .int (jI lane))] := hl
  obtain ⟨hO, hS, ⟨hm1, hm2, hm3, hm4, hm5⟩, hX, hD, hZ⟩ := id hL
  have hn := hO.n
  refine lv_iconst (v := jI 0) hx hb dX1_send_0 rfl ?_
  refine lv_istore_n (lv' := [(3, .int (jI 0)), (0, .ref (G.2.2 60)), (1, .ref (G.2.2 7)), (2, .int (jI lane))]) hx hb dX1_send_1 rfl hl (by decide) rfl (fun ls hl => ?_)
  have c2 : ∀ (n2 : Nat) (j : Int) (H : Heap) (locs : List Loc) (ls : Array Slot), (0 ≤ j) → (j ≤ ρ 60 0) → ((ρ 60 0 - j).toNat < n2) → gM E (gA G sz) G (upT σ 9 (fillN (σ 9) (eNT lane) j)) s.heap H locs → lv_has ls 4 [(0, .ref (G.2.2 60)), (1, .ref (G.2.2 7)), (2, .int (jI lane)), (3, .int (jI j))] → W p l e ({ frames := 7, cells := 0, slots := 0, locals := 157 } : Room) s m ([.ref (G.2.2 60), .ref (G.2.2 7), .int (jI lane)] : List Value).toArray below meth c H locs 0 0 (MQ below (gQ E G sz (gR none G (upT σ 9 (goR (ρ 60 0) (ρ 1) (ρ 2) (mTf κ 1) (fillN (σ 9) (eNT lane) (ρ 60 0)))))) ([.ref (G.2.2 60), .ref (G.2.2 7), .int (jI lane)] : List Value).toArray s 0 0 (gA G sz)) (F0 m 2 ls []) := by
    intro n2
    induction n2 with
    | zero => intro j H locs ls hj0 hj1 hmu; exact absurd hmu (Nat.not_lt_zero _)
    | succ n2 ih2 =>
      intro j H locs ls hj0 hj1 hmu2 hM1 hl
      refine lv_iload_n hx hb dX1_send_2 rfl (lv_at hl 3 rfl) ?_
      refine lv_aload_n hx hb dX1_send_3 rfl (lv_at hl 0 rfl) ?_
      refine g_geti CF hK hM1 60 (hL.2.1.1 60 _ rfl) 2 2 rfl rfl (by decide) (Or.inl (hts _ q284)) (fun _ h => h) rfl dX1_send_4 ?_
      refine x_top (b := σ 60 2) rfl ?_
      refine x_top (b := ρ 60 0) hm1 ?_
      refine x_icmp_ge (tgt := 32) hx hb dX1_send_7 (by decide) (by omega) (by omega) (fun b7 => ?_) (fun b7 => ?_)
      · have hM2 := gM_eq (σ' := upT σ 9 (fillN (σ 9) (eNT lane) (ρ 60 0))) (by rw [show j = ρ 60 0 by omega]) hM1
        have hL2 : lgR E ρ G (upT σ 9 (fillN (σ 9) (eNT lane) (ρ 60 0))) := hL.uT (by unfold lgT; omega) (by decide)
        have hLk2 := hLk.fr (τ' := upT σ 9 (fillN (σ 9) (eNT lane) (ρ 60 0))) rfl
        refine lv_aload_n hx hb dX1_send_32 rfl (lv_at hl 1 rfl) ?_
        refine lv_aload_n hx hb dX1_send_33 rfl (lv_at hl 0 rfl) ?_
        refine g_getr CF hK hM2 60 (hL.2.1.1 60 _ rfl) 9 9 rfl rfl (by decide) (Or.inl (hts _ q295)) (fun _ h => h) rfl (G.2.2 9) (hL.2.1.2.1 9 9 rfl) dX1_send_34 ?_
        refine g_callv hM2 hA (g_runU (As := [.ref (G.2.2 9)]) (rest := []) CF hK hM2 (hL.2.1.1 7 _ rfl) rfl (l_go7 l E _ _ _ ρ κ 9  hL2 hκ hB hLk2 (hL.2.1.1 9 _ rfl) (by decide) (by unfold lgT; omega) (by decide) (by decide) (by rw [upT_s]; intro q a b; rw [fillN_in a b]; show 0 ≤ (if q = lane then (1 : Int) else 0) ∧ (if q = lane then (1 : Int) else 0) ≤ 96; split <;> omega)) (g_cu 1 hts q518 q520 (va_Decl.abs (hK.2.2.1 _ q929 rfl)) (hts _ q522) q519 q62 q525 rfl rfl (by decide +kernel) ⟨Nat.le_of_ble_eq_true rfl, Nat.le_of_ble_eq_true rfl⟩) rfl hl.1 rfl (Nat.le_of_ble_eq_true rfl) dX1_send_37 ⟨Nat.le_of_ble_eq_true rfl, Nat.le_of_ble_eq_true rfl⟩) (fun H locs hM3 => ?_)
        have hM4 := gM_eq (σ' := upT σ 9 (goR (ρ 60 0) (ρ 1) (ρ 2) (mTf κ 1) (fillN (σ 9) (eNT lane) (ρ 60 0)))) (by rw [upT_upT, upT_s]) hM3
        exact g_vret CF hr hlocks hM4 (g_pv rfl) (by decide) (by decide) dX1_send_40
      · refine lv_aload_n hx hb dX1_send_10 rfl (lv_at hl 0 rfl) ?_
        refine g_getr CF hK hM1 60 (hL.2.1.1 60 _ rfl) 9 9 rfl rfl (by decide) (Or.inl (hts _ q295)) (fun _ h => h) rfl (G.2.2 9) (hL.2.1.2.1 9 9 rfl) dX1_send_11 ?_
        refine lv_iload_n hx hb dX1_send_14 rfl (lv_at hl 3 rfl) ?_
        refine lv_iload_n hx hb dX1_send_15 rfl (lv_at hl 3 rfl) ?_
        refine lv_iload_n hx hb dX1_send_16 rfl (lv_at hl 2 rfl) ?_
        refine x_icmp_ne (tgt := 24) hx hb dX1_send_17 (by decide) (by omega) (by omega) (fun b17 => ?_) (fun b17 => ?_)
        · refine lv_iconst (v := jI 0) hx hb dX1_send_24 rfl ?_
          refine g_iast CF hK hM1 9 (by decide) (hL.2.1.1 9 _ rfl) (i := j) (v := 0) (by omega) (by omega) (by omega) (by omega) dX1_send_25 (fun H locs hM5 => ?_)
          refine x_iinc (lv' := [(3, .int (jI (j + 1))), (0, .ref (G.2.2 60)), (1, .ref (G.2.2 7)), (2, .int (jI lane))]) hx hb dX1_send_26 hl (k := 3) rfl (by decide) rfl (fun ls hl => ?_)
          refine lv_goto (tgt := 2) hx hb dX1_send_29 (by decide) ?_
          exact ih2  (j + 1) _ _ _ (by first | omega | assumption | rfl) (by first | omega | assumption | rfl) (by omega) (gM_eq (up2_fill (by omega) (by first | exact (if_pos b17).symm | exact (if_neg b17).symm)) hM5) (lv_sub hl [1, 2, 3, 0] rfl)
        · refine lv_iconst (v := jI 1) hx hb dX1_send_20 rfl ?_
          refine lv_goto (tgt := 25) hx hb dX1_send_21 (by decide) ?_
          refine g_iast CF hK hM1 9 (by decide) (hL.2.1.1 9 _ rfl) (i := j) (v := 1) (by omega) (by omega) (by omega) (by omega) dX1_send_25 (fun H locs hM6 => ?_)
          refine x_iinc (lv' := [(3, .int (jI (j + 1))), (0, .ref (G.2.2 60)), (1, .ref (G.2.2 7)), (2, .int (jI lane))]) hx hb dX1_send_26 hl (k := 3) rfl (by decide) rfl (fun ls hl => ?_)
          refine lv_goto (tgt := 2) hx hb dX1_send_29 (by decide) ?_
          exact ih2  (j + 1) _ _ _ (by first | omega | assumption | rfl) (by first | omega | assumption | rfl) (by omega) (gM_eq (up2_fill (by omega) (by first | exact (if_pos b17).symm | exact (if_neg b17).symm)) hM6) (lv_sub hl [1, 2, 3, 0] rfl)
  exact c2 _ 0 _ _ _ (by first | omega | assumption | rfl) (by first | omega | assumption | rfl) (Nat.lt_succ_self _) (gM_eq fill_0 hM0) (lv_sub hl [1, 2, 3, 0] rfl)
set_option maxHeartbeats 400000 in
theorem l_send8 (l : Launch) (E : y_E) (G : y_G) (σ : y_S) (sz : Nat) (ρ : y_S) (κ : y_S) (lane : Int) (hL : lgR E ρ G σ) (hκ : mSame [8, 9, 10] ρ κ) (hB : mBy κ) (hLk : lkK 8 ρ G σ κ) (hlane : R32 lane) : gCt l yX1_send cX1_send 4 none ({ frames := 7, cells := 0, slots := 0, locals := 157 }) E [.ref (G.2.2 60), .ref (G.2.2 8), .int (jI lane)] G σ sz (gR none G (upT σ 9 (goR (ρ 60 0) (ρ 1) (ρ 2) (mTf κ 1) (fillN (σ 9) (eNT lane) (ρ 60 0))))) 0 0 := by
  refine g_met (by decide) (Nat.le_of_ble_eq_true rfl) ?_
  intro p e s m below meth c ls CF hr hlocks hnm hK hM0 hA hl
  have hx := CF.1
  have hb := CF.2.1
  have hts := CF.2.2.2.2
  have hl : lv_has ls 4 [(0, .ref (G.2.2 60)), (1, .ref (G.2.2 8)), (2, .int (jI lane))] := hl
  obtain ⟨hO, hS, ⟨hm1, hm2, hm3, hm4, hm5⟩, hX, hD, hZ⟩ := id hL
  have hn := hO.n
  refine lv_iconst (v := jI 0) hx hb dX1_send_0 rfl ?_
  refine lv_istore_n (lv' := [(3, .int (jI 0)), (0, .ref (G.2.2 60)), (1, .ref (G.2.2 8)), (2, .int (jI lane))]) hx hb dX1_send_1 rfl hl (by decide) rfl (fun ls hl => ?_)
  have c2 : ∀ (n2 : Nat) (j : Int) (H : Heap) (locs : List Loc) (ls : Array Slot), (0 ≤ j) → (j ≤ ρ 60 0) → ((ρ 60 0 - j).toNat < n2) → gM E (gA G sz) G (upT σ 9 (fillN (σ 9) (eNT lane) j)) s.heap H locs → lv_has ls 4 [(0, .ref (G.2.2 60)), (1, .ref (G.2.2 8)), (2, .int (jI lane)), (3, .int (jI j))] → W p l e ({ frames := 7, cells := 0, slots := 0, locals := 157 } : Room) s m ([.ref (G.2.2 60), .ref (G.2.2 8), .int (jI lane)] : List Value).toArray below meth c H locs 0 0 (MQ below (gQ E G sz (gR none G (upT σ 9 (goR (ρ 60 0) (ρ 1) (ρ 2) (mTf κ 1) (fillN (σ 9) (eNT lane) (ρ 60 0)))))) ([.ref (G.2.2 60), .ref (G.2.2 8), .int (jI lane)] : List Value).toArray s 0 0 (gA G sz)) (F0 m 2 ls []) := by
    intro n2
    induction n2 with
    | zero => intro j H locs ls hj0 hj1 hmu; exact absurd hmu (Nat.not_lt_zero _)
    | succ n2 ih2 =>
      intro j H locs ls hj0 hj1 hmu2 hM1 hl
      refine lv_iload_n hx hb dX1_send_2 rfl (lv_at hl 3 rfl) ?_
      refine lv_aload_n hx hb dX1_send_3 rfl (lv_at hl 0 rfl) ?_
      refine g_geti CF hK hM1 60 (hL.2.1.1 60 _ rfl) 2 2 rfl rfl (by decide) (Or.inl (hts _ q284)) (fun _ h => h) rfl dX1_send_4 ?_
      refine x_top (b := σ 60 2) rfl ?_
      refine x_top (b := ρ 60 0) hm1 ?_
      refine x_icmp_ge (tgt := 32) hx hb dX1_send_7 (by decide) (by omega) (by omega) (fun b7 => ?_) (fun b7 => ?_)
      · have hM2 := gM_eq (σ' := upT σ 9 (fillN (σ 9) (eNT lane) (ρ 60 0))) (by rw [show j = ρ 60 0 by omega]) hM1
        have hL2 : lgR E ρ G (upT σ 9 (fillN (σ 9) (eNT lane) (ρ 60 0))) := hL.uT (by unfold lgT; omega) (by decide)
        have hLk2 := hLk.fr (τ' := upT σ 9 (fillN (σ 9) (eNT lane) (ρ 60 0))) rfl
        refine lv_aload_n hx hb dX1_send_32 rfl (lv_at hl 1 rfl) ?_
        refine lv_aload_n hx hb dX1_send_33 rfl (lv_at hl 0 rfl) ?_
        refine g_getr CF hK hM2 60 (hL.2.1.1 60 _ rfl) 9 9 rfl rfl (by decide) (Or.inl (hts _ q295)) (fun _ h => h) rfl (G.2.2 9) (hL.2.1.2.1 9 9 rfl) dX1_send_34 ?_
        refine g_callv hM2 hA (g_runU (As := [.ref (G.2.2 9)]) (rest := []) CF hK hM2 (hL.2.1.1 8 _ rfl) rfl (l_go8 l E _ _ _ ρ κ 9  hL2 hκ hB hLk2 (hL.2.1.1 9 _ rfl) (by decide) (by unfold lgT; omega) (by decide) (by decide) (by rw [upT_s]; intro q a b; rw [fillN_in a b]; show 0 ≤ (if q = lane then (1 : Int) else 0) ∧ (if q = lane then (1 : Int) else 0) ≤ 96; split <;> omega)) (g_cu 1 hts q518 q520 (va_Decl.abs (hK.2.2.1 _ q929 rfl)) (hts _ q521) q519 q62 q525 rfl rfl (by decide +kernel) ⟨Nat.le_of_ble_eq_true rfl, Nat.le_of_ble_eq_true rfl⟩) rfl hl.1 rfl (Nat.le_of_ble_eq_true rfl) dX1_send_37 ⟨Nat.le_of_ble_eq_true rfl, Nat.le_of_ble_eq_true rfl⟩) (fun H locs hM3 => ?_)
        have hM4 := gM_eq (σ' := upT σ 9 (goR (ρ 60 0) (ρ 1) (ρ 2) (mTf κ 1) (fillN (σ 9) (eNT lane) (ρ 60 0)))) (by rw [upT_upT, upT_s]) hM3
        exact g_vret CF hr hlocks hM4 (g_pv rfl) (by decide) (by decide) dX1_send_40
      · refine lv_aload_n hx hb dX1_send_10 rfl (lv_at hl 0 rfl) ?_
        refine g_getr CF hK hM1 60 (hL.2.1.1 60 _ rfl) 9 9 rfl rfl (by decide) (Or.inl (hts _ q295)) (fun _ h => h) rfl (G.2.2 9) (hL.2.1.2.1 9 9 rfl) dX1_send_11 ?_
        refine lv_iload_n hx hb dX1_send_14 rfl (lv_at hl 3 rfl) ?_
        refine lv_iload_n hx hb dX1_send_15 rfl (lv_at hl 3 rfl) ?_
        refine lv_iload_n hx hb dX1_send_16 rfl (lv_at hl 2 rfl) ?_
        refine x_icmp_ne (tgt := 24) hx hb dX1_send_17 (by decide) (by omega) (by omega) (fun b17 => ?_) (fun b17 => ?_)
        · refine lv_iconst (v := jI 0) hx hb dX1_send_24 rfl ?_
          refine g_iast CF hK hM1 9 (by decide) (hL.2.1.1 9 _ rfl) (i := j) (v := 0) (by omega) (by omega) (by omega) (by omega) dX1_send_25 (fun H locs hM5 => ?_)
          refine x_iinc (lv' := [(3, .int (jI (j + 1))), (0, .ref (G.2.2 60)), (1, .ref (G.2.2 8)), (2, .int (jI lane))]) hx hb dX1_send_26 hl (k := 3) rfl (by decide) rfl (fun ls hl => ?_)
          refine lv_goto (tgt := 2) hx hb dX1_send_29 (by decide) ?_
          exact ih2  (j + 1) _ _ _ (by first | omega | assumption | rfl) (by first | omega | assumption | rfl) (by omega) (gM_eq (up2_fill (by omega) (by first | exact (if_pos b17).symm | exact (if_neg b17).symm)) hM5) (lv_sub hl [1, 2, 3, 0] rfl)
        · refine lv_iconst (v := jI 1) hx hb dX1_send_20 rfl ?_
          refine lv_goto (tgt := 25) hx hb dX1_send_21 (by decide) ?_
          refine g_iast CF hK hM1 9 (by decide) (hL.2.1.1 9 _ rfl) (i := j) (v := 1) (by omega) (by omega) (by omega) (by omega) dX1_send_25 (fun H locs hM6 => ?_)
          refine x_iinc (lv' := [(3, .int (jI (j + 1))), (0, .ref (G.2.2 60)), (1, .ref (G.2.2 8)), (2, .int (jI lane))]) hx hb dX1_send_26 hl (k := 3) rfl (by decide) rfl (fun ls hl => ?_)
          refine lv_goto (tgt := 2) hx hb dX1_send_29 (by decide) ?_
          exact ih2  (j + 1) _ _ _ (by first | omega | assumption | rfl) (by first | omega | assumption | rfl) (by omega) (gM_eq (up2_fill (by omega) (by first | exact (if_pos b17).symm | exact (if_neg b17).symm)) hM6) (lv_sub hl [1, 2, 3, 0] rfl)
  exact c2 _ 0 _ _ _ (by first | omega | assumption | rfl) (by first | omega | assumption | rfl) (Nat.lt_succ_self _) (gM_eq fill_0 hM0) (lv_sub hl [1, 2, 3, 0] rfl)
set_option maxHeartbeats 400000 in
theorem l_table (l : Launch) (E : y_E) (G : y_G) (σ : y_S) (sz : Nat) (ρ : y_S) (r1 : Int) (c1 : Int) (hL : lgR E ρ G σ) (hr1 : R32 r1) (hc1 : R32 c1) : gCt l yX1_table cX1_table 3 (some .int) ({ frames := 5, cells := 0, slots := 0, locals := 119 }) E [.ref (G.2.2 60), .int (jI r1), .int (jI c1)] G σ sz (lPo E (oTable ρ r1 c1)) 0 0 := by
  refine g_met (by decide) (Nat.le_of_ble_eq_true rfl) ?_
  intro p e s m below meth c ls CF hr hlocks hnm hK hM0 hA hl
  have hx := CF.1
  have hb := CF.2.1
  have hts := CF.2.2.2.2
  have hl : lv_has ls 3 [(0, .ref (G.2.2 60)), (1, .int (jI r1)), (2, .int (jI c1))] := hl
  obtain ⟨hO, hS, ⟨hm1, hm2, hm3, hm4, hm5⟩, hX, hD, hZ⟩ := id hL
  have hn := hO.n
  refine lv_aload_n hx hb dX1_table_0 rfl (lv_at hl 0 rfl) ?_
  refine lv_iload_n hx hb dX1_table_1 rfl (lv_at hl 1 rfl) ?_
  refine g_calli (r := (if 0 ≤ r1 ∧ r1 < ρ 60 0 then 1 else 0)) hM0 hA (g_runV (As := [.int (jI r1)]) (rest := []) CF hK hM0 (hL.2.1.1 60 _ rfl) rfl (l_isLane l E _ _ _ ρ r1 hL (by first | omega | assumption | (refine ⟨?_, ?_⟩ <;> omega))) (cwV 1 hts (lw_V q397 q399 qs1 q60 q400) rfl rfl rfl (by decide +kernel) ⟨Nat.le_of_ble_eq_true rfl, Nat.le_of_ble_eq_true rfl⟩) rfl hl.1 rfl (Nat.le_of_ble_eq_true rfl) dX1_table_2 ⟨Nat.le_of_ble_eq_true rfl, Nat.le_of_ble_eq_true rfl⟩) (fun H locs hM1 => ?_)
  refine x_bif_eq (tgt := 16) hx hb dX1_table_5 (by decide) (fun b5 => ?_) (fun b5 => ?_)
  · refine lv_iconst (v := jI (-1)) hx hb dX1_table_16 rfl ?_
    exact g_iret CF hr hlocks hM1 (lPo_i (by unfold oTable; rw [if_pos (fun q => by first | exact b5 q.1 | exact b13 q.2)]) (by unfold oTable; rw [if_pos (fun q => by first | exact b5 q.1 | exact b13 q.2)]; exact hL)) (by decide) (by decide) dX1_table_17
  · refine lv_aload_n hx hb dX1_table_8 rfl (lv_at hl 0 rfl) ?_
    refine lv_iload_n hx hb dX1_table_9 rfl (lv_at hl 2 rfl) ?_
    refine g_calli (r := (if 0 ≤ c1 ∧ c1 < ρ 60 0 then 1 else 0)) hM1 hA (g_runV (As := [.int (jI c1)]) (rest := []) CF hK hM1 (hL.2.1.1 60 _ rfl) rfl (l_isLane l E _ _ _ ρ c1 hL (by first | omega | assumption | (refine ⟨?_, ?_⟩ <;> omega))) (cwV 1 hts (lw_V q397 q399 qs1 q60 q400) rfl rfl rfl (by decide +kernel) ⟨Nat.le_of_ble_eq_true rfl, Nat.le_of_ble_eq_true rfl⟩) rfl hl.1 rfl (Nat.le_of_ble_eq_true rfl) dX1_table_10 ⟨Nat.le_of_ble_eq_true rfl, Nat.le_of_ble_eq_true rfl⟩) (fun H locs hM2 => ?_)
    refine x_bif_ne (tgt := 18) hx hb dX1_table_13 (by decide) (fun b13 => ?_) (fun b13 => ?_)
    · refine lv_aload_n hx hb dX1_table_18 rfl (lv_at hl 0 rfl) ?_
      refine lv_aload_n hx hb dX1_table_19 rfl (lv_at hl 0 rfl) ?_
      refine g_getr CF hK hM2 60 (hL.2.1.1 60 _ rfl) 5 5 rfl rfl (by decide) (Or.inl (hts _ q291)) (fun _ h => h) rfl (G.2.2 5) (hL.2.1.2.1 5 5 rfl) dX1_table_20 ?_
      refine lv_iload_n hx hb dX1_table_23 rfl (lv_at hl 2 rfl) ?_
      refine g_callv hM2 hA (g_runV (As := [.ref (G.2.2 5), .int (jI c1)]) (rest := []) CF hK hM2 (hL.2.1.1 60 _ rfl) rfl (l_send5 l E _ _ _ ρ (mEnt (mNow ρ) c1) c1 hL (mEntN_same ρ c1) (mBy_nowE hO.s c1) lk5_now (by first | omega | assumption | (refine ⟨?_, ?_⟩ <;> omega))) (cwV 2 hts (lw_V q514 q516 qs3 q60 q517) rfl rfl rfl (by decide +kernel) ⟨Nat.le_of_ble_eq_true rfl, Nat.le_of_ble_eq_true rfl⟩) rfl hl.1 rfl (Nat.le_of_ble_eq_true rfl) dX1_table_24 ⟨Nat.le_of_ble_eq_true rfl, Nat.le_of_ble_eq_true rfl⟩) (fun H locs hM3 => ?_)
      refine lv_aload_n hx hb dX1_table_27 rfl (lv_at hl 0 rfl) ?_
      refine g_getr CF hK hM3 60 (hL.2.1.1 60 _ rfl) 9 9 rfl rfl (by decide) (Or.inl (hts _ q295)) (fun _ h => h) rfl (G.2.2 9) (hL.2.1.2.1 9 9 rfl) dX1_table_28 ?_
      refine lv_iload_n hx hb dX1_table_31 rfl (lv_at hl 1 rfl) ?_
      refine g_iald CF hK hM3 9 (hL.2.1.1 9 _ rfl) (i := r1) (by omega) (by omega) (by omega) dX1_table_32 ?_
      exact g_iret CF hr hlocks hM3 (lPo_i (by rw [oTable_in ⟨b5, b13⟩]; exact (lSend (κ := mNow ρ) hn rfl rfl rfl r1 (by omega) (by omega)).symm) (by have hk := ok_table hO r1 c1; rw [oTable_in ⟨b5, b13⟩] at hk ⊢; exact (hL.uT (by unfold lgT; omega) (by decide)).rho hk (lgE.s3 (mTab_same ρ c1)))) (by decide) (by decide) dX1_table_33
    · refine lv_iconst (v := jI (-1)) hx hb dX1_table_16 rfl ?_
      exact g_iret CF hr hlocks hM2 (lPo_i (by unfold oTable; rw [if_pos (fun q => by first | exact b5 q.1 | exact b13 q.2)]) (by unfold oTable; rw [if_pos (fun q => by first | exact b5 q.1 | exact b13 q.2)]; exact hL)) (by decide) (by decide) dX1_table_17
set_option maxHeartbeats 400000 in
theorem l_cell (l : Launch) (E : y_E) (G : y_G) (σ : y_S) (sz : Nat) (ρ : y_S) (l1 : Int) (i : Int) (wh : Int) (hL : lgR E ρ G σ) (hl1 : R32 l1) (hi : R32 i) (hwh : R32 wh) : gCt l yX1_cell cX1_cell 5 (some .int) ({ frames := 5, cells := 0, slots := 0, locals := 110 }) E [.ref (G.2.2 60), .int (jI l1), .int (jI i), .int (jI wh)] G σ sz (lPo E (oCell ρ l1 i wh)) 0 0 := by
  refine g_met (by decide) (Nat.le_of_ble_eq_true rfl) ?_
  intro p e s m below meth c ls CF hr hlocks hnm hK hM0 hA hl
  have hx := CF.1
  have hb := CF.2.1
  have hts := CF.2.2.2.2
  have hl : lv_has ls 5 [(0, .ref (G.2.2 60)), (1, .int (jI l1)), (2, .int (jI i)), (3, .int (jI wh))] := hl
  obtain ⟨hO, hS, ⟨hm1, hm2, hm3, hm4, hm5⟩, hX, hD, hZ⟩ := id hL
  have hn := hO.n
  refine lv_aload_n hx hb dX1_cell_0 rfl (lv_at hl 0 rfl) ?_
  refine lv_iload_n hx hb dX1_cell_1 rfl (lv_at hl 1 rfl) ?_
  refine lv_iload_n hx hb dX1_cell_2 rfl (lv_at hl 2 rfl) ?_
  refine g_callc hM0 hA (g_runV (As := [.int (jI l1), .int (jI i)]) (rest := []) CF hK hM0 (hL.2.1.1 60 _ rfl) rfl (l_cellAt l E _ _ _ ρ l1 i hL (by first | omega | assumption | (refine ⟨?_, ?_⟩ <;> omega)) (by first | omega | assumption | (refine ⟨?_, ?_⟩ <;> omega))) (cwV 2 hts (lw_V q393 q395 qs0 q60 q396) rfl rfl rfl (by decide +kernel) ⟨Nat.le_of_ble_eq_true rfl, Nat.le_of_ble_eq_true rfl⟩) rfl hl.1 rfl (Nat.le_of_ble_eq_true rfl) dX1_cell_3 ⟨Nat.le_of_ble_eq_true rfl, Nat.le_of_ble_eq_true rfl⟩) (fun hCe H locs hM1 => ?_) (fun hCe H locs hM1 => ?_)
  · refine lv_astore (lv' := [(4, .ref (G.2.2 (cT l1 i))), (0, .ref (G.2.2 60)), (1, .int (jI l1)), (2, .int (jI i)), (3, .int (jI wh))]) hx hb dX1_cell_6 hl (by decide) rfl (fun ls hl => ?_)
    refine lv_aload hx hb dX1_cell_8 (lv_at hl 0 rfl) ?_
    refine lv_ifnonnull (tgt := 15) hx hb dX1_cell_10 (by decide) ?_
    have hc5 := hm5 l1 i hCe
    have hx5 := cell_ix hCe hn.2
    have hpl := hO.p (6 * l1 + i) (by omega) (by omega)
    have hst := hO.s (6 * l1 + i) (by omega) (by omega)
    refine lv_iload_n hx hb dX1_cell_15 rfl (lv_at hl 4 rfl) ?_
    rcases (by omega : wh = 0 ∨ wh = 1 ∨ wh = 2 ∨ wh = 3 ∨ wh = 4 ∨ (wh < 0 ∨ 4 < wh)) with h16 | h16 | h16 | h16 | h16 | h16
    · refine x_tabIn (v := 0) (off := 36) (tgt := 52) hx hb dX1_cell_16 h16 (by decide) (by decide) (by decide) (by decide) (by decide) ?_
      refine lv_aload hx hb dX1_cell_52 (lv_at hl 0 rfl) ?_
      refine g_geti CF hK hM1 (cT l1 i) (hL.2.1.1 _ _ (lKd_c hL.1.n.2 hCe)) 2 2 rfl rfl (by decide) (gLk.n hK q256) (fun _ h => h) rfl dX1_cell_54 ?_
      exact g_iret CF hr hlocks hM1 (lPo_i (by unfold oCell; rw [if_neg (fun q => q hCe)]; show (if wh = 0 then _ else _) = _; rw [if_pos h16]; exact hc5.2.2.1.symm) (hL.rho (ok_cell hO l1 i wh) (by unfold oCell; rw [if_neg (fun q => q hCe)]; exact lgE.s3 (mNow_same ρ)))) (by decide) (by decide) dX1_cell_57
    · refine x_tabIn (v := 1) (off := 42) (tgt := 58) hx hb dX1_cell_16 h16 (by decide) (by decide) (by decide) (by decide) (by decide) ?_
      refine lv_aload hx hb dX1_cell_58 (lv_at hl 0 rfl) ?_
      refine g_geti CF hK hM1 (cT l1 i) (hL.2.1.1 _ _ (lKd_c hL.1.n.2 hCe)) 3 3 rfl rfl (by decide) (gLk.n hK q259) (fun _ h => h) rfl dX1_cell_60 ?_
      exact g_iret CF hr hlocks hM1 (lPo_i (by unfold oCell; rw [if_neg (fun q => q hCe)]; show (if wh = 0 then _ else if wh = 1 then _ else _) = _; rw [if_neg (by omega), if_pos h16]; exact hc5.2.2.2.1.symm) (hL.rho (ok_cell hO l1 i wh) (by unfold oCell; rw [if_neg (fun q => q hCe)]; exact lgE.s3 (mNow_same ρ)))) (by decide) (by decide) dX1_cell_63
    · refine x_tabIn (v := 2) (off := 48) (tgt := 64) hx hb dX1_cell_16 h16 (by decide) (by decide) (by decide) (by decide) (by decide) ?_
      refine lv_aload hx hb dX1_cell_64 (lv_at hl 0 rfl) ?_
      refine g_calli (r := if ρ 4 (6 * l1 + i) ≠ -1 then ρ 4 (6 * l1 + i) else ρ 3 (6 * l1 + i)) hM1 hA (g_runV (As := []) (rest := []) CF hK hM1 (hL.2.1.1 _ _ (lKd_c hL.1.n.2 hCe)) rfl (l_does l E _ _ _ ρ l1 i  hL (by first | omega | assumption | (refine ⟨?_, ?_⟩ <;> omega))) (cwV 0 hts (lw_V q420 q421 q422 q71 q423) rfl rfl rfl (by decide +kernel) ⟨Nat.le_of_ble_eq_true rfl, Nat.le_of_ble_eq_true rfl⟩) rfl hl.1 rfl (Nat.le_of_ble_eq_true rfl) dX1_cell_66 ⟨Nat.le_of_ble_eq_true rfl, Nat.le_of_ble_eq_true rfl⟩) (fun H locs hM2 => ?_)
      have hdo : 0 ≤ (if ρ 4 (6 * l1 + i) ≠ -1 then ρ 4 (6 * l1 + i) else ρ 3 (6 * l1 + i)) ∧ (if ρ 4 (6 * l1 + i) ≠ -1 then ρ 4 (6 * l1 + i) else ρ 3 (6 * l1 + i)) ≤ 95 := (by split <;> omega)
      refine g_calli (r := if (if ρ 4 (6 * l1 + i) ≠ -1 then ρ 4 (6 * l1 + i) else ρ 3 (6 * l1 + i)) < 96 - (if ρ 4 (6 * l1 + i) ≠ -1 then ρ 4 (6 * l1 + i) else ρ 3 (6 * l1 + i)) then (if ρ 4 (6 * l1 + i) ≠ -1 then ρ 4 (6 * l1 + i) else ρ 3 (6 * l1 + i)) else 96 - (if ρ 4 (6 * l1 + i) ≠ -1 then ρ 4 (6 * l1 + i) else ρ 3 (6 * l1 + i))) hM2 hA (g_runS (As := [.int (jI (if ρ 4 (6 * l1 + i) ≠ -1 then ρ 4 (6 * l1 + i) else ρ 3 (6 * l1 + i)))]) (rest := []) CF hK hM2 (l_heat l E _ _ _  (if ρ 4 (6 * l1 + i) ≠ -1 then ρ 4 (6 * l1 + i) else ρ 3 (6 * l1 + i)) (by first | omega | assumption | (refine ⟨?_, ?_⟩ <;> omega)) (by first | omega | assumption | (refine ⟨?_, ?_⟩ <;> omega))) (va_cwS 1 hts (lw_S q425 q426 q60 q427) rfl rfl rfl (by decide +kernel) ⟨Nat.le_of_ble_eq_true rfl, Nat.le_of_ble_eq_true rfl⟩) rfl hl.1 rfl (Nat.le_of_ble_eq_true rfl) dX1_cell_69 ⟨Nat.le_of_ble_eq_true rfl, Nat.le_of_ble_eq_true rfl⟩) (fun H locs hM3 => ?_)
      exact g_iret CF hr hlocks hM3 (lPo_i (by unfold oCell; rw [if_neg (fun q => q hCe)]; show (if wh = 0 then _ else if wh = 1 then _ else if wh = 2 then _ else _) = _; rw [if_neg (by omega), if_neg (by omega), if_pos h16]; exact mHe_now hn hCe (by omega)) (hL.rho (ok_cell hO l1 i wh) (by unfold oCell; rw [if_neg (fun q => q hCe)]; exact lgE.s3 (mNow_same ρ)))) (by decide) (by decide) dX1_cell_72
    · refine x_tabIn (v := 3) (off := 57) (tgt := 73) hx hb dX1_cell_16 h16 (by decide) (by decide) (by decide) (by decide) (by decide) ?_
      refine lv_aload_n hx hb dX1_cell_73 rfl (lv_at hl 1 rfl) ?_
      refine g_getr CF hK hM1 60 (hL.2.1.1 60 _ rfl) 6 6 rfl rfl (by decide) (Or.inl (hts _ q292)) (fun _ h => h) rfl (G.2.2 6) (hL.2.1.2.1 6 6 rfl) dX1_cell_74 ?_
      refine lv_aload hx hb dX1_cell_77 (lv_at hl 0 rfl) ?_
      refine g_calli (r := mTf (mNow ρ) 1 l1 i) hM1 hA (g_runU (As := [.ref (G.2.2 (cT l1 i))]) (rest := []) CF hK hM1 (hL.2.1.1 6 _ rfl) rfl (l_lturn6 l E _ _ _ ρ (mNow ρ) l1 i  hL (by first | omega | assumption | (refine ⟨?_, ?_⟩ <;> omega)) (mNow_same ρ) (mBy_now hO.s) lk6_now0) (g_cu 1 hts q431 q432 (va_Decl.abs (hK.2.2.1 _ q433 rfl)) (hts _ q435) q436 q62 q437 rfl rfl (by decide +kernel) ⟨Nat.le_of_ble_eq_true rfl, Nat.le_of_ble_eq_true rfl⟩) rfl hl.1 rfl (Nat.le_of_ble_eq_true rfl) dX1_cell_79 ⟨Nat.le_of_ble_eq_true rfl, Nat.le_of_ble_eq_true rfl⟩) (fun H locs hM4 => ?_)
      exact g_iret CF hr hlocks hM4 (lPo_i (by unfold oCell; rw [if_neg (fun q => q hCe)]; show (if wh = 0 then _ else if wh = 1 then _ else if wh = 2 then _ else if wh = 3 then _ else _) = _; rw [if_neg (by omega), if_neg (by omega), if_neg (by omega), if_pos h16]; rfl) (hL.rho (ok_cell hO l1 i wh) (by unfold oCell; rw [if_neg (fun q => q hCe)]; exact lgE.s3 (mNow_same ρ)))) (by decide) (by decide) dX1_cell_82
    · refine x_tabIn (v := 4) (off := 67) (tgt := 83) hx hb dX1_cell_16 h16 (by decide) (by decide) (by decide) (by decide) (by decide) ?_
      refine lv_aload hx hb dX1_cell_83 (lv_at hl 0 rfl) ?_
      refine g_geti CF hK hM1 (cT l1 i) (hL.2.1.1 _ _ (lKd_c hL.1.n.2 hCe)) 5 5 rfl rfl (by decide) (gLk.n hK q263) (fun _ h => h) rfl dX1_cell_85 ?_
      exact g_iret CF hr hlocks hM1 (lPo_i (by unfold oCell; rw [if_neg (fun q => q hCe)]; show (if wh = 0 then _ else if wh = 1 then _ else if wh = 2 then _ else if wh = 3 then _ else if wh = 4 then _ else _) = _; rw [if_neg (by omega), if_neg (by omega), if_neg (by omega), if_neg (by omega), if_pos h16]; exact hc5.2.2.2.2.2.symm) (hL.rho (ok_cell hO l1 i wh) (by unfold oCell; rw [if_neg (fun q => q hCe)]; exact lgE.s3 (mNow_same ρ)))) (by decide) (by decide) dX1_cell_88
    · refine x_tabOut (tgt := 89) hx hb dX1_cell_16 (by omega) h16 (by decide) ?_
      refine lv_iconst (v := jI (-1)) hx hb dX1_cell_89 rfl ?_
      exact g_iret CF hr hlocks hM1 (lPo_i (by unfold oCell; rw [if_neg (fun q => q hCe)]; show (if wh = 0 then _ else if wh = 1 then _ else if wh = 2 then _ else if wh = 3 then _ else if wh = 4 then _ else _) = _; rw [if_neg (by omega), if_neg (by omega), if_neg (by omega), if_neg (by omega), if_neg (by omega)]; skip) (hL.rho (ok_cell hO l1 i wh) (by unfold oCell; rw [if_neg (fun q => q hCe)]; exact lgE.s3 (mNow_same ρ)))) (by decide) (by decide) dX1_cell_90
  · refine lv_astoreN (lv' := [(4, .null), (0, .ref (G.2.2 60)), (1, .int (jI l1)), (2, .int (jI i)), (3, .int (jI wh))]) hx hb dX1_cell_6 hl (by decide) rfl (fun ls hl => ?_)
    refine lv_aloadN hx hb dX1_cell_8 (lv_at hl 0 rfl) ?_
    refine lv_ifnonnullN hx hb dX1_cell_10 ?_
    refine lv_iconst (v := jI (-1)) hx hb dX1_cell_13 rfl ?_
    exact g_iret CF hr hlocks hM1 (lPo_i (by unfold oCell; rw [if_pos hCe]) (by unfold oCell; rw [if_pos hCe]; exact hL)) (by decide) (by decide) dX1_cell_14
set_option maxHeartbeats 400000 in
theorem l_step (l : Launch) (E : y_E) (G : y_G) (σ : y_S) (sz : Nat) (ρ : y_S) (i : Int) (wh : Int) (hL : lgR E ρ G σ) (hi : R32 i) (hwh : R32 wh) : gCt l yX1_step cX1_step 3 (some .int) ({ frames := 2, cells := 0, slots := 0, locals := 43 }) E [.ref (G.2.2 60), .int (jI i), .int (jI wh)] G σ sz (lPo E (oStep ρ i wh)) 0 0 := by
  refine g_met (by decide) (Nat.le_of_ble_eq_true rfl) ?_
  intro p e s m below meth c ls CF hr hlocks hnm hK hM0 hA hl
  have hx := CF.1
  have hb := CF.2.1
  have hts := CF.2.2.2.2
  have hl : lv_has ls 3 [(0, .ref (G.2.2 60)), (1, .int (jI i)), (2, .int (jI wh))] := hl
  obtain ⟨hO, hS, ⟨hm1, hm2, hm3, hm4, hm5⟩, hX, hD, hZ⟩ := id hL
  have hn := hO.n
  obtain ⟨hx1, ⟨hx2, hx3, hx4⟩, hx5, hx6, ⟨hx7, hx8⟩, hx9⟩ := id hX
  have hst := hO.st
  have hwk := hO.wk
  have h1718 := hO.2.1.2.2.2.2.2.2.2.2.2.2
  refine lv_aload_n hx hb dX1_step_0 rfl (lv_at hl 0 rfl) ?_
  refine g_geti CF hK hM0 60 (hL.2.1.1 60 _ rfl) 17 17 rfl rfl (by decide) (Or.inl (hts _ q303)) (fun _ h => h) rfl dX1_step_1 ?_
  refine x_top (b := ρ 60 17) hx3 ?_
  refine x_if_eq (tgt := 16) hx hb dX1_step_4 (by decide) (by omega) (fun b4 => ?_) (fun b4 => ?_)
  · refine lv_iconst (v := jI (-1)) hx hb dX1_step_16 rfl ?_
    exact g_iret CF hr hlocks hM0 (lPo_i (by unfold oStep; rw [if_pos (by omega)]) hL) (by decide) (by decide) dX1_step_17
  · refine lv_iload_n hx hb dX1_step_7 rfl (lv_at hl 2 rfl) ?_
    refine lv_iconst (v := jI 0) hx hb dX1_step_8 rfl ?_
    refine lv_iconst (v := jI 2) hx hb dX1_step_9 rfl ?_
    refine g_calli (r := (if 0 ≤ wh ∧ wh ≤ 2 then 1 else 0)) hM0 hA (g_runS (As := [.int (jI wh), .int (jI 0), .int (jI 2)]) (rest := []) CF hK hM0 (l_in l E _ _ _  wh 0 2 (by first | omega | assumption | (refine ⟨?_, ?_⟩ <;> omega)) (by first | omega | assumption | (refine ⟨?_, ?_⟩ <;> omega)) (by first | omega | assumption | (refine ⟨?_, ?_⟩ <;> omega))) (va_cwS 3 hts (lw_S q93 q94 q60 q95) rfl rfl rfl (by decide +kernel) ⟨Nat.le_of_ble_eq_true rfl, Nat.le_of_ble_eq_true rfl⟩) rfl hl.1 rfl (Nat.le_of_ble_eq_true rfl) dX1_step_10 ⟨Nat.le_of_ble_eq_true rfl, Nat.le_of_ble_eq_true rfl⟩) (fun H locs hM1 => ?_)
    refine x_bif_ne (tgt := 18) hx hb dX1_step_13 (by decide) (fun b13 => ?_) (fun b13 => ?_)
    · refine lv_iload_n hx hb dX1_step_18 rfl (lv_at hl 2 rfl) ?_
      refine lv_iconst (v := jI 2) hx hb dX1_step_19 rfl ?_
      refine x_icmp_ne (tgt := 50) hx hb dX1_step_20 (by decide) (by omega) (by omega) (fun b20 => ?_) (fun b20 => ?_)
      · refine lv_iload_n hx hb dX1_step_50 rfl (lv_at hl 1 rfl) ?_
        refine lv_iconst (v := jI 0) hx hb dX1_step_51 rfl ?_
        refine lv_aload_n hx hb dX1_step_52 rfl (lv_at hl 0 rfl) ?_
        refine g_geti CF hK hM1 60 (hL.2.1.1 60 _ rfl) 15 15 rfl rfl (by decide) (Or.inl (hts _ q301)) (fun _ h => h) rfl dX1_step_53 ?_
        refine x_top (b := ρ 60 16) hx2 ?_
        refine lv_iconst (v := jI 1) hx hb dX1_step_56 rfl ?_
        refine x_isub hx hb dX1_step_57 ?_
        refine g_calli (r := (if 0 ≤ i ∧ i ≤ ((ρ 60 16) - 1) then 1 else 0)) hM1 hA (g_runS (As := [.int (jI i), .int (jI 0), .int (jI ((ρ 60 16) - 1))]) (rest := []) CF hK hM1 (l_in l E _ _ _  i 0 ((ρ 60 16) - 1) (by first | omega | assumption | (refine ⟨?_, ?_⟩ <;> omega)) (by first | omega | assumption | (refine ⟨?_, ?_⟩ <;> omega)) (by first | omega | assumption | (refine ⟨?_, ?_⟩ <;> omega))) (va_cwS 3 hts (lw_S q93 q94 q60 q95) rfl rfl rfl (by decide +kernel) ⟨Nat.le_of_ble_eq_true rfl, Nat.le_of_ble_eq_true rfl⟩) rfl hl.1 rfl (Nat.le_of_ble_eq_true rfl) dX1_step_58 ⟨Nat.le_of_ble_eq_true rfl, Nat.le_of_ble_eq_true rfl⟩) (fun H locs hM2 => ?_)
        refine x_bif_ne (tgt := 68) hx hb dX1_step_61 (by decide) (fun b61 => ?_) (fun b61 => ?_)
        · refine lv_iload_n hx hb dX1_step_68 rfl (lv_at hl 2 rfl) ?_
          refine x_if_ne (tgt := 81) hx hb dX1_step_69 (by decide) (by omega) (fun b69 => ?_) (fun b69 => ?_)
          · refine lv_aload_n hx hb dX1_step_81 rfl (lv_at hl 0 rfl) ?_
            refine g_getr CF hK hM2 60 (hL.2.1.1 60 _ rfl) 13 13 rfl rfl (by decide) (Or.inl (hts _ q299)) (fun _ h => h) rfl (G.2.2 13) (hL.2.1.2.1 13 13 rfl) dX1_step_82 ?_
            refine lv_iload_n hx hb dX1_step_85 rfl (lv_at hl 1 rfl) ?_
            refine g_iald CF hK hM2 13 (hL.2.1.1 13 _ rfl) (i := i) (by omega) (by omega) (by omega) dX1_step_86 ?_
            exact g_iret CF hr hlocks hM2 (lPo_i (by unfold oStep; rw [if_neg (by omega), if_neg (by omega)]; first | rw [if_pos b61] | (rw [if_neg (fun q => q b61)]; first | (rw [if_pos (by omega)]; exact (hx5 i (by omega) (by omega)).1.symm) | (rw [if_neg (by omega)]; exact (hx5 i (by omega) (by omega)).2.symm))) hL) (by decide) (by decide) dX1_step_87
          · refine lv_aload_n hx hb dX1_step_72 rfl (lv_at hl 0 rfl) ?_
            refine g_getr CF hK hM2 60 (hL.2.1.1 60 _ rfl) 12 12 rfl rfl (by decide) (Or.inl (hts _ q298)) (fun _ h => h) rfl (G.2.2 12) (hL.2.1.2.1 12 12 rfl) dX1_step_73 ?_
            refine lv_iload_n hx hb dX1_step_76 rfl (lv_at hl 1 rfl) ?_
            refine g_iald CF hK hM2 12 (hL.2.1.1 12 _ rfl) (i := i) (by omega) (by omega) (by omega) dX1_step_77 ?_
            refine lv_goto (tgt := 87) hx hb dX1_step_78 (by decide) ?_
            exact g_iret CF hr hlocks hM2 (lPo_i (by unfold oStep; rw [if_neg (by omega), if_neg (by omega)]; first | rw [if_pos b61] | (rw [if_neg (fun q => q b61)]; first | (rw [if_pos (by omega)]; exact (hx5 i (by omega) (by omega)).1.symm) | (rw [if_neg (by omega)]; exact (hx5 i (by omega) (by omega)).2.symm))) hL) (by decide) (by decide) dX1_step_87
        · refine lv_iconst (v := jI (-1)) hx hb dX1_step_64 rfl ?_
          refine lv_goto (tgt := 87) hx hb dX1_step_65 (by decide) ?_
          exact g_iret CF hr hlocks hM2 (lPo_i (by unfold oStep; rw [if_neg (by omega), if_neg (by omega)]; first | rw [if_pos b61] | (rw [if_neg (fun q => q b61)]; first | (rw [if_pos (by omega)]; exact (hx5 i (by omega) (by omega)).1.symm) | (rw [if_neg (by omega)]; exact (hx5 i (by omega) (by omega)).2.symm))) hL) (by decide) (by decide) dX1_step_87
      · refine lv_aload_n hx hb dX1_step_23 rfl (lv_at hl 0 rfl) ?_
        refine lv_iload_n hx hb dX1_step_24 rfl (lv_at hl 1 rfl) ?_
        refine g_calli (r := (if 0 ≤ i ∧ i < ρ 60 0 then 1 else 0)) hM1 hA (g_runV (As := [.int (jI i)]) (rest := []) CF hK hM1 (hL.2.1.1 60 _ rfl) rfl (l_isLane l E _ _ _ ρ i hL (by first | omega | assumption | (refine ⟨?_, ?_⟩ <;> omega))) (cwV 1 hts (lw_V q397 q399 qs1 q60 q400) rfl rfl rfl (by decide +kernel) ⟨Nat.le_of_ble_eq_true rfl, Nat.le_of_ble_eq_true rfl⟩) rfl hl.1 rfl (Nat.le_of_ble_eq_true rfl) dX1_step_25 ⟨Nat.le_of_ble_eq_true rfl, Nat.le_of_ble_eq_true rfl⟩) (fun H locs hM3 => ?_)
        refine x_bif_eq (tgt := 48) hx hb dX1_step_28 (by decide) (fun b28 => ?_) (fun b28 => ?_)
        · refine lv_iconst (v := jI (-1)) hx hb dX1_step_48 rfl ?_
          exact g_iret CF hr hlocks hM3 (lPo_i (by unfold oStep; rw [if_neg (by omega), if_pos (by omega)]; first | (rw [if_pos (by first | exact Or.inr b28 | exact Or.inl (fun q => b36 ((hx4 b4).mpr q)))]) | (rw [if_neg (fun q => Or.elim q (fun z => z ((hx4 b4).mp b36)) (fun z => z b28))]; exact (hx6 i (by omega) (by omega)).symm)) hL) (by decide) (by decide) dX1_step_49
        · refine lv_aload_n hx hb dX1_step_31 rfl (lv_at hl 0 rfl) ?_
          refine g_geti CF hK hM3 60 (hL.2.1.1 60 _ rfl) 16 16 rfl rfl (by decide) (Or.inl (hts _ q302)) (fun _ h => h) rfl dX1_step_32 ?_
          refine lv_iconst (v := jI (-1)) hx hb dX1_step_35 rfl ?_
          have fa4 := hM3.r 60 16
          refine x_icmp_ne (tgt := 48) hx hb dX1_step_36 (by decide) (by have f0 := hM3.r 60 16; omega) (by omega) (fun b36 => ?_) (fun b36 => ?_)
          · refine lv_iconst (v := jI (-1)) hx hb dX1_step_48 rfl ?_
            exact g_iret CF hr hlocks hM3 (lPo_i (by unfold oStep; rw [if_neg (by omega), if_pos (by omega)]; first | (rw [if_pos (by first | exact Or.inr b28 | exact Or.inl (fun q => b36 ((hx4 b4).mpr q)))]) | (rw [if_neg (fun q => Or.elim q (fun z => z ((hx4 b4).mp b36)) (fun z => z b28))]; exact (hx6 i (by omega) (by omega)).symm)) hL) (by decide) (by decide) dX1_step_49
          · refine lv_aload_n hx hb dX1_step_39 rfl (lv_at hl 0 rfl) ?_
            refine g_getr CF hK hM3 60 (hL.2.1.1 60 _ rfl) 14 14 rfl rfl (by decide) (Or.inl (hts _ q300)) (fun _ h => h) rfl (G.2.2 14) (hL.2.1.2.1 14 14 rfl) dX1_step_40 ?_
            refine lv_iload_n hx hb dX1_step_43 rfl (lv_at hl 1 rfl) ?_
            refine g_iald CF hK hM3 14 (hL.2.1.1 14 _ rfl) (i := i) (by omega) (by omega) (by omega) dX1_step_44 ?_
            refine lv_goto (tgt := 49) hx hb dX1_step_45 (by decide) ?_
            exact g_iret CF hr hlocks hM3 (lPo_i (by unfold oStep; rw [if_neg (by omega), if_pos (by omega)]; first | (rw [if_pos (by first | exact Or.inr b28 | exact Or.inl (fun q => b36 ((hx4 b4).mpr q)))]) | (rw [if_neg (fun q => Or.elim q (fun z => z ((hx4 b4).mp b36)) (fun z => z b28))]; exact (hx6 i (by omega) (by omega)).symm)) hL) (by decide) (by decide) dX1_step_49
    · refine lv_iconst (v := jI (-1)) hx hb dX1_step_16 rfl ?_
      exact g_iret CF hr hlocks hM1 (lPo_i (by unfold oStep; rw [if_pos (by omega)]) hL) (by decide) (by decide) dX1_step_17
set_option maxHeartbeats 400000 in
theorem l_work (l : Launch) (E : y_E) (G : y_G) (σ : y_S) (sz : Nat) (ρ : y_S) (i : Int) (wh : Int) (hL : lgR E ρ G σ) (hi : R32 i) (hwh : R32 wh) : gCt l yX1_work cX1_work 3 (some .int) ({ frames := 1, cells := 0, slots := 0, locals := 22 }) E [.ref (G.2.2 60), .int (jI i), .int (jI wh)] G σ sz (lPo E (oWork ρ i wh)) 0 0 := by
  refine g_met (by decide) (Nat.le_of_ble_eq_true rfl) ?_
  intro p e s m below meth c ls CF hr hlocks hnm hK hM0 hA hl
  have hx := CF.1
  have hb := CF.2.1
  have hts := CF.2.2.2.2
  have hl : lv_has ls 3 [(0, .ref (G.2.2 60)), (1, .int (jI i)), (2, .int (jI wh))] := hl
  obtain ⟨hO, hS, ⟨hm1, hm2, hm3, hm4, hm5⟩, hX, hD, hZ⟩ := id hL
  have hn := hO.n
  obtain ⟨hx1, ⟨hx2, hx3, hx4⟩, hx5, hx6, ⟨hx7, hx8⟩, hx9⟩ := id hX
  have hst := hO.st
  have hwk := hO.wk
  have h1718 := hO.2.1.2.2.2.2.2.2.2.2.2.2
  refine lv_iload_n hx hb dX1_work_0 rfl (lv_at hl 1 rfl) ?_
  refine lv_iconst (v := jI 0) hx hb dX1_work_1 rfl ?_
  refine lv_aload_n hx hb dX1_work_2 rfl (lv_at hl 0 rfl) ?_
  refine g_geti CF hK hM0 60 (hL.2.1.1 60 _ rfl) 20 20 rfl rfl (by decide) (Or.inl (hts _ q306)) (fun _ h => h) rfl dX1_work_3 ?_
  refine x_top (b := ρ 60 21) hx7 ?_
  refine lv_iconst (v := jI 1) hx hb dX1_work_6 rfl ?_
  refine x_isub hx hb dX1_work_7 ?_
  refine g_calli (r := (if 0 ≤ i ∧ i ≤ ((ρ 60 21) - 1) then 1 else 0)) hM0 hA (g_runS (As := [.int (jI i), .int (jI 0), .int (jI ((ρ 60 21) - 1))]) (rest := []) CF hK hM0 (l_in l E _ _ _  i 0 ((ρ 60 21) - 1) (by first | omega | assumption | (refine ⟨?_, ?_⟩ <;> omega)) (by first | omega | assumption | (refine ⟨?_, ?_⟩ <;> omega)) (by first | omega | assumption | (refine ⟨?_, ?_⟩ <;> omega))) (va_cwS 3 hts (lw_S q93 q94 q60 q95) rfl rfl rfl (by decide +kernel) ⟨Nat.le_of_ble_eq_true rfl, Nat.le_of_ble_eq_true rfl⟩) rfl hl.1 rfl (Nat.le_of_ble_eq_true rfl) dX1_work_8 ⟨Nat.le_of_ble_eq_true rfl, Nat.le_of_ble_eq_true rfl⟩) (fun H locs hM1 => ?_)
  refine x_bif_eq (tgt := 23) hx hb dX1_work_11 (by decide) (fun b11 => ?_) (fun b11 => ?_)
  · refine lv_iconst (v := jI (-1)) hx hb dX1_work_23 rfl ?_
    refine lv_goto (tgt := 46) hx hb dX1_work_24 (by decide) ?_
    exact g_iret CF hr hlocks hM1 (lPo_i (by unfold oWork; first | rw [if_pos b11] | (rw [if_neg (fun q => q b11)]; first | (rw [if_pos (by omega)]; exact (hx8 i (by omega) (by omega)).1.symm) | (rw [if_neg (by omega), if_pos (by omega)]; exact (hx8 i (by omega) (by omega)).2.symm) | rw [if_neg (by omega), if_neg (by omega)])) hL) (by decide) (by decide) dX1_work_46
  · refine lv_iload_n hx hb dX1_work_14 rfl (lv_at hl 2 rfl) ?_
    refine lv_iconst (v := jI 0) hx hb dX1_work_15 rfl ?_
    refine lv_iconst (v := jI 1) hx hb dX1_work_16 rfl ?_
    refine g_calli (r := (if 0 ≤ wh ∧ wh ≤ 1 then 1 else 0)) hM1 hA (g_runS (As := [.int (jI wh), .int (jI 0), .int (jI 1)]) (rest := []) CF hK hM1 (l_in l E _ _ _  wh 0 1 (by first | omega | assumption | (refine ⟨?_, ?_⟩ <;> omega)) (by first | omega | assumption | (refine ⟨?_, ?_⟩ <;> omega)) (by first | omega | assumption | (refine ⟨?_, ?_⟩ <;> omega))) (va_cwS 3 hts (lw_S q93 q94 q60 q95) rfl rfl rfl (by decide +kernel) ⟨Nat.le_of_ble_eq_true rfl, Nat.le_of_ble_eq_true rfl⟩) rfl hl.1 rfl (Nat.le_of_ble_eq_true rfl) dX1_work_17 ⟨Nat.le_of_ble_eq_true rfl, Nat.le_of_ble_eq_true rfl⟩) (fun H locs hM2 => ?_)
    refine x_bif_ne (tgt := 27) hx hb dX1_work_20 (by decide) (fun b20 => ?_) (fun b20 => ?_)
    · refine lv_iload_n hx hb dX1_work_27 rfl (lv_at hl 2 rfl) ?_
      refine x_if_ne (tgt := 40) hx hb dX1_work_28 (by decide) (by omega) (fun b28 => ?_) (fun b28 => ?_)
      · refine lv_aload_n hx hb dX1_work_40 rfl (lv_at hl 0 rfl) ?_
        refine g_getr CF hK hM2 60 (hL.2.1.1 60 _ rfl) 19 19 rfl rfl (by decide) (Or.inl (hts _ q305)) (fun _ h => h) rfl (G.2.2 19) (hL.2.1.2.1 19 19 rfl) dX1_work_41 ?_
        refine lv_iload_n hx hb dX1_work_44 rfl (lv_at hl 1 rfl) ?_
        refine g_iald CF hK hM2 19 (hL.2.1.1 19 _ rfl) (i := i) (by omega) (by omega) (by omega) dX1_work_45 ?_
        exact g_iret CF hr hlocks hM2 (lPo_i (by unfold oWork; first | rw [if_pos b11] | (rw [if_neg (fun q => q b11)]; first | (rw [if_pos (by omega)]; exact (hx8 i (by omega) (by omega)).1.symm) | (rw [if_neg (by omega), if_pos (by omega)]; exact (hx8 i (by omega) (by omega)).2.symm) | rw [if_neg (by omega), if_neg (by omega)])) hL) (by decide) (by decide) dX1_work_46
      · refine lv_aload_n hx hb dX1_work_31 rfl (lv_at hl 0 rfl) ?_
        refine g_getr CF hK hM2 60 (hL.2.1.1 60 _ rfl) 18 18 rfl rfl (by decide) (Or.inl (hts _ q304)) (fun _ h => h) rfl (G.2.2 18) (hL.2.1.2.1 18 18 rfl) dX1_work_32 ?_
        refine lv_iload_n hx hb dX1_work_35 rfl (lv_at hl 1 rfl) ?_
        refine g_iald CF hK hM2 18 (hL.2.1.1 18 _ rfl) (i := i) (by omega) (by omega) (by omega) dX1_work_36 ?_
        refine lv_goto (tgt := 46) hx hb dX1_work_37 (by decide) ?_
        exact g_iret CF hr hlocks hM2 (lPo_i (by unfold oWork; first | rw [if_pos b11] | (rw [if_neg (fun q => q b11)]; first | (rw [if_pos (by omega)]; exact (hx8 i (by omega) (by omega)).1.symm) | (rw [if_neg (by omega), if_pos (by omega)]; exact (hx8 i (by omega) (by omega)).2.symm) | rw [if_neg (by omega), if_neg (by omega)])) hL) (by decide) (by decide) dX1_work_46
    · refine lv_iconst (v := jI (-1)) hx hb dX1_work_23 rfl ?_
      refine lv_goto (tgt := 46) hx hb dX1_work_24 (by decide) ?_
      exact g_iret CF hr hlocks hM2 (lPo_i (by unfold oWork; first | rw [if_pos b11] | (rw [if_neg (fun q => q b11)]; first | (rw [if_pos (by omega)]; exact (hx8 i (by omega) (by omega)).1.symm) | (rw [if_neg (by omega), if_pos (by omega)]; exact (hx8 i (by omega) (by omega)).2.symm) | rw [if_neg (by omega), if_neg (by omega)])) hL) (by decide) (by decide) dX1_work_46
set_option maxHeartbeats 400000 in
theorem l_adds (l : Launch) (E : y_E) (G : y_G) (σ : y_S) (sz : Nat) (ρ : y_S) (a : Int) (b : Int) (hL : lgR E ρ G σ) (har : R32 a) (hbr : R32 b) (hw0 : 0 ≤ σ 60 20 ∧ σ 60 20 < 10) : gCt l yX1_adds cX1_adds 3 none ({ frames := 2, cells := 0, slots := 0, locals := 42 }) E [.ref (G.2.2 60), .int (jI a), .int (jI b)] G σ sz (gR none G (up2 (up2 (up2 σ 18 (σ 60 20) a) 60 20 (σ 60 20 + 1)) 19 (σ 60 20) (b % 96))) 0 0 := by
  refine g_met (by decide) (Nat.le_of_ble_eq_true rfl) ?_
  intro p e s m below meth c ls CF hr hlocks hnm hK hM0 hA hl
  have hx := CF.1
  have hb := CF.2.1
  have hts := CF.2.2.2.2
  have hl : lv_has ls 3 [(0, .ref (G.2.2 60)), (1, .int (jI a)), (2, .int (jI b))] := hl
  refine lv_aload_n hx hb dX1_adds_0 rfl (lv_at hl 0 rfl) ?_
  refine g_getr CF hK hM0 60 (hL.2.1.1 60 _ rfl) 18 18 rfl rfl (by decide) (Or.inl (hts _ q304)) (fun _ h => h) rfl (G.2.2 18) (hL.2.1.2.1 18 18 rfl) dX1_adds_1 ?_
  refine lv_aload_n hx hb dX1_adds_4 rfl (lv_at hl 0 rfl) ?_
  refine g_geti CF hK hM0 60 (hL.2.1.1 60 _ rfl) 20 20 rfl rfl (by decide) (Or.inl (hts _ q306)) (fun _ h => h) rfl dX1_adds_5 ?_
  refine lv_iload_n hx hb dX1_adds_8 rfl (lv_at hl 1 rfl) ?_
  refine g_iast CF hK hM0 18 (by decide) (hL.2.1.1 18 _ rfl) (i := σ 60 20) (v := a) (by have f0 := hM0.r 60 20; omega) (by have f0 := hM0.r 60 20; omega) (by omega) (by omega) dX1_adds_9 (fun H locs hM1 => ?_)
  refine lv_aload_n hx hb dX1_adds_10 rfl (lv_at hl 0 rfl) ?_
  refine g_getr CF hK hM1 60 (hL.2.1.1 60 _ rfl) 19 19 rfl rfl (by decide) (Or.inl (hts _ q305)) (fun _ h => h) rfl (G.2.2 19) (hL.2.1.2.1 19 19 rfl) dX1_adds_11 ?_
  refine lv_aload_n hx hb dX1_adds_14 rfl (lv_at hl 0 rfl) ?_
  refine lv_dup hx hb dX1_adds_15 rfl ?_
  refine g_geti CF hK hM1 60 (hL.2.1.1 60 _ rfl) 20 20 rfl rfl (by decide) (Or.inl (hts _ q306)) (fun _ h => h) rfl dX1_adds_16 ?_
  refine x_top (b := σ 60 20) rfl ?_
  refine lv_dup_x1 hx hb dX1_adds_19 rfl rfl ?_
  refine lv_iconst (v := jI 1) hx hb dX1_adds_20 rfl ?_
  refine x_iadd hx hb dX1_adds_21 ?_
  refine g_puti CF hK hM1 60 (by decide) (hL.2.1.1 60 _ rfl) 20 20 rfl rfl (by decide) (Or.inl (hts _ q306)) (fun _ h => h) (Or.inl rfl) rfl (v := (σ 60 20) + 1) rfl rfl (by have f0 := (show R32 (σ 60 20) from hM1.r 60 20); omega) dX1_adds_22 (fun H locs hM2 => ?_)
  refine lv_iload_n hx hb dX1_adds_25 rfl (lv_at hl 2 rfl) ?_
  refine g_calli (r := b % 96) hM2 hA (g_runS (As := [.int (jI b)]) (rest := [.int (jI (σ 60 20)), .ref (G.2.2 19)]) CF hK hM2 (l_whole l E _ _ _  b (by first | omega | assumption | (refine ⟨?_, ?_⟩ <;> omega))) (va_cwS 1 hts (lw_S q96 q97 q60 q98) rfl rfl rfl (by decide +kernel) ⟨Nat.le_of_ble_eq_true rfl, Nat.le_of_ble_eq_true rfl⟩) rfl hl.1 rfl (Nat.le_of_ble_eq_true rfl) dX1_adds_26 ⟨Nat.le_of_ble_eq_true rfl, Nat.le_of_ble_eq_true rfl⟩) (fun H locs hM3 => ?_)
  refine g_iast CF hK hM3 19 (by decide) (hL.2.1.1 19 _ rfl) (i := σ 60 20) (v := b % 96) (by have f0 := (show R32 (σ 60 20) from hM1.r 60 20); omega) (by have f0 := (show R32 (σ 60 20) from hM1.r 60 20); omega) (by omega) (by omega) dX1_adds_29 (fun H locs hM4 => ?_)
  exact g_vret CF hr hlocks hM4 (g_pv rfl) (by decide) (by decide) dX1_adds_30
set_option maxHeartbeats 400000 in
theorem l_turnFor (l : Launch) (E : y_E) (G : y_G) (σ : y_S) (sz : Nat) (ρ : y_S) (x : Int) (y : Int) (hL : lgR E ρ G σ) (hx0 : 0 ≤ x) (hx1 : x ≤ 96) (hy0 : 0 ≤ y) (hy1 : y ≤ 96) : gCt l yX1_turnFor cX1_turnFor 4 (some .int) ({ frames := 2, cells := 0, slots := 0, locals := 46 }) E [.ref (G.2.2 60), .int (jI x), .int (jI y)] G σ sz (gR (some (.int (jI (if mClr ρ x y = 96 then -1 else mClr ρ x y)))) G σ) 0 0 := by
  refine g_met (by decide) (Nat.le_of_ble_eq_true rfl) ?_
  intro p e s m below meth c ls CF hr hlocks hnm hK hM0 hA hl
  have hx := CF.1
  have hb := CF.2.1
  have hts := CF.2.2.2.2
  have hl : lv_has ls 4 [(0, .ref (G.2.2 60)), (1, .int (jI x)), (2, .int (jI y))] := hl
  obtain ⟨hO, hS, ⟨hm1, hm2, hm3, hm4, hm5⟩, hX, hD, hZ⟩ := id hL
  have hn := hO.n
  refine lv_iconst (v := jI 0) hx hb dX1_turnFor_0 rfl ?_
  refine lv_istore_n (lv' := [(3, .int (jI 0)), (0, .ref (G.2.2 60)), (1, .int (jI x)), (2, .int (jI y))]) hx hb dX1_turnFor_1 rfl hl (by decide) rfl (fun ls hl => ?_)
  have c2 : ∀ (n2 : Nat) (k : Int) (f : Nat) (H : Heap) (locs : List Loc) (ls : Array Slot), (0 ≤ k) → (k ≤ 96) → (96 ≤ (f : Int) + k) → (clr (ρ 1) (ρ 2) x y f k = mClr ρ x y) → ((96 - k).toNat < n2) → gM E (gA G sz) G σ s.heap H locs → lv_has ls 4 [(0, .ref (G.2.2 60)), (1, .int (jI x)), (2, .int (jI y)), (3, .int (jI k))] → W p l e ({ frames := 2, cells := 0, slots := 0, locals := 46 } : Room) s m ([.ref (G.2.2 60), .int (jI x), .int (jI y)] : List Value).toArray below meth c H locs 0 0 (MQ below (gQ E G sz (gR (some (.int (jI (if mClr ρ x y = 96 then -1 else mClr ρ x y)))) G σ)) ([.ref (G.2.2 60), .int (jI x), .int (jI y)] : List Value).toArray s 0 0 (gA G sz)) (F0 m 2 ls []) := by
    intro n2
    induction n2 with
    | zero => intro k f H locs ls hk0 hk1 hf hg hmu; exact absurd hmu (Nat.not_lt_zero _)
    | succ n2 ih2 =>
      intro k f H locs ls hk0 hk1 hf hg hmu2 hM1 hl
      refine lv_iload_n hx hb dX1_turnFor_2 rfl (lv_at hl 3 rfl) ?_
      refine lv_bipush (v := jI 96) hx hb dX1_turnFor_3 (by decide) ?_
      refine x_icmp_ge (tgt := 43) hx hb dX1_turnFor_5 (by decide) (by omega) (by omega) (fun b5 => ?_) (fun b5 => ?_)
      · refine lv_iconst (v := jI (-1)) hx hb dX1_turnFor_43 rfl ?_
        exact g_iret CF hr hlocks hM1 (g_pi (by rw [← hg, clr_e (by omega), if_pos (by omega)])) (by decide) (by decide) dX1_turnFor_44
      · obtain ⟨f', rfl⟩ : ∃ z : Nat, f = z + 1 := ⟨f - 1, by omega⟩
        have hcs := hm4 k (by omega) (by omega)
        have a1 := hO.t k (by omega) (by omega)
        have m1 := mul96 a1.2 ⟨hx0, hx1⟩
        have m2 := mul96 a1.1 ⟨hy0, hy1⟩
        refine lv_aload_n hx hb dX1_turnFor_8 rfl (lv_at hl 0 rfl) ?_
        refine g_getr CF hK hM1 60 (hL.2.1.1 60 _ rfl) 1 1 rfl rfl (by decide) (Or.inl (hts _ q281)) (fun _ h => h) rfl (G.2.2 1) (hL.2.1.2.1 1 1 rfl) dX1_turnFor_9 ?_
        refine lv_iload_n hx hb dX1_turnFor_12 rfl (lv_at hl 3 rfl) ?_
        refine g_iald CF hK hM1 1 (hL.2.1.1 1 _ rfl) (i := k) (by omega) (by omega) (by omega) dX1_turnFor_13 ?_
        refine x_top (b := ρ 2 k) hcs.2 ?_
        refine x_i2l hx hb dX1_turnFor_14 (by omega) ?_
        refine lv_iload_n hx hb dX1_turnFor_15 rfl (lv_at hl 1 rfl) ?_
        refine x_i2l hx hb dX1_turnFor_16 (by omega) ?_
        refine x_lmul hx hb dX1_turnFor_17 ?_
        refine lv_aload_n hx hb dX1_turnFor_18 rfl (lv_at hl 0 rfl) ?_
        refine g_getr CF hK hM1 60 (hL.2.1.1 60 _ rfl) 0 0 rfl rfl (by decide) (Or.inl (hts _ q280)) (fun _ h => h) rfl (G.2.2 61) (hL.2.1.2.1 0 61 rfl) dX1_turnFor_19 ?_
        refine lv_iload_n hx hb dX1_turnFor_22 rfl (lv_at hl 3 rfl) ?_
        refine g_iald CF hK hM1 61 (hL.2.1.1 61 _ rfl) (i := k) (by omega) (by omega) (by omega) dX1_turnFor_23 ?_
        refine x_top (b := ρ 1 k) hcs.1 ?_
        refine x_i2l hx hb dX1_turnFor_24 (by omega) ?_
        refine lv_iload_n hx hb dX1_turnFor_25 rfl (lv_at hl 2 rfl) ?_
        refine x_i2l hx hb dX1_turnFor_26 (by omega) ?_
        refine x_lmul hx hb dX1_turnFor_27 ?_
        refine x_ladd hx hb dX1_turnFor_28 ?_
        refine g_calli (r := (((ρ 2 k) * x) + ((ρ 1 k) * y)) % 97) hM1 hA (g_runS (As := [.long (jL (((ρ 2 k) * x) + ((ρ 1 k) * y)))]) (rest := []) CF hK hM1 (l_part l E _ _ _  (((ρ 2 k) * x) + ((ρ 1 k) * y)) (by first | omega | assumption | (refine ⟨?_, ?_⟩ <;> omega))) (va_cwS 1 hts (lw_S q112 q113 q60 q114) rfl rfl rfl (by decide +kernel) ⟨Nat.le_of_ble_eq_true rfl, Nat.le_of_ble_eq_true rfl⟩) rfl hl.1 rfl (Nat.le_of_ble_eq_true rfl) dX1_turnFor_29 ⟨Nat.le_of_ble_eq_true rfl, Nat.le_of_ble_eq_true rfl⟩) (fun H locs hM2 => ?_)
        refine x_if_ne (tgt := 37) hx hb dX1_turnFor_32 (by decide) (by omega) (fun b32 => ?_) (fun b32 => ?_)
        · refine x_iinc (lv' := [(3, .int (jI (k + 1))), (0, .ref (G.2.2 60)), (1, .int (jI x)), (2, .int (jI y))]) hx hb dX1_turnFor_37 hl (k := 3) rfl (by decide) rfl (fun ls hl => ?_)
          refine lv_goto (tgt := 2) hx hb dX1_turnFor_40 (by decide) ?_
          exact ih2  (k + 1) f' _ _ _ (by first | omega | assumption | rfl) (by first | omega | assumption | rfl) (by first | omega | assumption | rfl) (by rw [← hg, clr_s (by omega) b32]) (by omega) hM2 (lv_sub hl [1, 2, 3, 0] rfl)
        · refine lv_iload_n hx hb dX1_turnFor_35 rfl (lv_at hl 3 rfl) ?_
          exact g_iret CF hr hlocks hM2 (g_pi (by rw [← hg, clr_e (fun q => q.2 b32), if_neg (by omega)])) (by decide) (by decide) dX1_turnFor_36
  exact c2 _ 0 96 _ _ _ (by first | omega | assumption | rfl) (by first | omega | assumption | rfl) (by first | omega | assumption | rfl) rfl (Nat.lt_succ_self _) hM0 (lv_sub hl [1, 2, 3, 0] rfl)
