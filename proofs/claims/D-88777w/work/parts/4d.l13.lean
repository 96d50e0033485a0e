theorem hlF_p {f : Int → Int} {N : Int} : ∀ (q : Nat) (h n : Int), 0 ≤ h → 0 ≤ n → 0 ≤ hlF f (-1) N q h n
  | 0, h, n, h0, n0 => by rw [hlF, if_pos rfl]; exact n0
  | q + 1, h, n, h0, n0 => by
    rw [hlF]
    split
    · split
      · exact hlF_p q _ _ (by omega) n0
      · split
        · exact h0
        · exact hlF_p q _ _ (by omega) (by omega)
    · rw [if_pos rfl]; exact n0
theorem oHeld_c (ρ : y_S) : (ρ 60 50 = 0 ∨ (oHeld ρ (-1)).1 = 0) ↔ (oHeld ρ (-1)).1 ≤ 0 := by
  have := hlF_p (f := ρ 46) (N := ρ 60 48) 289 0 0 (by decide) (by decide)
  unfold oHeld
  show (ρ 60 50 = 0 ∨ (if ρ 60 50 = 0 then _ else _) = _) ↔ (if ρ 60 50 = 0 then _ else _) ≤ _
  split <;> omega
theorem nx_same {ρ : y_S} (h : mOk ρ) : ∀ (f : Nat) (j be le : Int) (σ : y_S), mSame [8, 9, 10, 51] ρ σ → 0 ≤ j → mSame [8, 9, 10, 51] ρ (nxJ f j be le σ).2.2
  | 0, _, _, _, _, hs, _ => hs
  | f + 1, j, be, le, σ, hs, hj => by
    rw [nxJ]
    split
    · refine nx_same h f _ _ _ _ ?_ (by omega)
      have hm : ∀ (g : Nat) (i be le : Int) (σ : y_S), mSame [8, 9, 10, 51] ρ σ → 0 ≤ i → mSame [8, 9, 10, 51] ρ (nxM j g i be le σ).2.2 := by
        intro g
        induction g with
        | zero => intro i be le σ hs _; exact hs
        | succ g ih =>
          intro i be le σ hs hi
          rw [nxM]
          split
          · rename_i h1
            obtain ⟨mo, τ, e, -, ht⟩ := nx0_mx h hs (j := j) hi (by rw [hs 60 (by decide)] at h1; exact h1)
            rw [e]
            split
            · exact ih _ _ _ _ ht (by omega)
            · exact ih _ _ _ _ ht (by omega)
          · exact hs
      exact hm 6 0 be le σ hs (by decide)
    · exact hs
set_option maxHeartbeats 2000000 in
theorem l_next (l : Launch) (E : y_E) (G : y_G) (σ : y_S) (sz : Nat) (ρ : y_S) (hL : lgR E ρ G σ) : gCt l yX1_next cX1_next 8 (some .int) ({ frames := 9, cells := 0, slots := 0, locals := 203 }) E [.ref (G.2.2 60)] G σ sz (lPo E (oNext ρ)) 0 0 := by
  refine g_met (by decide) (Nat.le_of_ble_eq_true rfl) ?_
  intro p e s m below meth c ls CF hr hlocks hnm hK hM0 hA hl
  have hx := CF.1
  have hb := CF.2.1
  have hts := CF.2.2.2.2
  have hl : lv_has ls 8 [(0, .ref (G.2.2 60))] := hl
  obtain ⟨hO, hS, ⟨hm1, hm2, hm3, hm4, hm5⟩, hX, hD, hZ⟩ := id hL
  have hn := hO.n
  have hh := hO.h48
  have h50 := hO.2.1.2.2.2.2.2.2.2.2.2.1
  have hhr := oHeld_r ρ
  have hcd0 := oHeld_c ρ
  refine lv_aload_n hx hb dX1_next_0 rfl (lv_at hl 0 rfl) ?_
  refine lv_iconst (v := jI (-1)) hx hb dX1_next_1 rfl ?_
  refine g_calli (r := (oHeld ρ ((-1))).1) hM0 hA (g_runV (As := [.int (jI ((-1)))]) (rest := []) CF hK hM0 (hL.2.1.1 60 _ rfl) rfl (l_held l E _ _ _ ρ ((-1)) hL (by first | omega | assumption | (refine ⟨?_, ?_⟩ <;> omega))) (cwV 1 hts (lw_V q1021 q1014 q1015 q60 q1016) rfl rfl rfl (by decide +kernel) ⟨Nat.le_of_ble_eq_true rfl, Nat.le_of_ble_eq_true rfl⟩) rfl hl.1 rfl (Nat.le_of_ble_eq_true rfl) dX1_next_2 ⟨Nat.le_of_ble_eq_true rfl, Nat.le_of_ble_eq_true rfl⟩) (fun H locs hM1 => ?_)
  refine lv_istore_n (lv' := [(1, .int (jI ((oHeld ρ ((-1))).1))), (0, .ref (G.2.2 60))]) hx hb dX1_next_5 rfl hl (by decide) rfl (fun ls hl => ?_)
  refine lv_iload_n hx hb dX1_next_6 rfl (lv_at hl 0 rfl) ?_
  refine x_if_gt (tgt := 13) hx hb dX1_next_7 (by decide) (by omega) (fun b7 => ?_) (fun b7 => ?_)
  · refine lv_iconst (v := jI (-1)) hx hb dX1_next_13 rfl ?_
    refine lv_istore_n (lv' := [(2, .int (jI ((-1)))), (1, .int (jI ((oHeld ρ ((-1))).1))), (0, .ref (G.2.2 60))]) hx hb dX1_next_14 rfl hl (by decide) rfl (fun ls hl => ?_)
    refine lv_iconst (v := jI 0) hx hb dX1_next_15 rfl ?_
    refine lv_istore_n (lv' := [(3, .int (jI 0)), (2, .int (jI ((-1)))), (1, .int (jI ((oHeld ρ ((-1))).1))), (0, .ref (G.2.2 60))]) hx hb dX1_next_16 rfl hl (by decide) rfl (fun ls hl => ?_)
    refine lv_iconst (v := jI 0) hx hb dX1_next_17 rfl ?_
    refine lv_istore (lv' := [(4, .int (jI 0)), (3, .int (jI 0)), (2, .int (jI ((-1)))), (1, .int (jI ((oHeld ρ ((-1))).1))), (0, .ref (G.2.2 60))]) hx hb dX1_next_18 hl (by decide) rfl (fun ls hl => ?_)
    have c20 : ∀ (n20 : Nat) (j : Nat) (f : Nat) (be : Int) (le : Int) (cle : Int) (κ : y_S) (rf : Nat → Int → Option Nat) (τ : y_S) (H : Heap) (locs : List Loc) (ls : Array Slot), (lgR E ρ (G.1, rf, G.2.2) τ) → (mSame [8, 9, 10, 51] ρ κ) → (6 ≤ f + j) → ((j : Int) ≤ ρ 60 0) → (-1 ≤ be ∧ be ≤ 100) → (0 ≤ cle ∧ cle ≤ 1000) → ((be = -1 ∧ le = 1000) ∨ (0 ≤ be ∧ cle = le)) → (nxJ f (j : Int) be le κ = nxJ 6 0 (-1) 1000 ρ) → ((ρ 60 0).toNat - j < n20) → gM E (gA G sz) (G.1, rf, G.2.2) τ s.heap H locs → lv_has ls 8 [(0, .ref (G.2.2 60)), (2, .int (jI be)), (3, .int (jI cle)), (4, .int (jI ((j : Int))))] → W p l e ({ frames := 9, cells := 0, slots := 0, locals := 203 } : Room) s m ([.ref (G.2.2 60)] : List Value).toArray below meth c H locs 0 0 (MQ below (gQ E G sz (lPo E (oNext ρ))) ([.ref (G.2.2 60)] : List Value).toArray s 0 0 (gA G sz)) (F0 m 20 ls []) := by
      intro n20
      induction n20 with
      | zero => intro j f be le cle κ rf τ H locs ls hLk hs hf hj hbe hcl hbl hg hmu; exact absurd hmu (Nat.not_lt_zero _)
      | succ n20 ih20 =>
        intro j f be le cle κ rf τ H locs ls hLk hs hf hj hbe hcl hbl hg hmu20 hM2 hl
        have e60 : κ 60 = ρ 60 := hs 60 (by decide)
        refine lv_iload hx hb dX1_next_20 (lv_at hl 3 rfl) ?_
        refine lv_aload_n hx hb dX1_next_22 rfl (lv_at hl 0 rfl) ?_
        refine g_geti CF hK hM2 60 (hLk.2.1.1 60 _ rfl) 2 2 rfl rfl (by decide) (Or.inl (hts _ q284)) (fun _ h => h) rfl dX1_next_23 ?_
        refine x_top (b := ρ 60 0) hLk.2.2.1.1 ?_
        refine x_icmp_ge (tgt := 259) hx hb dX1_next_26 (by decide) (by omega) (by omega) (fun b26 => ?_) (fun b26 => ?_)
        · refine lv_iload_n hx hb dX1_next_259 rfl (lv_at hl 1 rfl) ?_
          exact g_iret CF hr hlocks hM2 (lPo_i (by unfold oNext; rw [if_neg (fun z => Int.not_le.mpr b7 (hcd0.mp z)), ← hg, nxJ_e (by rw [e60]; omega)]) (by have hk := ok_next hO; have hs9 := nx_same hO 6 0 (-1) 1000 ρ mSame.rf (by decide); unfold oNext at hk ⊢; rw [if_neg (fun z => Int.not_le.mpr b7 (hcd0.mp z))] at hk ⊢; exact hLk.rho hk (lgE.sm hs9 (by decide)))) (by decide) (by decide) dX1_next_260
        · obtain ⟨f', rfl⟩ : ∃ z : Nat, f = z + 1 := ⟨f - 1, by omega⟩
          refine lv_iconst (v := jI 0) hx hb dX1_next_29 rfl ?_
          refine lv_istore (lv' := [(5, .int (jI 0)), (0, .ref (G.2.2 60)), (2, .int (jI be)), (3, .int (jI cle)), (4, .int (jI ((j : Int))))]) hx hb dX1_next_30 hl (by decide) rfl (fun ls hl => ?_)
          have c32 : ∀ (n32 : Nat) (a : Nat) (τa : y_S) (H : Heap) (locs : List Loc) (ls : Array Slot), (lgR E ρ (G.1, rf, G.2.2) τa) → ((a : Int) ≤ ρ 60 0) → (∀ (k : Nat) (v : Int), k < a → 0 ≤ v → v < 97 → τa (220 + k) v = 0) → ((ρ 60 0).toNat - a < n32) → gM E (gA G sz) (G.1, rf, G.2.2) τa s.heap H locs → lv_has ls 8 [(0, .ref (G.2.2 60)), (2, .int (jI be)), (3, .int (jI cle)), (4, .int (jI ((j : Int)))), (5, .int (jI ((a : Int))))] → W p l e ({ frames := 9, cells := 0, slots := 0, locals := 203 } : Room) s m ([.ref (G.2.2 60)] : List Value).toArray below meth c H locs 0 0 (MQ below (gQ E G sz (lPo E (oNext ρ))) ([.ref (G.2.2 60)] : List Value).toArray s 0 0 (gA G sz)) (F0 m 32 ls []) := by
            intro n32
            induction n32 with
            | zero => intro a τa H locs ls hLa ha1 hza hmu; exact absurd hmu (Nat.not_lt_zero _)
            | succ n32 ih32 =>
              intro a τa H locs ls hLa ha1 hza hmu32 hM3 hl
              refine lv_iload hx hb dX1_next_32 (lv_at hl 4 rfl) ?_
              refine lv_aload_n hx hb dX1_next_34 rfl (lv_at hl 0 rfl) ?_
              refine g_geti CF hK hM3 60 (hLa.2.1.1 60 _ rfl) 2 2 rfl rfl (by decide) (Or.inl (hts _ q284)) (fun _ h => h) rfl dX1_next_35 ?_
              refine x_top (b := ρ 60 0) hLa.2.2.1.1 ?_
              refine x_icmp_ge (tgt := 74) hx hb dX1_next_38 (by decide) (by omega) (by omega) (fun b38 => ?_) (fun b38 => ?_)
              · refine lv_iconst (v := jI 0) hx hb dX1_next_74 rfl ?_
                refine lv_istore (lv' := [(5, .int (jI 0)), (0, .ref (G.2.2 60)), (2, .int (jI be)), (3, .int (jI cle)), (4, .int (jI ((j : Int))))]) hx hb dX1_next_75 hl (by decide) rfl (fun ls hl => ?_)
                have c77 : ∀ (n77 : Nat) (q : Nat) (rf2 : Nat → Int → Option Nat) (τc : y_S) (H : Heap) (locs : List Loc) (ls : Array Slot), (lgR E ρ (G.1, rf2, G.2.2) τc) → ((q : Int) ≤ ρ 60 48) → (∀ (k : Nat) (v : Int), (k : Int) < ρ 60 0 → 0 ≤ v → v < 97 → τc (220 + k) v = cB ρ (j : Int) (k : Int) q v) → ((ρ 60 48).toNat - q < n77) → gM E (gA G sz) (G.1, rf2, G.2.2) τc s.heap H locs → lv_has ls 8 [(0, .ref (G.2.2 60)), (2, .int (jI be)), (3, .int (jI cle)), (4, .int (jI ((j : Int)))), (5, .int (jI ((q : Int))))] → W p l e ({ frames := 9, cells := 0, slots := 0, locals := 203 } : Room) s m ([.ref (G.2.2 60)] : List Value).toArray below meth c H locs 0 0 (MQ below (gQ E G sz (lPo E (oNext ρ))) ([.ref (G.2.2 60)] : List Value).toArray s 0 0 (gA G sz)) (F0 m 77 ls []) := by
                  intro n77
                  induction n77 with
                  | zero => intro q rf2 τc H locs ls hLc hq hct hmu; exact absurd hmu (Nat.not_lt_zero _)
                  | succ n77 ih77 =>
                    intro q rf2 τc H locs ls hLc hq hct hmu77 hM4 hl
                    obtain ⟨hO2, hS2, hMM2, hX2, hD2, hZ2⟩ := id hLc
                    refine lv_iload hx hb dX1_next_77 (lv_at hl 4 rfl) ?_
                    refine lv_aload_n hx hb dX1_next_79 rfl (lv_at hl 0 rfl) ?_
                    refine g_getr CF hK hM4 60 (hLc.2.1.1 60 _ rfl) 30 30 rfl rfl (by decide) (Or.inl (hts _ q319)) (fun _ h => h) rfl (G.2.2 30) (hLc.2.1.2.1 30 30 rfl) dX1_next_80 ?_
                    refine g_calli (r := τc 30 2) hM4 hA (g_runV (As := []) (rest := [.int (jI ((q : Int)))]) CF hK hM4 (hLc.2.1.1 30 _ rfl) rfl (j_size l E _ _ _ 30  (hLc.2.1.1 30 _ rfl)) (cwV 0 hts (lw_V q479 q480 q481 q70 q482) rfl rfl rfl (by decide +kernel) ⟨Nat.le_of_ble_eq_true rfl, Nat.le_of_ble_eq_true rfl⟩) rfl hl.1 rfl (Nat.le_of_ble_eq_true rfl) dX1_next_83 ⟨Nat.le_of_ble_eq_true rfl, Nat.le_of_ble_eq_true rfl⟩) (fun H locs hM5 => ?_)
                    refine x_top (b := ρ 60 48) hD2.2.2.1.1.1 ?_
                    refine x_icmp_ge (tgt := 173) hx hb dX1_next_86 (by decide) (by omega) (by omega) (fun b86 => ?_) (fun b86 => ?_)
                    · refine lv_iconst (v := jI 0) hx hb dX1_next_173 rfl ?_
                      refine lv_istore (lv' := [(5, .int (jI 0)), (0, .ref (G.2.2 60)), (2, .int (jI be)), (3, .int (jI cle)), (4, .int (jI ((j : Int))))]) hx hb dX1_next_174 hl (by decide) rfl (fun ls hl => ?_)
                      have c176 : ∀ (n176 : Nat) (k2 : Nat) (f2 : Nat) (be2 : Int) (le2 : Int) (cl2 : Int) (κ2 : y_S) (H : Heap) (locs : List Loc) (ls : Array Slot), ((k2 : Int) ≤ ρ 60 0) → (6 ≤ f2 + k2) → (mSame [8, 9, 10, 51] ρ κ2) → (-1 ≤ be2 ∧ be2 ≤ 100) → (0 ≤ cl2 ∧ cl2 ≤ 1000) → ((be2 = -1 ∧ le2 = 1000) ∨ (0 ≤ be2 ∧ cl2 = le2)) → (nxM (j : Int) f2 (k2 : Int) be2 le2 κ2 = nxM (j : Int) 6 0 be le κ) → ((ρ 60 0).toNat - k2 < n176) → gM E (gA G sz) (G.1, rf2, G.2.2) τc s.heap H locs → lv_has ls 8 [(0, .ref (G.2.2 60)), (2, .int (jI be2)), (3, .int (jI cl2)), (4, .int (jI ((j : Int)))), (5, .int (jI ((k2 : Int))))] → W p l e ({ frames := 9, cells := 0, slots := 0, locals := 203 } : Room) s m ([.ref (G.2.2 60)] : List Value).toArray below meth c H locs 0 0 (MQ below (gQ E G sz (lPo E (oNext ρ))) ([.ref (G.2.2 60)] : List Value).toArray s 0 0 (gA G sz)) (F0 m 176 ls []) := by
                        intro n176
                        induction n176 with
                        | zero => intro k2 f2 be2 le2 cl2 κ2 H locs ls hk2 hf2 hs2 hbe2 hcl2 hbl2 hg2 hmu; exact absurd hmu (Nat.not_lt_zero _)
                        | succ n176 ih176 =>
                          intro k2 f2 be2 le2 cl2 κ2 H locs ls hk2 hf2 hs2 hbe2 hcl2 hbl2 hg2 hmu176 hM6 hl
                          refine lv_iload hx hb dX1_next_176 (lv_at hl 4 rfl) ?_
                          refine lv_aload_n hx hb dX1_next_178 rfl (lv_at hl 0 rfl) ?_
                          refine g_geti CF hK hM6 60 (hLc.2.1.1 60 _ rfl) 2 2 rfl rfl (by decide) (Or.inl (hts _ q284)) (fun _ h => h) rfl dX1_next_179 ?_
                          refine x_top (b := ρ 60 0) hLc.2.2.1.1 ?_
                          refine x_icmp_ge (tgt := 253) hx hb dX1_next_182 (by decide) (by omega) (by omega) (fun b182 => ?_) (fun b182 => ?_)
                          · refine x_iinc (lv' := [(4, .int (jI (((j : Int)) + 1))), (0, .ref (G.2.2 60)), (2, .int (jI be2)), (3, .int (jI cl2)), (5, .int (jI ((k2 : Int))))]) hx hb dX1_next_253 hl (k := 3) rfl (by decide) rfl (fun ls hl => ?_)
                            refine lv_goto (tgt := 20) hx hb dX1_next_256 (by decide) ?_
                            exact ih20  ((j + 1)) f' be2 le2 cl2 κ2 rf2 τc _ _ _ hLc hs2 (by first | omega | assumption | rfl) (by first | omega | assumption | rfl) (by first | omega | assumption | rfl) (by first | omega | assumption | rfl) hbl2 (by rw [← hg, nxJ_s (by rw [e60]; omega) (hg2.symm.trans (nxM_e (by rw [hs2 60 (by decide)]; omega)))]; rfl) (by omega) hM6 (lv_sub hl [1, 2, 3, 0] rfl)
                          · obtain ⟨f3, rfl⟩ : ∃ z : Nat, f2 = z + 1 := ⟨f2 - 1, by omega⟩
                            have hqe : q = (ρ 60 48).toNat := (by omega)
                            refine lv_iconst (v := jI 0) hx hb dX1_next_185 rfl ?_
                            refine lv_istore (lv' := [(6, .int (jI 0)), (0, .ref (G.2.2 60)), (2, .int (jI be2)), (3, .int (jI cl2)), (4, .int (jI ((j : Int)))), (5, .int (jI ((k2 : Int))))]) hx hb dX1_next_186 hl (by decide) rfl (fun ls hl => ?_)
                            refine lv_iconst (v := jI 0) hx hb dX1_next_188 rfl ?_
                            refine lv_istore (lv' := [(7, .int (jI 0)), (6, .int (jI 0)), (0, .ref (G.2.2 60)), (2, .int (jI be2)), (3, .int (jI cl2)), (4, .int (jI ((j : Int)))), (5, .int (jI ((k2 : Int))))]) hx hb dX1_next_189 hl (by decide) rfl (fun ls hl => ?_)
                            have c191 : ∀ (n191 : Nat) (x : Int) (mx : Int) (H : Heap) (locs : List Loc) (ls : Array Slot), (0 ≤ x) → (x ≤ 97) → (isMx (cB ρ (j : Int) (k2 : Int) (ρ 60 48).toNat) x mx) → (0 ≤ mx ∧ mx ≤ 289) → ((97 - x).toNat < n191) → gM E (gA G sz) (G.1, rf2, G.2.2) τc s.heap H locs → lv_has ls 8 [(0, .ref (G.2.2 60)), (2, .int (jI be2)), (3, .int (jI cl2)), (4, .int (jI ((j : Int)))), (5, .int (jI ((k2 : Int)))), (6, .int (jI mx)), (7, .int (jI x))] → W p l e ({ frames := 9, cells := 0, slots := 0, locals := 203 } : Room) s m ([.ref (G.2.2 60)] : List Value).toArray below meth c H locs 0 0 (MQ below (gQ E G sz (lPo E (oNext ρ))) ([.ref (G.2.2 60)] : List Value).toArray s 0 0 (gA G sz)) (F0 m 191 ls []) := by
                              intro n191
                              induction n191 with
                              | zero => intro x mx H locs ls hx0 hx1 hmx hmr hmu; exact absurd hmu (Nat.not_lt_zero _)
                              | succ n191 ih191 =>
                                intro x mx H locs ls hx0 hx1 hmx hmr hmu191 hM7 hl
                                refine lv_iload hx hb dX1_next_191 (lv_at hl 6 rfl) ?_
                                refine lv_bipush (v := jI 97) hx hb dX1_next_193 (by decide) ?_
                                refine x_icmp_ge (tgt := 221) hx hb dX1_next_195 (by decide) (by omega) (by omega) (fun b195 => ?_) (fun b195 => ?_)
                                · obtain ⟨mo, κ3, hn3, hm3, hs3⟩ := nx0_mx hO hs2 (j := (j : Int)) (i := (k2 : Int)) (by omega) (by omega)
                                  have hx97 : x = 97 := (by omega)
                                  have hmo : mx = mo := (isMx_u hm3 (hx97 ▸ hmx)).symm
                                  subst hmo
                                  refine lv_iload_n hx hb dX1_next_221 rfl (lv_at hl 1 rfl) ?_
                                  refine lv_iconst (v := jI (-1)) hx hb dX1_next_222 rfl ?_
                                  refine x_icmp_eq (tgt := 235) hx hb dX1_next_223 (by decide) (by omega) (by omega) (fun b223 => ?_) (fun b223 => ?_)
                                  · refine lv_bipush (v := jI 10) hx hb dX1_next_235 (by decide) ?_
                                    refine lv_iload hx hb dX1_next_237 (lv_at hl 3 rfl) ?_
                                    refine x_imul hx hb dX1_next_239 ?_
                                    refine lv_iload hx hb dX1_next_240 (lv_at hl 4 rfl) ?_
                                    refine x_iadd hx hb dX1_next_242 ?_
                                    refine lv_istore_n (lv' := [(2, .int (jI ((10 * ((j : Int))) + ((k2 : Int))))), (0, .ref (G.2.2 60)), (3, .int (jI cl2)), (4, .int (jI ((j : Int)))), (5, .int (jI ((k2 : Int)))), (6, .int (jI mx)), (7, .int (jI x))]) hx hb dX1_next_243 rfl hl (by decide) rfl (fun ls hl => ?_)
                                    refine lv_iload hx hb dX1_next_244 (lv_at hl 5 rfl) ?_
                                    refine lv_istore_n (lv' := [(3, .int (jI mx)), (2, .int (jI ((10 * ((j : Int))) + ((k2 : Int))))), (0, .ref (G.2.2 60)), (4, .int (jI ((j : Int)))), (5, .int (jI ((k2 : Int)))), (6, .int (jI mx)), (7, .int (jI x))]) hx hb dX1_next_246 rfl hl (by decide) rfl (fun ls hl => ?_)
                                    refine x_iinc (lv' := [(5, .int (jI (((k2 : Int)) + 1))), (3, .int (jI mx)), (2, .int (jI ((10 * ((j : Int))) + ((k2 : Int))))), (0, .ref (G.2.2 60)), (4, .int (jI ((j : Int)))), (6, .int (jI mx)), (7, .int (jI x))]) hx hb dX1_next_247 hl (k := 4) rfl (by decide) rfl (fun ls hl => ?_)
                                    refine lv_goto (tgt := 176) hx hb dX1_next_250 (by decide) ?_
                                    exact ih176  ((k2 + 1)) f3 ((10 * ((j : Int))) + ((k2 : Int))) mx mx κ3 _ _ _ (by first | omega | assumption | rfl) (by first | omega | assumption | rfl) hs3 (by first | omega | assumption | rfl) (by first | omega | assumption | rfl) (Or.inr ⟨by omega, rfl⟩) (by rw [← hg2, nxM_1 (by rw [hs2 60 (by decide)]; omega) hn3 (by omega)]; rfl) (by omega) hM7 (lv_sub hl [3, 2, 1, 4, 0] rfl)
                                  · refine lv_iload hx hb dX1_next_226 (lv_at hl 5 rfl) ?_
                                    refine lv_iload_n hx hb dX1_next_228 rfl (lv_at hl 2 rfl) ?_
                                    refine x_icmp_lt (tgt := 235) hx hb dX1_next_229 (by decide) (by omega) (by omega) (fun b229 => ?_) (fun b229 => ?_)
                                    · refine lv_bipush (v := jI 10) hx hb dX1_next_235 (by decide) ?_
                                      refine lv_iload hx hb dX1_next_237 (lv_at hl 3 rfl) ?_
                                      refine x_imul hx hb dX1_next_239 ?_
                                      refine lv_iload hx hb dX1_next_240 (lv_at hl 4 rfl) ?_
                                      refine x_iadd hx hb dX1_next_242 ?_
                                      refine lv_istore_n (lv' := [(2, .int (jI ((10 * ((j : Int))) + ((k2 : Int))))), (0, .ref (G.2.2 60)), (3, .int (jI cl2)), (4, .int (jI ((j : Int)))), (5, .int (jI ((k2 : Int)))), (6, .int (jI mx)), (7, .int (jI x))]) hx hb dX1_next_243 rfl hl (by decide) rfl (fun ls hl => ?_)
                                      refine lv_iload hx hb dX1_next_244 (lv_at hl 5 rfl) ?_
                                      refine lv_istore_n (lv' := [(3, .int (jI mx)), (2, .int (jI ((10 * ((j : Int))) + ((k2 : Int))))), (0, .ref (G.2.2 60)), (4, .int (jI ((j : Int)))), (5, .int (jI ((k2 : Int)))), (6, .int (jI mx)), (7, .int (jI x))]) hx hb dX1_next_246 rfl hl (by decide) rfl (fun ls hl => ?_)
                                      refine x_iinc (lv' := [(5, .int (jI (((k2 : Int)) + 1))), (3, .int (jI mx)), (2, .int (jI ((10 * ((j : Int))) + ((k2 : Int))))), (0, .ref (G.2.2 60)), (4, .int (jI ((j : Int)))), (6, .int (jI mx)), (7, .int (jI x))]) hx hb dX1_next_247 hl (k := 4) rfl (by decide) rfl (fun ls hl => ?_)
                                      refine lv_goto (tgt := 176) hx hb dX1_next_250 (by decide) ?_
                                      exact ih176  ((k2 + 1)) f3 ((10 * ((j : Int))) + ((k2 : Int))) mx mx κ3 _ _ _ (by first | omega | assumption | rfl) (by first | omega | assumption | rfl) hs3 (by first | omega | assumption | rfl) (by first | omega | assumption | rfl) (Or.inr ⟨by omega, rfl⟩) (by rw [← hg2, nxM_1 (by rw [hs2 60 (by decide)]; omega) hn3 (by omega)]; rfl) (by omega) hM7 (lv_sub hl [3, 2, 1, 4, 0] rfl)
                                    · refine lv_goto (tgt := 247) hx hb dX1_next_232 (by decide) ?_
                                      refine x_iinc (lv' := [(5, .int (jI (((k2 : Int)) + 1))), (0, .ref (G.2.2 60)), (2, .int (jI be2)), (3, .int (jI cl2)), (4, .int (jI ((j : Int)))), (6, .int (jI mx)), (7, .int (jI x))]) hx hb dX1_next_247 hl (k := 4) rfl (by decide) rfl (fun ls hl => ?_)
                                      refine lv_goto (tgt := 176) hx hb dX1_next_250 (by decide) ?_
                                      exact ih176  ((k2 + 1)) f3 be2 le2 cl2 κ3 _ _ _ (by first | omega | assumption | rfl) (by first | omega | assumption | rfl) hs3 (by first | omega | assumption | rfl) (by first | omega | assumption | rfl) hbl2 (by rw [← hg2, nxM_0 (by rw [hs2 60 (by decide)]; omega) hn3 (by omega)]; rfl) (by omega) hM7 (lv_sub hl [1, 2, 3, 4, 0] rfl)
                                · have hcb := cB_r ρ (j : Int) (k2 : Int) (ρ 60 48).toNat x
                                  have hcx := hct k2 x (by omega) (by omega) (by omega)
                                  rw [hqe] at hcx
                                  refine lv_iload hx hb dX1_next_198 (lv_at hl 5 rfl) ?_
                                  refine lv_aload_n hx hb dX1_next_200 rfl (lv_at hl 0 rfl) ?_
                                  refine g_getr CF hK hM7 60 (hLc.2.1.1 60 _ rfl) 32 32 rfl rfl (by decide) (Or.inl (hts _ q321)) (fun _ h => h) rfl (G.2.2 32) (hLc.2.1.2.1 32 32 rfl) dX1_next_201 ?_
                                  refine lv_iload hx hb dX1_next_204 (lv_at hl 4 rfl) ?_
                                  refine g_aaldr CF hK hM7 32 (hLc.2.1.1 32 _ rfl) (by decide) rfl (i := (k2 : Int)) (by omega) (by omega) (by omega) (G.2.2 (220 + k2)) ((hLc.2.1.2.2.2.2.2.2.2.2.2.1 k2 (by omega)).2.2) dX1_next_206 ?_
                                  refine lv_iload hx hb dX1_next_207 (lv_at hl 6 rfl) ?_
                                  refine g_iald CF hK hM7 (220 + k2) (hLc.2.1.1 _ _ (lKd_to (by omega)).2.2) (i := x) (by omega) (by omega) (by omega) dX1_next_209 ?_
                                  refine x_top (b := cB ρ (j : Int) (k2 : Int) (ρ 60 48).toNat x) hcx ?_
                                  refine g_calli (r := if (cB ρ (j : Int) (k2 : Int) (ρ 60 48).toNat x) ≤ mx then mx else (cB ρ (j : Int) (k2 : Int) (ρ 60 48).toNat x)) hM7 hA (g_runS (As := [.int (jI mx), .int (jI (cB ρ (j : Int) (k2 : Int) (ρ 60 48).toNat x))]) (rest := []) CF hK hM7 (j_max l E _ _ _  mx (cB ρ (j : Int) (k2 : Int) (ρ 60 48).toNat x) (by first | omega | assumption | (refine ⟨?_, ?_⟩ <;> omega)) (by first | omega | assumption | (refine ⟨?_, ?_⟩ <;> omega))) (va_cwS 2 hts (lw_S q1022 q804 q61 q805) rfl rfl rfl (by decide +kernel) ⟨Nat.le_of_ble_eq_true rfl, Nat.le_of_ble_eq_true rfl⟩) rfl hl.1 rfl (Nat.le_of_ble_eq_true rfl) dX1_next_210 ⟨Nat.le_of_ble_eq_true rfl, Nat.le_of_ble_eq_true rfl⟩) (fun H locs hM8 => ?_)
                                  refine lv_istore (lv' := [(6, .int (jI (if (cB ρ (j : Int) (k2 : Int) (ρ 60 48).toNat x) ≤ mx then mx else (cB ρ (j : Int) (k2 : Int) (ρ 60 48).toNat x)))), (0, .ref (G.2.2 60)), (2, .int (jI be2)), (3, .int (jI cl2)), (4, .int (jI ((j : Int)))), (5, .int (jI ((k2 : Int)))), (7, .int (jI x))]) hx hb dX1_next_213 hl (by decide) rfl (fun ls hl => ?_)
                                  refine x_iinc (lv' := [(7, .int (jI (x + 1))), (6, .int (jI (if (cB ρ (j : Int) (k2 : Int) (ρ 60 48).toNat x) ≤ mx then mx else (cB ρ (j : Int) (k2 : Int) (ρ 60 48).toNat x)))), (0, .ref (G.2.2 60)), (2, .int (jI be2)), (3, .int (jI cl2)), (4, .int (jI ((j : Int)))), (5, .int (jI ((k2 : Int))))]) hx hb dX1_next_215 hl (k := 6) rfl (by decide) rfl (fun ls hl => ?_)
                                  refine lv_goto (tgt := 191) hx hb dX1_next_218 (by decide) ?_
                                  exact ih191  (x + 1) (if (cB ρ (j : Int) (k2 : Int) (ρ 60 48).toNat x) ≤ mx then mx else (cB ρ (j : Int) (k2 : Int) (ρ 60 48).toNat x)) _ _ _ (by first | omega | assumption | rfl) (by first | omega | assumption | rfl) (isMx_s hmx hx0 (by (repeat' split) <;> omega)) (by (repeat' split) <;> omega) (by omega) hM8 (lv_sub hl [2, 3, 4, 5, 6, 1, 0] rfl)
                            exact c191 _ 0 0 _ _ _ (by first | omega | assumption | rfl) (by first | omega | assumption | rfl) ⟨Int.le_refl _, fun v a b => absurd a (by omega), Or.inl rfl⟩ (by omega) (Nat.lt_succ_self _) hM6 (lv_sub hl [2, 3, 4, 5, 6, 1, 0] rfl)
                      exact c176 _ 0 6 be le cle κ _ _ _ (by first | omega | assumption | rfl) (by first | omega | assumption | rfl) hs (by first | omega | assumption | rfl) (by first | omega | assumption | rfl) hbl rfl (Nat.lt_succ_self _) hM5 (lv_sub hl [1, 2, 3, 4, 0] rfl)
                    · have hHy := hD2.2.2.1.2.1 q (by omega)
                      have hz01 := hO.hz (q : Int) (by omega) (by omega)
                      refine lv_aload_n hx hb dX1_next_89 rfl (lv_at hl 0 rfl) ?_
                      refine g_getr CF hK hM5 60 (hLc.2.1.1 60 _ rfl) 30 30 rfl rfl (by decide) (Or.inl (hts _ q319)) (fun _ h => h) rfl (G.2.2 30) (hLc.2.1.2.1 30 30 rfl) dX1_next_90 ?_
                      refine lv_iload hx hb dX1_next_93 (lv_at hl 4 rfl) ?_
                      refine g_callr (b := G.2.2 (3000 + q)) hM5 hA (g_runV (As := [.int (jI ((q : Int)))]) (rest := []) CF hK hM5 (hLc.2.1.1 30 _ rfl) rfl (j_get l E _ _ _ 30 65 (ρ 60 48) (fun i => G.2.2 (3000 + i.toNat)) ((q : Int)) (hLc.2.1.1 30 _ rfl) (hLc.2.2.2.2.1.2.2.1.1) (by first | omega | assumption | (refine ⟨?_, ?_⟩ <;> omega)) (by first | omega | assumption | (refine ⟨?_, ?_⟩ <;> omega))) (cwV 1 hts (lw_V q483 q484 q485 q70 q486) rfl rfl rfl (by decide +kernel) ⟨Nat.le_of_ble_eq_true rfl, Nat.le_of_ble_eq_true rfl⟩) rfl hl.1 rfl (Nat.le_of_ble_eq_true rfl) dX1_next_95 ⟨Nat.le_of_ble_eq_true rfl, Nat.le_of_ble_eq_true rfl⟩) (fun H locs hM9 => ?_)
                      refine g_cast CF hK hM9 (3000 + q) hHy.1 rfl q986 dX1_next_98 ?_
                      refine g_geti CF hK hM9 (3000 + q) hHy.1 2 2 rfl rfl (by decide) (gLk.n hK q997) (fun _ h => h) rfl dX1_next_101 ?_
                      refine x_top (b := ρ 46 (q : Int)) hHy.2.2.2 ?_
                      refine x_if_ne (tgt := 110) hx hb dX1_next_104 (by decide) (by omega) (fun b104 => ?_) (fun b104 => ?_)
                      · refine lv_aload_n hx hb dX1_next_110 rfl (lv_at hl 0 rfl) ?_
                        refine lv_aload_n hx hb dX1_next_111 rfl (lv_at hl 0 rfl) ?_
                        refine g_getr CF hK hM9 60 (hLc.2.1.1 60 _ rfl) 30 30 rfl rfl (by decide) (Or.inl (hts _ q319)) (fun _ h => h) rfl (G.2.2 30) (hLc.2.1.2.1 30 30 rfl) dX1_next_112 ?_
                        refine lv_iload hx hb dX1_next_115 (lv_at hl 4 rfl) ?_
                        refine g_callr (b := G.2.2 (3000 + q)) hM9 hA (g_runV (As := [.int (jI ((q : Int)))]) (rest := [.ref (G.2.2 60)]) CF hK hM9 (hLc.2.1.1 30 _ rfl) rfl (j_get l E _ _ _ 30 65 (ρ 60 48) (fun i => G.2.2 (3000 + i.toNat)) ((q : Int)) (hLc.2.1.1 30 _ rfl) (hLc.2.2.2.2.1.2.2.1.1) (by first | omega | assumption | (refine ⟨?_, ?_⟩ <;> omega)) (by first | omega | assumption | (refine ⟨?_, ?_⟩ <;> omega))) (cwV 1 hts (lw_V q483 q484 q485 q70 q486) rfl rfl rfl (by decide +kernel) ⟨Nat.le_of_ble_eq_true rfl, Nat.le_of_ble_eq_true rfl⟩) rfl hl.1 rfl (Nat.le_of_ble_eq_true rfl) dX1_next_117 ⟨Nat.le_of_ble_eq_true rfl, Nat.le_of_ble_eq_true rfl⟩) (fun H locs hM10 => ?_)
                        refine g_cast CF hK hM10 (3000 + q) hHy.1 rfl q986 dX1_next_120 ?_
                        refine lv_iload hx hb dX1_next_123 (lv_at hl 3 rfl) ?_
                        refine lv_iconst (v := jI 0) hx hb dX1_next_125 rfl ?_
                        refine g_callPI hM10 hA (g_runV (As := [.ref (G.2.2 (3000 + q)), .int (jI ((j : Int))), .int (jI 0)]) (rest := []) CF hK hM10 (hLc.2.1.1 60 _ rfl) rfl (l_comes l E _ _ _ ρ q ((j : Int)) 0 hLc (by first | omega | assumption | (refine ⟨?_, ?_⟩ <;> omega)) (by first | omega | assumption | (refine ⟨?_, ?_⟩ <;> omega)) (by first | omega | assumption | (refine ⟨?_, ?_⟩ <;> omega)) (by first | omega | assumption | (refine ⟨?_, ?_⟩ <;> omega))) (cwV 3 hts (lw_V q1009 q1011 qs27 q60 q1012) rfl rfl rfl (by decide +kernel) ⟨Nat.le_of_ble_eq_true rfl, Nat.le_of_ble_eq_true rfl⟩) rfl hl.1 rfl (Nat.le_of_ble_eq_true rfl) dX1_next_126 ⟨Nat.le_of_ble_eq_true rfl, Nat.le_of_ble_eq_true rfl⟩) (fun rc G2 τ12 H locs hp hM11 => ?_)
                        obtain ⟨rf12, rfl, hrc, hL12, hla12, htt12⟩ := hp
                        refine lv_pop hx hb dX1_next_129 rfl ?_
                        refine lv_iconst (v := jI 0) hx hb dX1_next_130 rfl ?_
                        refine lv_istore (lv' := [(6, .int (jI 0)), (0, .ref (G.2.2 60)), (2, .int (jI be)), (3, .int (jI cle)), (4, .int (jI ((j : Int)))), (5, .int (jI ((q : Int))))]) hx hb dX1_next_131 hl (by decide) rfl (fun ls hl => ?_)
                        have c133 : ∀ (n133 : Nat) (k1 : Nat) (τd : y_S) (H : Heap) (locs : List Loc) (ls : Array Slot), (lgR E ρ (G.1, rf12, G.2.2) τd) → ((k1 : Int) ≤ ρ 60 0) → (∀ (k : Nat) (v : Int), k < k1 → 0 ≤ v → v < 97 → τd (220 + k) v = cB ρ (j : Int) (k : Int) (q + 1) v) → (∀ (k : Nat) (v : Int), k1 ≤ k → (k : Int) < ρ 60 0 → 0 ≤ v → v < 97 → τd (220 + k) v = cB ρ (j : Int) (k : Int) q v) → (∀ i : Int, 0 ≤ i → i < ρ 60 0 → τd 9 i = mCom ρ (q : Int) (j : Int) 10 i) → ((ρ 60 0).toNat - k1 < n133) → gM E (gA G sz) (G.1, rf12, G.2.2) τd s.heap H locs → lv_has ls 8 [(0, .ref (G.2.2 60)), (2, .int (jI be)), (3, .int (jI cle)), (4, .int (jI ((j : Int)))), (5, .int (jI ((q : Int)))), (6, .int (jI ((k1 : Int))))] → W p l e ({ frames := 9, cells := 0, slots := 0, locals := 203 } : Room) s m ([.ref (G.2.2 60)] : List Value).toArray below meth c H locs 0 0 (MQ below (gQ E G sz (lPo E (oNext ρ))) ([.ref (G.2.2 60)] : List Value).toArray s 0 0 (gA G sz)) (F0 m 133 ls []) := by
                          intro n133
                          induction n133 with
                          | zero => intro k1 τd H locs ls hLd hk1 hcd hce hli hmu; exact absurd hmu (Nat.not_lt_zero _)
                          | succ n133 ih133 =>
                            intro k1 τd H locs ls hLd hk1 hcd hce hli hmu133 hM13 hl
                            refine lv_iload hx hb dX1_next_133 (lv_at hl 5 rfl) ?_
                            refine lv_aload_n hx hb dX1_next_135 rfl (lv_at hl 0 rfl) ?_
                            refine g_geti CF hK hM13 60 (hLd.2.1.1 60 _ rfl) 2 2 rfl rfl (by decide) (Or.inl (hts _ q284)) (fun _ h => h) rfl dX1_next_136 ?_
                            refine x_top (b := ρ 60 0) hLd.2.2.1.1 ?_
                            refine x_icmp_ge (tgt := 167) hx hb dX1_next_139 (by decide) (by omega) (by omega) (fun b139 => ?_) (fun b139 => ?_)
                            · refine x_iinc (lv' := [(5, .int (jI (((q : Int)) + 1))), (0, .ref (G.2.2 60)), (2, .int (jI be)), (3, .int (jI cle)), (4, .int (jI ((j : Int)))), (6, .int (jI ((k1 : Int))))]) hx hb dX1_next_167 hl (k := 4) rfl (by decide) rfl (fun ls hl => ?_)
                              refine lv_goto (tgt := 77) hx hb dX1_next_170 (by decide) ?_
                              exact ih77  ((q + 1)) rf12 τd _ _ _ hLd (by first | omega | assumption | rfl) (fun k v c d b => hcd k v (by omega) d b) (by omega) hM13 (lv_sub hl [1, 2, 3, 4, 0] rfl)
                            · have hcr := mCom_r (σ := ρ) (q : Int) (j : Int) (i := (k1 : Int)) (by omega) (by omega)
                              have hcb := cB_r ρ (j : Int) (k1 : Int) q (mCom ρ (q : Int) (j : Int) 10 (k1 : Int))
                              have hcw := hce k1 (mCom ρ (q : Int) (j : Int) 10 (k1 : Int)) (Nat.le_refl _) (by omega) (by omega) (by omega)
                              refine lv_aload_n hx hb dX1_next_142 rfl (lv_at hl 0 rfl) ?_
                              refine g_getr CF hK hM13 60 (hLd.2.1.1 60 _ rfl) 32 32 rfl rfl (by decide) (Or.inl (hts _ q321)) (fun _ h => h) rfl (G.2.2 32) (hLd.2.1.2.1 32 32 rfl) dX1_next_143 ?_
                              refine lv_iload hx hb dX1_next_146 (lv_at hl 5 rfl) ?_
                              refine g_aaldr CF hK hM13 32 (hLd.2.1.1 32 _ rfl) (by decide) rfl (i := (k1 : Int)) (by omega) (by omega) (by omega) (G.2.2 (220 + k1)) ((hLd.2.1.2.2.2.2.2.2.2.2.2.1 k1 (by omega)).2.2) dX1_next_148 ?_
                              refine lv_aload_n hx hb dX1_next_149 rfl (lv_at hl 0 rfl) ?_
                              refine g_getr CF hK hM13 60 (hLd.2.1.1 60 _ rfl) 9 9 rfl rfl (by decide) (Or.inl (hts _ q295)) (fun _ h => h) rfl (G.2.2 9) (hLd.2.1.2.1 9 9 rfl) dX1_next_150 ?_
                              refine lv_iload hx hb dX1_next_153 (lv_at hl 5 rfl) ?_
                              refine g_iald CF hK hM13 9 (hLd.2.1.1 9 _ rfl) (i := (k1 : Int)) (by omega) (by omega) (by omega) dX1_next_155 ?_
                              refine x_top (b := mCom ρ (q : Int) (j : Int) 10 (k1 : Int)) (hli (k1 : Int) (by omega) (by omega)) ?_
                              refine lv_dup2_11 hx hb dX1_next_156 rfl rfl ?_
                              refine g_iald CF hK hM13 (220 + k1) (hLd.2.1.1 _ _ (lKd_to (by omega)).2.2) (i := mCom ρ (q : Int) (j : Int) 10 (k1 : Int)) (by omega) (by omega) (by omega) dX1_next_157 ?_
                              refine x_top (b := cB ρ (j : Int) (k1 : Int) q (mCom ρ (q : Int) (j : Int) 10 (k1 : Int))) hcw ?_
                              refine lv_iconst (v := jI 1) hx hb dX1_next_158 rfl ?_
                              refine x_iadd hx hb dX1_next_159 ?_
                              refine g_iast CF hK hM13 (220 + k1) (by omega) (hLd.2.1.1 _ _ (lKd_to (by omega)).2.2) (i := mCom ρ (q : Int) (j : Int) 10 (k1 : Int)) (v := (cB ρ (j : Int) (k1 : Int) q (mCom ρ (q : Int) (j : Int) 10 (k1 : Int))) + 1) (by omega) (by omega) (by omega) (by omega) dX1_next_160 (fun H locs hM14 => ?_)
                              refine x_iinc (lv' := [(6, .int (jI (((k1 : Int)) + 1))), (0, .ref (G.2.2 60)), (2, .int (jI be)), (3, .int (jI cle)), (4, .int (jI ((j : Int)))), (5, .int (jI ((q : Int))))]) hx hb dX1_next_161 hl (k := 5) rfl (by decide) rfl (fun ls hl => ?_)
                              refine lv_goto (tgt := 133) hx hb dX1_next_164 (by decide) ?_
                              exact ih133  ((k1 + 1)) (up2 τd (220 + k1) (mCom ρ (q : Int) (j : Int) 10 (k1 : Int)) ((cB ρ (j : Int) (k1 : Int) q (mCom ρ (q : Int) (j : Int) 10 (k1 : Int))) + 1)) _ _ _ (hLd.u2 (by unfold lgT; omega) (by omega)) (by first | omega | assumption | rfl) (fun k v c d b => Or.elim (Nat.lt_or_ge k k1) (fun z => (by rw [up2_n _ _ _ (by omega)]; exact hcd k v z d b)) (fun z => (by have e : k = k1 := (by omega); subst e; rw [up2_s]; exact Or.elim (Decidable.em (v = mCom ρ (q : Int) (j : Int) 10 (k : Int))) (fun y => (by rw [y, up1_s, cB_1 b104 rfl])) (fun y => (by rw [up1_n _ _ y, hce k v (Nat.le_refl _) (by omega) d b, cB_0 (fun x => y x.2.symm)]))))) (fun k v c c2 d b => (by rw [up2_n _ _ _ (by omega)]; exact hce k v (by omega) c2 d b)) (fun i c d => (by rw [up2_n _ _ _ (by omega)]; exact hli i c d)) (by omega) hM14 (lv_sub hl [1, 2, 3, 4, 5, 0] rfl)
                        exact c133 _ 0 τ12 _ _ _ hL12 (by first | omega | assumption | rfl) (fun k v c => absurd c (by omega)) (fun k v c c2 d b => (by rw [htt12 (220 + k) (by omega) (by omega)]; exact hct k v c2 d b)) hla12 (Nat.lt_succ_self _) hM11 (lv_sub hl [1, 2, 3, 4, 5, 0] rfl)
                      · refine lv_goto (tgt := 167) hx hb dX1_next_107 (by decide) ?_
                        refine x_iinc (lv' := [(5, .int (jI (((q : Int)) + 1))), (0, .ref (G.2.2 60)), (2, .int (jI be)), (3, .int (jI cle)), (4, .int (jI ((j : Int))))]) hx hb dX1_next_167 hl (k := 4) rfl (by decide) rfl (fun ls hl => ?_)
                        refine lv_goto (tgt := 77) hx hb dX1_next_170 (by decide) ?_
                        exact ih77  ((q + 1)) rf2 τc _ _ _ hLc (by first | omega | assumption | rfl) (fun k v c d b => (by rw [hct k v c d b, cB_0 (fun z => z.1 b104)])) (by omega) hM9 (lv_sub hl [1, 2, 3, 4, 0] rfl)
                exact c77 _ 0 rf τa _ _ _ hLa (by first | omega | assumption | rfl) (fun k v c d b => (by rw [hza k v (by omega) d b]; rfl)) (Nat.lt_succ_self _) hM3 (lv_sub hl [1, 2, 3, 4, 0] rfl)
              · refine lv_iconst (v := jI 0) hx hb dX1_next_41 rfl ?_
                refine lv_istore (lv' := [(6, .int (jI 0)), (0, .ref (G.2.2 60)), (2, .int (jI be)), (3, .int (jI cle)), (4, .int (jI ((j : Int)))), (5, .int (jI ((a : Int))))]) hx hb dX1_next_42 hl (by decide) rfl (fun ls hl => ?_)
                have c44 : ∀ (n44 : Nat) (x : Int) (τb : y_S) (H : Heap) (locs : List Loc) (ls : Array Slot), (lgR E ρ (G.1, rf, G.2.2) τb) → (0 ≤ x) → (x ≤ 97) → (∀ (k : Nat) (v : Int), k < a → 0 ≤ v → v < 97 → τb (220 + k) v = 0) → (∀ v : Int, 0 ≤ v → v < x → τb (220 + a) v = 0) → ((97 - x).toNat < n44) → gM E (gA G sz) (G.1, rf, G.2.2) τb s.heap H locs → lv_has ls 8 [(0, .ref (G.2.2 60)), (2, .int (jI be)), (3, .int (jI cle)), (4, .int (jI ((j : Int)))), (5, .int (jI ((a : Int)))), (6, .int (jI x))] → W p l e ({ frames := 9, cells := 0, slots := 0, locals := 203 } : Room) s m ([.ref (G.2.2 60)] : List Value).toArray below meth c H locs 0 0 (MQ below (gQ E G sz (lPo E (oNext ρ))) ([.ref (G.2.2 60)] : List Value).toArray s 0 0 (gA G sz)) (F0 m 44 ls []) := by
                  intro n44
                  induction n44 with
                  | zero => intro x τb H locs ls hLb hx0 hx1 hzb hzv hmu; exact absurd hmu (Nat.not_lt_zero _)
                  | succ n44 ih44 =>
                    intro x τb H locs ls hLb hx0 hx1 hzb hzv hmu44 hM15 hl
                    refine lv_iload hx hb dX1_next_44 (lv_at hl 5 rfl) ?_
                    refine lv_bipush (v := jI 97) hx hb dX1_next_46 (by decide) ?_
                    refine x_icmp_ge (tgt := 68) hx hb dX1_next_48 (by decide) (by omega) (by omega) (fun b48 => ?_) (fun b48 => ?_)
                    · refine x_iinc (lv' := [(5, .int (jI (((a : Int)) + 1))), (0, .ref (G.2.2 60)), (2, .int (jI be)), (3, .int (jI cle)), (4, .int (jI ((j : Int)))), (6, .int (jI x))]) hx hb dX1_next_68 hl (k := 4) rfl (by decide) rfl (fun ls hl => ?_)
                      refine lv_goto (tgt := 32) hx hb dX1_next_71 (by decide) ?_
                      exact ih32  ((a + 1)) τb _ _ _ hLb (by first | omega | assumption | rfl) (fun k v c d b => Or.elim (Nat.lt_or_ge k a) (fun z => hzb k v z d b) (fun z => (by have e : k = a := (by omega); subst e; exact hzv v d (by omega)))) (by omega) hM15 (lv_sub hl [1, 2, 3, 4, 0] rfl)
                    · refine lv_aload_n hx hb dX1_next_51 rfl (lv_at hl 0 rfl) ?_
                      refine g_getr CF hK hM15 60 (hLb.2.1.1 60 _ rfl) 32 32 rfl rfl (by decide) (Or.inl (hts _ q321)) (fun _ h => h) rfl (G.2.2 32) (hLb.2.1.2.1 32 32 rfl) dX1_next_52 ?_
                      refine lv_iload hx hb dX1_next_55 (lv_at hl 4 rfl) ?_
                      refine g_aaldr CF hK hM15 32 (hLb.2.1.1 32 _ rfl) (by decide) rfl (i := (a : Int)) (by omega) (by omega) (by omega) (G.2.2 (220 + a)) ((hLb.2.1.2.2.2.2.2.2.2.2.2.1 a (by omega)).2.2) dX1_next_57 ?_
                      refine lv_iload hx hb dX1_next_58 (lv_at hl 5 rfl) ?_
                      refine lv_iconst (v := jI 0) hx hb dX1_next_60 rfl ?_
                      refine g_iast CF hK hM15 (220 + a) (by omega) (hLb.2.1.1 _ _ (lKd_to (by omega)).2.2) (i := x) (v := 0) (by omega) (by omega) (by omega) (by omega) dX1_next_61 (fun H locs hM16 => ?_)
                      refine x_iinc (lv' := [(6, .int (jI (x + 1))), (0, .ref (G.2.2 60)), (2, .int (jI be)), (3, .int (jI cle)), (4, .int (jI ((j : Int)))), (5, .int (jI ((a : Int))))]) hx hb dX1_next_62 hl (k := 5) rfl (by decide) rfl (fun ls hl => ?_)
                      refine lv_goto (tgt := 44) hx hb dX1_next_65 (by decide) ?_
                      exact ih44  (x + 1) (up2 τb (220 + a) x 0) _ _ _ (hLb.u2 (by unfold lgT; omega) (by omega)) (by first | omega | assumption | rfl) (by first | omega | assumption | rfl) (fun k v c d b => (by rw [up2_n _ _ _ (by omega)]; exact hzb k v c d b)) (fun v c d => (by rw [up2_s]; unfold up1; split <;> first | rfl | exact hzv v c (by omega))) (by omega) hM16 (lv_sub hl [1, 2, 3, 4, 5, 0] rfl)
                exact c44 _ 0 τa _ _ _ hLa (by first | omega | assumption | rfl) (by first | omega | assumption | rfl) hza (fun v c d => absurd c (by omega)) (Nat.lt_succ_self _) hM3 (lv_sub hl [1, 2, 3, 4, 5, 0] rfl)
          exact c32 _ 0 τ _ _ _ hLk (by first | omega | assumption | rfl) (fun k v a => absurd a (by omega)) (Nat.lt_succ_self _) hM2 (lv_sub hl [1, 2, 3, 4, 0] rfl)
    exact c20 _ 0 6 ((-1)) 1000 0 ρ G.2.1 σ _ _ _ hL mSame.rf (by first | omega | assumption | rfl) (by first | omega | assumption | rfl) (by first | omega | assumption | rfl) (by first | omega | assumption | rfl) (Or.inl ⟨rfl, rfl⟩) rfl (Nat.lt_succ_self _) hM1 (lv_sub hl [4, 2, 1, 0] rfl)
  · refine lv_bipush (v := jI (-3)) hx hb dX1_next_10 (by decide) ?_
    exact g_iret CF hr hlocks hM1 (lPo_i (by unfold oNext; rw [if_pos (hcd0.mpr b7)]) (by unfold oNext; rw [if_pos (hcd0.mpr b7)]; exact hL)) (by decide) (by decide) dX1_next_12
