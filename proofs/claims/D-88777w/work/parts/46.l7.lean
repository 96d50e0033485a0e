set_option maxHeartbeats 1000000 in
theorem l_split (l : Launch) (E : y_E) (G : y_G) (σ : y_S) (sz : Nat) (ρ : y_S) (hL : lgR E ρ G σ) : gCt l yX1_split cX1_split 5 (some .int) ({ frames := 3, cells := 0, slots := 0, locals := 71 }) E [.ref (G.2.2 60)] G σ sz (lPo E (oSplit ρ)) 0 0 := by
  refine g_met (by decide) (Nat.le_of_ble_eq_true rfl) ?_
  intro p e s m below meth c ls CF hr hlocks hnm hK hM0 hA hl
  have hx := CF.1
  have hb := CF.2.1
  have hts := CF.2.2.2.2
  have hl : lv_has ls 5 [(0, .ref (G.2.2 60))] := hl
  obtain ⟨hO, hS, ⟨hm1, hm2, hm3, hm4, hm5⟩, hX, hD, hZ⟩ := id hL
  have hn := hO.n
  have hTd := hO.td
  refine lv_aload_n hx hb dX1_split_0 rfl (lv_at hl 0 rfl) ?_
  refine lv_iconst (v := jI 1) hx hb dX1_split_1 rfl ?_
  refine g_puti CF hK hM0 60 (by decide) (hL.2.1.1 60 _ rfl) 17 17 rfl rfl (by decide) (Or.inl (hts _ q303)) (fun _ h => h) (Or.inl rfl) rfl (v := 1) (g_nz (by omega)) (g_fz (by omega)) (by omega) dX1_split_2 (fun H locs hM1 => ?_)
  refine lv_aload_n hx hb dX1_split_5 rfl (lv_at hl 0 rfl) ?_
  refine lv_iconst (v := jI 0) hx hb dX1_split_6 rfl ?_
  refine g_puti CF hK hM1 60 (by decide) (hL.2.1.1 60 _ rfl) 15 15 rfl rfl (by decide) (Or.inl (hts _ q301)) (fun _ h => h) (Or.inl rfl) rfl (v := 0) rfl rfl (by omega) dX1_split_7 (fun H locs hM2 => ?_)
  refine lv_aload_n hx hb dX1_split_10 rfl (lv_at hl 0 rfl) ?_
  refine lv_iconst (v := jI (-1)) hx hb dX1_split_11 rfl ?_
  refine g_puti CF hK hM2 60 (by decide) (hL.2.1.1 60 _ rfl) 16 16 rfl rfl (by decide) (Or.inl (hts _ q302)) (fun _ h => h) (Or.inl rfl) rfl (v := (-1)) rfl rfl (by omega) dX1_split_12 (fun H locs hM3 => ?_)
  refine lv_iconst (v := jI 0) hx hb dX1_split_15 rfl ?_
  refine lv_istore_n (lv' := [(1, .int (jI 0)), (0, .ref (G.2.2 60))]) hx hb dX1_split_16 rfl hl (by decide) rfl (fun ls hl => ?_)
  have c17 : ∀ (n17 : Nat) (d : Nat) (τ : y_S) (H : Heap) (locs : List Loc) (ls : Array Slot), ((d : Int) ≤ ρ 60 0) → (lgR E (sp0 ρ) G τ) → (∀ (d2 : Nat) (r : Int), d2 < d → 0 ≤ r → r < ρ 60 0 → τ (210 + d2) r = ρ 11 (6 * r + (d2 : Int))) → ((ρ 60 0).toNat - d < n17) → gM E (gA G sz) G τ s.heap H locs → lv_has ls 5 [(0, .ref (G.2.2 60)), (1, .int (jI ((d : Int))))] → W p l e ({ frames := 3, cells := 0, slots := 0, locals := 71 } : Room) s m ([.ref (G.2.2 60)] : List Value).toArray below meth c H locs 0 0 (MQ below (gQ E G sz (lPo E (oSplit ρ))) ([.ref (G.2.2 60)] : List Value).toArray s 0 0 (gA G sz)) (F0 m 17 ls []) := by
    intro n17
    induction n17 with
    | zero => intro d τ H locs ls hd hLκ hcp hmu; exact absurd hmu (Nat.not_lt_zero _)
    | succ n17 ih17 =>
      intro d τ H locs ls hd hLκ hcp hmu17 hM4 hl
      have hmκ : τ 60 2 = ρ 60 0 := hLκ.2.2.1.1
      refine lv_iload_n hx hb dX1_split_17 rfl (lv_at hl 1 rfl) ?_
      refine lv_aload_n hx hb dX1_split_18 rfl (lv_at hl 0 rfl) ?_
      refine g_geti CF hK hM4 60 (hL.2.1.1 60 _ rfl) 2 2 rfl rfl (by decide) (Or.inl (hts _ q284)) (fun _ h => h) rfl dX1_split_19 ?_
      refine x_top (b := ρ 60 0) hmκ ?_
      refine x_icmp_ge (tgt := 52) hx hb dX1_split_22 (by decide) (by omega) (by omega) (fun b22 => ?_) (fun b22 => ?_)
      · refine lv_iconst (v := jI 0) hx hb dX1_split_52 rfl ?_
        refine lv_istore_n (lv' := [(1, .int (jI 0)), (0, .ref (G.2.2 60))]) hx hb dX1_split_53 rfl hl (by decide) rfl (fun ls hl => ?_)
        have c54 : ∀ (n54 : Nat) (co : Nat) (κ : y_S) (τ1 : y_S) (f : Nat) (H : Heap) (locs : List Loc) (ls : Array Slot), ((co : Int) ≤ ρ 60 0 - 1) → (lgR E κ G τ1) → (κ 60 0 = ρ 60 0) → (κ 60 17 = 1) → (lfR (ρ 60 0) κ τ1) → (m97 36 (κ 12)) → (2 * κ 60 16 = (co : Int) * (2 * ρ 60 0 - 1 - (co : Int))) → (ρ 60 0 - 1 ≤ (f : Int) + (co : Int)) → (spC f (co : Int) κ = spC 6 0 (sp0 ρ)) → ((ρ 60 0).toNat - co < n54) → gM E (gA G sz) G τ1 s.heap H locs → lv_has ls 5 [(0, .ref (G.2.2 60)), (1, .int (jI ((co : Int))))] → W p l e ({ frames := 3, cells := 0, slots := 0, locals := 71 } : Room) s m ([.ref (G.2.2 60)] : List Value).toArray below meth c H locs 0 0 (MQ below (gQ E G sz (lPo E (oSplit ρ))) ([.ref (G.2.2 60)] : List Value).toArray s 0 0 (gA G sz)) (F0 m 54 ls []) := by
          intro n54
          induction n54 with
          | zero => intro co κ τ1 f H locs ls hc hL1 he h17 hlf h97 hct hf hg hmu; exact absurd hmu (Nat.not_lt_zero _)
          | succ n54 ih54 =>
            intro co κ τ1 f H locs ls hc hL1 he h17 hlf h97 hct hf hg hmu54 hM5 hl
            have hmκ : τ1 60 2 = ρ 60 0 := hL1.2.2.1.1.trans he
            refine lv_iload_n hx hb dX1_split_54 rfl (lv_at hl 1 rfl) ?_
            refine lv_aload_n hx hb dX1_split_55 rfl (lv_at hl 0 rfl) ?_
            refine g_geti CF hK hM5 60 (hL.2.1.1 60 _ rfl) 2 2 rfl rfl (by decide) (Or.inl (hts _ q284)) (fun _ h => h) rfl dX1_split_56 ?_
            refine x_top (b := ρ 60 0) hmκ ?_
            refine lv_iconst (v := jI 1) hx hb dX1_split_59 rfl ?_
            refine x_isub hx hb dX1_split_60 ?_
            refine x_icmp_ge (tgt := 194) hx hb dX1_split_61 (by decide) (by omega) (by omega) (fun b61 => ?_) (fun b61 => ?_)
            · refine lv_iconst (v := jI 0) hx hb dX1_split_194 rfl ?_
              refine lv_istore_n (lv' := [(1, .int (jI 0)), (0, .ref (G.2.2 60))]) hx hb dX1_split_195 rfl hl (by decide) rfl (fun ls hl => ?_)
              have c196 : ∀ (n196 : Nat) (j : Nat) (H : Heap) (locs : List Loc) (ls : Array Slot), ((j : Int) ≤ ρ 60 0) → ((ρ 60 0).toNat - j < n196) → gM E (gA G sz) G (upT τ1 14 (fillN (τ1 14) (fun q => τ1 (210 + q.toNat) q) (j : Int))) s.heap H locs → lv_has ls 5 [(0, .ref (G.2.2 60)), (1, .int (jI ((j : Int))))] → W p l e ({ frames := 3, cells := 0, slots := 0, locals := 71 } : Room) s m ([.ref (G.2.2 60)] : List Value).toArray below meth c H locs 0 0 (MQ below (gQ E G sz (lPo E (oSplit ρ))) ([.ref (G.2.2 60)] : List Value).toArray s 0 0 (gA G sz)) (F0 m 196 ls []) := by
                intro n196
                induction n196 with
                | zero => intro j H locs ls hj hmu; exact absurd hmu (Nat.not_lt_zero _)
                | succ n196 ih196 =>
                  intro j H locs ls hj hmu196 hM6 hl
                  refine lv_iload_n hx hb dX1_split_196 rfl (lv_at hl 1 rfl) ?_
                  refine lv_aload_n hx hb dX1_split_197 rfl (lv_at hl 0 rfl) ?_
                  refine g_geti CF hK hM6 60 (hL.2.1.1 60 _ rfl) 2 2 rfl rfl (by decide) (Or.inl (hts _ q284)) (fun _ h => h) rfl dX1_split_198 ?_
                  refine x_top (b := τ1 60 2) rfl ?_
                  refine x_top (b := ρ 60 0) hmκ ?_
                  refine x_icmp_ge (tgt := 224) hx hb dX1_split_201 (by decide) (by omega) (by omega) (fun b201 => ?_) (fun b201 => ?_)
                  · refine lv_aload_n hx hb dX1_split_224 rfl (lv_at hl 0 rfl) ?_
                    refine g_geti CF hK hM6 60 (hL.2.1.1 60 _ rfl) 15 15 rfl rfl (by decide) (Or.inl (hts _ q301)) (fun _ h => h) rfl dX1_split_225 ?_
                    refine x_top (b := τ1 60 15) rfl ?_
                    exact g_iret CF hr hlocks hM6 (have h1 : oSplit ρ = (κ 60 16, spF κ) := oSplit_e (by rw [← hg, spC_e (by omega)]); lPo_i (by rw [h1]; exact hL1.2.2.2.1.2.1.1.symm) (by have hk := ok_split hO; rw [h1] at hk ⊢; rw [show (j : Int) = κ 60 0 by omega]; exact lgR_sgn hL1 (fun q a b => (by rw [hlf q.toNat q (by omega) a (by omega), show 6 * q + ((q.toNat : Nat) : Int) = 7 * q by omega])) hk)) (by decide) (by decide) dX1_split_228
                  · refine lv_aload_n hx hb dX1_split_204 rfl (lv_at hl 0 rfl) ?_
                    refine g_getr CF hK hM6 60 (hL.2.1.1 60 _ rfl) 14 14 rfl rfl (by decide) (Or.inl (hts _ q300)) (fun _ h => h) rfl (G.2.2 14) (hL.2.1.2.1 14 14 rfl) dX1_split_205 ?_
                    refine lv_iload_n hx hb dX1_split_208 rfl (lv_at hl 1 rfl) ?_
                    refine lv_aload_n hx hb dX1_split_209 rfl (lv_at hl 0 rfl) ?_
                    refine g_getr CF hK hM6 60 (hL.2.1.1 60 _ rfl) 11 11 rfl rfl (by decide) (Or.inl (hts _ q297)) (fun _ h => h) rfl (G.2.2 11) (hL.2.1.2.1 11 11 rfl) dX1_split_210 ?_
                    refine lv_iload_n hx hb dX1_split_213 rfl (lv_at hl 1 rfl) ?_
                    refine g_aaldr CF hK hM6 11 (hL.2.1.1 11 _ rfl) (by decide) rfl (i := (j : Int)) (by omega) (by omega) (by omega) (G.2.2 (210 + j)) ((hL.2.1.2.2.2.2.2.2.2.2.2.1 j (by omega)).2.1) dX1_split_214 ?_
                    refine lv_iload_n hx hb dX1_split_215 rfl (lv_at hl 1 rfl) ?_
                    refine g_iald CF hK hM6 (210 + j) (hL.2.1.1 _ _ (lKd_to (by omega)).2.1) (i := (j : Int)) (by omega) (by omega) (by omega) dX1_split_216 ?_
                    refine x_top (b := τ1 (210 + j) (j : Int)) (by rw [upT_n _ _ (by omega)]) ?_
                    refine g_iast CF hK hM6 14 (by decide) (hL.2.1.1 14 _ rfl) (i := (j : Int)) (v := τ1 (210 + j) (j : Int)) (by omega) (by omega) (by omega) (by have f0 := (show R32 (τ1 (210 + j) (j : Int)) from (by have z := h97 (6 * (j : Int) + (j : Int)) (by omega) (by omega); rw [hlf j (j : Int) (by omega) (by omega) (by omega)]; omega)); omega) dX1_split_217 (fun H locs hM7 => ?_)
                    refine x_iinc (lv' := [(1, .int (jI (((j : Int)) + 1))), (0, .ref (G.2.2 60))]) hx hb dX1_split_218 hl (k := 1) rfl (by decide) rfl (fun ls hl => ?_)
                    refine lv_goto (tgt := 196) hx hb dX1_split_221 (by decide) ?_
                    exact ih196  ((j + 1)) _ _ _ (by first | omega | assumption | rfl) (by omega) (gM_eq (up2_fill (i := (j : Int)) (by omega) rfl) hM7) (lv_sub hl [1, 0] rfl)
              exact c196 _ 0 _ _ _ (by first | omega | assumption | rfl) (Nat.lt_succ_self _) (gM_eq fill_0 hM5) (lv_sub hl [1, 0] rfl)
            · obtain ⟨f', rfl⟩ : ∃ z : Nat, f = z + 1 := ⟨f - 1, by omega⟩
              refine lv_aload_n hx hb dX1_split_64 rfl (lv_at hl 0 rfl) ?_
              refine g_geti CF hK hM5 60 (hL.2.1.1 60 _ rfl) 2 2 rfl rfl (by decide) (Or.inl (hts _ q284)) (fun _ h => h) rfl dX1_split_65 ?_
              refine x_top (b := ρ 60 0) hmκ ?_
              refine lv_iconst (v := jI 1) hx hb dX1_split_68 rfl ?_
              refine x_isub hx hb dX1_split_69 ?_
              refine lv_istore_n (lv' := [(2, .int (jI ((ρ 60 0) - 1))), (0, .ref (G.2.2 60)), (1, .int (jI ((co : Int))))]) hx hb dX1_split_70 rfl hl (by decide) rfl (fun ls hl => ?_)
              have c71 : ∀ (n71 : Nat) (r : Nat) (κ2 : y_S) (τ2 : y_S) (f2 : Nat) (H : Heap) (locs : List Loc) (ls : Array Slot), (co ≤ r) → ((r : Int) ≤ ρ 60 0 - 1) → (lgR E κ2 G τ2) → (κ2 60 0 = ρ 60 0) → (κ2 60 17 = 1) → (lfR (ρ 60 0) κ2 τ2) → (m97 36 (κ2 12)) → (2 * κ2 60 16 = (co : Int) * (2 * ρ 60 0 - 1 - (co : Int)) + 2 * (ρ 60 0 - 1 - (r : Int))) → ((r : Int) ≤ (f2 : Int) + (co : Int)) → (spR (co : Int) f2 (r : Int) κ2 = spR (co : Int) 6 (ρ 60 0 - 1) κ) → (r < n71) → gM E (gA G sz) G τ2 s.heap H locs → lv_has ls 5 [(0, .ref (G.2.2 60)), (1, .int (jI ((co : Int)))), (2, .int (jI ((r : Int))))] → W p l e ({ frames := 3, cells := 0, slots := 0, locals := 71 } : Room) s m ([.ref (G.2.2 60)] : List Value).toArray below meth c H locs 0 0 (MQ below (gQ E G sz (lPo E (oSplit ρ))) ([.ref (G.2.2 60)] : List Value).toArray s 0 0 (gA G sz)) (F0 m 71 ls []) := by
                intro n71
                induction n71 with
                | zero => intro r κ2 τ2 f2 H locs ls hr0 hr1 hL2 he2 h172 hlf2 h972 hct2 hf2 hg2 hmu; exact absurd hmu (Nat.not_lt_zero _)
                | succ n71 ih71 =>
                  intro r κ2 τ2 f2 H locs ls hr0 hr1 hL2 he2 h172 hlf2 h972 hct2 hf2 hg2 hmu71 hM8 hl
                  refine lv_iload_n hx hb dX1_split_71 rfl (lv_at hl 2 rfl) ?_
                  refine lv_iload_n hx hb dX1_split_72 rfl (lv_at hl 1 rfl) ?_
                  refine x_icmp_le (tgt := 188) hx hb dX1_split_73 (by decide) (by omega) (by omega) (fun b73 => ?_) (fun b73 => ?_)
                  · refine x_iinc (lv' := [(1, .int (jI (((co : Int)) + 1))), (0, .ref (G.2.2 60)), (2, .int (jI ((r : Int))))]) hx hb dX1_split_188 hl (k := 1) rfl (by decide) rfl (fun ls hl => ?_)
                    refine lv_goto (tgt := 54) hx hb dX1_split_191 (by decide) ?_
                    exact ih54  ((co + 1)) κ2 τ2 f' _ _ _ (by first | omega | assumption | rfl) hL2 he2 h172 hlf2 h972 (by have := spNext (n := ρ 60 0) (col := (co : Int)) (by omega); rw [show (r : Int) = (co : Int) by omega] at hct2; rw [show ((co + 1 : Nat) : Int) = (co : Int) + 1 by omega]; omega) (by first | omega | assumption | rfl) (by rw [← hg, spC_s (υ := κ2) (by omega) (by rw [he]; exact hg2.symm.trans (spR_e (by omega)))]; rfl) (by omega) hM8 (lv_sub hl [1, 0] rfl)
                  · obtain ⟨r', rfl⟩ : ∃ z : Nat, r = z + 1 := ⟨r - 1, by omega⟩
                    obtain ⟨f2', rfl⟩ : ∃ z : Nat, f2 = z + 1 := ⟨f2 - 1, by omega⟩
                    have hlc := spCount hn.2 (col := (co : Int)) (r := ((r' + 1 : Nat) : Int)) (st := κ2 60 16) (by omega) (by omega) (by omega) hct2
                    have w1 := h972 (6 * (((r' + 1 : Nat) : Int) - 1) + (co : Int)) (by omega) (by omega)
                    have w2 := h972 (6 * ((r' + 1 : Nat) : Int) + (co : Int)) (by omega) (by omega)
                    have hcl : 0 ≤ spK κ2 (co : Int) ((r' + 1 : Nat) : Int) ∧ spK κ2 (co : Int) ((r' + 1 : Nat) : Int) ≤ 96 := mClr_r κ2 _ _
                    have hsk : spK κ2 (co : Int) ((r' + 1 : Nat) : Int) = mClr κ2 (κ2 12 (6 * (((r' + 1 : Nat) : Int) - 1) + (co : Int))) (κ2 12 (6 * ((r' + 1 : Nat) : Int) + (co : Int))) := rfl
                    refine lv_aload_n hx hb dX1_split_76 rfl (lv_at hl 0 rfl) ?_
                    refine lv_aload_n hx hb dX1_split_77 rfl (lv_at hl 0 rfl) ?_
                    refine g_getr CF hK hM8 60 (hL.2.1.1 60 _ rfl) 11 11 rfl rfl (by decide) (Or.inl (hts _ q297)) (fun _ h => h) rfl (G.2.2 11) (hL.2.1.2.1 11 11 rfl) dX1_split_78 ?_
                    refine lv_iload_n hx hb dX1_split_81 rfl (lv_at hl 1 rfl) ?_
                    refine g_aaldr CF hK hM8 11 (hL.2.1.1 11 _ rfl) (by decide) rfl (i := (co : Int)) (by omega) (by omega) (by omega) (G.2.2 (210 + co)) ((hL.2.1.2.2.2.2.2.2.2.2.2.1 co (by omega)).2.1) dX1_split_82 ?_
                    refine lv_iload_n hx hb dX1_split_83 rfl (lv_at hl 2 rfl) ?_
                    refine lv_iconst (v := jI 1) hx hb dX1_split_84 rfl ?_
                    refine x_isub hx hb dX1_split_85 ?_
                    refine g_iald CF hK hM8 (210 + co) (hL.2.1.1 _ _ (lKd_to (by omega)).2.1) (i := (((r' + 1 : Nat) : Int)) - 1) (by omega) (by omega) (by omega) dX1_split_86 ?_
                    refine x_top (b := κ2 12 (6 * (((r' + 1 : Nat) : Int) - 1) + (co : Int))) (hlf2 co _ (by omega) (by omega) (by omega)) ?_
                    refine lv_aload_n hx hb dX1_split_87 rfl (lv_at hl 0 rfl) ?_
                    refine g_getr CF hK hM8 60 (hL.2.1.1 60 _ rfl) 11 11 rfl rfl (by decide) (Or.inl (hts _ q297)) (fun _ h => h) rfl (G.2.2 11) (hL.2.1.2.1 11 11 rfl) dX1_split_88 ?_
                    refine lv_iload_n hx hb dX1_split_91 rfl (lv_at hl 1 rfl) ?_
                    refine g_aaldr CF hK hM8 11 (hL.2.1.1 11 _ rfl) (by decide) rfl (i := (co : Int)) (by omega) (by omega) (by omega) (G.2.2 (210 + co)) ((hL.2.1.2.2.2.2.2.2.2.2.2.1 co (by omega)).2.1) dX1_split_92 ?_
                    refine lv_iload_n hx hb dX1_split_93 rfl (lv_at hl 2 rfl) ?_
                    refine g_iald CF hK hM8 (210 + co) (hL.2.1.1 _ _ (lKd_to (by omega)).2.1) (i := ((r' + 1 : Nat) : Int)) (by omega) (by omega) (by omega) dX1_split_94 ?_
                    refine x_top (b := κ2 12 (6 * ((r' + 1 : Nat) : Int) + (co : Int))) (hlf2 co _ (by omega) (by omega) (by omega)) ?_
                    refine g_calli (r := if mClr κ2 (κ2 12 (6 * (((r' + 1 : Nat) : Int) - 1) + (co : Int))) (κ2 12 (6 * ((r' + 1 : Nat) : Int) + (co : Int))) = 96 then -1 else mClr κ2 (κ2 12 (6 * (((r' + 1 : Nat) : Int) - 1) + (co : Int))) (κ2 12 (6 * ((r' + 1 : Nat) : Int) + (co : Int)))) hM8 hA (g_runV (As := [.int (jI (κ2 12 (6 * (((r' + 1 : Nat) : Int) - 1) + (co : Int)))), .int (jI (κ2 12 (6 * ((r' + 1 : Nat) : Int) + (co : Int))))]) (rest := []) CF hK hM8 (hL.2.1.1 60 _ rfl) rfl (l_turnFor l E _ _ _ κ2 (κ2 12 (6 * (((r' + 1 : Nat) : Int) - 1) + (co : Int))) (κ2 12 (6 * ((r' + 1 : Nat) : Int) + (co : Int))) hL2 (by first | omega | assumption | (refine ⟨?_, ?_⟩ <;> omega)) (by first | omega | assumption | (refine ⟨?_, ?_⟩ <;> omega)) (by first | omega | assumption | (refine ⟨?_, ?_⟩ <;> omega)) (by first | omega | assumption | (refine ⟨?_, ?_⟩ <;> omega))) (cwV 2 hts (lw_V q550 q552 qs5 q60 q553) rfl rfl rfl (by decide +kernel) ⟨Nat.le_of_ble_eq_true rfl, Nat.le_of_ble_eq_true rfl⟩) rfl hl.1 rfl (Nat.le_of_ble_eq_true rfl) dX1_split_95 ⟨Nat.le_of_ble_eq_true rfl, Nat.le_of_ble_eq_true rfl⟩) (fun H locs hM9 => ?_)
                    refine lv_istore_n (lv' := [(3, .int (jI (if mClr κ2 (κ2 12 (6 * (((r' + 1 : Nat) : Int) - 1) + (co : Int))) (κ2 12 (6 * ((r' + 1 : Nat) : Int) + (co : Int))) = 96 then -1 else mClr κ2 (κ2 12 (6 * (((r' + 1 : Nat) : Int) - 1) + (co : Int))) (κ2 12 (6 * ((r' + 1 : Nat) : Int) + (co : Int)))))), (0, .ref (G.2.2 60)), (1, .int (jI ((co : Int)))), (2, .int (jI (((r' + 1 : Nat) : Int))))]) hx hb dX1_split_98 rfl hl (by decide) rfl (fun ls hl => ?_)
                    refine lv_iload_n hx hb dX1_split_99 rfl (lv_at hl 0 rfl) ?_
                    refine lv_iconst (v := jI (-1)) hx hb dX1_split_100 rfl ?_
                    refine x_icmp_ne (tgt := 120) hx hb dX1_split_101 (by decide) (by omega) (by omega) (fun b101 => ?_) (fun b101 => ?_)
                    · have h96 : spK κ2 (co : Int) ((r' + 1 : Nat) : Int) ≠ 96 := fun q => b101 (by rw [← hsk, if_pos q])
                      have hl := lv_cast hl (b := [(3, .int (jI (spK κ2 (co : Int) ((r' + 1 : Nat) : Int)))), (0, .ref (G.2.2 60)), (1, .int (jI ((co : Int)))), (2, .int (jI (((r' + 1 : Nat) : Int))))]) (by rw [if_neg (show ¬ mClr κ2 (κ2 12 (6 * (((r' + 1 : Nat) : Int) - 1) + (co : Int))) (κ2 12 (6 * ((r' + 1 : Nat) : Int) + (co : Int))) = 96 from h96)]; rfl)
                      refine lv_iconst (v := jI 0) hx hb dX1_split_120 rfl ?_
                      refine lv_istore (lv' := [(4, .int (jI 0)), (3, .int (jI (spK κ2 (co : Int) ((r' + 1 : Nat) : Int)))), (0, .ref (G.2.2 60)), (1, .int (jI ((co : Int)))), (2, .int (jI (((r' + 1 : Nat) : Int))))]) hx hb dX1_split_121 hl (by decide) rfl (fun ls hl => ?_)
                      have c123 : ∀ (n123 : Nat) (d : Nat) (κ3 : y_S) (τ3 : y_S) (f3 : Nat) (H : Heap) (locs : List Loc) (ls : Array Slot), ((d : Int) ≤ ρ 60 0) → (lgR E κ3 G τ3) → (κ3 60 = κ2 60) → (lfR (ρ 60 0) κ3 τ3) → (m97 36 (κ3 12)) → (ρ 60 0 ≤ (f3 : Int) + (d : Int)) → (spJ (spK κ2 (co : Int) ((r' + 1 : Nat) : Int)) ((r' + 1 : Nat) : Int) f3 (d : Int) κ3 = spJ (spK κ2 (co : Int) ((r' + 1 : Nat) : Int)) ((r' + 1 : Nat) : Int) 6 0 κ2) → ((ρ 60 0).toNat - d < n123) → gM E (gA G sz) G τ3 s.heap H locs → lv_has ls 5 [(0, .ref (G.2.2 60)), (1, .int (jI ((co : Int)))), (2, .int (jI (((r' + 1 : Nat) : Int)))), (3, .int (jI (spK κ2 (co : Int) ((r' + 1 : Nat) : Int)))), (4, .int (jI ((d : Int))))] → W p l e ({ frames := 3, cells := 0, slots := 0, locals := 71 } : Room) s m ([.ref (G.2.2 60)] : List Value).toArray below meth c H locs 0 0 (MQ below (gQ E G sz (lPo E (oSplit ρ))) ([.ref (G.2.2 60)] : List Value).toArray s 0 0 (gA G sz)) (F0 m 123 ls []) := by
                        intro n123
                        induction n123 with
                        | zero => intro d κ3 τ3 f3 H locs ls hd3 hL3 he3 hlf3 h973 hf3 hg3 hmu; exact absurd hmu (Nat.not_lt_zero _)
                        | succ n123 ih123 =>
                          intro d κ3 τ3 f3 H locs ls hd3 hL3 he3 hlf3 h973 hf3 hg3 hmu123 hM10 hl
                          have hm3 : τ3 60 2 = ρ 60 0 := hL3.2.2.1.1.trans (by rw [he3]; exact he2)
                          refine lv_iload hx hb dX1_split_123 (lv_at hl 4 rfl) ?_
                          refine lv_aload_n hx hb dX1_split_125 rfl (lv_at hl 0 rfl) ?_
                          refine g_geti CF hK hM10 60 (hL.2.1.1 60 _ rfl) 2 2 rfl rfl (by decide) (Or.inl (hts _ q284)) (fun _ h => h) rfl dX1_split_126 ?_
                          refine x_top (b := ρ 60 0) hm3 ?_
                          refine x_icmp_ge (tgt := 153) hx hb dX1_split_129 (by decide) (by omega) (by omega) (fun b129 => ?_) (fun b129 => ?_)
                          · have hs16 : κ3 60 16 = κ2 60 16 := (by rw [he3])
                            have hs15 : τ3 60 15 = κ3 60 16 := hL3.2.2.2.1.2.1.1
                            have hkn : mOk (spN κ3 (spK κ2 (co : Int) ((r' + 1 : Nat) : Int)) ((r' + 1 : Nat) : Int)) := ok_spN hL3.1 (by omega) (by omega) (by omega) (by omega) (by omega) (by have := hlc.2.2 (by omega); omega)
                            have hLn : lgR E (spN κ3 (spK κ2 (co : Int) ((r' + 1 : Nat) : Int)) ((r' + 1 : Nat) : Int)) G (up2 (up2 (up2 τ3 12 (τ3 60 15) (((r' + 1 : Nat) : Int) - 1)) 60 15 (τ3 60 15 + 1)) 13 (τ3 60 15) (spK κ2 (co : Int) ((r' + 1 : Nat) : Int))) := lgR_stepN hL3 hs15 hkn
                            have hen : spN κ3 (spK κ2 (co : Int) ((r' + 1 : Nat) : Int)) ((r' + 1 : Nat) : Int) 60 0 = ρ 60 0 := (by show κ3 60 0 = _; rw [he3]; exact he2)
                            have h17n : spN κ3 (spK κ2 (co : Int) ((r' + 1 : Nat) : Int)) ((r' + 1 : Nat) : Int) 60 17 = 1 := (by show κ3 60 17 = _; rw [he3]; exact h172)
                            have hlfn : lfR (ρ 60 0) (spN κ3 (spK κ2 (co : Int) ((r' + 1 : Nat) : Int)) ((r' + 1 : Nat) : Int)) (up2 (up2 (up2 τ3 12 (τ3 60 15) (((r' + 1 : Nat) : Int) - 1)) 60 15 (τ3 60 15 + 1)) 13 (τ3 60 15) (spK κ2 (co : Int) ((r' + 1 : Nat) : Int))) := lfR_fr hlf3 hn.2 rfl (fun d2 hd2 => (by rw [up2_n _ _ _ (by omega), up2_n _ _ _ (by omega), up2_n _ _ _ (by omega)]))
                            have hctn : 2 * spN κ3 (spK κ2 (co : Int) ((r' + 1 : Nat) : Int)) ((r' + 1 : Nat) : Int) 60 16 = (co : Int) * (2 * ρ 60 0 - 1 - (co : Int)) + 2 * (ρ 60 0 - 1 - (r' : Int)) := (by show 2 * (κ3 60 16 + 1) = _; omega)
                            have hgn : spR (co : Int) f2' (r' : Int) (spN κ3 (spK κ2 (co : Int) ((r' + 1 : Nat) : Int)) ((r' + 1 : Nat) : Int)) = spR (co : Int) 6 (ρ 60 0 - 1) κ := (by rw [← hg2, spR_s (by omega) h96, ← hg3, spJ_e (by rw [he3]; omega), show ((r' + 1 : Nat) : Int) - 1 = (r' : Int) by omega])
                            refine lv_aload_n hx hb dX1_split_153 rfl (lv_at hl 0 rfl) ?_
                            refine g_getr CF hK hM10 60 (hL.2.1.1 60 _ rfl) 12 12 rfl rfl (by decide) (Or.inl (hts _ q298)) (fun _ h => h) rfl (G.2.2 12) (hL.2.1.2.1 12 12 rfl) dX1_split_154 ?_
                            refine lv_aload_n hx hb dX1_split_157 rfl (lv_at hl 0 rfl) ?_
                            refine g_geti CF hK hM10 60 (hL.2.1.1 60 _ rfl) 15 15 rfl rfl (by decide) (Or.inl (hts _ q301)) (fun _ h => h) rfl dX1_split_158 ?_
                            refine lv_iload_n hx hb dX1_split_161 rfl (lv_at hl 2 rfl) ?_
                            refine lv_iconst (v := jI 1) hx hb dX1_split_162 rfl ?_
                            refine x_isub hx hb dX1_split_163 ?_
                            refine g_iast CF hK hM10 12 (by decide) (hL.2.1.1 12 _ rfl) (i := τ3 60 15) (v := (((r' + 1 : Nat) : Int)) - 1) (by have f0 := hM10.r 60 15; omega) (by have f0 := hM10.r 60 15; omega) (by omega) (by omega) dX1_split_164 (fun H locs hM11 => ?_)
                            refine lv_aload_n hx hb dX1_split_165 rfl (lv_at hl 0 rfl) ?_
                            refine g_getr CF hK hM11 60 (hL.2.1.1 60 _ rfl) 13 13 rfl rfl (by decide) (Or.inl (hts _ q299)) (fun _ h => h) rfl (G.2.2 13) (hL.2.1.2.1 13 13 rfl) dX1_split_166 ?_
                            refine lv_aload_n hx hb dX1_split_169 rfl (lv_at hl 0 rfl) ?_
                            refine lv_dup hx hb dX1_split_170 rfl ?_
                            refine g_geti CF hK hM11 60 (hL.2.1.1 60 _ rfl) 15 15 rfl rfl (by decide) (Or.inl (hts _ q301)) (fun _ h => h) rfl dX1_split_171 ?_
                            refine x_top (b := τ3 60 15) rfl ?_
                            refine lv_dup_x1 hx hb dX1_split_174 rfl rfl ?_
                            refine lv_iconst (v := jI 1) hx hb dX1_split_175 rfl ?_
                            refine x_iadd hx hb dX1_split_176 ?_
                            refine g_puti CF hK hM11 60 (by decide) (hL.2.1.1 60 _ rfl) 15 15 rfl rfl (by decide) (Or.inl (hts _ q301)) (fun _ h => h) (Or.inl rfl) rfl (v := (τ3 60 15) + 1) rfl rfl (by have f0 := (show R32 (τ3 60 15) from hM11.r 60 15); omega) dX1_split_177 (fun H locs hM12 => ?_)
                            refine lv_iload_n hx hb dX1_split_180 rfl (lv_at hl 3 rfl) ?_
                            refine g_iast CF hK hM12 13 (by decide) (hL.2.1.1 13 _ rfl) (i := τ3 60 15) (v := spK κ2 (co : Int) ((r' + 1 : Nat) : Int)) (by have f0 := (show R32 (τ3 60 15) from hM11.r 60 15); omega) (by have f0 := (show R32 (τ3 60 15) from hM11.r 60 15); omega) (by omega) (by omega) dX1_split_181 (fun H locs hM13 => ?_)
                            refine x_iinc (lv' := [(2, .int (jI ((((r' + 1 : Nat) : Int)) - 1))), (0, .ref (G.2.2 60)), (1, .int (jI ((co : Int)))), (3, .int (jI (spK κ2 (co : Int) ((r' + 1 : Nat) : Int)))), (4, .int (jI ((d : Int))))]) hx hb dX1_split_182 hl (k := 2) rfl (by decide) rfl (fun ls hl => ?_)
                            refine lv_goto (tgt := 71) hx hb dX1_split_185 (by decide) ?_
                            exact ih71  r' ((spN κ3 (spK κ2 (co : Int) ((r' + 1 : Nat) : Int)) ((r' + 1 : Nat) : Int))) (up2 (up2 (up2 τ3 12 (τ3 60 15) ((((r' + 1 : Nat) : Int)) - 1)) 60 15 ((τ3 60 15) + 1)) 13 (τ3 60 15) (spK κ2 (co : Int) ((r' + 1 : Nat) : Int))) f2' _ _ _ (by first | omega | assumption | rfl) (by first | omega | assumption | rfl) hLn hen h17n hlfn h973 hctn (by first | omega | assumption | rfl) hgn (by omega) hM13 (lv_cast (lv_sub hl [1, 2, 0] rfl) (by rw [(show ((r' + 1 : Nat) : Int) - 1 = (r' : Int) by omega)]; rfl))
                          · obtain ⟨f3', rfl⟩ : ∃ z : Nat, f3 = z + 1 := ⟨f3 - 1, by omega⟩
                            have hx3 := h973 (6 * (((r' + 1 : Nat) : Int) - 1) + (d : Int)) (by omega) (by omega)
                            have hx4 := h973 (6 * ((r' + 1 : Nat) : Int) + (d : Int)) (by omega) (by omega)
                            have hy3 := hlf3 d (((r' + 1 : Nat) : Int) - 1) (by omega) (by omega) (by omega)
                            have hy4 := hlf3 d (((r' + 1 : Nat) : Int) - 1 + 1) (by omega) (by omega) (by omega)
                            rw [show (((r' + 1 : Nat) : Int) - 1 + 1) = ((r' + 1 : Nat) : Int) by omega] at hy4
                            refine lv_aload_n hx hb dX1_split_132 rfl (lv_at hl 0 rfl) ?_
                            refine lv_aload_n hx hb dX1_split_133 rfl (lv_at hl 0 rfl) ?_
                            refine g_getr CF hK hM10 60 (hL.2.1.1 60 _ rfl) 11 11 rfl rfl (by decide) (Or.inl (hts _ q297)) (fun _ h => h) rfl (G.2.2 11) (hL.2.1.2.1 11 11 rfl) dX1_split_134 ?_
                            refine lv_iload hx hb dX1_split_137 (lv_at hl 4 rfl) ?_
                            refine g_aaldr CF hK hM10 11 (hL.2.1.1 11 _ rfl) (by decide) rfl (i := (d : Int)) (by omega) (by omega) (by omega) (G.2.2 (210 + d)) ((hL.2.1.2.2.2.2.2.2.2.2.2.1 d (by omega)).2.1) dX1_split_139 ?_
                            refine lv_iload_n hx hb dX1_split_140 rfl (lv_at hl 2 rfl) ?_
                            refine lv_iconst (v := jI 1) hx hb dX1_split_141 rfl ?_
                            refine x_isub hx hb dX1_split_142 ?_
                            refine lv_iload_n hx hb dX1_split_143 rfl (lv_at hl 3 rfl) ?_
                            refine g_callv hM10 hA (g_runV (As := [.ref (G.2.2 (210 + d)), .int (jI ((((r' + 1 : Nat) : Int)) - 1)), .int (jI (spK κ2 (co : Int) ((r' + 1 : Nat) : Int)))]) (rest := []) CF hK hM10 (hL.2.1.1 60 _ rfl) rfl (l_turns l E _ _ _ κ3 (210 + d) ((((r' + 1 : Nat) : Int)) - 1) (spK κ2 (co : Int) ((r' + 1 : Nat) : Int)) hL3 (hL.2.1.1 _ _ (lKd_to (by omega)).2.1) (by omega) (by unfold lgT; have := hL3.1.rn; have := hL3.1.fe; have := hL3.1.h48; omega) (by omega) (by first | omega | assumption | (refine ⟨?_, ?_⟩ <;> omega)) (by first | omega | assumption | (refine ⟨?_, ?_⟩ <;> omega)) (by omega) (by rw [show (((r' + 1 : Nat) : Int) - 1 + 1) = ((r' + 1 : Nat) : Int) by omega]; omega) (by first | omega | assumption | (refine ⟨?_, ?_⟩ <;> omega)) (by first | omega | assumption | (refine ⟨?_, ?_⟩ <;> omega))) (cwV 3 hts (lw_V q554 q529 qs4 q60 q530) rfl rfl rfl (by decide +kernel) ⟨Nat.le_of_ble_eq_true rfl, Nat.le_of_ble_eq_true rfl⟩) rfl hl.1 rfl (Nat.le_of_ble_eq_true rfl) dX1_split_144 ⟨Nat.le_of_ble_eq_true rfl, Nat.le_of_ble_eq_true rfl⟩) (fun H locs hM14 => ?_)
                            refine x_iinc (lv' := [(4, .int (jI (((d : Int)) + 1))), (0, .ref (G.2.2 60)), (1, .int (jI ((co : Int)))), (2, .int (jI (((r' + 1 : Nat) : Int)))), (3, .int (jI (spK κ2 (co : Int) ((r' + 1 : Nat) : Int))))]) hx hb dX1_split_147 hl (k := 4) rfl (by decide) rfl (fun ls hl => ?_)
                            refine lv_goto (tgt := 123) hx hb dX1_split_150 (by decide) ?_
                            exact ih123  ((d + 1)) ((spV κ3 (spK κ2 (co : Int) ((r' + 1 : Nat) : Int)) ((r' + 1 : Nat) : Int) (d : Int))) (upT τ3 (210 + d) (tRow (κ3 1) (κ3 2) (τ3 (210 + d)) ((((r' + 1 : Nat) : Int)) - 1) (spK κ2 (co : Int) ((r' + 1 : Nat) : Int)))) f3' _ _ _ (by first | omega | assumption | rfl) ((hL3.uT (by unfold lgT; have := hL3.1.rn; have := hL3.1.fe; have := hL3.1.h48; omega) (by omega)).rho (ok_spV hL3.1 _ _ _) lgE_spV) he3 (lfR_v hlf3 hn.2 (by omega) (by omega) (by omega)) (spV_97 h973 _ _ _) (by first | omega | assumption | rfl) ((spJ_s (by rw [he3]; omega)).symm.trans hg3) (by omega) hM14 (lv_sub hl [1, 2, 3, 4, 0] rfl)
                      exact c123 _ 0 κ2 τ2 6 _ _ _ (by first | omega | assumption | rfl) hL2 rfl hlf2 h972 (by first | omega | assumption | rfl) rfl (Nat.lt_succ_self _) hM9 (lv_sub hl [2, 3, 4, 1, 0] rfl)
                    · have h96 : spK κ2 (co : Int) ((r' + 1 : Nat) : Int) = 96 := (by rw [hsk]; exact Decidable.byContradiction (fun q => absurd b101 (by rw [if_neg q]; omega)))
                      refine lv_aload_n hx hb dX1_split_104 rfl (lv_at hl 1 rfl) ?_
                      refine lv_aload_n hx hb dX1_split_105 rfl (lv_at hl 1 rfl) ?_
                      refine g_geti CF hK hM9 60 (hL.2.1.1 60 _ rfl) 15 15 rfl rfl (by decide) (Or.inl (hts _ q301)) (fun _ h => h) rfl dX1_split_106 ?_
                      refine g_puti CF hK hM9 60 (by decide) (hL.2.1.1 60 _ rfl) 16 16 rfl rfl (by decide) (Or.inl (hts _ q302)) (fun _ h => h) (Or.inl rfl) rfl (v := τ2 60 15) rfl rfl (by have f0 := hM9.r 60 15; omega) dX1_split_109 (fun H locs hM15 => ?_)
                      refine lv_bipush (v := jI (-10)) hx hb dX1_split_112 (by decide) ?_
                      refine lv_aload_n hx hb dX1_split_114 rfl (lv_at hl 1 rfl) ?_
                      refine g_geti CF hK hM15 60 (hL.2.1.1 60 _ rfl) 16 16 rfl rfl (by decide) (Or.inl (hts _ q302)) (fun _ h => h) rfl dX1_split_115 ?_
                      refine x_top (b := τ2 60 15) rfl ?_
                      refine x_isub hx hb dX1_split_118 ?_
                      exact g_iret CF hr hlocks hM15 (have h1 : oSplit ρ = (-10 - (up2 κ2 60 18 1) 60 16, up2 κ2 60 18 1) := oSplit_x (by rw [← hg, spC_x (by omega) (by rw [he]; exact hg2.symm.trans (spR_x (by omega) h96))]); lPo_i (by rw [h1]; show -10 - κ2 60 16 = _; rw [hL2.2.2.2.1.2.1.1]) (by rw [h1]; exact lgR_lack hL2 (by rw [hL2.2.2.2.1.2.1.1]; omega) (ok_lack hL2.1))) (by decide) (by decide) dX1_split_119
              exact c71 _ ((ρ 60 0 - 1).toNat) κ τ1 6 _ _ _ (by first | omega | assumption | rfl) (by first | omega | assumption | rfl) hL1 he h17 hlf h97 (by rw [hct]; omega) (by first | omega | assumption | rfl) (by rw [Int.toNat_of_nonneg (by omega)]) (Nat.lt_succ_self _) hM5 (lv_cast (lv_sub hl [1, 2, 0] rfl) (by rw [Int.toNat_of_nonneg (show 0 ≤ ρ 60 0 - 1 by omega)]; rfl))
        exact c54 _ 0 ((sp0 ρ)) τ 6 _ _ _ (by first | omega | assumption | rfl) hLκ rfl rfl (fun d2 r a b c2 => (by rw [hcp d2 r (by omega) b c2]; exact (fillN_in (f := ρ 12) (g := ρ 11) (by omega) (by omega)).symm)) (fun k a b => (by show 0 ≤ fillN (ρ 12) (ρ 11) 36 k ∧ fillN (ρ 12) (ρ 11) 36 k ≤ 96; rw [fillN_in a b]; exact hTd k a b)) (by show 2 * (0 : Int) = _; omega) (by first | omega | assumption | rfl) rfl (Nat.lt_succ_self _) hM4 (lv_sub hl [1, 0] rfl)
      · refine lv_aload_n hx hb dX1_split_25 rfl (lv_at hl 0 rfl) ?_
        refine g_getr CF hK hM4 60 (hL.2.1.1 60 _ rfl) 10 10 rfl rfl (by decide) (Or.inl (hts _ q296)) (fun _ h => h) rfl (G.2.2 10) (hL.2.1.2.1 10 10 rfl) dX1_split_26 ?_
        refine lv_iload_n hx hb dX1_split_29 rfl (lv_at hl 1 rfl) ?_
        refine g_aaldr CF hK hM4 10 (hL.2.1.1 10 _ rfl) (by decide) rfl (i := (d : Int)) (by omega) (by omega) (by omega) (G.2.2 (200 + d)) ((hL.2.1.2.2.2.2.2.2.2.2.2.1 d (by omega)).1) dX1_split_30 ?_
        refine lv_iconst (v := jI 0) hx hb dX1_split_31 rfl ?_
        refine lv_aload_n hx hb dX1_split_32 rfl (lv_at hl 0 rfl) ?_
        refine g_getr CF hK hM4 60 (hL.2.1.1 60 _ rfl) 11 11 rfl rfl (by decide) (Or.inl (hts _ q297)) (fun _ h => h) rfl (G.2.2 11) (hL.2.1.2.1 11 11 rfl) dX1_split_33 ?_
        refine lv_iload_n hx hb dX1_split_36 rfl (lv_at hl 1 rfl) ?_
        refine g_aaldr CF hK hM4 11 (hL.2.1.1 11 _ rfl) (by decide) rfl (i := (d : Int)) (by omega) (by omega) (by omega) (G.2.2 (210 + d)) ((hL.2.1.2.2.2.2.2.2.2.2.2.1 d (by omega)).2.1) dX1_split_37 ?_
        refine lv_iconst (v := jI 0) hx hb dX1_split_38 rfl ?_
        refine lv_aload_n hx hb dX1_split_39 rfl (lv_at hl 0 rfl) ?_
        refine g_geti CF hK hM4 60 (hL.2.1.1 60 _ rfl) 2 2 rfl rfl (by decide) (Or.inl (hts _ q284)) (fun _ h => h) rfl dX1_split_40 ?_
        refine x_top (b := ρ 60 0) hmκ ?_
        refine g_copyi CF hK hM4 (200 + d) (210 + d) (by omega) (hL.2.1.1 _ _ (lKd_to (by omega)).1) (hL.2.1.1 _ _ (lKd_to (by omega)).2.1) (n := ρ 60 0) (by omega) (by omega) (by omega) (by omega) q547 hl.1 (Nat.le_of_ble_eq_true rfl) (Nat.le_of_ble_eq_true rfl) dX1_split_43 (fun H locs hM16 => ?_)
        refine x_iinc (lv' := [(1, .int (jI (((d : Int)) + 1))), (0, .ref (G.2.2 60))]) hx hb dX1_split_46 hl (k := 1) rfl (by decide) rfl (fun ls hl => ?_)
        refine lv_goto (tgt := 17) hx hb dX1_split_49 (by decide) ?_
        exact ih17  ((d + 1)) (upT τ (210 + d) (fillN (τ (210 + d)) (τ (200 + d)) (ρ 60 0))) _ _ _ (by first | omega | assumption | rfl) (hLκ.uT (by unfold lgT; have := hLκ.1.rn; have := hLκ.1.fe; have := hLκ.1.h48; omega) (by omega)) (fun d2 r a b c2 => Or.elim (Decidable.em (d2 = d)) (fun e => (by subst e; rw [upT_s, fillN_in b c2]; exact hLκ.2.2.2.1.1 d2 r (show (d2 : Int) < ρ 60 0 by omega) b c2)) (fun e => (by rw [upT_n _ _ (by omega)]; exact hcp d2 r (by omega) b c2))) (by omega) hM16 (lv_sub hl [1, 0] rfl)
  exact c17 _ 0 (up2 (up2 (up2 σ 60 17 1) 60 15 0) 60 16 ((-1))) _ _ _ (by first | omega | assumption | rfl) (lgR_sp0 hL) (fun d2 r a => absurd a (by omega)) (Nat.lt_succ_self _) hM3 (lv_sub hl [1, 0] rfl)
