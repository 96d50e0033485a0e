/-! A PROGRAM -/
abbrev hhP : List (Nat × Nat × Nat × Nat) := [((0 : Nat), (29 : Nat), (36 : Nat), (276 : Nat)), ((0 : Nat), (29 : Nat), (58 : Nat), (0 : Nat)), ((36 : Nat), (51 : Nat), (58 : Nat), (0 : Nat))]
theorem hhP_0 {c : Code} (h : c.exceptionTable.toList.map (fun h => (h.startPc, h.endPc, h.handlerPc, h.catchType)) = hhP) : ∃ (x0 : ExceptionTableEntry) (t0 : List ExceptionTableEntry), c.exceptionTable.toList = x0 :: t0 ∧ x0.startPc = 0 ∧ x0.endPc = 29 ∧ x0.handlerPc = 36 ∧ x0.catchType = 276 := by
  cases hc : c.exceptionTable.toList with
  | nil => rw [hc] at h; cases h
  | cons x t =>
    rw [hc] at h
    have h1 := (List.cons.inj h).1
    exact ⟨x, t, rfl, congrArg (fun z => z.1) h1, congrArg (fun z => z.2.1) h1, congrArg (fun z => z.2.2.1) h1, congrArg (fun z => z.2.2.2) h1⟩
/-- the nodes are let go -/
def drN (K : Nat → Option y_K) (t : Nat) : Option y_K := if 90 ≤ t ∧ t < 100 ∨ 10000 ≤ t then none else K t
theorem gM_drN {E : y_E} {A : Nat → Prop} {G : y_G} {σ : y_S} {H0 H : Heap} {locs : List Loc} (h : gM E A G σ H0 H locs) : gM E A (drN G.1, G.2) σ H0 H locs := h.drop (fun t k hk => by
  unfold drN at hk
  split at hk
  · cases hk
  · exact hk)
theorem drN_lt {K : Nat → Option y_K} {t : Nat} (h1 : t < 10000) (h2 : t < 90 ∨ 100 ≤ t) : drN K t = K t := by unfold drN; rw [if_neg (by omega)]
theorem drN_ge {K : Nat → Option y_K} {t : Nat} (h1 : 10000 ≤ t) : drN K t = none := by unfold drN; rw [if_pos (Or.inr h1)]
theorem prT_t {ρ : y_S} (h : rSame ρ (oParse ρ).2) {t : Nat} (a : t ≠ 24) (b : t ≠ 25) (c : t ≠ 26) (d : t ≠ 27) (e : t ≠ 28) (f : t ≠ 29) (g : t ≠ 60) : prT ρ t = ρ t := (up2_n _ _ _ g).trans (h.1 t a b c d e f g)
theorem prT_60 {ρ : y_S} (h : rSame ρ (oParse ρ).2) {k : Int} (a : k ≠ 30) (b : k ≠ 31) (c : k ≠ 32) (d : k ≠ 33) (e : k ≠ 34) : prT ρ 60 k = ρ 60 k := by
  unfold prT
  rw [up2_s, up1_n _ _ a]
  exact h.2 k b c d e
theorem rFl_k {ρ : y_S} {R : rR} {kd pl : Int} (h : rFl ρ R = some (kd, pl)) : 1 ≤ kd ∧ kd ≤ 3 := by
  rcases rFl_c ρ R with ⟨p, _, e⟩ | ⟨a1, lk, nm, L, _, ⟨_, e⟩ | ⟨_, ⟨_, e⟩ | ⟨_, ⟨_, e⟩ | ⟨_, e⟩⟩⟩⟩ <;> rw [h] at e <;> cases e <;> decide
set_option maxHeartbeats 2000000 in
theorem l_program (l : Launch) (E : y_E) (Go : y_G) (σ : y_S) (sz : Nat) (ρ : y_S) (hL : lgR E ρ Go σ) : gCtW l yX1_program cX1_program 4 (some .int) hhP ({ frames := 425, cells := 310, slots := 63000, locals := 10600 }) E [.ref (Go.2.2 60)] Go σ sz (lPo E (oProgram ρ)) 310 63000 := by
  refine g_metW (by decide) (Nat.le_of_ble_eq_true rfl) ?_
  intro p e s m below meth c ls CF hex hr hlocks hnm hK hM0 hA hl
  have hx := CF.1
  have hb := CF.2.1
  have hts := CF.2.2.2.2
  have hl : lv_has ls 4 [(0, .ref (Go.2.2 60))] := hl
  have hLo := hL
  obtain ⟨G, hGe⟩ : ∃ g : y_G, g = (drK Go.1, Go.2) := ⟨_, rfl⟩
  have hM0 := hM0.dr
  have hL := hL.dr
  rw [← hGe] at hM0 hL
  have hF : ∀ t : Nat, 90 ≤ t → t < 100 → G.1 t = none := fun t a b => (by rw [hGe]; exact drK_0 a b)
  have hl := lv_cast hl (b := [(0, .ref (G.2.2 60))]) (by rw [hGe])
  have hO := hL.1
  have hn := hO.n
  obtain ⟨R, hR⟩ := rPr_en hO.tp
  have hfr : ∀ t : Nat, 10000 ≤ t → G.1 t = none := fun t a => hL.2.2.2.2.1.2.2.2 t (Or.inr (Or.inr (Or.inr a)))
  refine lv_aload_n hx hb dX1_program_0 rfl (lv_at hl 0 rfl) ?_
  refine g_getr CF hK hM0 60 (hL.2.1.1 60 _ rfl) 26 26 rfl rfl (by decide) (Or.inl (hts _ q314)) (fun _ h => h) rfl (G.2.2 26) (hL.2.1.2.1 26 26 rfl) dX1_program_1 ?_
  rcases hf : rFl ρ R with _ | ⟨kd, pl⟩
  · refine g_call hM0 hA (g_runV (As := []) (rest := []) CF hK hM0 (hL.2.1.1 26 _ rfl) rfl ((l_rprog l E G σ _ ρ 10000 R hL.v (Nat.le_refl _) hfr hF hL.2.2.2.2.2 hR).ret (fun x G' τ' ⟨k1, k2, e, _⟩ => (by rw [hf] at e; cases e))) (cwV 0 hts (lw_V q611 q612 q613 q67 q614) rfl rfl rfl (by decide +kernel) ⟨(show 420 + 1 ≤ 425 by decide), (show 8 + (2 + 11) + 10500 ≤ 10600 by decide)⟩) rfl hl.1 rfl (Nat.le_of_ble_eq_true rfl) dX1_program_4 ⟨(show 0 + 310 ≤ 310 by decide), (show 0 + 63000 ≤ 63000 by decide)⟩) (fun v G1 τ1 H locs hp hM1 => ?_)
    obtain ⟨u, A, a1, lk1, nm1, L, e1, -, rfl, hku, hnd, hAA, hL1, hk1⟩ := hp
    refine x_stk (st' := [.ref (G1.2.2 u)]) rfl ?_
    have h60 : G1.2.2 60 = G.2.2 60 := (hk1 60 (by decide) (by decide)).2.1
    have hl := lv_cast hl (b := [(0, .ref (G1.2.2 60))]) (by rw [h60, hGe])
    obtain ⟨hll, ho1, ho2, ho3⟩ := (oProgram_c hO hR).2.1 a1 lk1 nm1 L e1 hf
    have hL2 : lgV ρ G1 (up2 τ1 60 20 0) := ⟨hL1.1, hL1.2.1, hL1.2.2.1, hL1.2.2.2.1, hL1.2.2.2.2⟩
    have hagA : agA A G1 τ1 G1 (up2 τ1 60 20 0) := fun t ht => ⟨rfl, rfl, rfl, up2_n _ _ _ (by have := hAA t ht; omega)⟩
    have hA1 := hAA
    have hkr := hk1.k (Nat.le_refl _)
    have hsm := (oProgram_c hO hR).2.2
    refine lv_astore_n (lv' := [(1, .ref (G1.2.2 u)), (0, .ref (G1.2.2 60))]) hx hb dX1_program_7 rfl hl (by decide) rfl (fun ls hl => ?_)
    refine lv_aload_n hx hb dX1_program_8 rfl (lv_at hl 1 rfl) ?_
    refine lv_iconst (v := jI 0) hx hb dX1_program_9 rfl ?_
    refine g_puti CF hK hM1 60 (by decide) (hL1.2.1.1 60 _ rfl) 20 20 rfl rfl (by decide) (Or.inl (hts _ q306)) (fun _ h => h) (Or.inl rfl) rfl (v := 0) rfl rfl (by omega) dX1_program_10 (fun H locs hM2 => ?_)
    refine lv_aload_n hx hb dX1_program_13 rfl (lv_at hl 0 rfl) ?_
    refine g_manyN (rest := []) CF hK hM2 hA (ndV.fr (A := A) hagA rfl rfl (fun _ z => z) _ _ _ hnd) (ct_mn l E ρ 101) q860 hl.1 (Nat.le_of_ble_eq_true rfl) dX1_program_14 (show 3 * 101 + 6 ≤ 425 by omega) (show 130 + 60 * 101 ≤ 10600 by omega) ⟨Nat.le_refl _, Nat.le_refl _⟩ (fun H locs hM3 => ?_)
    have fa4 := mny_r L
    refine x_if_le (tgt := 24) hx hb dX1_program_17 (by decide) (by have f0 := mny_r L; omega) (fun b17 => ?_) (fun b17 => ?_)
    · have hnil : L = [] := List.eq_nil_of_length_eq_zero (by unfold mny at b17; split at b17 <;> omega)
      have hM5 := gM_eq (σ' := gvS L (up2 τ1 60 20 0)) (show up2 τ1 60 20 0 = gvS L (up2 τ1 60 20 0) by rw [hnil]; rfl) hM3
      have hL3 := hL2.gv L
      refine lv_aload_n hx hb dX1_program_24 rfl (lv_at hl 1 rfl) ?_
      refine g_geti CF hK hM5 60 (hL3.2.1.1 60 _ rfl) 20 20 rfl rfl (by decide) (Or.inl (hts _ q306)) (fun _ h => h) rfl dX1_program_25 ?_
      refine x_top (b := (L.length : Int)) (by rw [gvS_20]; show (0 : Int) + _ = _; omega) ?_
      refine lv_istore_n (lv' := [(2, .int (jI ((L.length : Int)))), (1, .ref (G1.2.2 u)), (0, .ref (G1.2.2 60))]) hx hb dX1_program_28 rfl hl (by decide) rfl (fun ls hl => ?_)
      refine lv_aload_n hx hb dX1_program_29 rfl (lv_at hl 2 rfl) ?_
      refine lv_iconst (v := jI 0) hx hb dX1_program_30 rfl ?_
      refine g_puti CF hK hM5 60 (by decide) (hL3.2.1.1 60 _ rfl) 25 25 rfl rfl (by decide) (Or.inl (hts _ q313)) (fun _ h => h) (Or.inl rfl) rfl (v := 0) rfl rfl (by omega) dX1_program_31 (fun H locs hM6 => ?_)
      refine lv_iload_n hx hb dX1_program_34 rfl (lv_at hl 0 rfl) ?_
      have hM7 := gM_drN hM6
      exact g_iret CF hr hlocks hM7 (lPo_i (by rw [ho1]) (lgR_prog (G := Go) hLo (ok_program hO) (fun t a b c d e f g h i => (by rw [ho1]; show prW (prT ρ) t = _; unfold prW; rw [upT_n _ _ b, upT_n _ _ a, up2_n _ _ _ i]; exact prT_t hsm c d e f g h i)) (fun k a b c d e f => (by rw [ho1]; show up2 (prT ρ) 60 21 _ 60 k = _; rw [up2_s, up1_n _ _ a]; exact prT_60 hsm b c d e f)) (by rw [ho1]; rfl) (fun t a b => (by have q := hkr t a b; rw [hGe] at q; have e2 : drK Go.1 t = Go.1 t := (by unfold drK; rw [if_neg (by omega)]); exact ⟨(drN_lt a b).trans (q.1.trans e2), q.2.1, q.2.2.1⟩)) (fun t a => drN_ge a) (fun t a b c d e f => (by rw [up2_n _ _ _ f, gvS_t d e f, up2_n _ _ _ f]; exact (hkr t a b).2.2.2 c)) (fun k a b => (by rw [up2_s, up1_n _ _ b, gvS_60 a, up2_s, up1_n _ _ a]; exact congrFun ((hkr 60 (by decide) (by decide)).2.2.2 (by decide)) k)) (up2_ss _ _ _ _) (by rw [up2_s, up1_n _ _ (by decide), gvS_20, ho1]; show (0 : Int) + _ = prT ρ 25 0; rw [ho2]; omega) (fun k k0 k1 => (by rw [ho1] at k1 ⊢; have k1 : k < prT ρ 25 0 := k1; rw [ho2] at k1; obtain ⟨j, rfl⟩ := Int.eq_ofNat_of_zero_le k0; have q := gvS_row L (up2 τ1 60 20 0) j (by omega); have e0 : up2 τ1 60 20 0 60 20 + (j : Int) = (j : Int) := (show (0 : Int) + (j : Int) = (j : Int) by omega); rw [e0] at q; rw [up2_n _ _ _ (by decide), up2_n _ _ _ (by decide)]; show _ = fillN (prT ρ 19) (fun k => prT ρ 24 k / 100) (prT ρ 25 0) (j : Int) ∧ _ = fillN (prT ρ 20) (fun k => prT ρ 24 k % 100) (prT ρ 25 0) (j : Int); rw [fillN_in k0 (by rw [ho2]; exact k1), fillN_in k0 (by rw [ho2]; exact k1), ho3 j (by omega)]; exact q)))) (Nat.le_refl _) (Nat.le_refl _) dX1_program_35
    · refine lv_aload_n hx hb dX1_program_20 rfl (lv_at hl 0 rfl) ?_
      refine g_givesN (rest := []) CF hK hM3 hA (ndV.fr (A := A) hagA rfl rfl (fun _ z => z) _ _ _ hnd) hA1 hL2 (show (0 : Int) ≤ 0 by decide) (show (0 : Int) + (L.length : Int) ≤ 10 by omega) (ct_gv l E ρ 101) q861 hl.1 (Nat.le_of_ble_eq_true rfl) dX1_program_21 (show 3 * 101 + 7 ≤ 425 by omega) (show 160 + 60 * 101 ≤ 10600 by omega) ⟨Nat.le_refl _, Nat.le_refl _⟩ (fun H locs hM8 => ?_)
      have hL3 := hL2.gv L
      refine lv_aload_n hx hb dX1_program_24 rfl (lv_at hl 1 rfl) ?_
      refine g_geti CF hK hM8 60 (hL3.2.1.1 60 _ rfl) 20 20 rfl rfl (by decide) (Or.inl (hts _ q306)) (fun _ h => h) rfl dX1_program_25 ?_
      refine x_top (b := (L.length : Int)) (by rw [gvS_20]; show (0 : Int) + _ = _; omega) ?_
      refine lv_istore_n (lv' := [(2, .int (jI ((L.length : Int)))), (1, .ref (G1.2.2 u)), (0, .ref (G1.2.2 60))]) hx hb dX1_program_28 rfl hl (by decide) rfl (fun ls hl => ?_)
      refine lv_aload_n hx hb dX1_program_29 rfl (lv_at hl 2 rfl) ?_
      refine lv_iconst (v := jI 0) hx hb dX1_program_30 rfl ?_
      refine g_puti CF hK hM8 60 (by decide) (hL3.2.1.1 60 _ rfl) 25 25 rfl rfl (by decide) (Or.inl (hts _ q313)) (fun _ h => h) (Or.inl rfl) rfl (v := 0) rfl rfl (by omega) dX1_program_31 (fun H locs hM9 => ?_)
      refine lv_iload_n hx hb dX1_program_34 rfl (lv_at hl 0 rfl) ?_
      have hM10 := gM_drN hM9
      exact g_iret CF hr hlocks hM10 (lPo_i (by rw [ho1]) (lgR_prog (G := Go) hLo (ok_program hO) (fun t a b c d e f g h i => (by rw [ho1]; show prW (prT ρ) t = _; unfold prW; rw [upT_n _ _ b, upT_n _ _ a, up2_n _ _ _ i]; exact prT_t hsm c d e f g h i)) (fun k a b c d e f => (by rw [ho1]; show up2 (prT ρ) 60 21 _ 60 k = _; rw [up2_s, up1_n _ _ a]; exact prT_60 hsm b c d e f)) (by rw [ho1]; rfl) (fun t a b => (by have q := hkr t a b; rw [hGe] at q; have e2 : drK Go.1 t = Go.1 t := (by unfold drK; rw [if_neg (by omega)]); exact ⟨(drN_lt a b).trans (q.1.trans e2), q.2.1, q.2.2.1⟩)) (fun t a => drN_ge a) (fun t a b c d e f => (by rw [up2_n _ _ _ f, gvS_t d e f, up2_n _ _ _ f]; exact (hkr t a b).2.2.2 c)) (fun k a b => (by rw [up2_s, up1_n _ _ b, gvS_60 a, up2_s, up1_n _ _ a]; exact congrFun ((hkr 60 (by decide) (by decide)).2.2.2 (by decide)) k)) (up2_ss _ _ _ _) (by rw [up2_s, up1_n _ _ (by decide), gvS_20, ho1]; show (0 : Int) + _ = prT ρ 25 0; rw [ho2]; omega) (fun k k0 k1 => (by rw [ho1] at k1 ⊢; have k1 : k < prT ρ 25 0 := k1; rw [ho2] at k1; obtain ⟨j, rfl⟩ := Int.eq_ofNat_of_zero_le k0; have q := gvS_row L (up2 τ1 60 20 0) j (by omega); have e0 : up2 τ1 60 20 0 60 20 + (j : Int) = (j : Int) := (show (0 : Int) + (j : Int) = (j : Int) by omega); rw [e0] at q; rw [up2_n _ _ _ (by decide), up2_n _ _ _ (by decide)]; show _ = fillN (prT ρ 19) (fun k => prT ρ 24 k / 100) (prT ρ 25 0) (j : Int) ∧ _ = fillN (prT ρ 20) (fun k => prT ρ 24 k % 100) (prT ρ 25 0) (j : Int); rw [fillN_in k0 (by rw [ho2]; exact k1), fillN_in k0 (by rw [ho2]; exact k1), ho3 j (by omega)]; exact q)))) (Nat.le_refl _) (Nat.le_refl _) dX1_program_35
  · obtain ⟨x0, t0, hs0, hx1, hx2, hx3, hx4⟩ := hhP_0 hex
    refine g_catch CF hK hM0 hA hs0 (by simp [covers, hx1, hx2]) (by rw [hx4]; decide) (by rw [hx4]; exact q610) (g_runVT (As := []) (rest := []) CF ((l_rprog l E G σ _ ρ 10000 R hL.v (Nat.le_refl _) hfr hF hL.2.2.2.2.2 hR).thr (fun v G' τ' ⟨_, _, _, _, _, _, _, e, _⟩ => (by rw [hf] at e; cases e))) (cwV 0 hts (lw_V q611 q612 q613 q67 q614) rfl rfl rfl (by decide +kernel) ⟨(show 420 + 1 ≤ 425 by decide), (show 8 + (2 + 11) + 10500 ≤ 10600 by decide)⟩) ⟨gP_blind, g_recv hK hM0 (hL.2.1.1 26 _ rfl) rfl, (g_pre hK hM0).2⟩ rfl rfl hl.1 rfl (lv_room (Nat.le_of_ble_eq_true rfl)) dX1_program_4 ⟨(show 0 + 310 ≤ 310 by decide), (show 0 + 63000 ≤ 63000 by decide)⟩) (fun x G' τ' ⟨_, _, _, z⟩ => ⟨98, z.1.1, z.1.2.1⟩) (fun x G1 τ1 H locs hp hM11 => ?_)
    rw [hx3]
    obtain ⟨kd2, pl2, e2, ⟨hw1, hw2, hw3, hw4⟩, hkr⟩ := hp
    rw [hf] at e2
    cases e2
    obtain rfl := hw1
    have h60 : G1.2.2 60 = G.2.2 60 := (hkr 60 (by decide) (by decide)).2.1
    have hL1 : lgV ρ G1 τ1 := hL.v.fr (fun t ht => (by unfold gdT at ht; have q := hkr t (by omega) (by omega); exact ⟨q.1, q.2.1, fun j z => (by rw [q.2.2.1 z])⟩)) ((hkr 60 (by decide) (by decide)).2.2.2 (by decide)) ((hkr 24 (by decide) (by decide)).2.2.2 (by decide))
    have hl := lv_cast hl (b := [(0, .ref (G1.2.2 60))]) (by rw [h60, hGe])
    have ho := (oProgram_c hO hR).1 kd pl hf
    have hpr := hM11.r 98 7
    rw [hw4] at hpr
    have hkr2 : 1 ≤ kd ∧ kd ≤ 3 := rFl_k hf
    have hsm := (oProgram_c hO hR).2.2
    refine lv_astore_n (lv' := [(1, .ref (G1.2.2 98)), (0, .ref (G1.2.2 60))]) hx hb dX1_program_36 rfl hl (by decide) rfl (fun ls hl => ?_)
    refine lv_sipush (v := jI (-1000)) hx hb dX1_program_37 (by decide) ?_
    refine lv_aload_n hx hb dX1_program_40 rfl (lv_at hl 0 rfl) ?_
    refine g_geti CF hK hM11 98 hw2 6 6 rfl rfl (by decide) (gLk.n hK q678) (fun _ h => h) rfl dX1_program_41 ?_
    refine x_top (b := kd) hw3 ?_
    refine x_imul hx hb dX1_program_44 ?_
    refine lv_aload_n hx hb dX1_program_45 rfl (lv_at hl 0 rfl) ?_
    refine g_geti CF hK hM11 98 hw2 7 7 rfl rfl (by decide) (gLk.n hK q680) (fun _ h => h) rfl dX1_program_46 ?_
    refine x_top (b := pl) hw4 ?_
    refine x_isub hx hb dX1_program_49 ?_
    refine lv_istore_n (lv' := [(2, .int (jI ((((-1000)) * kd) - pl))), (1, .ref (G1.2.2 98)), (0, .ref (G1.2.2 60))]) hx hb dX1_program_50 rfl hl (by decide) rfl (fun ls hl => ?_)
    refine lv_aload_n hx hb dX1_program_51 rfl (lv_at hl 2 rfl) ?_
    refine lv_iconst (v := jI 0) hx hb dX1_program_52 rfl ?_
    refine g_puti CF hK hM11 60 (by decide) (hL1.2.1.1 60 _ rfl) 25 25 rfl rfl (by decide) (Or.inl (hts _ q313)) (fun _ h => h) (Or.inl rfl) rfl (v := 0) rfl rfl (by omega) dX1_program_53 (fun H locs hM12 => ?_)
    refine lv_iload_n hx hb dX1_program_56 rfl (lv_at hl 0 rfl) ?_
    have hM13 := gM_drN hM12
    exact g_iret CF hr hlocks hM13 (lPo_i (by rw [ho]) (lgR_prog (G := Go) hLo (ok_program hO) (fun t a b c d e f g h i => (by rw [ho]; exact prT_t hsm c d e f g h i)) (fun k a b c d e f => (by rw [ho]; exact prT_60 hsm b c d e f)) (by rw [ho]; rfl) (fun t a b => (by have q := hkr t a b; rw [hGe] at q; have e2 : drK Go.1 t = Go.1 t := (by unfold drK; rw [if_neg (by omega)]); exact ⟨(drN_lt a b).trans (q.1.trans e2), q.2.1, q.2.2.1⟩)) (fun t a => drN_ge a) (fun t a b c d e f => (by rw [up2_n _ _ _ f]; exact (hkr t a b).2.2.2 c)) (fun k a b => (by rw [up2_s, up1_n _ _ b]; exact congrFun ((hkr 60 (by decide) (by decide)).2.2.2 (by decide)) k)) (up2_ss _ _ _ _) (by rw [up2_s, up1_n _ _ (by decide), ho, (hkr 60 (by decide) (by decide)).2.2.2 (by decide)]; exact hLo.2.2.2.1.2.2.2.2.1.1.trans (prT_60 hsm (by decide) (by decide) (by decide) (by decide) (by decide)).symm) (fun k k0 k1 => (by rw [ho] at k1 ⊢; rw [up2_n _ _ _ (by decide), up2_n _ _ _ (by decide), (hkr 18 (by decide) (by decide)).2.2.2 (by decide), (hkr 19 (by decide) (by decide)).2.2.2 (by decide)]; show _ = prT ρ 19 k ∧ _ = prT ρ 20 k; rw [prT_t hsm (by decide) (by decide) (by decide) (by decide) (by decide) (by decide) (by decide), prT_t hsm (by decide) (by decide) (by decide) (by decide) (by decide) (by decide) (by decide)]; exact hLo.2.2.2.1.2.2.2.2.1.2 k k0 (by rw [← prT_60 hsm (k := 21) (by decide) (by decide) (by decide) (by decide) (by decide)]; exact k1))))) (Nat.le_refl _) (Nat.le_refl _) dX1_program_57
