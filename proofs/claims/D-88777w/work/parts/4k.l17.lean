theorem tmod97 (a : Int) : -97 < a.tmod 97 ∧ a.tmod 97 < 97 := by
  by_cases h : 0 ≤ a
  · rw [Int.tmod_eq_emod_of_nonneg h]; omega
  · have e : a.tmod 97 = -((-a) % 97) := by rw [← Int.tmod_eq_emod_of_nonneg (by omega), Int.neg_tmod, Int.neg_neg]
    omega
set_option maxHeartbeats 1000000 in
theorem l_run (l : Launch) (E : y_E) (Go : y_G) (σ : y_S) (sz : Nat) (ρ : y_S) (x : Int) (hL : lgR E ρ Go σ) (hxr : R64 x) : gCt l yX1_run cX1_run 7 (some .int) ({ frames := 7, cells := 5, slots := 689, locals := 171 }) E [.ref (Go.2.2 60), .long (jL x)] Go σ sz (lPo E (oRun ρ x)) 5 689 := by
  refine g_met (by decide) (Nat.le_of_ble_eq_true rfl) ?_
  intro p e s m below meth c ls CF hr hlocks hnm hK hM0 hA hl
  have hx := CF.1
  have hb := CF.2.1
  have hts := CF.2.2.2.2
  have hl : lv_has ls 7 [(0, .ref (Go.2.2 60)), (1, .long (jL x))] := hl
  obtain ⟨G, hGe⟩ : ∃ g : y_G, g = (drK Go.1, Go.2) := ⟨_, rfl⟩
  have hM0 := hM0.dr
  have hL := hL.dr
  rw [← hGe] at hM0 hL
  have hF : ∀ t : Nat, 90 ≤ t → t < 100 → G.1 t = none := fun t a b => (by rw [hGe]; exact drK_0 a b)
  have hl := lv_cast hl (b := [(0, .ref (G.2.2 60)), (1, .long (jL x))]) (by rw [hGe])
  obtain ⟨hO, hS, ⟨hm1, hm2, hm3, hm4, hm5⟩, hX, hD, hZ⟩ := id hL
  have hn := hO.n
  have hrn := hO.rn
  refine lv_lload_n hx hb dX1_run_0 rfl (lv_at hl 1 rfl) ?_
  refine lv_lstore_n (lv' := [(3, .long (jL x)), (0, .ref (G.2.2 60)), (1, .long (jL x))]) hx hb dX1_run_1 rfl hl (by decide) rfl (fun ls hl => ?_)
  refine g_new CF hK hM0 hA 90 (hF 90 (by decide) (by decide)) (ci := 13) rfl rfl q900 q901 q86 (Nat.le_of_ble_eq_true rfl) (Nat.le_of_ble_eq_true rfl) dX1_run_2 (fun H a90 hM1 => ?_)
  have hL2 : lgR E ρ (upT G.1 90 (some (.inl 13)), upT G.2.1 90 (fun _ => none), upT G.2.2 90 a90) (upT σ 90 ((fun _ => 0))) := hL.al (by decide)
  refine lv_dup hx hb dX1_run_5 rfl ?_
  refine lv_aload_n hx hb dX1_run_6 rfl (lv_at hl 1 rfl) ?_
  refine lv_aload_n hx hb dX1_run_7 rfl (lv_at hl 1 rfl) ?_
  refine g_getr CF hK hM1 60 (hL2.2.1.1 60 _ rfl) 27 27 rfl rfl (by decide) (Or.inl (hts _ q316)) (fun _ h => h) rfl (G.2.2 27) (hL2.2.1.2.1 27 27 rfl) dX1_run_8 ?_
  refine g_calli (r := (upT σ 90 ((fun _ => 0))) 27 2) hM1 hA (g_runV (As := []) (rest := [.ref (G.2.2 60), .ref a90, .ref a90]) CF hK hM1 (hL2.2.1.1 27 _ rfl) rfl (j_size l E _ _ _ 27  (hL2.2.1.1 27 _ rfl)) (cwV 0 hts (lw_V q479 q480 q481 q70 q482) rfl rfl rfl (by decide +kernel) ⟨Nat.le_of_ble_eq_true rfl, Nat.le_of_ble_eq_true rfl⟩) rfl hl.1 rfl (Nat.le_of_ble_eq_true rfl) dX1_run_11 ⟨Nat.le_of_ble_eq_true rfl, Nat.le_of_ble_eq_true rfl⟩) (fun H locs hM3 => ?_)
  refine x_top (b := ρ 60 41) hD.1.1.1 ?_
  obtain ⟨Gb, hGb⟩ : ∃ g : y_G, g = G := ⟨_, rfl⟩
  refine g_callPV hM3 hA (g_runI (As := [.ref (G.2.2 60), .int (jI (ρ 60 41))]) (rest := [.ref a90]) CF hK hM3 (l_rinit l E _ _ _ ρ (ρ 60 41) hL2 rfl (fun t a b => (by show upT G.1 90 _ t = none; rw [upT_n _ _ (by omega)]; exact hF t (by omega) (by omega))) (by first | omega | assumption | (refine ⟨?_, ?_⟩ <;> omega))) (cwI 2 hts (lw_meth q904) rfl rfl rfl (hts _ q86) (hts _ q902) (hts _ q903) rfl (by decide +kernel) ⟨Nat.le_of_ble_eq_true rfl, Nat.le_of_ble_eq_true rfl⟩) rfl hl.1 rfl (Nat.le_of_ble_eq_true rfl) dX1_run_14 ⟨Nat.le_of_ble_eq_true rfl, Nat.le_of_ble_eq_true rfl⟩) (fun G τk H locs hp hM4 => ?_)
  obtain ⟨htR, hL5⟩ := hp
  have haG : ∀ t : Nat, t < 90 ∨ 100 ≤ t → gAg Gb σ G τk t := fun t h => (by have z := htR.1 t (by omega); rw [hGb]; have e : t ≠ 90 := (by omega); exact ⟨z.1.trans (upT_n _ _ e), z.2.1.trans (upT_n _ _ e), z.2.2.1.trans (upT_n _ _ e), z.2.2.2.trans (upT_n _ _ e)⟩)
  have hLb : lgR E ρ Gb σ := (by rw [hGb]; exact hL)
  have h60 := (haG 60 (by decide)).2.1
  obtain rfl : a90 = G.2.2 90 := (show G.2.2 90 = a90 from htR.2.1).symm
  have hF9 : G.1 99 = none := (htR.1 99 (by decide)).1.trans (hF 99 (by decide) (by decide))
  have hl := lv_cast hl (b := [(3, .long (jL x)), (0, .ref (G.2.2 60)), (1, .long (jL x))]) (by rw [h60, hGb])
  refine lv_astore (lv' := [(5, .ref (G.2.2 90)), (3, .long (jL x)), (0, .ref (G.2.2 60)), (1, .long (jL x))]) hx hb dX1_run_17 hl (by decide) rfl (fun ls hl => ?_)
  refine lv_iconst (v := jI 0) hx hb dX1_run_19 rfl ?_
  refine lv_istore (lv' := [(6, .int (jI 0)), (5, .ref (G.2.2 90)), (3, .long (jL x)), (0, .ref (G.2.2 60)), (1, .long (jL x))]) hx hb dX1_run_20 hl (by decide) rfl (fun ls hl => ?_)
  have c22 : ∀ (n22 : Nat) (k : Nat) (τ : y_S) (H : Heap) (locs : List Loc) (ls : Array Slot), (k ≤ (ρ 60 0).toNat) → (lgR E ρ G τ) → (∀ t : Nat, t ≠ 91 → τ t = τk t) → (∀ i : Int, 0 ≤ i → i < (k : Int) → τ 91 i = rIn x i) → ((ρ 60 0).toNat - k < n22) → gM E (gA Go sz) G τ s.heap H locs → lv_has ls 7 [(0, .ref (G.2.2 60)), (1, .long (jL x)), (3, .long (jL (rq x k))), (5, .ref (G.2.2 90)), (6, .int (jI ((k : Int))))] → W p l e ({ frames := 7, cells := 5, slots := 689, locals := 171 } : Room) s m ([.ref (Go.2.2 60), .long (jL x)] : List Value).toArray below meth c H locs 4 89 (MQ below (gQ E Go sz (lPo E (oRun ρ x))) ([.ref (Go.2.2 60), .long (jL x)] : List Value).toArray s 5 689 (gA Go sz)) (F0 m 22 ls []) := by
    intro n22
    induction n22 with
    | zero => intro k τ H locs ls hk hLτ hτ hdg hmu; exact absurd hmu (Nat.not_lt_zero _)
    | succ n22 ih22 =>
      intro k τ H locs ls hk hLτ hτ hdg hmu22 hM6 hl
      refine lv_iload hx hb dX1_run_22 (lv_at hl 4 rfl) ?_
      refine lv_aload_n hx hb dX1_run_24 rfl (lv_at hl 0 rfl) ?_
      refine g_geti CF hK hM6 60 (hLτ.2.1.1 60 _ rfl) 2 2 rfl rfl (by decide) (Or.inl (hts _ q284)) (fun _ h => h) rfl dX1_run_25 ?_
      refine x_top (b := ρ 60 0) hLτ.2.2.1.1 ?_
      refine x_icmp_ge (tgt := 57) hx hb dX1_run_28 (by decide) (by omega) (by omega) (fun b28 => ?_) (fun b28 => ?_)
      · have hkn : (ρ 60 0).toNat = k := (by omega)
        have hqr := rq_r hxr k
        refine lv_lload_n hx hb dX1_run_57 rfl (lv_at hl 1 rfl) ?_
        refine lv_lconst (v := jL 0) hx hb dX1_run_58 rfl ?_
        refine x_lcmp hx hb dX1_run_59 (by omega) (by omega) ?_
        have fa7 := iCmp_spec x 0
        refine x_if_lt (tgt := 69) hx hb dX1_run_60 (by decide) (by have f0 := iCmp_spec x 0; omega) (fun b60 => ?_) (fun b60 => ?_)
        · refine lv_bipush (v := jI (-2)) hx hb dX1_run_69 (by decide) ?_
          exact g_iret CF hr hlocks hM6 (lPo_i (by unfold oRun; rw [if_pos (by rw [hkn]; omega)]) (by have hk := ok_run hO x; unfold oRun at hk ⊢; rw [if_pos (by rw [hkn]; omega)] at hk ⊢; exact hLτ.rho hk (lgE.s3 (mSame.rf.uT (t := 10) (by decide))))) (by decide) (by decide) dX1_run_71
        · have hq0 := rq_0 (x := x) (by omega) k
          refine lv_lload_n hx hb dX1_run_63 rfl (lv_at hl 2 rfl) ?_
          refine lv_lconst (v := jL 0) hx hb dX1_run_64 rfl ?_
          refine x_lcmp hx hb dX1_run_65 (by have f0 := rq_r hxr k; omega) (by omega) ?_
          have fa8 := rq_r hxr k
          have fa9 := iCmp_spec (rq x k) 0
          refine x_if_le (tgt := 72) hx hb dX1_run_66 (by decide) (by have f0 := rq_r hxr k; have f1 := iCmp_spec (rq x k) 0; omega) (fun b66 => ?_) (fun b66 => ?_)
          · refine lv_aload_n hx hb dX1_run_72 rfl (lv_at hl 0 rfl) ?_
            refine g_getr CF hK hM6 60 (hLτ.2.1.1 60 _ rfl) 27 27 rfl rfl (by decide) (Or.inl (hts _ q316)) (fun _ h => h) rfl (G.2.2 27) (hLτ.2.1.2.1 27 27 rfl) dX1_run_73 ?_
            refine g_calli (r := τ 27 2) hM6 hA (g_runV (As := []) (rest := []) CF hK hM6 (hLτ.2.1.1 27 _ rfl) rfl (j_size l E _ _ _ 27  (hLτ.2.1.1 27 _ rfl)) (cwV 0 hts (lw_V q479 q480 q481 q70 q482) rfl rfl rfl (by decide +kernel) ⟨Nat.le_of_ble_eq_true rfl, Nat.le_of_ble_eq_true rfl⟩) rfl hl.1 rfl (Nat.le_of_ble_eq_true rfl) dX1_run_76 ⟨Nat.le_of_ble_eq_true rfl, Nat.le_of_ble_eq_true rfl⟩) (fun H locs hM10 => ?_)
            refine x_top (b := ρ 60 41) hLτ.2.2.2.2.1.1.1.1 ?_
            refine lv_bipush (v := jI 40) hx hb dX1_run_79 (by decide) ?_
            refine x_icmp_ne (tgt := 87) hx hb dX1_run_81 (by decide) (by omega) (by omega) (fun b81 => ?_) (fun b81 => ?_)
            · refine lv_aload hx hb dX1_run_87 (lv_at hl 3 rfl) ?_
              refine g_getr CF hK hM10 90 htR.2.2.1.1 1 1 rfl rfl (by decide) (gLk.n hK q910) (fun _ h => h) rfl (G.2.2 91) htR.2.2.2.1.1 dX1_run_89 ?_
              refine lv_iconst (v := jI 0) hx hb dX1_run_92 rfl ?_
              refine lv_aload hx hb dX1_run_93 (lv_at hl 3 rfl) ?_
              refine g_getr CF hK hM10 90 htR.2.2.1.1 2 2 rfl rfl (by decide) (gLk.n hK q912) (fun _ h => h) rfl (G.2.2 92) htR.2.2.2.1.2.1 dX1_run_95 ?_
              refine lv_iconst (v := jI 0) hx hb dX1_run_98 rfl ?_
              refine lv_aload_n hx hb dX1_run_99 rfl (lv_at hl 0 rfl) ?_
              refine g_geti CF hK hM10 60 (hLτ.2.1.1 60 _ rfl) 2 2 rfl rfl (by decide) (Or.inl (hts _ q284)) (fun _ h => h) rfl dX1_run_100 ?_
              refine x_top (b := ρ 60 0) hLτ.2.2.1.1 ?_
              refine g_copyi CF hK hM10 91 92 (by decide) htR.2.2.1.2.1 htR.2.2.1.2.2.1 (n := ρ 60 0) (by omega) (by omega) (by omega) (by omega) q547 hl.1 (Nat.le_of_ble_eq_true rfl) (Nat.le_of_ble_eq_true rfl) dX1_run_103 (fun H locs hM11 => ?_)
              have hL5 : lgR E ρ G (upT τ 92 (fillN (τ 92) (τ 91) (ρ 60 0))) := hLτ.uT (by unfold lgT; omega) (by decide)
              refine lv_aload_n hx hb dX1_run_106 rfl (lv_at hl 0 rfl) ?_
              refine g_getr CF hK hM11 60 (hL5.2.1.1 60 _ rfl) 6 6 rfl rfl (by decide) (Or.inl (hts _ q292)) (fun _ h => h) rfl (G.2.2 6) (hL5.2.1.2.1 6 6 rfl) dX1_run_107 ?_
              refine lv_aload hx hb dX1_run_110 (lv_at hl 3 rfl) ?_
              refine g_getr CF hK hM11 90 htR.2.2.1.1 2 2 rfl rfl (by decide) (gLk.n hK q912) (fun _ h => h) rfl (G.2.2 92) htR.2.2.2.1.2.1 dX1_run_112 ?_
              refine g_callv hM11 hA (g_runU (As := [.ref (G.2.2 92)]) (rest := []) CF hK hM11 (hL5.2.1.1 6 _ rfl) rfl (l_go6 l E _ _ _ ρ (mNow ρ) 92  hL5 (mNow_same ρ) (mBy_now hO.s) lk6_now0 htR.2.2.1.2.2.1 (by decide) (by unfold lgT; omega) (by decide) (by decide) (by rw [upT_s]; intro i a b; rw [fillN_in a b, hdg i a (by omega)]; exact rIn_r (by omega) i)) (g_cu 1 hts q927 q928 (va_Decl.abs (hK.2.2.1 _ q929 rfl)) (hts _ q931) q519 q62 q525 rfl rfl (by decide +kernel) ⟨Nat.le_of_ble_eq_true rfl, Nat.le_of_ble_eq_true rfl⟩) rfl hl.1 rfl (Nat.le_of_ble_eq_true rfl) dX1_run_115 ⟨Nat.le_of_ble_eq_true rfl, Nat.le_of_ble_eq_true rfl⟩) (fun H locs hM12 => ?_)
              have hM13 := gM_eq (σ' := upT τ 92 (goR (ρ 60 0) (ρ 1) (ρ 2) (mTf (mNow ρ) 1) (fillN (τ 92) (τ 91) (ρ 60 0)))) (by rw [upT_upT, upT_s]) hM12
              have hL6 : lgR E ρ G (upT τ 92 (goR (ρ 60 0) (ρ 1) (ρ 2) (mTf (mNow ρ) 1) (fillN (τ 92) (τ 91) (ρ 60 0)))) := hLτ.uT (by unfold lgT; omega) (by decide)
              refine lv_aload_n hx hb dX1_run_118 rfl (lv_at hl 0 rfl) ?_
              refine g_getr CF hK hM13 60 (hL6.2.1.1 60 _ rfl) 27 27 rfl rfl (by decide) (Or.inl (hts _ q316)) (fun _ h => h) rfl (G.2.2 27) (hL6.2.1.2.1 27 27 rfl) dX1_run_119 ?_
              refine lv_aload hx hb dX1_run_122 (lv_at hl 3 rfl) ?_
              refine g_callPI hM13 hA (g_runV (As := [.ref (G.2.2 90)]) (rest := []) CF hK hM13 (hL6.2.1.1 27 _ rfl) rfl (j_add l E _ _ _ 27 63 99 (ρ 60 41) (fun i => G.2.2 (1000 + 4 * i.toNat)) 90 13 (G.2.2 90)  (hL6.2.1.1 27 _ rfl) hF9 (by decide) (by decide) (fun i h0 h1 y hy => ⟨1000 + 4 * i.toNat, 13, (hL6.2.2.2.2.1.1.2 i.toNat (by show (i.toNat : Int) < ρ 60 41; omega)).1.1, Option.some.inj hy⟩) ⟨hL6.2.2.2.2.2, hL6.2.1.1 0 _ rfl⟩ (hL6.2.2.2.2.1.1.1) (by omega) ⟨htR.2.2.1.1, rfl⟩) (cwV 1 hts (lw_V q932 q785 q786 q70 q787) rfl rfl rfl (by decide +kernel) ⟨Nat.le_of_ble_eq_true rfl, Nat.le_of_ble_eq_true rfl⟩) rfl hl.1 rfl (Nat.le_of_ble_eq_true rfl) dX1_run_124 ⟨Nat.le_of_ble_eq_true rfl, Nat.le_of_ble_eq_true rfl⟩) (fun rr G15 τ15 H locs hp hM14 => ?_)
              obtain ⟨rfl, hp⟩ := hp
              have hg9 : G15.2.2 90 = G.2.2 90 := (hp.2.1 90 (by decide) (by decide)).1
              have hk9 : G15.1 90 = some (.inl 13) := (hp.1 90 (by decide)).trans htR.2.2.1.1
              have ht9 : τ15 90 0 = ρ 60 41 := (by rw [(hp.2.1 90 (by decide) (by decide)).2.2 (by decide), upT_n _ _ (by decide), hτ 90 (by decide)]; exact htR.2.2.2.2.1)
              have hl := lv_cast (lv_sub hl [3] rfl) (b := [(5, .ref (G15.2.2 90))]) (by rw [hg9]; rfl)
              refine lv_pop hx hb dX1_run_127 rfl ?_
              refine lv_aload hx hb dX1_run_128 (lv_at hl 0 rfl) ?_
              refine g_geti CF hK hM14 90 hk9 0 0 rfl rfl (by decide) (gLk.n hK q908) (fun _ h => h) rfl dX1_run_130 ?_
              refine x_top (b := ρ 60 41) ht9 ?_
              have hM16 := hM14.rt (π := swR (ρ 60 41).toNat) swR_i (swR_n (by decide) (by omega))
              exact g_iret CF hr hlocks hM16 (lPo_i (by unfold oRun; rw [if_neg (show ¬ (x < 0 ∨ rq x (ρ 60 0).toNat ≠ 0) by rw [hkn]; omega), if_neg (by omega)]) (lgR_run2 hLb (show ¬ (x < 0 ∨ rq x (ρ 60 0).toNat ≠ 0) by rw [hkn]; omega) (by omega) (fun t h => ⟨(haG t h).1, (haG t h).2.1, (haG t h).2.2.1, (by rw [upT_n _ _ (by omega), hτ t (by omega)]; exact (haG t h).2.2.2)⟩) htR.2.2.1 htR.2.2.2.1 (by rw [upT_n _ _ (by decide), hτ 90 (by decide)]; exact htR.2.2.2.2.1) (fun i a b => (by rw [upT_n _ _ (by decide)]; exact hdg i a (by omega))) (fun i a b => (by rw [upT_s]; exact run_came hn (fun i a b => (by rw [fillN_in a b]; exact hdg i a (by omega))) i a b)) (fun l2 i2 hc => (by rw [upT_n _ _ (by decide), hτ 93 (by decide)]; exact htR.2.2.2.2.2 l2 i2 hc)) hp)) (by decide) (by decide) dX1_run_133
            · refine lv_bipush (v := jI (-4)) hx hb dX1_run_84 (by decide) ?_
              exact g_iret CF hr hlocks hM10 (lPo_i (by unfold oRun; rw [if_neg (show ¬ (x < 0 ∨ rq x (ρ 60 0).toNat ≠ 0) by rw [hkn]; omega), if_pos (by omega)]) (by have hk := ok_run hO x; unfold oRun at hk ⊢; rw [if_neg (show ¬ (x < 0 ∨ rq x (ρ 60 0).toNat ≠ 0) by rw [hkn]; omega), if_pos (by omega)] at hk ⊢; exact hLτ.rho hk (lgE.s3 (mSame.rf.uT (t := 10) (by decide))))) (by decide) (by decide) dX1_run_86
          · refine lv_bipush (v := jI (-2)) hx hb dX1_run_69 (by decide) ?_
            exact g_iret CF hr hlocks hM6 (lPo_i (by unfold oRun; rw [if_pos (by rw [hkn]; omega)]) (by have hk := ok_run hO x; unfold oRun at hk ⊢; rw [if_pos (by rw [hkn]; omega)] at hk ⊢; exact hLτ.rho hk (lgE.s3 (mSame.rf.uT (t := 10) (by decide))))) (by decide) (by decide) dX1_run_71
      · have htm := tmod97 (rq x k)
        have hqr := rq_r hxr k
        refine lv_aload hx hb dX1_run_31 (lv_at hl 3 rfl) ?_
        refine g_getr CF hK hM6 90 htR.2.2.1.1 1 1 rfl rfl (by decide) (gLk.n hK q910) (fun _ h => h) rfl (G.2.2 91) htR.2.2.2.1.1 dX1_run_33 ?_
        refine lv_iload hx hb dX1_run_36 (lv_at hl 4 rfl) ?_
        refine lv_lload_n hx hb dX1_run_38 rfl (lv_at hl 2 rfl) ?_
        refine lv_ldc2 (v := jL 97) hx hb CF.2.2.2.1 (hts _ q115) dX1_run_39 ?_
        refine x_lrem hx hb dX1_run_42 (by have f0 := rq_r hxr k; omega) (by omega) (by omega) ?_
        refine x_l2i hx hb dX1_run_43 ?_
        refine g_iast CF hK hM6 91 (by decide) htR.2.2.1.2.1 (i := (k : Int)) (v := Int.tmod (rq x k) 97) (by omega) (by omega) (by omega) (by have f0 := rq_r hxr k; omega) dX1_run_44 (fun H locs hM17 => ?_)
        refine lv_lload_n hx hb dX1_run_45 rfl (lv_at hl 2 rfl) ?_
        refine lv_ldc2 (v := jL 97) hx hb CF.2.2.2.1 (hts _ q115) dX1_run_46 ?_
        refine x_ldiv hx hb dX1_run_49 (by have f0 := rq_r hxr k; omega) (by omega) (by omega) ?_
        refine lv_lstore_n (lv' := [(3, .long (jL (Int.tdiv (rq x k) 97))), (0, .ref (G.2.2 60)), (1, .long (jL x)), (5, .ref (G.2.2 90)), (6, .int (jI ((k : Int))))]) hx hb dX1_run_50 rfl hl (by decide) rfl (fun ls hl => ?_)
        refine x_iinc (lv' := [(6, .int (jI (((k : Int)) + 1))), (3, .long (jL (Int.tdiv (rq x k) 97))), (0, .ref (G.2.2 60)), (1, .long (jL x)), (5, .ref (G.2.2 90))]) hx hb dX1_run_51 hl (k := 4) rfl (by decide) rfl (fun ls hl => ?_)
        refine lv_goto (tgt := 22) hx hb dX1_run_54 (by decide) ?_
        exact ih22  ((k + 1)) (up2 τ 91 ((k : Int)) (Int.tmod (rq x k) 97)) _ _ _ (by have f0 := rq_r hxr k; first | omega | assumption | rfl) (hLτ.u2 (by unfold lgT; omega) (by decide)) (fun t h => (by rw [up2_n _ _ _ h]; exact hτ t h)) (fun i a b => Or.elim (Decidable.em (i = (k : Int))) (fun e => (by subst e; rw [up2_ss]; rfl)) (fun e => (by rw [up2_s, up1_n _ _ e]; exact hdg i a (by omega)))) (by omega) hM17 (lv_sub hl [2, 3, 1, 4, 0] rfl)
  exact c22 _ 0 τk _ _ _ (by first | omega | assumption | rfl) hL5 (fun t _ => rfl) (fun i a b => absurd b (by omega)) (Nat.lt_succ_self _) hM4 (lv_sub hl [3, 4, 2, 1, 0] rfl)
