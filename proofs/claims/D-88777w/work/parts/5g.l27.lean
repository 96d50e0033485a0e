/-! THE READER: statements -/
set_option maxHeartbeats 2000000 in
theorem l_rss (l : Launch) (E : y_E) (G : y_G) (σ : y_S) (sz : Nat) (ρ : y_S) (f : Nat) (A : Nat → Prop) (N : Nat) (a : Int) (lk : Int) (nm : rM) (R : rR) (hP : lgP E ρ G σ A N a lk nm) (hR : rSs ρ (rSt ρ f) 101 a lk nm [] = some R) (hI : CtSt l E ρ f) : gCtB l yX7_statements cX7_statements 2 (some (.object "java/util/ArrayList")) ({ frames := 4 * f + 13, cells := 3 * (rEd R - a).toNat + 1, slots := 620 * (rEd R - a).toNat + 3, locals := 325 + 100 * f }) E [.ref (G.2.2 26)] G σ sz (rPl 0 E ρ G σ A N R) (rTh G σ R) (3 * (rEd R - a).toNat + 1) (620 * (rEd R - a).toNat + 3) := by
  refine g_metB (by decide) (Nat.le_of_ble_eq_true rfl) ?_
  intro p e s m below meth c ls CF het hr hlocks hnm hK hM0 hA hl
  have hx := CF.1
  have hb := CF.2.1
  have hts := CF.2.2.2.2
  have hl : lv_has ls 2 [(0, .ref (G.2.2 26))] := hl
  have hL := hP.1
  have ha := hP.2.1.1
  have hab := hP.2.2.2.2.2.1
  have hN0 := hP.2.2.1.1
  have hT := hP.1.1.tp
  have hT2 : ρ 60 30 ≤ 100 := (by omega)
  have hlo := hP.2.2.2.2.2.2
  have hAb := hP.2.2.1.2.2.2
  obtain ⟨R1, hq, hc⟩ := rSs_c (g := 100) hR
  rcases hc with ⟨p1, rfl, e1⟩ | ⟨a1, lk1, nm1, L1, rfl, hR1⟩
  · have hE : rEd R = p1 + 1 := (by rw [e1]; rfl)
    have hE1 : rEd (Sum.inl p1 : rR) = p1 + 1 := rfl
    have hq1 : a ≤ p1 ∧ p1 ≤ ρ 60 30 := rSt_pos hT2 f _ _ _ _ (by omega) (by omega) hlo hq
    refine g_new CF hK hM0 hA N (hP.2.2.1.2.1 N (Nat.le_refl _)) (ci := 16) rfl rfl q621 q212 q70 (show 0 + 1 ≤ 3 * (rEd R - a).toNat + 1 by omega) (show 0 + 3 ≤ 620 * (rEd R - a).toNat + 3 by omega) dX7_statements_0 (fun H a2 hM1 => ?_)
    obtain ⟨G1, τ1, hM3, hP1, hk1, hT1, hz1, hi1, hf1⟩ : ∃ (g : y_G) (τ : y_S), gM E (gA G sz) g τ s.heap H [] ∧ lgP E ρ g τ A (N + 2) a lk nm ∧ rdN N G σ g τ ∧ g.1 N = some (.inl 16) ∧ g.2.2 N = a2 ∧ τ N 2 = 0 ∧ g.1 (N + 1) = none := ⟨_, _, hM1, (hP.new (by omega)).1, (hP.new (N' := N + 2) (by omega)).2, (upT_s _ _ _), (upT_s _ _ _), (by rw [upT_s]), (by dsimp only; rw [upT_n _ _ (by omega)]; exact hP.2.2.1.2.1 _ (by omega))⟩
    have hl := lv_cast hl (b := [(0, .ref (G1.2.2 26))]) (by rw [(hk1 26 (by omega) (by omega)).2.1])
    refine x_stk (st' := [.ref (G1.2.2 N)]) (by rw [hz1]) ?_
    refine lv_dup hx hb dX7_statements_3 rfl ?_
    refine g_callv hM3 hA (g_runI (As := []) (rest := [.ref (G1.2.2 N)]) CF hK hM3 (j_i3 l E _ _ _ N (some (G1.2.2 0))  hT1 (by omega) hP1.2.2.2.1) (cwI 0 hts (lw_meth q215) rfl rfl rfl (hts _ q70) (hts _ q622) (hts _ q214) rfl (by decide +kernel) ⟨(show 3 + 1 ≤ 4 * f + 13 by omega), (show 8 + (1 + 11) + (64) ≤ 325 + 100 * f by omega)⟩) rfl hl.1 rfl (Nat.le_of_ble_eq_true rfl) dX7_statements_4 ⟨(show 1 + 0 ≤ 3 * (rEd R - a).toNat + 1 by omega), (show 3 + 0 ≤ 620 * (rEd R - a).toNat + 3 by omega)⟩) (fun H locs hM4 => ?_)
    obtain ⟨G2, τ2, hM5, hP2, hk2, hl2, hz2, hT2b⟩ : ∃ (g : y_G) (τ : y_S), gM E (gA G sz) g τ s.heap H locs ∧ lgP E ρ g τ A (N + 2) a lk nm ∧ rdN N G1 τ1 g τ ∧ lsI ρ A N g τ (N + 2) a.toNat [] ∧ g.2.2 = G1.2.2 ∧ g.1 N = some (.inl 16) := ⟨_, _, hM4, hP1.ini (x := N) hN0 (fun z => (by have := hAb N z; omega)) (fun t h => up2_n _ _ _ h) (fun t h => up2_n _ _ _ h), (fun t h1 h2 => ⟨rfl, rfl, fun _ => up2_n _ _ _ (by omega), fun _ => up2_n _ _ _ (by omega)⟩), lsI.zero hT1 (by rw [up2_s, up1_n _ _ (by decide)]; exact hi1) hf1 (by dsimp only; rw [up2_s, up1_s]), rfl, hT1⟩
    have hl := lv_cast hl (b := [(0, .ref (G2.2.2 26))]) (by rw [(hk2 26 (by omega) (by omega)).2.1])
    refine x_stk (st' := [.ref (G2.2.2 N)]) (by rw [(congrFun hz2 N)]) ?_
    have hk02 : rdN N G σ G2 τ2 := hk1.tr hk2 (Nat.le_refl _)
    refine lv_astore_n (lv' := [(1, .ref (G2.2.2 N)), (0, .ref (G2.2.2 26))]) hx hb dX7_statements_7 rfl hl (by decide) rfl (fun ls hl => ?_)
    refine lv_aload_n hx hb dX7_statements_8 rfl (lv_at hl 0 rfl) ?_
    refine lv_aload_n hx hb dX7_statements_9 rfl (lv_at hl 1 rfl) ?_
    refine W.widen (k := 3 * (rEd R - a).toNat + 1 - (3 * (rEd (Sum.inl p1 : rR) - a).toNat - 1)) (n := 620 * (rEd R - a).toNat + 3 - (620 * (rEd (Sum.inl p1 : rR) - a).toNat - 600)) (show 1 ≤ 3 * (rEd R - a).toNat + 1 - (3 * (rEd (Sum.inl p1 : rR) - a).toNat - 1) by omega) (show 3 ≤ 620 * (rEd R - a).toNat + 3 - (620 * (rEd (Sum.inl p1 : rR) - a).toNat - 600) by omega) ?_
    exact g_upT (g_passE (by omega) (by omega) het hlocks hM5 hA (g_runVT (As := []) (rest := [.ref (G2.2.2 N)]) CF ((hI G2 τ2 _ A (N + 2) a lk nm _ hP2 hq).thr rPn_no) (cwV 0 hts (lw_V q623 q625 qs14 q67 q626) rfl rfl rfl (by decide +kernel) ⟨(show 4 * f + 12 + 1 ≤ 4 * f + 13 by omega), (show 8 + (4 + 11) + (300 + 100 * f) ≤ 325 + 100 * f by omega)⟩) ⟨gP_blind, g_recv hK hM5 (hP2.1.2.1.1 26 _ rfl) rfl, (g_pre hK hM5).2⟩ rfl rfl hl.1 rfl (lv_room (Nat.le_of_ble_eq_true rfl)) dX7_statements_10 ⟨(show 3 * (rEd R - a).toNat + 1 - (3 * (rEd (Sum.inl p1 : rR) - a).toNat - 1) + (3 * (rEd (Sum.inl p1 : rR) - a).toNat - 1) ≤ 3 * (rEd R - a).toNat + 1 by omega), (show 620 * (rEd R - a).toNat + 3 - (620 * (rEd (Sum.inl p1 : rR) - a).toNat - 600) + (620 * (rEd (Sum.inl p1 : rR) - a).toNat - 600) ≤ 620 * (rEd R - a).toNat + 3 by omega)⟩) (by rw [e1]; exact rTh_of (hk02.k hN0)))
  · have hE1 : rEd (Sum.inr (a1, lk1, nm1, L1) : rR) = a1 := rfl
    have hq1 : a < a1 ∧ a1 ≤ ρ 60 30 ∧ rLo lk1 := rSt_pos hT2 f _ _ _ _ (by omega) (by omega) hlo hq
    have hE := rSl_pos (rSt_pos hT2 f) (by omega) (by omega) hq1.2.2 hR1
    refine g_new CF hK hM0 hA N (hP.2.2.1.2.1 N (Nat.le_refl _)) (ci := 16) rfl rfl q621 q212 q70 (show 0 + 1 ≤ 3 * (rEd R - a).toNat + 1 by omega) (show 0 + 3 ≤ 620 * (rEd R - a).toNat + 3 by omega) dX7_statements_0 (fun H a7 hM6 => ?_)
    obtain ⟨G1, τ1, hM8, hP1, hk1, hT1, hz1, hi1, hf1⟩ : ∃ (g : y_G) (τ : y_S), gM E (gA G sz) g τ s.heap H [] ∧ lgP E ρ g τ A (N + 2) a lk nm ∧ rdN N G σ g τ ∧ g.1 N = some (.inl 16) ∧ g.2.2 N = a7 ∧ τ N 2 = 0 ∧ g.1 (N + 1) = none := ⟨_, _, hM6, (hP.new (by omega)).1, (hP.new (N' := N + 2) (by omega)).2, (upT_s _ _ _), (upT_s _ _ _), (by rw [upT_s]), (by dsimp only; rw [upT_n _ _ (by omega)]; exact hP.2.2.1.2.1 _ (by omega))⟩
    have hl := lv_cast hl (b := [(0, .ref (G1.2.2 26))]) (by rw [(hk1 26 (by omega) (by omega)).2.1])
    refine x_stk (st' := [.ref (G1.2.2 N)]) (by rw [hz1]) ?_
    refine lv_dup hx hb dX7_statements_3 rfl ?_
    refine g_callv hM8 hA (g_runI (As := []) (rest := [.ref (G1.2.2 N)]) CF hK hM8 (j_i3 l E _ _ _ N (some (G1.2.2 0))  hT1 (by omega) hP1.2.2.2.1) (cwI 0 hts (lw_meth q215) rfl rfl rfl (hts _ q70) (hts _ q622) (hts _ q214) rfl (by decide +kernel) ⟨(show 3 + 1 ≤ 4 * f + 13 by omega), (show 8 + (1 + 11) + (64) ≤ 325 + 100 * f by omega)⟩) rfl hl.1 rfl (Nat.le_of_ble_eq_true rfl) dX7_statements_4 ⟨(show 1 + 0 ≤ 3 * (rEd R - a).toNat + 1 by omega), (show 3 + 0 ≤ 620 * (rEd R - a).toNat + 3 by omega)⟩) (fun H locs hM9 => ?_)
    obtain ⟨G2, τ2, hM10, hP2, hk2, hl2, hz2, hT2b⟩ : ∃ (g : y_G) (τ : y_S), gM E (gA G sz) g τ s.heap H locs ∧ lgP E ρ g τ A (N + 2) a lk nm ∧ rdN N G1 τ1 g τ ∧ lsI ρ A N g τ (N + 2) a.toNat [] ∧ g.2.2 = G1.2.2 ∧ g.1 N = some (.inl 16) := ⟨_, _, hM9, hP1.ini (x := N) hN0 (fun z => (by have := hAb N z; omega)) (fun t h => up2_n _ _ _ h) (fun t h => up2_n _ _ _ h), (fun t h1 h2 => ⟨rfl, rfl, fun _ => up2_n _ _ _ (by omega), fun _ => up2_n _ _ _ (by omega)⟩), lsI.zero hT1 (by rw [up2_s, up1_n _ _ (by decide)]; exact hi1) hf1 (by dsimp only; rw [up2_s, up1_s]), rfl, hT1⟩
    have hl := lv_cast hl (b := [(0, .ref (G2.2.2 26))]) (by rw [(hk2 26 (by omega) (by omega)).2.1])
    refine x_stk (st' := [.ref (G2.2.2 N)]) (by rw [(congrFun hz2 N)]) ?_
    have hk02 : rdN N G σ G2 τ2 := hk1.tr hk2 (Nat.le_refl _)
    refine lv_astore_n (lv' := [(1, .ref (G2.2.2 N)), (0, .ref (G2.2.2 26))]) hx hb dX7_statements_7 rfl hl (by decide) rfl (fun ls hl => ?_)
    refine lv_aload_n hx hb dX7_statements_8 rfl (lv_at hl 0 rfl) ?_
    refine lv_aload_n hx hb dX7_statements_9 rfl (lv_at hl 1 rfl) ?_
    refine g_callRn hM10 hA (g_runV (As := []) (rest := [.ref (G2.2.2 N)]) CF hK hM10 (hP2.1.2.1.1 26 _ rfl) rfl ((hI G2 τ2 _ A (N + 2) a lk nm _ hP2 hq).ret rTh_no) (cwV 0 hts (lw_V q623 q625 qs14 q67 q626) rfl rfl rfl (by decide +kernel) ⟨(show 4 * f + 12 + 1 ≤ 4 * f + 13 by omega), (show 8 + (4 + 11) + (300 + 100 * f) ≤ 325 + 100 * f by omega)⟩) rfl hl.1 rfl (Nat.le_of_ble_eq_true rfl) dX7_statements_10 ⟨(show 1 + (3 * (rEd (Sum.inr (a1, lk1, nm1, L1) : rR) - a).toNat - 1) ≤ 3 * (rEd R - a).toNat + 1 by omega), (show 3 + (620 * (rEd (Sum.inr (a1, lk1, nm1, L1) : rR) - a).toNat - 600) ≤ 620 * (rEd R - a).toNat + 3 by omega)⟩) (fun u3 N3 G3 τ3 H locs hd3 hP3 hk3 hN3 hM11 => ?_)
    have hl := lv_cast hl (b := [(1, .ref (G3.2.2 N)), (0, .ref (G3.2.2 26))]) (by rw [(hk3 N (by omega) (by omega)).2.1, (hk3 26 (by omega) (by omega)).2.1])
    refine x_stk (st' := [.ref (G3.2.2 u3), .ref (G3.2.2 N)]) (by rw [(hk3 N (by omega) (by omega)).2.1]) ?_
    obtain ⟨hT3, n3, el3, Ls3, hn3, hb3, hc3, he3⟩ := hl2.keep (N2 := N3) (h' := a1.toNat - 1) hk3 hAb hN0 (Nat.le_refl _) hN3 (by omega)
    obtain ⟨ci3, ho3⟩ := hd3.ob
    refine g_callPI hM11 hA (g_runV (As := [.ref (G3.2.2 u3)]) (rest := []) CF hK hM11 hT3 rfl (j_add l E _ _ _ N (N + 1) 99 ((n3 : Int)) (fun i => G3.2.2 (el3 i.toNat)) u3 ci3 (G3.2.2 u3)  hT3 (hP3.2.2.1.2.2.1 99 (by decide) (by decide)) (by decide) (by omega) (fun i h0 h1 y hy => (hc3 i.toNat (by omega)).ob.elim (fun c z => ⟨el3 i.toNat, c, z, Option.some.inj hy⟩)) ⟨hP3.2.2.2.1, hP3.1.2.1.1 0 _ rfl⟩ hb3 (by omega) ⟨ho3, rfl⟩) (cwV 1 hts (lw_V q784 q785 q786 q70 q787) rfl rfl rfl (by decide +kernel) ⟨(show 6 + 1 ≤ 4 * f + 13 by omega), (show 8 + (2 + 11) + (150) ≤ 325 + 100 * f by omega)⟩) rfl hl.1 rfl (Nat.le_of_ble_eq_true rfl) dX7_statements_13 ⟨(show (1 + (3 * (rEd (Sum.inr (a1, lk1, nm1, L1) : rR) - a).toNat - 1)) + 1 ≤ 3 * (rEd R - a).toNat + 1 by omega), (show (3 + (620 * (rEd (Sum.inr (a1, lk1, nm1, L1) : rR) - a).toNat - 600)) + 600 ≤ 620 * (rEd R - a).toNat + 3 by omega)⟩) (fun rr G13 τ13 H locs hp hM12 => ?_)
    obtain ⟨rfl, hp⟩ := hp
    obtain ⟨hl3x, hP3x, hk3x⟩ := lsI.add hP3 hAb hN0 (by omega) hT3 (show n3 + 1 ≤ a1.toNat by omega) (fun i hi => (hc3 i hi).le (by omega)) he3 hd3 rfl hp
    have hl := lv_cast hl (b := [(1, .ref (G13.2.2 N)), (0, .ref (G13.2.2 26))]) (by rw [(hp.2.1 N (by omega) (by omega)).1, (hp.2.1 26 (by omega) (by decide)).1])
    refine W.widen (k := 3 * (a1 - a).toNat + 1) (n := 620 * (a1 - a).toNat + 3) (show ((1 + (3 * (rEd (Sum.inr (a1, lk1, nm1, L1) : rR) - a).toNat - 1)) + 1) ≤ 3 * (a1 - a).toNat + 1 by omega) (show ((3 + (620 * (rEd (Sum.inr (a1, lk1, nm1, L1) : rR) - a).toNat - 600)) + 600) ≤ 620 * (a1 - a).toNat + 3 by omega) ?_
    refine lv_pop hx hb dX7_statements_16 rfl ?_
    have c17 : ∀ (n17 : Nat) (g : Nat) (Gc : y_G) (τc : y_S) (Nc : Nat) (ac : Int) (lkc : Int) (nmc : rM) (accc : List Int) (H : Heap) (locs : List Loc) (ls : Array Slot), (rSl ρ (rSt ρ f) g ac lkc nmc accc = some R) → (lgP E ρ Gc τc (aX A (N + 2) Nc) Nc ac lkc nmc) → (lsI ρ A N Gc τc Nc ac.toNat accc) → (rdN N G σ Gc τc) → (N + 2 ≤ Nc) → (a < ac) → (g < n17) → gM E (gA G sz) Gc τc s.heap H locs → lv_has ls 2 [(0, .ref (Gc.2.2 26)), (1, .ref (Gc.2.2 N))] → W p l e ({ frames := 4 * f + 13, cells := 3 * (rEd R - a).toNat + 1, slots := 620 * (rEd R - a).toNat + 3, locals := 325 + 100 * f } : Room) s m ([.ref (G.2.2 26)] : List Value).toArray below meth c H locs (3 * (ac - a).toNat + 1) (620 * (ac - a).toNat + 3) (MQT below (gQB E G sz (rPl 0 E ρ G σ A N R) (rTh G σ R)) ([.ref (G.2.2 26)] : List Value).toArray s (3 * (rEd R - a).toNat + 1) (620 * (rEd R - a).toNat + 3) (gA G sz)) (F0 m 17 ls []) := by
      intro n17
      induction n17 with
      | zero => intro g Gc τc Nc ac lkc nmc accc H locs ls hRc hPc hlc hkc hNc hac hmu; exact absurd hmu (Nat.not_lt_zero _)
      | succ n17 ih17 =>
        intro g Gc τc Nc ac lkc nmc accc H locs ls hRc hPc hlc hkc hNc hac hmu17 hM14 hl
        have hbc := hPc.2.2.2.2.2.1
        have hedc := rSl_pos (rSt_pos hT2 f) hbc.1 hbc.2 hPc.2.2.2.2.2.2 hRc
        have hTc := hlc.1
        refine lv_aload_n hx hb dX7_statements_17 rfl (lv_at hl 0 rfl) ?_
        refine g_calli (r := nxR ρ (τc 26 1)) hM14 hA (g_runV (As := []) (rest := []) CF hK hM14 (hPc.1.2.1.1 26 _ rfl) rfl (l_rnext l E _ _ _ ρ  hPc.1 (by have q := hPc.2.1.1; have q2 := hPc.2.2.2.2.2.1; omega)) (cwV 0 hts (lw_V q627 q629 qs15 q67 q630) rfl rfl rfl (by decide +kernel) ⟨(show 0 + 1 ≤ 4 * f + 13 by omega), (show 8 + (1 + 11) + (0) ≤ 325 + 100 * f by omega)⟩) rfl hl.1 rfl (Nat.le_of_ble_eq_true rfl) dX7_statements_18 ⟨(show 3 * (ac - a).toNat + 1 + 0 ≤ 3 * (rEd R - a).toNat + 1 by omega), (show 620 * (ac - a).toNat + 3 + 0 ≤ 620 * (rEd R - a).toNat + 3 by omega)⟩) (fun H locs hM15 => ?_)
        refine x_top (b := nxR ρ ac) (by rw [hPc.2.1.1]) ?_
        refine lv_bipush (v := jI 59) hx hb dX7_statements_21 (by decide) ?_
        have fa16 := nxR_r ρ ac
        refine x_icmp_ne (tgt := 48) hx hb dX7_statements_23 (by decide) (by have f0 := nxR_r ρ ac; omega) (by omega) (fun b23 => ?_) (fun b23 => ?_)
        · have e9 : R = .inr (ac, lkc, nmc, accc) := (rSl_c hRc).elim (fun z => absurd z.1 b23) (fun z => z.2)
          have hE9 : rEd R = ac := (by rw [e9]; rfl)
          refine lv_aload_n hx hb dX7_statements_48 rfl (lv_at hl 1 rfl) ?_
          exact g_upR (g_aret CF hr (Or.inl ⟨_, rfl⟩) hlocks hM15 (r := some (Gc.2.2 N)) (by rw [e9]; exact ⟨N, Nc, _, _, _, _, rfl, rfl, (by rw [Int.sub_zero]; exact hlc.v hNc (by omega)), hPc.more (fun t z => z.imp id (fun q => (by omega))) (aX_bd hAb hN0 (by omega)), hkc, (by omega)⟩) (show 3 * (ac - a).toNat + 1 ≤ 3 * (rEd R - a).toNat + 1 by omega) (show 620 * (ac - a).toNat + 3 ≤ 620 * (rEd R - a).toNat + 3 by omega) dX7_statements_49)
        · have cl9 := nxR_lt (ρ := ρ) (a := ac) (by omega)
          have hR9 : rSs ρ (rSt ρ f) g (ac + 1) lkc nmc accc = some R := (rSl_c hRc).elim (fun z => z.2) (fun z => absurd b23 z.1)
          obtain ⟨g2, rfl⟩ : ∃ g2 : Nat, g = g2 + 1 := (by cases g with | zero => cases hR9 | succ g2 => exact ⟨g2, rfl⟩)
          refine lv_aload_n hx hb dX7_statements_26 rfl (lv_at hl 0 rfl) ?_
          refine lv_dup hx hb dX7_statements_27 rfl ?_
          refine g_geti CF hK hM15 26 (hPc.1.2.1.1 26 _ rfl) 1 1 rfl rfl (by decide) (Or.inl (hts _ q197)) (fun _ h => h) rfl dX7_statements_28 ?_
          refine x_top (b := ac) hPc.2.1.1 ?_
          refine lv_iconst (v := jI 1) hx hb dX7_statements_31 rfl ?_
          refine x_iadd hx hb dX7_statements_32 ?_
          refine g_puti CF hK hM15 26 (by decide) (hPc.1.2.1.1 26 _ rfl) 1 1 rfl rfl (by decide) (Or.inl (hts _ q197)) (fun _ h => h) (Or.inl rfl) rfl (v := ac + 1) rfl rfl (by omega) dX7_statements_33 (fun H locs hM17 => ?_)
          obtain ⟨G6, τ6, hM18, hP6, hk6⟩ : ∃ (g : y_G) (τ : y_S), gM E (gA G sz) g τ s.heap H locs ∧ lgP E ρ g τ (aX A (N + 2) Nc) Nc (ac + 1) lkc nmc ∧ rdN Nc Gc τc g τ := ⟨_, _, hM17, (hPc.adv rfl cl9).1, (hPc.adv rfl cl9).2⟩
          have hl := lv_cast hl (b := [(0, .ref (G6.2.2 26)), (1, .ref (G6.2.2 N))]) (by rw [(hk6 26 (by omega) (by omega)).2.1, (hk6 N (by omega) (by omega)).2.1])
          have hl6 := hlc.keep (N2 := Nc) (h' := ac.toNat) hk6 hAb hN0 hNc (Nat.le_refl _) (Nat.le_refl _)
          have hT6 := hl6.1
          obtain ⟨R9, hq9, hcc9⟩ := rSs_c hR9
          rcases hcc9 with ⟨p9, rfl, e9⟩ | ⟨a9, lk9, nm9, L9, rfl, hR8⟩
          · have hE9 : rEd R = p9 + 1 := (by rw [e9]; rfl)
            have hE8 : rEd (Sum.inl p9 : rR) = p9 + 1 := rfl
            have hq8 : ac + 1 ≤ p9 ∧ p9 ≤ ρ 60 30 := rSt_pos hT2 f _ _ _ _ (by omega) (by omega) hPc.2.2.2.2.2.2 hq9
            refine lv_aload_n hx hb dX7_statements_36 rfl (lv_at hl 1 rfl) ?_
            refine lv_aload_n hx hb dX7_statements_37 rfl (lv_at hl 0 rfl) ?_
            refine W.widen (k := 3 * (rEd R - a).toNat + 1 - (3 * (rEd (Sum.inl p9 : rR) - (ac + 1)).toNat - 1)) (n := 620 * (rEd R - a).toNat + 3 - (620 * (rEd (Sum.inl p9 : rR) - (ac + 1)).toNat - 600)) (show 3 * (ac - a).toNat + 1 ≤ 3 * (rEd R - a).toNat + 1 - (3 * (rEd (Sum.inl p9 : rR) - (ac + 1)).toNat - 1) by omega) (show 620 * (ac - a).toNat + 3 ≤ 620 * (rEd R - a).toNat + 3 - (620 * (rEd (Sum.inl p9 : rR) - (ac + 1)).toNat - 600) by omega) ?_
            exact g_upT (g_passE (by omega) (by omega) het hlocks hM18 hA (g_runVT (As := []) (rest := [.ref (G6.2.2 N)]) CF ((hI G6 τ6 _ (aX A (N + 2) Nc) Nc (ac + 1) lkc nmc _ hP6 hq9).thr rPn_no) (cwV 0 hts (lw_V q623 q625 qs14 q67 q626) rfl rfl rfl (by decide +kernel) ⟨(show 4 * f + 12 + 1 ≤ 4 * f + 13 by omega), (show 8 + (4 + 11) + (300 + 100 * f) ≤ 325 + 100 * f by omega)⟩) ⟨gP_blind, g_recv hK hM18 (hP6.1.2.1.1 26 _ rfl) rfl, (g_pre hK hM18).2⟩ rfl rfl hl.1 rfl (lv_room (Nat.le_of_ble_eq_true rfl)) dX7_statements_38 ⟨(show 3 * (rEd R - a).toNat + 1 - (3 * (rEd (Sum.inl p9 : rR) - (ac + 1)).toNat - 1) + (3 * (rEd (Sum.inl p9 : rR) - (ac + 1)).toNat - 1) ≤ 3 * (rEd R - a).toNat + 1 by omega), (show 620 * (rEd R - a).toNat + 3 - (620 * (rEd (Sum.inl p9 : rR) - (ac + 1)).toNat - 600) + (620 * (rEd (Sum.inl p9 : rR) - (ac + 1)).toNat - 600) ≤ 620 * (rEd R - a).toNat + 3 by omega)⟩) (by rw [e9]; exact rTh_of ((hkc.tr hk6 (by omega)).k hN0)))
          · have hE8 : rEd (Sum.inr (a9, lk9, nm9, L9) : rR) = a9 := rfl
            have hq8 : ac + 1 < a9 ∧ a9 ≤ ρ 60 30 ∧ rLo lk9 := rSt_pos hT2 f _ _ _ _ (by omega) (by omega) hPc.2.2.2.2.2.2 hq9
            have hE9 := rSl_pos (rSt_pos hT2 f) (by omega) (by omega) hq8.2.2 hR8
            refine lv_aload_n hx hb dX7_statements_36 rfl (lv_at hl 1 rfl) ?_
            refine lv_aload_n hx hb dX7_statements_37 rfl (lv_at hl 0 rfl) ?_
            refine g_callRn hM18 hA (g_runV (As := []) (rest := [.ref (G6.2.2 N)]) CF hK hM18 (hP6.1.2.1.1 26 _ rfl) rfl ((hI G6 τ6 _ (aX A (N + 2) Nc) Nc (ac + 1) lkc nmc _ hP6 hq9).ret rTh_no) (cwV 0 hts (lw_V q623 q625 qs14 q67 q626) rfl rfl rfl (by decide +kernel) ⟨(show 4 * f + 12 + 1 ≤ 4 * f + 13 by omega), (show 8 + (4 + 11) + (300 + 100 * f) ≤ 325 + 100 * f by omega)⟩) rfl hl.1 rfl (Nat.le_of_ble_eq_true rfl) dX7_statements_38 ⟨(show 3 * (ac - a).toNat + 1 + (3 * (rEd (Sum.inr (a9, lk9, nm9, L9) : rR) - (ac + 1)).toNat - 1) ≤ 3 * (rEd R - a).toNat + 1 by omega), (show 620 * (ac - a).toNat + 3 + (620 * (rEd (Sum.inr (a9, lk9, nm9, L9) : rR) - (ac + 1)).toNat - 600) ≤ 620 * (rEd R - a).toNat + 3 by omega)⟩) (fun u9 N9 G9 τ9 H locs hd9a hP9a hk9 hN9 hM19 => ?_)
            have hl := lv_cast hl (b := [(0, .ref (G9.2.2 26)), (1, .ref (G9.2.2 N))]) (by rw [(hk9 26 (by omega) (by omega)).2.1, (hk9 N (by omega) (by omega)).2.1])
            refine x_stk (st' := [.ref (G9.2.2 u9), .ref (G9.2.2 N)]) (by rw [(hk9 N (by omega) (by omega)).2.1]) ?_
            have hd9 : ndV ρ G9 τ9 (aX A (N + 2) N9) a9.toNat u9 L9 := ndV.fr agA.rf rfl rfl (fun t z => z.elim (fun q => q.imp id (fun q => (by omega))) (fun q => Or.inr (by omega))) _ _ _ hd9a
            have hP9 : lgP E ρ G9 τ9 (aX A (N + 2) N9) N9 a9 lk9 nm9 := hP9a.more (fun t z => z.elim (fun q => q.imp id (fun q => (by omega))) (fun q => Or.inr (by omega))) (fun t z => z.elim (fun q => (by have := hAb t q; omega)) (fun q => (by omega)))
            obtain ⟨hT9, n9, el9, Ls9, hn9, hb9, hc9, he9⟩ := hl6.keep (N2 := N9) (h' := a9.toNat - 1) hk9 hAb hN0 hNc hN9 (by omega)
            obtain ⟨ci9, ho9⟩ := hd9.ob
            refine g_callPI hM19 hA (g_runV (As := [.ref (G9.2.2 u9)]) (rest := []) CF hK hM19 hT9 rfl (j_add l E _ _ _ N (N + 1) 99 ((n9 : Int)) (fun i => G9.2.2 (el9 i.toNat)) u9 ci9 (G9.2.2 u9)  hT9 (hP9.2.2.1.2.2.1 99 (by decide) (by decide)) (by decide) (by omega) (fun i h0 h1 y hy => (hc9 i.toNat (by omega)).ob.elim (fun c z => ⟨el9 i.toNat, c, z, Option.some.inj hy⟩)) ⟨hP9.2.2.2.1, hP9.1.2.1.1 0 _ rfl⟩ hb9 (by omega) ⟨ho9, rfl⟩) (cwV 1 hts (lw_V q784 q785 q786 q70 q787) rfl rfl rfl (by decide +kernel) ⟨(show 6 + 1 ≤ 4 * f + 13 by omega), (show 8 + (2 + 11) + (150) ≤ 325 + 100 * f by omega)⟩) rfl hl.1 rfl (Nat.le_of_ble_eq_true rfl) dX7_statements_41 ⟨(show (3 * (ac - a).toNat + 1 + (3 * (rEd (Sum.inr (a9, lk9, nm9, L9) : rR) - (ac + 1)).toNat - 1)) + 1 ≤ 3 * (rEd R - a).toNat + 1 by omega), (show (620 * (ac - a).toNat + 3 + (620 * (rEd (Sum.inr (a9, lk9, nm9, L9) : rR) - (ac + 1)).toNat - 600)) + 600 ≤ 620 * (rEd R - a).toNat + 3 by omega)⟩) (fun rr G21 τ21 H locs hp hM20 => ?_)
            obtain ⟨rfl, hp⟩ := hp
            obtain ⟨hl9x, hP9x, hk9x⟩ := lsI.add hP9 hAb hN0 (by omega) hT9 (show n9 + 1 ≤ a9.toNat by omega) (fun i hi => (hc9 i hi).le (by omega)) he9 hd9 rfl hp
            have hl := lv_cast hl (b := [(0, .ref (G21.2.2 26)), (1, .ref (G21.2.2 N))]) (by rw [(hp.2.1 26 (by omega) (by decide)).1, (hp.2.1 N (by omega) (by omega)).1])
            refine lv_pop hx hb dX7_statements_44 rfl ?_
            refine W.widen (k := 3 * (a9 - a).toNat + 1) (n := 620 * (a9 - a).toNat + 3) (show ((3 * (ac - a).toNat + 1 + (3 * (rEd (Sum.inr (a9, lk9, nm9, L9) : rR) - (ac + 1)).toNat - 1)) + 1) ≤ 3 * (a9 - a).toNat + 1 by omega) (show ((620 * (ac - a).toNat + 3 + (620 * (rEd (Sum.inr (a9, lk9, nm9, L9) : rR) - (ac + 1)).toNat - 600)) + 600) ≤ 620 * (a9 - a).toNat + 3 by omega) ?_
            refine lv_goto (tgt := 17) hx hb dX7_statements_45 (by decide) ?_
            exact ih17  g2 G21 τ21 N9 a9 lk9 nm9 ((accc ++ L9)) _ _ _ hR8 hP9x hl9x (((hkc.tr hk6 (by omega)).tr hk9 (by omega)).tr hk9x (Nat.le_refl _)) (by omega) (by omega) (by omega) hM20 (lv_sub hl [0, 1] rfl)
    exact c17 _ 100 G13 τ13 N3 a1 lk1 nm1 (([] ++ L1)) _ _ _ hR1 hP3x hl3x ((hk02.tr hk3 (by omega)).tr hk3x (Nat.le_refl _)) hN3 hq1.1 (Nat.lt_succ_self _) hM12 (lv_sub hl [1, 0] rfl)
/-! all of them, by fuel -/
theorem ct_all (l : Launch) (E : y_E) (ρ : y_S) : ∀ f : Nat, CtSt l E ρ f
  | 0 => fun _ _ _ _ _ _ _ _ _ _ h => by cases h
  | f + 1 => by
    have h1 := ct_all l E ρ f
    have h2 : CtSs l E ρ f := fun G σ sz A N a lk nm R hP hR => l_rss l E G σ sz ρ f A N a lk nm R hP hR h1
    have h3 : CtBr l E ρ f := fun G σ sz A N a lk nm R hP hR => l_rbr l E G σ sz ρ f A N a lk nm R hP hR h2
    have h4 : CtNa l E ρ f := fun G σ sz A N k a lk nm R hP k0 k1 ka hR => l_rna l E G σ sz ρ f A N a lk nm R k hP k0 k1 ka hR h3
    exact fun G σ sz A N a lk nm R hP hR => l_rst l E G σ sz ρ f A N a lk nm R hP hR h3 h4
theorem ct_ss (l : Launch) (E : y_E) (ρ : y_S) (f : Nat) : CtSs l E ρ f := fun G σ sz A N a lk nm R hP hR => l_rss l E G σ sz ρ f A N a lk nm R hP hR (ct_all l E ρ f)
