/-! WHAT IS THROWN; THE READER'S EYES -/
/-- the references of what is thrown, before its kind and place -/
def thR (E : y_E) (r : Nat → Int → Option Nat) (u a : Nat) : Nat → Int → Option Nat := up2 (up2 (up2 (up2 (up2 (up2 (up2 r u 0 (some a)) u 1 (gZr E 1)) u 2 (gZr E 2)) u 1 none) u 3 none) u 0 none) u 2 none
theorem thR_n {E : y_E} {r : Nat → Int → Option Nat} {u a t : Nat} (h : t ≠ u) : thR E r u a t = r t := by
  unfold thR
  rw [up2_n _ _ _ h, up2_n _ _ _ h, up2_n _ _ _ h, up2_n _ _ _ h, up2_n _ _ _ h, up2_n _ _ _ h, up2_n _ _ _ h]
section XPC
variable {p : Program} {l : Launch} {e : Env} {R : Room} {s : State} {m : MethodId} {args : Array Value} {below : List Frame} {meth : Method} {c : Code} {H : Heap} {locs : List Loc} {cells slots : Nat} {Q : State → Prop} {pc pc2 : Nat} {ls : Array Slot} {st : List Value}
theorem x_pc (e1 : pc = pc2) (k : W p l e R s m args below meth c H locs cells slots Q (F0 m pc2 ls st)) : W p l e R s m args below meth c H locs cells slots Q (F0 m pc ls st) := by rw [e1]; exact k
end XPC
/-- the byte that is next, or -1 -/
def nxR (ρ : y_S) (at1 : Int) : Int := if at1 < ρ 60 30 then (ρ 23 at1).bmod 256 else -1
theorem nxR_r (ρ : y_S) (at1 : Int) : -128 ≤ nxR ρ at1 ∧ nxR ρ at1 ≤ 127 := by
  unfold nxR
  split
  · have a := Int.bmod_lt (x := ρ 23 at1) (m := 256) (by decide)
    have b := Int.le_bmod (x := ρ 23 at1) (m := 256) (by decide)
    omega
  · omega
set_option maxHeartbeats 400000 in
theorem j_thr (l : Launch) (E : y_E) (G : y_G) (σ : y_S) (sz : Nat) (u : Nat) (hU : G.1 u = some (.inl 9)) (hu0 : u ≠ 0) : gCt l yJ6_init_2 cJ6_init_2 5 none ({ frames := 1, cells := 0, slots := 0, locals := 24 }) E [.ref (G.2.2 u), .null, .null, .int (jI 0), .int (jI 0)] G σ sz (gR none (G.1, thR E G.2.1 u (G.2.2 u), G.2.2) σ) 0 0 := by
  refine g_metF (by decide +kernel) (Nat.le_of_ble_eq_true rfl) ?_
  intro p e s m below meth c ls CF hr hlocks hnm hK hM0 hA hl
  have hx := CF.1
  have hb := CF.2.1
  have hts := CF.2.2.2.2
  have hl : lv_has ls 5 [(0, .ref (G.2.2 u)), (1, .null), (2, .null), (3, .int (jI 0)), (4, .int (jI 0))] := hl
  refine lv_aload_n hx hb dJ6_init_2_0 rfl (lv_at hl 0 rfl) ?_
  refine W.objInit hx hb CF.2.2.2.1 (hts _ q654) (hts _ q108) (hts _ q109) rfl (hl.1.trans CF.2.2.1.symm) rfl dJ6_init_2_1 (Nat.le_of_ble_eq_true rfl) (Nat.le_of_ble_eq_true rfl) ?_
  refine x_pc (pc2 := 4) rfl ?_
  refine lv_aload_n hx hb dJ6_init_2_4 rfl (lv_at hl 0 rfl) ?_
  refine lv_aload_n hx hb dJ6_init_2_5 rfl (lv_at hl 0 rfl) ?_
  refine g_putq CF hK hM0 u hu0 hU 0 0 rfl rfl (by decide) (Or.inl (hts _ q683)) (fun _ h => h) (Or.inl rfl) rfl (r := some (G.2.2 u)) rfl rfl dJ6_init_2_6 (fun H locs hM1 => ?_)
  refine lv_aload_n hx hb dJ6_init_2_9 rfl (lv_at hl 0 rfl) ?_
  refine g_gets CF hK hM1 1 (by decide) q655 (r := gZr E 1) rfl dJ6_init_2_10 ?_
  refine g_putq CF hK hM1 u hu0 hU 1 1 rfl rfl (by decide) (Or.inl (hts _ q684)) (fun _ h => h) (Or.inl rfl) rfl (r := gZr E 1) (by cases gZr E 1 <;> rfl) (by cases gZr E 1 <;> rfl) dJ6_init_2_13 (fun H locs hM2 => ?_)
  refine lv_aload_n hx hb dJ6_init_2_16 rfl (lv_at hl 0 rfl) ?_
  refine g_gets CF hK hM2 2 (by decide) q657 (r := gZr E 2) rfl dJ6_init_2_17 ?_
  refine g_putq CF hK hM2 u hu0 hU 2 2 rfl rfl (by decide) (Or.inl (hts _ q685)) (fun _ h => h) (Or.inl rfl) rfl (r := gZr E 2) (by cases gZr E 2 <;> rfl) (by cases gZr E 2 <;> rfl) dJ6_init_2_20 (fun H locs hM3 => ?_)
  refine lv_iload hx hb dJ6_init_2_23 (lv_at hl 4 rfl) ?_
  refine x_if_eq (tgt := 36) hx hb dJ6_init_2_25 (by decide) (by omega) (fun b25 => ?_) (fun b25 => ?_)
  · refine lv_aload_n hx hb dJ6_init_2_36 rfl (lv_at hl 0 rfl) ?_
    refine lv_null hx hb dJ6_init_2_37 ?_
    refine g_putq CF hK hM3 u hu0 hU 1 1 rfl rfl (by decide) (Or.inl (hts _ q684)) (fun _ h => h) (Or.inl rfl) rfl (r := none) rfl rfl dJ6_init_2_38 (fun H locs hM4 => ?_)
    refine lv_aload_n hx hb dJ6_init_2_41 rfl (lv_at hl 0 rfl) ?_
    refine lv_aload_nN hx hb dJ6_init_2_42 rfl (lv_at hl 1 rfl) ?_
    refine g_putq CF hK hM4 u hu0 hU 3 3 rfl rfl (by decide) (Or.inl (hts _ q682)) (fun _ h => h) (Or.inl rfl) rfl (r := none) rfl rfl dJ6_init_2_43 (fun H locs hM5 => ?_)
    refine lv_aload_n hx hb dJ6_init_2_46 rfl (lv_at hl 0 rfl) ?_
    refine lv_aload_nN hx hb dJ6_init_2_47 rfl (lv_at hl 2 rfl) ?_
    refine g_putq CF hK hM5 u hu0 hU 0 0 rfl rfl (by decide) (Or.inl (hts _ q683)) (fun _ h => h) (Or.inl rfl) rfl (r := none) rfl rfl dJ6_init_2_48 (fun H locs hM6 => ?_)
    refine lv_iload_n hx hb dJ6_init_2_51 rfl (lv_at hl 3 rfl) ?_
    refine x_if_ne (tgt := 60) hx hb dJ6_init_2_52 (by decide) (by omega) (fun b52 => ?_) (fun b52 => ?_)
    · exact absurd rfl b52
    · refine lv_aload_n hx hb dJ6_init_2_55 rfl (lv_at hl 0 rfl) ?_
      refine lv_null hx hb dJ6_init_2_56 ?_
      refine g_putq CF hK hM6 u hu0 hU 2 2 rfl rfl (by decide) (Or.inl (hts _ q685)) (fun _ h => h) (Or.inl rfl) rfl (r := none) rfl rfl dJ6_init_2_57 (fun H locs hM7 => ?_)
      exact g_vret CF hr hlocks hM7 ⟨rfl, rfl, rfl⟩ (by decide) (by decide) dJ6_init_2_60
  · exact absurd rfl b25
set_option maxHeartbeats 400000 in
theorem j_exc (l : Launch) (E : y_E) (G : y_G) (σ : y_S) (sz : Nat) (u : Nat) (hU : G.1 u = some (.inl 9)) (hu0 : u ≠ 0) : gCt l yJ7_init cJ7_init 5 none ({ frames := 2, cells := 0, slots := 0, locals := 48 }) E [.ref (G.2.2 u), .null, .null, .int (jI 0), .int (jI 0)] G σ sz (gR none (G.1, thR E G.2.1 u (G.2.2 u), G.2.2) σ) 0 0 := by
  refine g_metF (by decide +kernel) (Nat.le_of_ble_eq_true rfl) ?_
  intro p e s m below meth c ls CF hr hlocks hnm hK hM0 hA hl
  have hx := CF.1
  have hb := CF.2.1
  have hts := CF.2.2.2.2
  have hl : lv_has ls 5 [(0, .ref (G.2.2 u)), (1, .null), (2, .null), (3, .int (jI 0)), (4, .int (jI 0))] := hl
  refine lv_aload_n hx hb dJ7_init_0 rfl (lv_at hl 0 rfl) ?_
  refine lv_aload_nN hx hb dJ7_init_1 rfl (lv_at hl 1 rfl) ?_
  refine lv_aload_nN hx hb dJ7_init_2 rfl (lv_at hl 2 rfl) ?_
  refine lv_iload_n hx hb dJ7_init_3 rfl (lv_at hl 3 rfl) ?_
  refine lv_iload hx hb dJ7_init_4 (lv_at hl 4 rfl) ?_
  refine g_callv hM0 hA (g_runI (As := [.null, .null, .int (jI 0), .int (jI 0)]) (rest := []) CF hK hM0 (j_thr l E _ _ _ u  hU hu0) (cwI 4 hts (lw_meth q676) rfl rfl rfl (hts _ q78) (hts _ q674) (hts _ q675) rfl (by decide +kernel) ⟨Nat.le_of_ble_eq_true rfl, Nat.le_of_ble_eq_true rfl⟩) rfl hl.1 rfl (Nat.le_of_ble_eq_true rfl) dJ7_init_6 ⟨Nat.le_of_ble_eq_true rfl, Nat.le_of_ble_eq_true rfl⟩) (fun H locs hM1 => ?_)
  exact g_vret CF hr hlocks hM1 ⟨rfl, rfl, rfl⟩ (by decide) (by decide) dJ7_init_9
set_option maxHeartbeats 400000 in
theorem l_wrong (l : Launch) (E : y_E) (G : y_G) (σ : y_S) (sz : Nat) (u : Nat) (k : Int) (pl : Int) (hU : G.1 u = some (.inl 9)) (hu0 : u ≠ 0) (hkr : R32 k) (hpr : R32 pl) : gCt l yX12_init cX12_init 3 none ({ frames := 3, cells := 0, slots := 0, locals := 72 }) E [.ref (G.2.2 u), .int (jI k), .int (jI pl)] G σ sz (gR none (G.1, thR E G.2.1 u (G.2.2 u), G.2.2) (up2 (up2 σ u 6 k) u 7 pl)) 0 0 := by
  refine g_met (by decide) (Nat.le_of_ble_eq_true rfl) ?_
  intro p e s m below meth c ls CF hr hlocks hnm hK hM0 hA hl
  have hx := CF.1
  have hb := CF.2.1
  have hts := CF.2.2.2.2
  have hl : lv_has ls 3 [(0, .ref (G.2.2 u)), (1, .int (jI k)), (2, .int (jI pl))] := hl
  refine lv_aload_n hx hb dX12_init_0 rfl (lv_at hl 0 rfl) ?_
  refine lv_null hx hb dX12_init_1 ?_
  refine lv_null hx hb dX12_init_2 ?_
  refine lv_iconst (v := jI 0) hx hb dX12_init_3 rfl ?_
  refine lv_iconst (v := jI 0) hx hb dX12_init_4 rfl ?_
  refine g_callv hM0 hA (g_runI (As := [.null, .null, .int (jI 0), .int (jI 0)]) (rest := []) CF hK hM0 (j_exc l E _ _ _ u  hU hu0) (cwI 4 hts (lw_meth q673) rfl rfl rfl (hts _ q79) (hts _ q671) (hts _ q672) rfl (by decide +kernel) ⟨Nat.le_of_ble_eq_true rfl, Nat.le_of_ble_eq_true rfl⟩) rfl hl.1 rfl (Nat.le_of_ble_eq_true rfl) dX12_init_5 ⟨Nat.le_of_ble_eq_true rfl, Nat.le_of_ble_eq_true rfl⟩) (fun H locs hM1 => ?_)
  refine lv_aload_n hx hb dX12_init_8 rfl (lv_at hl 0 rfl) ?_
  refine lv_iload_n hx hb dX12_init_9 rfl (lv_at hl 1 rfl) ?_
  refine g_puti CF hK hM1 u hu0 hU 6 6 rfl rfl (by decide) (Or.inl (hts _ q677)) (fun _ h => h) (Or.inr ⟨rfl, hnm, rfl, (hts _ q677)⟩) rfl (v := k) rfl rfl (by omega) dX12_init_10 (fun H locs hM2 => ?_)
  refine lv_aload_n hx hb dX12_init_13 rfl (lv_at hl 0 rfl) ?_
  refine lv_iload_n hx hb dX12_init_14 rfl (lv_at hl 2 rfl) ?_
  refine g_puti CF hK hM2 u hu0 hU 7 7 rfl rfl (by decide) (Or.inl (hts _ q679)) (fun _ h => h) (Or.inr ⟨rfl, hnm, rfl, (hts _ q679)⟩) rfl (v := pl) rfl rfl (by omega) dX12_init_15 (fun H locs hM3 => ?_)
  exact g_vret CF hr hlocks hM3 ⟨rfl, rfl, rfl⟩ (by decide) (by decide) dX12_init_18
/-- what the reader sees -/
def lgV (ρ : y_S) (G : y_G) (τ : y_S) : Prop := mOk ρ ∧ lgS (ρ 60 0) G ∧ τ 60 2 = ρ 60 0 ∧ τ 60 25 = ρ 60 30 ∧ ∀ k : Int, 0 ≤ k → k < ρ 60 30 → τ 24 k = (ρ 23 k).bmod 256
theorem lgR.v {E : y_E} {ρ τ : y_S} {G : y_G} (h : lgR E ρ G τ) : lgV ρ G τ := ⟨h.1, h.2.1, h.2.2.1.1, h.2.2.2.1.2.2.2.2.2.1.1, h.2.2.2.1.2.2.2.2.2.1.2⟩
theorem lgV.fr {ρ τ τ' : y_S} {G G' : y_G} (h : lgV ρ G τ) (hG : ∀ t : Nat, gdT t → G'.1 t = G.1 t ∧ G'.2.2 t = G.2.2 t ∧ ∀ k : Int, t ≠ 62 → G'.2.1 t k = G.2.1 t k) (h60 : τ' 60 = τ 60) (h24 : τ' 24 = τ 24) : lgV ρ G' τ' := by
  obtain ⟨h1, h2, h3, h4, h5⟩ := h
  refine ⟨h1, h2.fr2 h1.n.2 (fun t ht => ⟨(hG t ht).1, (hG t ht).2.1, fun k _ _ z _ => (hG t ht).2.2 k z⟩), by rw [h60]; exact h3, by rw [h60]; exact h4, fun k a b => by rw [h24]; exact h5 k a b⟩
theorem lgV.i26 {ρ τ : y_S} {G : y_G} (h : lgV ρ G τ) {k v : Int} : lgV ρ G (up2 τ 26 k v) := h.fr (fun t _ => ⟨rfl, rfl, fun _ _ => rfl⟩) (up2_n _ _ _ (by decide)) (up2_n _ _ _ (by decide))
set_option maxHeartbeats 400000 in
theorem l_rnext (l : Launch) (E : y_E) (G : y_G) (σ : y_S) (sz : Nat) (ρ : y_S) (hL : lgV ρ G σ) (hAt : 0 ≤ σ 26 1 ∧ σ 26 1 ≤ 1000) : gCt l yX7_next cX7_next 1 (some .int) ({ frames := 0, cells := 0, slots := 0, locals := 0 }) E [.ref (G.2.2 26)] G σ sz (gR (some (.int (jI (nxR ρ (σ 26 1))))) G σ) 0 0 := by
  refine g_met (by decide) (Nat.le_of_ble_eq_true rfl) ?_
  intro p e s m below meth c ls CF hr hlocks hnm hK hM0 hA hl
  have hx := CF.1
  have hb := CF.2.1
  have hts := CF.2.2.2.2
  have hl : lv_has ls 1 [(0, .ref (G.2.2 26))] := hl
  have hO := hL.1
  have hn := hO.n
  have htp := hO.tp
  refine lv_aload_n hx hb dX7_next_0 rfl (lv_at hl 0 rfl) ?_
  refine g_geti CF hK hM0 26 (hL.2.1.1 26 _ rfl) 1 1 rfl rfl (by decide) (Or.inl (hts _ q197)) (fun _ h => h) rfl dX7_next_1 ?_
  refine lv_aload_n hx hb dX7_next_4 rfl (lv_at hl 0 rfl) ?_
  refine g_getr CF hK hM0 26 (hL.2.1.1 26 _ rfl) 3 3 rfl rfl (by decide) (Or.inl (hts _ q199)) (fun _ h => h) rfl (G.2.2 60) (hL.2.1.th (t := 26) (k := 3) (by decide)) dX7_next_5 ?_
  refine g_geti CF hK hM0 60 (hL.2.1.1 60 _ rfl) 25 25 rfl rfl (by decide) (gLk.n hK q312) (fun _ h => h) rfl dX7_next_8 ?_
  refine x_top (b := ρ 60 30) hL.2.2.2.1 ?_
  have fa1 := hM0.r 26 1
  refine x_icmp_ge (tgt := 29) hx hb dX7_next_11 (by decide) (by have f0 := hM0.r 26 1; omega) (by omega) (fun b11 => ?_) (fun b11 => ?_)
  · refine lv_iconst (v := jI (-1)) hx hb dX7_next_29 rfl ?_
    exact g_iret CF hr hlocks hM0 (g_pi (by unfold nxR; rw [if_neg (by omega)])) (by decide) (by decide) dX7_next_30
  · refine lv_aload_n hx hb dX7_next_14 rfl (lv_at hl 0 rfl) ?_
    refine g_getr CF hK hM0 26 (hL.2.1.1 26 _ rfl) 3 3 rfl rfl (by decide) (Or.inl (hts _ q199)) (fun _ h => h) rfl (G.2.2 60) (hL.2.1.th (t := 26) (k := 3) (by decide)) dX7_next_15 ?_
    refine g_getr CF hK hM0 60 (hL.2.1.1 60 _ rfl) 24 24 rfl rfl (by decide) (gLk.n hK q310) (fun _ h => h) rfl (G.2.2 24) (hL.2.1.2.1 24 24 rfl) dX7_next_18 ?_
    refine lv_aload_n hx hb dX7_next_21 rfl (lv_at hl 0 rfl) ?_
    refine g_geti CF hK hM0 26 (hL.2.1.1 26 _ rfl) 1 1 rfl rfl (by decide) (Or.inl (hts _ q197)) (fun _ h => h) rfl dX7_next_22 ?_
    refine g_bald CF hK hM0 24 (hL.2.1.1 24 _ rfl) (i := σ 26 1) (by have f0 := hM0.r 26 1; omega) (by have f0 := hM0.r 26 1; omega) (by omega) dX7_next_25 ?_
    refine lv_goto (tgt := 30) hx hb dX7_next_26 (by decide) ?_
    exact g_iret CF hr hlocks hM0 (g_pi (by unfold nxR; rw [if_pos (by omega)]; exact (hL.2.2.2.2 (σ 26 1) (by omega) (by omega)).symm)) (by decide) (by decide) dX7_next_30
set_option maxHeartbeats 400000 in
theorem l_rdigit (l : Launch) (E : y_E) (G : y_G) (σ : y_S) (sz : Nat) (ρ : y_S) (hL : lgV ρ G σ) (hAt : 0 ≤ σ 26 1 ∧ σ 26 1 ≤ 1000) : gCt l yX7_isDigit cX7_isDigit 1 (some .boolean) ({ frames := 1, cells := 0, slots := 0, locals := 20 }) E [.ref (G.2.2 26)] G σ sz (gR (some (.int (jI (if 48 ≤ nxR ρ (σ 26 1) ∧ nxR ρ (σ 26 1) ≤ 57 then 1 else 0)))) G σ) 0 0 := by
  refine g_met (by decide) (Nat.le_of_ble_eq_true rfl) ?_
  intro p e s m below meth c ls CF hr hlocks hnm hK hM0 hA hl
  have hx := CF.1
  have hb := CF.2.1
  have hts := CF.2.2.2.2
  have hl : lv_has ls 1 [(0, .ref (G.2.2 26))] := hl
  have hO := hL.1
  have hn := hO.n
  have htp := hO.tp
  have hnr := nxR_r ρ (σ 26 1)
  refine lv_aload_n hx hb dX7_isDigit_0 rfl (lv_at hl 0 rfl) ?_
  refine g_calli (r := nxR ρ (σ 26 1)) hM0 hA (g_runV (As := []) (rest := []) CF hK hM0 (hL.2.1.1 26 _ rfl) rfl (l_rnext l E _ _ _ ρ  hL hAt) (cwV 0 hts (lw_V q627 q629 qs15 q67 q630) rfl rfl rfl (by decide +kernel) ⟨Nat.le_of_ble_eq_true rfl, Nat.le_of_ble_eq_true rfl⟩) rfl hl.1 rfl (Nat.le_of_ble_eq_true rfl) dX7_isDigit_1 ⟨Nat.le_of_ble_eq_true rfl, Nat.le_of_ble_eq_true rfl⟩) (fun H locs hM1 => ?_)
  refine lv_bipush (v := jI 48) hx hb dX7_isDigit_4 (by decide) ?_
  have fa2 := nxR_r ρ (σ 26 1)
  refine x_icmp_lt (tgt := 22) hx hb dX7_isDigit_6 (by decide) (by have f0 := nxR_r ρ (σ 26 1); omega) (by omega) (fun b6 => ?_) (fun b6 => ?_)
  · refine lv_iconst (v := jI 0) hx hb dX7_isDigit_22 rfl ?_
    exact g_zret CF hr hlocks hM1 (by omega) (g_pi (by (repeat' split) <;> omega)) (by decide) (by decide) dX7_isDigit_23
  · refine lv_aload_n hx hb dX7_isDigit_9 rfl (lv_at hl 0 rfl) ?_
    refine g_calli (r := nxR ρ (σ 26 1)) hM1 hA (g_runV (As := []) (rest := []) CF hK hM1 (hL.2.1.1 26 _ rfl) rfl (l_rnext l E _ _ _ ρ  hL hAt) (cwV 0 hts (lw_V q627 q629 qs15 q67 q630) rfl rfl rfl (by decide +kernel) ⟨Nat.le_of_ble_eq_true rfl, Nat.le_of_ble_eq_true rfl⟩) rfl hl.1 rfl (Nat.le_of_ble_eq_true rfl) dX7_isDigit_10 ⟨Nat.le_of_ble_eq_true rfl, Nat.le_of_ble_eq_true rfl⟩) (fun H locs hM3 => ?_)
    refine lv_bipush (v := jI 57) hx hb dX7_isDigit_13 (by decide) ?_
    refine x_icmp_gt (tgt := 22) hx hb dX7_isDigit_15 (by decide) (by have f0 := nxR_r ρ (σ 26 1); omega) (by omega) (fun b15 => ?_) (fun b15 => ?_)
    · refine lv_iconst (v := jI 0) hx hb dX7_isDigit_22 rfl ?_
      exact g_zret CF hr hlocks hM3 (by omega) (g_pi (by (repeat' split) <;> omega)) (by decide) (by decide) dX7_isDigit_23
    · refine lv_iconst (v := jI 1) hx hb dX7_isDigit_18 rfl ?_
      refine lv_goto (tgt := 23) hx hb dX7_isDigit_19 (by decide) ?_
      exact g_zret CF hr hlocks hM3 (by omega) (g_pi (by (repeat' split) <;> omega)) (by decide) (by decide) dX7_isDigit_23
set_option maxHeartbeats 400000 in
theorem l_rsign (l : Launch) (E : y_E) (G : y_G) (σ : y_S) (sz : Nat) (ρ : y_S) (k : Int) (hL : lgV ρ G σ) (hAt : 0 ≤ σ 26 1 ∧ σ 26 1 ≤ 1000) (hkr : R32 k) (hk : nxR ρ (σ 26 1) = k) : gCt l yX7_sign cX7_sign 2 none ({ frames := 1, cells := 0, slots := 0, locals := 20 }) E [.ref (G.2.2 26), .int (jI k)] G σ sz (gR none G (up2 σ 26 1 (σ 26 1 + 1))) 0 0 := by
  refine g_met (by decide) (Nat.le_of_ble_eq_true rfl) ?_
  intro p e s m below meth c ls CF hr hlocks hnm hK hM0 hA hl
  have hx := CF.1
  have hb := CF.2.1
  have hts := CF.2.2.2.2
  have hl : lv_has ls 2 [(0, .ref (G.2.2 26)), (1, .int (jI k))] := hl
  have hO := hL.1
  have hn := hO.n
  have htp := hO.tp
  have hnr := nxR_r ρ (σ 26 1)
  refine lv_aload_n hx hb dX7_sign_0 rfl (lv_at hl 0 rfl) ?_
  refine g_calli (r := nxR ρ (σ 26 1)) hM0 hA (g_runV (As := []) (rest := []) CF hK hM0 (hL.2.1.1 26 _ rfl) rfl (l_rnext l E _ _ _ ρ  hL hAt) (cwV 0 hts (lw_V q627 q629 qs15 q67 q630) rfl rfl rfl (by decide +kernel) ⟨Nat.le_of_ble_eq_true rfl, Nat.le_of_ble_eq_true rfl⟩) rfl hl.1 rfl (Nat.le_of_ble_eq_true rfl) dX7_sign_1 ⟨Nat.le_of_ble_eq_true rfl, Nat.le_of_ble_eq_true rfl⟩) (fun H locs hM1 => ?_)
  refine lv_iload_n hx hb dX7_sign_4 rfl (lv_at hl 1 rfl) ?_
  have fa2 := nxR_r ρ (σ 26 1)
  refine x_icmp_eq (tgt := 21) hx hb dX7_sign_5 (by decide) (by have f0 := nxR_r ρ (σ 26 1); omega) (by omega) (fun b5 => ?_) (fun b5 => ?_)
  · refine lv_aload_n hx hb dX7_sign_21 rfl (lv_at hl 0 rfl) ?_
    refine lv_dup hx hb dX7_sign_22 rfl ?_
    refine g_geti CF hK hM1 26 (hL.2.1.1 26 _ rfl) 1 1 rfl rfl (by decide) (Or.inl (hts _ q197)) (fun _ h => h) rfl dX7_sign_23 ?_
    refine lv_iconst (v := jI 1) hx hb dX7_sign_26 rfl ?_
    refine x_iadd hx hb dX7_sign_27 ?_
    refine g_puti CF hK hM1 26 (by decide) (hL.2.1.1 26 _ rfl) 1 1 rfl rfl (by decide) (Or.inl (hts _ q197)) (fun _ h => h) (Or.inl rfl) rfl (v := (σ 26 1) + 1) rfl rfl (by have f0 := hM1.r 26 1; omega) dX7_sign_28 (fun H locs hM3 => ?_)
    exact g_vret CF hr hlocks hM3 (g_pv rfl) (by decide) (by decide) dX7_sign_31
  · exact absurd hk b5
