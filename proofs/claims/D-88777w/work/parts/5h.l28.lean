/-! NODES: their methods (1) -/
section GCN
variable {p : Program} {l : Launch} {e : Env} {R : Room} {s : State} {m : MethodId} {args : Array Value} {below : List Frame} {meth : Method} {c : Code} {H : Heap} {locs : List Loc} {cells slots : Nat} {Q : State → Prop} {cc : ByteArray} {pc nL : Nat} {ls : Array Slot} {rest : List Value}
variable {E : y_E} {A0 : Nat → Prop} {G : y_G} {σ : y_S} {own : String}
theorem g_castN (CF : CallFix p m c cc nL s args lw_all own) (hK : gK E s) (hM : gM E A0 G σ s.heap H locs) (t : Nat) {ci : Nat} (hci : ci = 8 ∨ ci = 10 ∨ ci = 11 ∨ ci = 12) (ht : G.1 t = some (.inl ci)) {index : Nat} (hlink : Cond.classLink own index "LightPlate$Node" ∈ lw_all) (hdg : decode cc pc = .ok (.checkcast index, 3))
    (kk : W p l e R s m args below meth c H locs cells slots Q (F0 m (pc + 3) ls (.ref (G.2.2 t) :: rest))) : W p l e R s m args below meth c H locs cells slots Q (F0 m pc ls (.ref (G.2.2 t) :: rest)) := by
  rcases hci with rfl | rfl | rfl | rfl
  · exact va_castY CF.1 CF.2.1 CF.2.2.2.1 (CF.2.2.2.2 _ hlink) (hK.2.2.1 _ q1484 rfl) (g_recv hK hM ht rfl) hdg kk
  · exact va_castY CF.1 CF.2.1 CF.2.2.2.1 (CF.2.2.2.2 _ hlink) (hK.2.2.1 _ q1485 rfl) (g_recv hK hM ht rfl) hdg kk
  · exact va_castY CF.1 CF.2.1 CF.2.2.2.1 (CF.2.2.2.2 _ hlink) (hK.2.2.1 _ q1482 rfl) (g_recv hK hM ht rfl) hdg kk
  · exact va_castY CF.1 CF.2.1 CF.2.2.2.1 (CF.2.2.2.2 _ hlink) (hK.2.2.1 _ q1483 rfl) (g_recv hK hM ht rfl) hdg kk
end GCN
set_option maxHeartbeats 400000 in
theorem l_tmany (l : Launch) (E : y_E) (G : y_G) (σ : y_S) (sz : Nat) (u : Nat) : gCt l yX13_many cX13_many 1 (some .int) ({ frames := 0, cells := 0, slots := 0, locals := 0 }) E [.ref (G.2.2 u)] G σ sz (gR (some (.int (jI 1))) G σ) 0 0 := by
  refine g_met (by decide) (Nat.le_of_ble_eq_true rfl) ?_
  intro p e s m below meth c ls CF hr hlocks hnm hK hM0 hA hl
  have hx := CF.1
  have hb := CF.2.1
  have hts := CF.2.2.2.2
  have hl : lv_has ls 1 [(0, .ref (G.2.2 u))] := hl
  refine lv_iconst (v := jI 1) hx hb dX13_many_0 rfl ?_
  exact g_iret CF hr hlocks hM0 (g_pi rfl) (by decide) (by decide) dX13_many_1
set_option maxHeartbeats 400000 in
theorem l_turn13i10 (l : Launch) (E : y_E) (G : y_G) (σ : y_S) (sz : Nat) (u : Nat) (hU : G.1 u = some (.inl 10)) (hb0 : 0 ≤ σ u 2 ∧ σ u 2 ≤ 95) : gCt l yX13_turn cX13_turn 1 (some .int) ({ frames := 0, cells := 0, slots := 0, locals := 0 }) E [.ref (G.2.2 u)] G σ sz (gR (some (.int (jI (σ u 2)))) G σ) 0 0 := by
  refine g_met (by decide) (Nat.le_of_ble_eq_true rfl) ?_
  intro p e s m below meth c ls CF hr hlocks hnm hK hM0 hA hl
  have hx := CF.1
  have hb := CF.2.1
  have hts := CF.2.2.2.2
  have hl : lv_has ls 1 [(0, .ref (G.2.2 u))] := hl
  refine lv_aload_n hx hb dX13_turn_0 rfl (lv_at hl 0 rfl) ?_
  refine g_geti CF hK hM0 u hU 2 2 rfl rfl (by decide) (Or.inl (hts _ q753)) (fun _ h => h) rfl dX13_turn_1 ?_
  exact g_iret CF hr hlocks hM0 (g_pi rfl) (by decide) (by decide) dX13_turn_4
set_option maxHeartbeats 400000 in
theorem l_turn13i11 (l : Launch) (E : y_E) (G : y_G) (σ : y_S) (sz : Nat) (u : Nat) (hU : G.1 u = some (.inl 11)) (hb0 : 0 ≤ σ u 2 ∧ σ u 2 ≤ 95) : gCt l yX13_turn cX13_turn 1 (some .int) ({ frames := 0, cells := 0, slots := 0, locals := 0 }) E [.ref (G.2.2 u)] G σ sz (gR (some (.int (jI (σ u 2)))) G σ) 0 0 := by
  refine g_met (by decide) (Nat.le_of_ble_eq_true rfl) ?_
  intro p e s m below meth c ls CF hr hlocks hnm hK hM0 hA hl
  have hx := CF.1
  have hb := CF.2.1
  have hts := CF.2.2.2.2
  have hl : lv_has ls 1 [(0, .ref (G.2.2 u))] := hl
  refine lv_aload_n hx hb dX13_turn_0 rfl (lv_at hl 0 rfl) ?_
  refine g_geti CF hK hM0 u hU 2 2 rfl rfl (by decide) (Or.inl (hts _ q753)) (fun _ h => h) rfl dX13_turn_1 ?_
  exact g_iret CF hr hlocks hM0 (g_pi rfl) (by decide) (by decide) dX13_turn_4
set_option maxHeartbeats 400000 in
theorem l_turn14i11 (l : Launch) (E : y_E) (G : y_G) (σ : y_S) (sz : Nat) (u : Nat) (hU : G.1 u = some (.inl 11)) (hb0 : 0 ≤ σ u 2 ∧ σ u 2 ≤ 95) : gCt l yX14_turn cX14_turn 1 (some .int) ({ frames := 1, cells := 0, slots := 0, locals := 20 }) E [.ref (G.2.2 u)] G σ sz (gR (some (.int (jI (96 - (σ u 2))))) G σ) 0 0 := by
  refine g_met (by decide) (Nat.le_of_ble_eq_true rfl) ?_
  intro p e s m below meth c ls CF hr hlocks hnm hK hM0 hA hl
  have hx := CF.1
  have hb := CF.2.1
  have hts := CF.2.2.2.2
  have hl : lv_has ls 1 [(0, .ref (G.2.2 u))] := hl
  refine lv_bipush (v := jI 96) hx hb dX14_turn_0 (by decide) ?_
  refine lv_aload_n hx hb dX14_turn_2 rfl (lv_at hl 0 rfl) ?_
  refine g_calli (r := σ u 2) hM0 hA (g_runSU (As := []) (rest := [.int (jI 96)]) CF hK hM0 hU rfl (l_turn13i11 l E _ _ _ u  hU hb0) (g_cs 0 hts q874 q870 q783 q868 q81 q880 rfl rfl (by decide +kernel) ⟨Nat.le_of_ble_eq_true rfl, Nat.le_of_ble_eq_true rfl⟩) rfl hl.1 rfl (Nat.le_of_ble_eq_true rfl) dX14_turn_3 ⟨Nat.le_of_ble_eq_true rfl, Nat.le_of_ble_eq_true rfl⟩) (fun H locs hM1 => ?_)
  refine x_isub hx hb dX14_turn_6 ?_
  exact g_iret CF hr hlocks hM1 (g_pi rfl) (by decide) (by decide) dX14_turn_7
set_option maxHeartbeats 400000 in
theorem l_turn13i12 (l : Launch) (E : y_E) (G : y_G) (σ : y_S) (sz : Nat) (u : Nat) (hU : G.1 u = some (.inl 12)) (hb0 : 0 ≤ σ u 2 ∧ σ u 2 ≤ 95) : gCt l yX13_turn cX13_turn 1 (some .int) ({ frames := 0, cells := 0, slots := 0, locals := 0 }) E [.ref (G.2.2 u)] G σ sz (gR (some (.int (jI (σ u 2)))) G σ) 0 0 := by
  refine g_met (by decide) (Nat.le_of_ble_eq_true rfl) ?_
  intro p e s m below meth c ls CF hr hlocks hnm hK hM0 hA hl
  have hx := CF.1
  have hb := CF.2.1
  have hts := CF.2.2.2.2
  have hl : lv_has ls 1 [(0, .ref (G.2.2 u))] := hl
  refine lv_aload_n hx hb dX13_turn_0 rfl (lv_at hl 0 rfl) ?_
  refine g_geti CF hK hM0 u hU 2 2 rfl rfl (by decide) (Or.inl (hts _ q753)) (fun _ h => h) rfl dX13_turn_1 ?_
  exact g_iret CF hr hlocks hM0 (g_pi rfl) (by decide) (by decide) dX13_turn_4
set_option maxHeartbeats 400000 in
theorem l_turn14i12 (l : Launch) (E : y_E) (G : y_G) (σ : y_S) (sz : Nat) (u : Nat) (hU : G.1 u = some (.inl 12)) (hb0 : 0 ≤ σ u 2 ∧ σ u 2 ≤ 95) : gCt l yX14_turn cX14_turn 1 (some .int) ({ frames := 1, cells := 0, slots := 0, locals := 20 }) E [.ref (G.2.2 u)] G σ sz (gR (some (.int (jI (96 - (σ u 2))))) G σ) 0 0 := by
  refine g_met (by decide) (Nat.le_of_ble_eq_true rfl) ?_
  intro p e s m below meth c ls CF hr hlocks hnm hK hM0 hA hl
  have hx := CF.1
  have hb := CF.2.1
  have hts := CF.2.2.2.2
  have hl : lv_has ls 1 [(0, .ref (G.2.2 u))] := hl
  refine lv_bipush (v := jI 96) hx hb dX14_turn_0 (by decide) ?_
  refine lv_aload_n hx hb dX14_turn_2 rfl (lv_at hl 0 rfl) ?_
  refine g_calli (r := σ u 2) hM0 hA (g_runSU (As := []) (rest := [.int (jI 96)]) CF hK hM0 hU rfl (l_turn13i12 l E _ _ _ u  hU hb0) (g_cs 0 hts q874 q870 q783 q868 q81 q880 rfl rfl (by decide +kernel) ⟨Nat.le_of_ble_eq_true rfl, Nat.le_of_ble_eq_true rfl⟩) rfl hl.1 rfl (Nat.le_of_ble_eq_true rfl) dX14_turn_3 ⟨Nat.le_of_ble_eq_true rfl, Nat.le_of_ble_eq_true rfl⟩) (fun H locs hM1 => ?_)
  refine x_isub hx hb dX14_turn_6 ?_
  exact g_iret CF hr hlocks hM1 (g_pi rfl) (by decide) (by decide) dX14_turn_7
set_option maxHeartbeats 400000 in
theorem l_turn15i12 (l : Launch) (E : y_E) (G : y_G) (σ : y_S) (sz : Nat) (u : Nat) (hU : G.1 u = some (.inl 12)) (hb0 : 0 ≤ σ u 2 ∧ σ u 2 ≤ 95) : gCt l yX15_turn cX15_turn 1 (some .int) ({ frames := 2, cells := 0, slots := 0, locals := 42 }) E [.ref (G.2.2 u)] G σ sz (gR (some (.int (jI ((-(96 - (σ u 2))) % 96)))) G σ) 0 0 := by
  refine g_met (by decide) (Nat.le_of_ble_eq_true rfl) ?_
  intro p e s m below meth c ls CF hr hlocks hnm hK hM0 hA hl
  have hx := CF.1
  have hb := CF.2.1
  have hts := CF.2.2.2.2
  have hl : lv_has ls 1 [(0, .ref (G.2.2 u))] := hl
  refine lv_aload_n hx hb dX15_turn_0 rfl (lv_at hl 0 rfl) ?_
  refine g_calli (r := 96 - (σ u 2)) hM0 hA (g_runSU (As := []) (rest := []) CF hK hM0 hU rfl (l_turn14i12 l E _ _ _ u  hU hb0) (g_cs 0 hts q878 q1481 q766 q872 q82 q873 rfl rfl (by decide +kernel) ⟨Nat.le_of_ble_eq_true rfl, Nat.le_of_ble_eq_true rfl⟩) rfl hl.1 rfl (Nat.le_of_ble_eq_true rfl) dX15_turn_1 ⟨Nat.le_of_ble_eq_true rfl, Nat.le_of_ble_eq_true rfl⟩) (fun H locs hM1 => ?_)
  refine x_ineg hx hb dX15_turn_4 ?_
  refine g_calli (r := (-(96 - (σ u 2))) % 96) hM1 hA (g_runSN (As := [.int (jI (-(96 - (σ u 2))))]) (rest := []) CF hK hM1 (l_whole l E _ _ _  (-(96 - (σ u 2))) (by first | omega | assumption | (refine ⟨?_, ?_⟩ <;> omega))) ⟨va_cnB 1 hts (lw_meth q98) rfl rfl rfl (hK.2.2.1 _ q879 rfl) (hts _ q60) (by decide +kernel) ⟨Nat.le_of_ble_eq_true rfl, Nat.le_of_ble_eq_true rfl⟩, hts _ q97, trivial⟩ rfl hl.1 rfl (Nat.le_of_ble_eq_true rfl) dX15_turn_5 ⟨Nat.le_of_ble_eq_true rfl, Nat.le_of_ble_eq_true rfl⟩) (fun H locs hM2 => ?_)
  exact g_iret CF hr hlocks hM2 (g_pi rfl) (by decide) (by decide) dX15_turn_8
set_option maxHeartbeats 400000 in
theorem l_addsV (l : Launch) (E : y_E) (G : y_G) (σ : y_S) (sz : Nat) (ρ : y_S) (a : Int) (b : Int) (hL : lgV ρ G σ) (har : R32 a) (hbr : R32 b) (hw0 : 0 ≤ σ 60 20 ∧ σ 60 20 < 10) : gCt l yX1_adds cX1_adds 3 none ({ frames := 2, cells := 0, slots := 0, locals := 42 }) E [.ref (G.2.2 60), .int (jI a), .int (jI b)] G σ sz (gR none G (up2 (up2 (up2 σ 18 (σ 60 20) a) 60 20 (σ 60 20 + 1)) 19 (σ 60 20) (b % 96))) 0 0 := by
  refine g_met (by decide) (Nat.le_of_ble_eq_true rfl) ?_
  intro p e s m below meth c ls CF hr hlocks hnm hK hM0 hA hl
  have hx := CF.1
  have hb := CF.2.1
  have hts := CF.2.2.2.2
  have hl : lv_has ls 3 [(0, .ref (G.2.2 60)), (1, .int (jI a)), (2, .int (jI b))] := hl
  refine lv_aload_n hx hb dX1_adds_0 rfl (lv_at hl 0 rfl) ?_
  refine g_getr CF hK hM0 60 (hL.2.1.1 60 _ rfl) 18 18 rfl rfl (by decide) (Or.inl (hts _ q304)) (fun _ h => h) rfl (G.2.2 18) (hL.2.1.2.1 18 18 rfl) dX1_adds_1 ?_
  refine lv_aload_n hx hb dX1_adds_4 rfl (lv_at hl 0 rfl) ?_
  refine g_geti CF hK hM0 60 (hL.2.1.1 60 _ rfl) 20 20 rfl rfl (by decide) (Or.inl (hts _ q306)) (fun _ h => h) rfl dX1_adds_5 ?_
  refine lv_iload_n hx hb dX1_adds_8 rfl (lv_at hl 1 rfl) ?_
  refine g_iast CF hK hM0 18 (by decide) (hL.2.1.1 18 _ rfl) (i := σ 60 20) (v := a) (by have f0 := hM0.r 60 20; omega) (by have f0 := hM0.r 60 20; omega) (by omega) (by omega) dX1_adds_9 (fun H locs hM1 => ?_)
  refine lv_aload_n hx hb dX1_adds_10 rfl (lv_at hl 0 rfl) ?_
  refine g_getr CF hK hM1 60 (hL.2.1.1 60 _ rfl) 19 19 rfl rfl (by decide) (Or.inl (hts _ q305)) (fun _ h => h) rfl (G.2.2 19) (hL.2.1.2.1 19 19 rfl) dX1_adds_11 ?_
  refine lv_aload_n hx hb dX1_adds_14 rfl (lv_at hl 0 rfl) ?_
  refine lv_dup hx hb dX1_adds_15 rfl ?_
  refine g_geti CF hK hM1 60 (hL.2.1.1 60 _ rfl) 20 20 rfl rfl (by decide) (Or.inl (hts _ q306)) (fun _ h => h) rfl dX1_adds_16 ?_
  refine x_top (b := σ 60 20) rfl ?_
  refine lv_dup_x1 hx hb dX1_adds_19 rfl rfl ?_
  refine lv_iconst (v := jI 1) hx hb dX1_adds_20 rfl ?_
  refine x_iadd hx hb dX1_adds_21 ?_
  refine g_puti CF hK hM1 60 (by decide) (hL.2.1.1 60 _ rfl) 20 20 rfl rfl (by decide) (Or.inl (hts _ q306)) (fun _ h => h) (Or.inl rfl) rfl (v := (σ 60 20) + 1) rfl rfl (by have f0 := (show R32 (σ 60 20) from hM1.r 60 20); omega) dX1_adds_22 (fun H locs hM2 => ?_)
  refine lv_iload_n hx hb dX1_adds_25 rfl (lv_at hl 2 rfl) ?_
  refine g_calli (r := b % 96) hM2 hA (g_runS (As := [.int (jI b)]) (rest := [.int (jI (σ 60 20)), .ref (G.2.2 19)]) CF hK hM2 (l_whole l E _ _ _  b (by first | omega | assumption | (refine ⟨?_, ?_⟩ <;> omega))) (va_cwS 1 hts (lw_S q96 q97 q60 q98) rfl rfl rfl (by decide +kernel) ⟨Nat.le_of_ble_eq_true rfl, Nat.le_of_ble_eq_true rfl⟩) rfl hl.1 rfl (Nat.le_of_ble_eq_true rfl) dX1_adds_26 ⟨Nat.le_of_ble_eq_true rfl, Nat.le_of_ble_eq_true rfl⟩) (fun H locs hM3 => ?_)
  refine g_iast CF hK hM3 19 (by decide) (hL.2.1.1 19 _ rfl) (i := σ 60 20) (v := b % 96) (by have f0 := (show R32 (σ 60 20) from hM1.r 60 20); omega) (by have f0 := (show R32 (σ 60 20) from hM1.r 60 20); omega) (by omega) (by omega) dX1_adds_29 (fun H locs hM4 => ?_)
  exact g_vret CF hr hlocks hM4 (g_pv rfl) (by decide) (by decide) dX1_adds_30
set_option maxHeartbeats 400000 in
theorem l_gives10 (l : Launch) (E : y_E) (G : y_G) (σ : y_S) (sz : Nat) (ρ : y_S) (u : Nat) (hL : lgV ρ G σ) (hU : G.1 u = some (.inl 10)) (hU3 : G.2.1 u 3 = some (G.2.2 60)) (hb0 : 0 ≤ σ u 2 ∧ σ u 2 ≤ 95) (hw0 : 0 ≤ σ 60 20 ∧ σ 60 20 < 10) : gCt l yX13_gives cX13_gives 1 none ({ frames := 3, cells := 0, slots := 0, locals := 64 }) E [.ref (G.2.2 u)] G σ sz (gR none G (up2 (up2 (up2 σ 18 (σ 60 20) (σ u 1)) 60 20 (σ 60 20 + 1)) 19 (σ 60 20) ((σ u 2) % 96))) 0 0 := by
  refine g_met (by decide) (Nat.le_of_ble_eq_true rfl) ?_
  intro p e s m below meth c ls CF hr hlocks hnm hK hM0 hA hl
  have hx := CF.1
  have hb := CF.2.1
  have hts := CF.2.2.2.2
  have hl : lv_has ls 1 [(0, .ref (G.2.2 u))] := hl
  refine lv_aload_n hx hb dX13_gives_0 rfl (lv_at hl 0 rfl) ?_
  refine g_getr CF hK hM0 u hU 3 3 rfl rfl (by decide) (Or.inl (hts _ q754)) (fun _ h => h) rfl (G.2.2 60) hU3 dX13_gives_1 ?_
  refine lv_aload_n hx hb dX13_gives_4 rfl (lv_at hl 0 rfl) ?_
  refine g_geti CF hK hM0 u hU 1 1 rfl rfl (by decide) (Or.inl (hts _ q752)) (fun _ h => h) rfl dX13_gives_5 ?_
  refine lv_aload_n hx hb dX13_gives_8 rfl (lv_at hl 0 rfl) ?_
  refine g_calli (r := σ u 2) hM0 hA (g_runV (As := []) (rest := [.int (jI (σ u 1)), .ref (G.2.2 60)]) CF hK hM0 hU rfl (l_turn13i10 l E _ _ _ u  hU hb0) (cwV 0 hts (lw_V q867 q868 q869 q81 q880) rfl rfl rfl (by decide +kernel) ⟨Nat.le_of_ble_eq_true rfl, Nat.le_of_ble_eq_true rfl⟩) rfl hl.1 rfl (Nat.le_of_ble_eq_true rfl) dX13_gives_9 ⟨Nat.le_of_ble_eq_true rfl, Nat.le_of_ble_eq_true rfl⟩) (fun H locs hM1 => ?_)
  refine g_callv hM1 hA (g_runVN (As := [.int (jI (σ u 1)), .int (jI (σ u 2))]) (rest := []) CF hK hM1 (hL.2.1.1 60 _ rfl) rfl (l_addsV l E _ _ _ ρ (σ u 1) (σ u 2) hL (by have f0 := hM0.r u 1; first | omega | assumption | (refine ⟨?_, ?_⟩ <;> omega)) (by have f0 := hM0.r u 1; first | omega | assumption | (refine ⟨?_, ?_⟩ <;> omega)) hw0) ⟨va_cnB 2 hts (lw_meth q566) rfl rfl rfl (hK.2.2.1 _ q881 rfl) (hts _ q60) (by decide +kernel) ⟨Nat.le_of_ble_eq_true rfl, Nat.le_of_ble_eq_true rfl⟩, hts _ q565, hts _ qs6⟩ rfl hl.1 rfl (Nat.le_of_ble_eq_true rfl) dX13_gives_12 ⟨Nat.le_of_ble_eq_true rfl, Nat.le_of_ble_eq_true rfl⟩) (fun H locs hM2 => ?_)
  exact g_vret CF hr hlocks hM2 (g_pv rfl) (by decide) (by decide) dX13_gives_15
set_option maxHeartbeats 400000 in
theorem l_gives11 (l : Launch) (E : y_E) (G : y_G) (σ : y_S) (sz : Nat) (ρ : y_S) (u : Nat) (hL : lgV ρ G σ) (hU : G.1 u = some (.inl 11)) (hU3 : G.2.1 u 3 = some (G.2.2 60)) (hb0 : 0 ≤ σ u 2 ∧ σ u 2 ≤ 95) (hw0 : 0 ≤ σ 60 20 ∧ σ 60 20 < 10) : gCt l yX13_gives cX13_gives 1 none ({ frames := 3, cells := 0, slots := 0, locals := 64 }) E [.ref (G.2.2 u)] G σ sz (gR none G (up2 (up2 (up2 σ 18 (σ 60 20) (σ u 1)) 60 20 (σ 60 20 + 1)) 19 (σ 60 20) ((96 - (σ u 2)) % 96))) 0 0 := by
  refine g_met (by decide) (Nat.le_of_ble_eq_true rfl) ?_
  intro p e s m below meth c ls CF hr hlocks hnm hK hM0 hA hl
  have hx := CF.1
  have hb := CF.2.1
  have hts := CF.2.2.2.2
  have hl : lv_has ls 1 [(0, .ref (G.2.2 u))] := hl
  refine lv_aload_n hx hb dX13_gives_0 rfl (lv_at hl 0 rfl) ?_
  refine g_getr CF hK hM0 u hU 3 3 rfl rfl (by decide) (Or.inl (hts _ q754)) (fun _ h => h) rfl (G.2.2 60) hU3 dX13_gives_1 ?_
  refine lv_aload_n hx hb dX13_gives_4 rfl (lv_at hl 0 rfl) ?_
  refine g_geti CF hK hM0 u hU 1 1 rfl rfl (by decide) (Or.inl (hts _ q752)) (fun _ h => h) rfl dX13_gives_5 ?_
  refine lv_aload_n hx hb dX13_gives_8 rfl (lv_at hl 0 rfl) ?_
  refine g_calli (r := 96 - (σ u 2)) hM0 hA (g_runU (As := []) (rest := [.int (jI (σ u 1)), .ref (G.2.2 60)]) CF hK hM0 hU rfl (l_turn14i11 l E _ _ _ u  hU hb0) (g_cu 0 hts q867 q870 (va_Decl.of (hts _ q868) (hts _ q880)) (hts _ q871) q872 q82 q873 rfl rfl (by decide +kernel) ⟨Nat.le_of_ble_eq_true rfl, Nat.le_of_ble_eq_true rfl⟩) rfl hl.1 rfl (Nat.le_of_ble_eq_true rfl) dX13_gives_9 ⟨Nat.le_of_ble_eq_true rfl, Nat.le_of_ble_eq_true rfl⟩) (fun H locs hM1 => ?_)
  refine g_callv hM1 hA (g_runVN (As := [.int (jI (σ u 1)), .int (jI (96 - (σ u 2)))]) (rest := []) CF hK hM1 (hL.2.1.1 60 _ rfl) rfl (l_addsV l E _ _ _ ρ (σ u 1) (96 - (σ u 2)) hL (by have f0 := hM0.r u 1; first | omega | assumption | (refine ⟨?_, ?_⟩ <;> omega)) (by have f0 := hM0.r u 1; first | omega | assumption | (refine ⟨?_, ?_⟩ <;> omega)) hw0) ⟨va_cnB 2 hts (lw_meth q566) rfl rfl rfl (hK.2.2.1 _ q881 rfl) (hts _ q60) (by decide +kernel) ⟨Nat.le_of_ble_eq_true rfl, Nat.le_of_ble_eq_true rfl⟩, hts _ q565, hts _ qs6⟩ rfl hl.1 rfl (Nat.le_of_ble_eq_true rfl) dX13_gives_12 ⟨Nat.le_of_ble_eq_true rfl, Nat.le_of_ble_eq_true rfl⟩) (fun H locs hM2 => ?_)
  exact g_vret CF hr hlocks hM2 (g_pv rfl) (by decide) (by decide) dX13_gives_15
set_option maxHeartbeats 400000 in
theorem l_gives12 (l : Launch) (E : y_E) (G : y_G) (σ : y_S) (sz : Nat) (ρ : y_S) (u : Nat) (hL : lgV ρ G σ) (hU : G.1 u = some (.inl 12)) (hU3 : G.2.1 u 3 = some (G.2.2 60)) (hb0 : 0 ≤ σ u 2 ∧ σ u 2 ≤ 95) (hw0 : 0 ≤ σ 60 20 ∧ σ 60 20 < 10) : gCt l yX13_gives cX13_gives 1 none ({ frames := 3, cells := 0, slots := 0, locals := 64 }) E [.ref (G.2.2 u)] G σ sz (gR none G (up2 (up2 (up2 σ 18 (σ 60 20) (σ u 1)) 60 20 (σ 60 20 + 1)) 19 (σ 60 20) (((-(96 - (σ u 2))) % 96) % 96))) 0 0 := by
  refine g_met (by decide) (Nat.le_of_ble_eq_true rfl) ?_
  intro p e s m below meth c ls CF hr hlocks hnm hK hM0 hA hl
  have hx := CF.1
  have hb := CF.2.1
  have hts := CF.2.2.2.2
  have hl : lv_has ls 1 [(0, .ref (G.2.2 u))] := hl
  refine lv_aload_n hx hb dX13_gives_0 rfl (lv_at hl 0 rfl) ?_
  refine g_getr CF hK hM0 u hU 3 3 rfl rfl (by decide) (Or.inl (hts _ q754)) (fun _ h => h) rfl (G.2.2 60) hU3 dX13_gives_1 ?_
  refine lv_aload_n hx hb dX13_gives_4 rfl (lv_at hl 0 rfl) ?_
  refine g_geti CF hK hM0 u hU 1 1 rfl rfl (by decide) (Or.inl (hts _ q752)) (fun _ h => h) rfl dX13_gives_5 ?_
  refine lv_aload_n hx hb dX13_gives_8 rfl (lv_at hl 0 rfl) ?_
  refine g_calli (r := (-(96 - (σ u 2))) % 96) hM0 hA (g_runU (As := []) (rest := [.int (jI (σ u 1)), .ref (G.2.2 60)]) CF hK hM0 hU rfl (l_turn15i12 l E _ _ _ u  hU hb0) (g_cu 0 hts q867 q870 (va_Decl.of (hts _ q868) (hts _ q880)) (hts _ q875) q876 q83 q877 rfl rfl (by decide +kernel) ⟨Nat.le_of_ble_eq_true rfl, Nat.le_of_ble_eq_true rfl⟩) rfl hl.1 rfl (Nat.le_of_ble_eq_true rfl) dX13_gives_9 ⟨Nat.le_of_ble_eq_true rfl, Nat.le_of_ble_eq_true rfl⟩) (fun H locs hM1 => ?_)
  refine g_callv hM1 hA (g_runVN (As := [.int (jI (σ u 1)), .int (jI ((-(96 - (σ u 2))) % 96))]) (rest := []) CF hK hM1 (hL.2.1.1 60 _ rfl) rfl (l_addsV l E _ _ _ ρ (σ u 1) ((-(96 - (σ u 2))) % 96) hL (by have f0 := hM0.r u 1; first | omega | assumption | (refine ⟨?_, ?_⟩ <;> omega)) (by have f0 := hM0.r u 1; first | omega | assumption | (refine ⟨?_, ?_⟩ <;> omega)) hw0) ⟨va_cnB 2 hts (lw_meth q566) rfl rfl rfl (hK.2.2.1 _ q881 rfl) (hts _ q60) (by decide +kernel) ⟨Nat.le_of_ble_eq_true rfl, Nat.le_of_ble_eq_true rfl⟩, hts _ q565, hts _ qs6⟩ rfl hl.1 rfl (Nat.le_of_ble_eq_true rfl) dX13_gives_12 ⟨Nat.le_of_ble_eq_true rfl, Nat.le_of_ble_eq_true rfl⟩) (fun H locs hM2 => ?_)
  exact g_vret CF hr hlocks hM2 (g_pv rfl) (by decide) (by decide) dX13_gives_15
