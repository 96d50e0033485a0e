/-! THE READER: numbers -/
abbrev dgR (ρ : y_S) (a : Int) : Prop := 48 ≤ nxR ρ a ∧ nxR ρ a ≤ 57
/-- a number from a on: its value, where it ends; none: it is wrong -/
def rNu (ρ : y_S) (a most : Int) : Option (Int × Int) :=
  if nxR ρ a ≠ 32 then none else if ¬ dgR ρ (a + 1) ∨ most < nxR ρ (a + 1) - 48 then none else
  if ¬ dgR ρ (a + 2) ∨ nxR ρ (a + 1) - 48 = 0 then some (nxR ρ (a + 1) - 48, a + 2) else
  if most < 10 * (nxR ρ (a + 1) - 48) + nxR ρ (a + 2) - 48 then none else some (10 * (nxR ρ (a + 1) - 48) + nxR ρ (a + 2) - 48, a + 3)
theorem rNu_c {ρ : y_S} {a most v a2 : Int} (h : rNu ρ a most = some (v, a2)) : nxR ρ a = 32 ∧ dgR ρ (a + 1) ∧ nxR ρ (a + 1) - 48 ≤ most ∧ (((¬ dgR ρ (a + 2) ∨ nxR ρ (a + 1) - 48 = 0) ∧ v = nxR ρ (a + 1) - 48 ∧ a2 = a + 2) ∨ (dgR ρ (a + 2) ∧ nxR ρ (a + 1) - 48 ≠ 0 ∧ 10 * (nxR ρ (a + 1) - 48) + nxR ρ (a + 2) - 48 ≤ most ∧ v = 10 * (nxR ρ (a + 1) - 48) + nxR ρ (a + 2) - 48 ∧ a2 = a + 3)) := by
  unfold rNu at h
  by_cases h1 : nxR ρ a ≠ 32
  · rw [if_pos h1] at h; cases h
  · rw [if_neg h1] at h
    by_cases h2 : ¬ dgR ρ (a + 1) ∨ most < nxR ρ (a + 1) - 48
    · rw [if_pos h2] at h; cases h
    · rw [if_neg h2] at h
      have h3 : dgR ρ (a + 1) := Decidable.byContradiction (fun z => h2 (Or.inl z))
      have h4 : ¬ most < nxR ρ (a + 1) - 48 := fun z => h2 (Or.inr z)
      by_cases h5 : ¬ dgR ρ (a + 2) ∨ nxR ρ (a + 1) - 48 = 0
      · rw [if_pos h5] at h
        cases h
        exact ⟨by omega, h3, by omega, Or.inl ⟨h5, rfl, rfl⟩⟩
      · rw [if_neg h5] at h
        by_cases h6 : most < 10 * (nxR ρ (a + 1) - 48) + nxR ρ (a + 2) - 48
        · rw [if_pos h6] at h; cases h
        · rw [if_neg h6] at h
          cases h
          exact ⟨by omega, h3, by omega, Or.inr ⟨Decidable.byContradiction (fun z => h5 (Or.inl z)), fun z => h5 (Or.inr z), by omega, rfl, rfl⟩⟩
set_option maxHeartbeats 400000 in
theorem l_rnum (l : Launch) (E : y_E) (G : y_G) (σ : y_S) (sz : Nat) (ρ : y_S) (v : Int) (a2 : Int) (most : Int) (hL : lgV ρ G σ) (hA9 : 0 ≤ σ 26 1 ∧ σ 26 1 ≤ 900) (hmr : 0 ≤ most ∧ most ≤ 1000) (hN : rNu ρ (σ 26 1) most = some (v, a2)) : gCt l yX7_number cX7_number 4 (some .int) ({ frames := 2, cells := 0, slots := 0, locals := 41 }) E [.ref (G.2.2 26), .int (jI most)] G σ sz (gR (some (.int (jI v))) G (up2 σ 26 1 a2)) 0 0 := by
  refine g_met (by decide) (Nat.le_of_ble_eq_true rfl) ?_
  intro p e s m below meth c ls CF hr hlocks hnm hK hM0 hA hl
  have hx := CF.1
  have hb := CF.2.1
  have hts := CF.2.2.2.2
  have hl : lv_has ls 4 [(0, .ref (G.2.2 26)), (1, .int (jI most))] := hl
  have hO := hL.1
  have hn := hO.n
  have htp := hO.tp
  obtain ⟨hc1, hc2, hc3, hc4⟩ := rNu_c hN
  unfold dgR at hc2 hc4
  have hr1 := nxR_r ρ (σ 26 1 + 1)
  have hr2 := nxR_r ρ (σ 26 1 + 2)
  have hL1 : lgV ρ G (up2 σ 26 1 (σ 26 1 + 1)) := hL.i26
  refine lv_aload_n hx hb dX7_number_0 rfl (lv_at hl 0 rfl) ?_
  refine lv_bipush (v := jI 32) hx hb dX7_number_1 (by decide) ?_
  refine g_callv hM0 hA (g_runV (As := [.int (jI 32)]) (rest := []) CF hK hM0 (hL.2.1.1 26 _ rfl) rfl (l_rsign l E _ _ _ ρ 32 hL (by omega) (by first | omega | assumption | (refine ⟨?_, ?_⟩ <;> omega)) (by first | omega | assumption | (refine ⟨?_, ?_⟩ <;> omega))) (cwV 1 hts (lw_V q706 q708 qs19 q67 q709) rfl rfl rfl (by decide +kernel) ⟨Nat.le_of_ble_eq_true rfl, Nat.le_of_ble_eq_true rfl⟩) rfl hl.1 rfl (Nat.le_of_ble_eq_true rfl) dX7_number_3 ⟨Nat.le_of_ble_eq_true rfl, Nat.le_of_ble_eq_true rfl⟩) (fun H locs hM1 => ?_)
  refine lv_aload_n hx hb dX7_number_6 rfl (lv_at hl 0 rfl) ?_
  refine g_calli (r := (if 48 ≤ nxR ρ ((up2 σ 26 1 (σ 26 1 + 1)) 26 1) ∧ nxR ρ ((up2 σ 26 1 (σ 26 1 + 1)) 26 1) ≤ 57 then 1 else 0)) hM1 hA (g_runV (As := []) (rest := []) CF hK hM1 (hL1.2.1.1 26 _ rfl) rfl (l_rdigit l E _ _ _ ρ  hL1 (show 0 ≤ σ 26 1 + 1 ∧ σ 26 1 + 1 ≤ 1000 by omega)) (cwV 0 hts (lw_V q734 q736 qs21 q67 q737) rfl rfl rfl (by decide +kernel) ⟨Nat.le_of_ble_eq_true rfl, Nat.le_of_ble_eq_true rfl⟩) rfl hl.1 rfl (Nat.le_of_ble_eq_true rfl) dX7_number_7 ⟨Nat.le_of_ble_eq_true rfl, Nat.le_of_ble_eq_true rfl⟩) (fun H locs hM2 => ?_)
  refine x_top (b := (if 48 ≤ nxR ρ (σ 26 1 + 1) ∧ nxR ρ (σ 26 1 + 1) ≤ 57 then 1 else 0)) rfl ?_
  refine x_bif_ne (tgt := 26) hx hb dX7_number_10 (by decide) (fun b10 => ?_) (fun b10 => ?_)
  · refine lv_iconst (v := jI 0) hx hb dX7_number_26 rfl ?_
    refine lv_istore_n (lv' := [(2, .int (jI 0)), (0, .ref (G.2.2 26)), (1, .int (jI most))]) hx hb dX7_number_27 rfl hl (by decide) rfl (fun ls hl => ?_)
    refine lv_iconst (v := jI 0) hx hb dX7_number_28 rfl ?_
    refine lv_istore_n (lv' := [(3, .int (jI 0)), (2, .int (jI 0)), (0, .ref (G.2.2 26)), (1, .int (jI most))]) hx hb dX7_number_29 rfl hl (by decide) rfl (fun ls hl => ?_)
    have c30 : ∀ (n30 : Nat) (i : Int) (x : Int) (a1 : Int) (H : Heap) (locs : List Loc) (ls : Array Slot), ((i = 0 ∧ x = 0 ∧ a1 = σ 26 1 + 1) ∨ (i = 1 ∧ x = nxR ρ (σ 26 1 + 1) - 48 ∧ a1 = σ 26 1 + 2) ∨ (i = 2 ∧ x = 10 * (nxR ρ (σ 26 1 + 1) - 48) + nxR ρ (σ 26 1 + 2) - 48 ∧ a1 = σ 26 1 + 3 ∧ (48 ≤ nxR ρ (σ 26 1 + 2) ∧ nxR ρ (σ 26 1 + 2) ≤ 57) ∧ 0 < nxR ρ (σ 26 1 + 1) - 48)) → ((2 - i).toNat < n30) → gM E (gA G sz) G (up2 σ 26 1 a1) s.heap H locs → lv_has ls 4 [(0, .ref (G.2.2 26)), (1, .int (jI most)), (2, .int (jI x)), (3, .int (jI i))] → W p l e ({ frames := 2, cells := 0, slots := 0, locals := 41 } : Room) s m ([.ref (G.2.2 26), .int (jI most)] : List Value).toArray below meth c H locs 0 0 (MQ below (gQ E G sz (gR (some (.int (jI v))) G (up2 σ 26 1 a2))) ([.ref (G.2.2 26), .int (jI most)] : List Value).toArray s 0 0 (gA G sz)) (F0 m 30 ls []) := by
      intro n30
      induction n30 with
      | zero => intro i x a1 H locs ls hst hmu; exact absurd hmu (Nat.not_lt_zero _)
      | succ n30 ih30 =>
        intro i x a1 H locs ls hst hmu30 hM3 hl
        have hL2 : lgV ρ G (up2 σ 26 1 a1) := hL.i26
        have hra := nxR_r ρ a1
        refine lv_iload_n hx hb dX7_number_30 rfl (lv_at hl 3 rfl) ?_
        refine lv_iconst (v := jI 2) hx hb dX7_number_31 rfl ?_
        refine x_icmp_ge (tgt := 97) hx hb dX7_number_32 (by decide) (by omega) (by omega) (fun b32 => ?_) (fun b32 => ?_)
        · refine lv_iload_n hx hb dX7_number_97 rfl (lv_at hl 2 rfl) ?_
          exact g_iret CF hr hlocks hM3 (have hend : x = v ∧ a1 = a2 := (by rcases hst with ⟨e1, e2, e3⟩ | ⟨e1, e2, e3⟩ | ⟨e1, e2, e3, e4⟩ <;> subst e3 <;> subst e2 <;> subst e1 <;> omega); ⟨by rw [hend.1], rfl, by rw [hend.2]⟩) (by decide) (by decide) dX7_number_98
        · refine lv_aload_n hx hb dX7_number_35 rfl (lv_at hl 0 rfl) ?_
          refine g_calli (r := (if 48 ≤ nxR ρ ((up2 σ 26 1 a1) 26 1) ∧ nxR ρ ((up2 σ 26 1 a1) 26 1) ≤ 57 then 1 else 0)) hM3 hA (g_runV (As := []) (rest := []) CF hK hM3 (hL2.2.1.1 26 _ rfl) rfl (l_rdigit l E _ _ _ ρ  hL2 (show 0 ≤ a1 ∧ a1 ≤ 1000 by omega)) (cwV 0 hts (lw_V q734 q736 qs21 q67 q737) rfl rfl rfl (by decide +kernel) ⟨Nat.le_of_ble_eq_true rfl, Nat.le_of_ble_eq_true rfl⟩) rfl hl.1 rfl (Nat.le_of_ble_eq_true rfl) dX7_number_36 ⟨Nat.le_of_ble_eq_true rfl, Nat.le_of_ble_eq_true rfl⟩) (fun H locs hM4 => ?_)
          refine x_top (b := (if 48 ≤ nxR ρ a1 ∧ nxR ρ a1 ≤ 57 then 1 else 0)) rfl ?_
          refine x_bif_eq (tgt := 97) hx hb dX7_number_39 (by decide) (fun b39 => ?_) (fun b39 => ?_)
          · refine lv_iload_n hx hb dX7_number_97 rfl (lv_at hl 2 rfl) ?_
            exact g_iret CF hr hlocks hM4 (have hend : x = v ∧ a1 = a2 := (by rcases hst with ⟨e1, e2, e3⟩ | ⟨e1, e2, e3⟩ | ⟨e1, e2, e3, e4⟩ <;> subst e3 <;> subst e2 <;> subst e1 <;> omega); ⟨by rw [hend.1], rfl, by rw [hend.2]⟩) (by decide) (by decide) dX7_number_98
          · refine lv_iload_n hx hb dX7_number_42 rfl (lv_at hl 3 rfl) ?_
            refine x_if_eq (tgt := 50) hx hb dX7_number_43 (by decide) (by omega) (fun b43 => ?_) (fun b43 => ?_)
            · refine lv_bipush (v := jI 10) hx hb dX7_number_50 (by decide) ?_
              refine lv_iload_n hx hb dX7_number_52 rfl (lv_at hl 2 rfl) ?_
              refine x_imul hx hb dX7_number_53 ?_
              refine lv_aload_n hx hb dX7_number_54 rfl (lv_at hl 0 rfl) ?_
              refine g_calli (r := nxR ρ ((up2 σ 26 1 a1) 26 1)) hM4 hA (g_runV (As := []) (rest := [.int (jI (10 * x))]) CF hK hM4 (hL2.2.1.1 26 _ rfl) rfl (l_rnext l E _ _ _ ρ  hL2 (show 0 ≤ a1 ∧ a1 ≤ 1000 by omega)) (cwV 0 hts (lw_V q627 q629 qs15 q67 q630) rfl rfl rfl (by decide +kernel) ⟨Nat.le_of_ble_eq_true rfl, Nat.le_of_ble_eq_true rfl⟩) rfl hl.1 rfl (Nat.le_of_ble_eq_true rfl) dX7_number_55 ⟨Nat.le_of_ble_eq_true rfl, Nat.le_of_ble_eq_true rfl⟩) (fun H locs hM5 => ?_)
              refine x_top (b := nxR ρ a1) rfl ?_
              refine x_iadd hx hb dX7_number_58 ?_
              refine lv_bipush (v := jI 48) hx hb dX7_number_59 (by decide) ?_
              refine x_isub hx hb dX7_number_61 ?_
              refine lv_istore_n (lv' := [(2, .int (jI (((10 * x) + (nxR ρ a1)) - 48))), (0, .ref (G.2.2 26)), (1, .int (jI most)), (3, .int (jI i))]) hx hb dX7_number_62 rfl hl (by decide) rfl (fun ls hl => ?_)
              refine lv_iload_n hx hb dX7_number_63 rfl (lv_at hl 0 rfl) ?_
              refine lv_iload_n hx hb dX7_number_64 rfl (lv_at hl 2 rfl) ?_
              have fa6 := nxR_r ρ a1
              refine x_icmp_le (tgt := 81) hx hb dX7_number_65 (by decide) (by have f0 := nxR_r ρ a1; omega) (by omega) (fun b65 => ?_) (fun b65 => ?_)
              · refine lv_aload_n hx hb dX7_number_81 rfl (lv_at hl 1 rfl) ?_
                refine lv_dup hx hb dX7_number_82 rfl ?_
                refine g_geti CF hK hM5 26 (hL2.2.1.1 26 _ rfl) 1 1 rfl rfl (by decide) (Or.inl (hts _ q197)) (fun _ h => h) rfl dX7_number_83 ?_
                refine x_top (b := a1) rfl ?_
                refine lv_iconst (v := jI 1) hx hb dX7_number_86 rfl ?_
                refine x_iadd hx hb dX7_number_87 ?_
                refine g_puti CF hK hM5 26 (by decide) (hL2.2.1.1 26 _ rfl) 1 1 rfl rfl (by decide) (Or.inl (hts _ q197)) (fun _ h => h) (Or.inl rfl) rfl (v := a1 + 1) rfl rfl (by have f0 := (show R32 a1 from hM5.r 26 1); omega) dX7_number_88 (fun H locs hM7 => ?_)
                have hM8 := gM_eq (σ' := up2 σ 26 1 (a1 + 1)) (up2_up2 _ _ _ _ _) hM7
                refine x_iinc (lv' := [(3, .int (jI (i + 1))), (2, .int (jI (((10 * x) + (nxR ρ a1)) - 48))), (0, .ref (G.2.2 26)), (1, .int (jI most))]) hx hb dX7_number_91 hl (k := 3) rfl (by decide) rfl (fun ls hl => ?_)
                refine lv_goto (tgt := 30) hx hb dX7_number_94 (by decide) ?_
                exact ih30  (i + 1) (((10 * x) + (nxR ρ a1)) - 48) (a1 + 1) _ _ _ (by rcases hst with ⟨e1, e2, e3⟩ | ⟨e1, e2, e3⟩ | ⟨e1, e2, e3, e4⟩ <;> subst e1 <;> subst e2 <;> subst e3 <;> first | exact Or.inr (Or.inl ⟨by omega, by omega, by omega⟩) | exact Or.inr (Or.inr ⟨by omega, by omega, by omega, b39, by omega⟩) | omega) (by omega) hM8 (lv_sub hl [2, 3, 1, 0] rfl)
              · (exfalso; rcases hst with ⟨e1, e2, e3⟩ | ⟨e1, e2, e3⟩ | ⟨e1, e2, e3, e4⟩ <;> subst e3 <;> subst e2 <;> subst e1 <;> omega)
            · refine lv_iload_n hx hb dX7_number_46 rfl (lv_at hl 2 rfl) ?_
              refine x_if_le (tgt := 97) hx hb dX7_number_47 (by decide) (by omega) (fun b47 => ?_) (fun b47 => ?_)
              · refine lv_iload_n hx hb dX7_number_97 rfl (lv_at hl 2 rfl) ?_
                exact g_iret CF hr hlocks hM4 (have hend : x = v ∧ a1 = a2 := (by rcases hst with ⟨e1, e2, e3⟩ | ⟨e1, e2, e3⟩ | ⟨e1, e2, e3, e4⟩ <;> subst e3 <;> subst e2 <;> subst e1 <;> omega); ⟨by rw [hend.1], rfl, by rw [hend.2]⟩) (by decide) (by decide) dX7_number_98
              · refine lv_bipush (v := jI 10) hx hb dX7_number_50 (by decide) ?_
                refine lv_iload_n hx hb dX7_number_52 rfl (lv_at hl 2 rfl) ?_
                refine x_imul hx hb dX7_number_53 ?_
                refine lv_aload_n hx hb dX7_number_54 rfl (lv_at hl 0 rfl) ?_
                refine g_calli (r := nxR ρ ((up2 σ 26 1 a1) 26 1)) hM4 hA (g_runV (As := []) (rest := [.int (jI (10 * x))]) CF hK hM4 (hL2.2.1.1 26 _ rfl) rfl (l_rnext l E _ _ _ ρ  hL2 (show 0 ≤ a1 ∧ a1 ≤ 1000 by omega)) (cwV 0 hts (lw_V q627 q629 qs15 q67 q630) rfl rfl rfl (by decide +kernel) ⟨Nat.le_of_ble_eq_true rfl, Nat.le_of_ble_eq_true rfl⟩) rfl hl.1 rfl (Nat.le_of_ble_eq_true rfl) dX7_number_55 ⟨Nat.le_of_ble_eq_true rfl, Nat.le_of_ble_eq_true rfl⟩) (fun H locs hM9 => ?_)
                refine x_top (b := nxR ρ a1) rfl ?_
                refine x_iadd hx hb dX7_number_58 ?_
                refine lv_bipush (v := jI 48) hx hb dX7_number_59 (by decide) ?_
                refine x_isub hx hb dX7_number_61 ?_
                refine lv_istore_n (lv' := [(2, .int (jI (((10 * x) + (nxR ρ a1)) - 48))), (0, .ref (G.2.2 26)), (1, .int (jI most)), (3, .int (jI i))]) hx hb dX7_number_62 rfl hl (by decide) rfl (fun ls hl => ?_)
                refine lv_iload_n hx hb dX7_number_63 rfl (lv_at hl 0 rfl) ?_
                refine lv_iload_n hx hb dX7_number_64 rfl (lv_at hl 2 rfl) ?_
                have fa10 := nxR_r ρ a1
                refine x_icmp_le (tgt := 81) hx hb dX7_number_65 (by decide) (by have f0 := nxR_r ρ a1; omega) (by omega) (fun b65 => ?_) (fun b65 => ?_)
                · refine lv_aload_n hx hb dX7_number_81 rfl (lv_at hl 1 rfl) ?_
                  refine lv_dup hx hb dX7_number_82 rfl ?_
                  refine g_geti CF hK hM9 26 (hL2.2.1.1 26 _ rfl) 1 1 rfl rfl (by decide) (Or.inl (hts _ q197)) (fun _ h => h) rfl dX7_number_83 ?_
                  refine x_top (b := a1) rfl ?_
                  refine lv_iconst (v := jI 1) hx hb dX7_number_86 rfl ?_
                  refine x_iadd hx hb dX7_number_87 ?_
                  refine g_puti CF hK hM9 26 (by decide) (hL2.2.1.1 26 _ rfl) 1 1 rfl rfl (by decide) (Or.inl (hts _ q197)) (fun _ h => h) (Or.inl rfl) rfl (v := a1 + 1) rfl rfl (by have f0 := (show R32 a1 from hM9.r 26 1); omega) dX7_number_88 (fun H locs hM11 => ?_)
                  have hM12 := gM_eq (σ' := up2 σ 26 1 (a1 + 1)) (up2_up2 _ _ _ _ _) hM11
                  refine x_iinc (lv' := [(3, .int (jI (i + 1))), (2, .int (jI (((10 * x) + (nxR ρ a1)) - 48))), (0, .ref (G.2.2 26)), (1, .int (jI most))]) hx hb dX7_number_91 hl (k := 3) rfl (by decide) rfl (fun ls hl => ?_)
                  refine lv_goto (tgt := 30) hx hb dX7_number_94 (by decide) ?_
                  exact ih30  (i + 1) (((10 * x) + (nxR ρ a1)) - 48) (a1 + 1) _ _ _ (by rcases hst with ⟨e1, e2, e3⟩ | ⟨e1, e2, e3⟩ | ⟨e1, e2, e3, e4⟩ <;> subst e1 <;> subst e2 <;> subst e3 <;> first | exact Or.inr (Or.inl ⟨by omega, by omega, by omega⟩) | exact Or.inr (Or.inr ⟨by omega, by omega, by omega, b39, by omega⟩) | omega) (by omega) hM12 (lv_sub hl [2, 3, 1, 0] rfl)
                · (exfalso; rcases hst with ⟨e1, e2, e3⟩ | ⟨e1, e2, e3⟩ | ⟨e1, e2, e3, e4⟩ <;> subst e3 <;> subst e2 <;> subst e1 <;> omega)
    exact c30 _ 0 0 (σ 26 1 + 1) _ _ _ (Or.inl ⟨rfl, rfl, rfl⟩) (Nat.lt_succ_self _) hM2 (lv_sub hl [2, 3, 1, 0] rfl)
  · exact absurd hc2 b10
