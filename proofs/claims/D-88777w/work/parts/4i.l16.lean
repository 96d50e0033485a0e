/-! RUNS ARE MADE -/
/-- a run in the scratch room -/
def tRu (ρ : y_S) (G : y_G) (σ : y_S) (tick : Int) (G' : y_G) (τ' : y_S) : Prop :=
  (∀ t : Nat, t < 90 ∨ 94 ≤ t → gAg G σ G' τ' t) ∧ G'.2.2 90 = G.2.2 90 ∧
  (G'.1 90 = some (.inl 13) ∧ G'.1 91 = some (.inr (0, 6)) ∧ G'.1 92 = some (.inr (0, 6)) ∧ G'.1 93 = some (.inr (0, 12 * (ρ 60 0).toNat))) ∧
  (G'.2.1 90 1 = some (G'.2.2 91) ∧ G'.2.1 90 2 = some (G'.2.2 92) ∧ G'.2.1 90 3 = some (G'.2.2 93) ∧ G'.2.1 90 4 = some (G'.2.2 60)) ∧
  τ' 90 0 = tick ∧ (∀ l i : Int, mCell (ρ 60 0) l i → τ' 93 (l * ρ 60 0 + i) = ρ 3 (6 * l + i))
theorem jn_eq {n l i : Int} {j : Nat} (hn : 2 ≤ n) (h0 : 0 ≤ i) (h1 : i < n) (e : l * n + i = (j : Int)) : (j : Int) / n = l ∧ (j : Int) % n = i := by
  rw [← e, Int.mul_comm, Int.add_comm]
  exact ⟨by rw [Int.add_mul_ediv_left _ _ (by omega), Int.ediv_eq_zero_of_lt h0 h1, Int.zero_add], by rw [Int.add_mul_emod_self_left, Int.emod_eq_of_lt h0 h1]⟩
set_option maxHeartbeats 1000000 in
theorem l_rinit (l : Launch) (E : y_E) (G : y_G) (σ : y_S) (sz : Nat) (ρ : y_S) (k : Int) (hL : lgR E ρ G σ) (hU : G.1 90 = some (.inl 13)) (hF : ∀ t : Nat, 91 ≤ t → t < 94 → G.1 t = none) (hkr : R32 k) : gCt l yX16_init cX16_init 7 none ({ frames := 1, cells := 3, slots := 84, locals := 24 }) E [.ref (G.2.2 90), .ref (G.2.2 60), .int (jI k)] G σ sz (gPV (fun G' τ' => tRu ρ G σ k G' τ' ∧ lgR E ρ G' τ')) 3 84 := by
  refine g_met (by decide) (Nat.le_of_ble_eq_true rfl) ?_
  intro p e s m below meth c ls CF hr hlocks hnm hK hM0 hA hl
  have hx := CF.1
  have hb := CF.2.1
  have hts := CF.2.2.2.2
  have hl : lv_has ls 7 [(0, .ref (G.2.2 90)), (1, .ref (G.2.2 60)), (2, .int (jI k))] := hl
  obtain ⟨hO, hS, ⟨hm1, hm2, hm3, hm4, hm5⟩, hX, hD, hZ⟩ := id hL
  have hn := hO.n
  refine lv_aload_n hx hb dX16_init_0 rfl (lv_at hl 0 rfl) ?_
  refine lv_aload_n hx hb dX16_init_1 rfl (lv_at hl 1 rfl) ?_
  refine g_putq CF hK hM0 90 (by decide) hU 4 4 rfl rfl (by decide) (Or.inl (hts _ q915)) (fun _ h => h) (Or.inr ⟨rfl, hnm, rfl, (hts _ q915)⟩) rfl (r := some (G.2.2 60)) rfl rfl dX16_init_2 (fun H locs hM1 => ?_)
  have hL2 : lgR E ρ (G.1, up2 G.2.1 90 4 (some (G.2.2 60)), G.2.2) σ := hL.rf9 (by decide)
  refine lv_aload_n hx hb dX16_init_5 rfl (lv_at hl 0 rfl) ?_
  refine W.objInit hx hb CF.2.2.2.1 (hts _ q905) (hts _ q108) (hts _ q109) rfl (hl.1.trans CF.2.2.1.symm) rfl dX16_init_6 (Nat.le_of_ble_eq_true rfl) (Nat.le_of_ble_eq_true rfl) ?_
  refine lv_aload_n hx hb dX16_init_9 rfl (lv_at hl 0 rfl) ?_
  refine lv_bipush (v := jI 6) hx hb dX16_init_10 (by decide) ?_
  refine g_newb CF hK hM1 hA 91 (hF 91 (by decide) (by decide)) 0 (by decide) rfl q135 (n := 6) rfl (by omega) (Nat.le_of_ble_eq_true rfl) (Nat.le_of_ble_eq_true rfl) dX16_init_12 (fun H a91 hM3 => ?_)
  have hL4 : lgR E ρ (upT G.1 91 (some (.inr (0, 6))), upT (up2 G.2.1 90 4 (some (G.2.2 60))) 91 (fun _ => none), upT G.2.2 91 a91) (upT σ 91 ((fun _ => 0))) := hL2.al (by decide)
  refine g_putq CF hK hM3 90 (by decide) hU 1 1 rfl rfl (by decide) (Or.inl (hts _ q909)) (fun _ h => h) (Or.inr ⟨rfl, hnm, rfl, (hts _ q909)⟩) rfl (r := some a91) rfl rfl dX16_init_14 (fun H locs hM5 => ?_)
  have hL6 : lgR E ρ (upT G.1 91 (some (.inr (0, 6))), up2 (upT (up2 G.2.1 90 4 (some (G.2.2 60))) 91 (fun _ => none)) 90 1 (some a91), upT G.2.2 91 a91) (upT σ 91 ((fun _ => 0))) := hL4.rf9 (by decide)
  refine lv_aload_n hx hb dX16_init_17 rfl (lv_at hl 0 rfl) ?_
  refine lv_bipush (v := jI 6) hx hb dX16_init_18 (by decide) ?_
  refine g_newb CF hK hM5 hA 92 (hF 92 (by decide) (by decide)) 0 (by decide) rfl q135 (n := 6) rfl (by omega) (Nat.le_of_ble_eq_true rfl) (Nat.le_of_ble_eq_true rfl) dX16_init_20 (fun H a92 hM7 => ?_)
  have hL8 : lgR E ρ (upT (upT G.1 91 (some (.inr (0, 6)))) 92 (some (.inr (0, 6))), upT (up2 (upT (up2 G.2.1 90 4 (some (G.2.2 60))) 91 (fun _ => none)) 90 1 (some a91)) 92 (fun _ => none), upT (upT G.2.2 91 a91) 92 a92) (upT (upT σ 91 ((fun _ => 0))) 92 ((fun _ => 0))) := hL6.al (by decide)
  refine g_putq CF hK hM7 90 (by decide) hU 2 2 rfl rfl (by decide) (Or.inl (hts _ q911)) (fun _ h => h) (Or.inr ⟨rfl, hnm, rfl, (hts _ q911)⟩) rfl (r := some a92) rfl rfl dX16_init_22 (fun H locs hM9 => ?_)
  have hL10 : lgR E ρ (upT (upT G.1 91 (some (.inr (0, 6)))) 92 (some (.inr (0, 6))), up2 (upT (up2 (upT (up2 G.2.1 90 4 (some (G.2.2 60))) 91 (fun _ => none)) 90 1 (some a91)) 92 (fun _ => none)) 90 2 (some a92), upT (upT G.2.2 91 a91) 92 a92) (upT (upT σ 91 ((fun _ => 0))) 92 ((fun _ => 0))) := hL8.rf9 (by decide)
  refine lv_aload_n hx hb dX16_init_25 rfl (lv_at hl 0 rfl) ?_
  refine lv_aload_n hx hb dX16_init_26 rfl (lv_at hl 0 rfl) ?_
  refine g_getr CF hK hM9 90 hU 4 4 rfl rfl (by decide) (Or.inl (hts _ q915)) (fun _ h => h) rfl (G.2.2 60) rfl dX16_init_27 ?_
  refine g_getr CF hK hM9 60 (hL10.2.1.1 60 _ rfl) 3 3 rfl rfl (by decide) (gLk.n hK q286) (fun _ h => h) rfl (G.2.2 3) (hL10.2.1.2.1 3 3 rfl) dX16_init_30 ?_
  refine g_alen CF hK hM9 3 (hL10.2.1.1 3 _ rfl) (by decide) dX16_init_33 ?_
  refine x_top (b := ((12 * (ρ 60 0).toNat : Nat) : Int)) rfl ?_
  refine g_newb CF hK hM9 hA 93 (hF 93 (by decide) (by decide)) 0 (by decide) rfl q135 (n := (12 * (ρ 60 0).toNat)) rfl (by omega) (Nat.le_of_ble_eq_true rfl) (by show 0 + 6 + 6 + 12 * (ρ 60 0).toNat ≤ 84; omega) dX16_init_34 (fun H a93 hM11 => ?_)
  have hL12 : lgR E ρ (upT (upT (upT G.1 91 (some (.inr (0, 6)))) 92 (some (.inr (0, 6)))) 93 (some (.inr (0, (12 * (ρ 60 0).toNat)))), upT (up2 (upT (up2 (upT (up2 G.2.1 90 4 (some (G.2.2 60))) 91 (fun _ => none)) 90 1 (some a91)) 92 (fun _ => none)) 90 2 (some a92)) 93 (fun _ => none), upT (upT (upT G.2.2 91 a91) 92 a92) 93 a93) (upT (upT (upT σ 91 ((fun _ => 0))) 92 ((fun _ => 0))) 93 ((fun _ => 0))) := hL10.al (by decide)
  refine g_putq CF hK hM11 90 (by decide) hU 3 3 rfl rfl (by decide) (Or.inl (hts _ q913)) (fun _ h => h) (Or.inr ⟨rfl, hnm, rfl, (hts _ q913)⟩) rfl (r := some a93) rfl rfl dX16_init_36 (fun H locs hM13 => ?_)
  have hL14 : lgR E ρ (upT (upT (upT G.1 91 (some (.inr (0, 6)))) 92 (some (.inr (0, 6)))) 93 (some (.inr (0, (12 * (ρ 60 0).toNat)))), up2 (upT (up2 (upT (up2 (upT (up2 G.2.1 90 4 (some (G.2.2 60))) 91 (fun _ => none)) 90 1 (some a91)) 92 (fun _ => none)) 90 2 (some a92)) 93 (fun _ => none)) 90 3 (some a93), upT (upT (upT G.2.2 91 a91) 92 a92) 93 a93) (upT (upT (upT σ 91 ((fun _ => 0))) 92 ((fun _ => 0))) 93 ((fun _ => 0))) := hL12.rf9 (by decide)
  refine lv_aload_n hx hb dX16_init_39 rfl (lv_at hl 0 rfl) ?_
  refine lv_iload_n hx hb dX16_init_40 rfl (lv_at hl 2 rfl) ?_
  refine g_puti CF hK hM13 90 (by decide) hU 0 0 rfl rfl (by decide) (Or.inl (hts _ q906)) (fun _ h => h) (Or.inr ⟨rfl, hnm, rfl, (hts _ q906)⟩) rfl (v := k) rfl rfl (by omega) dX16_init_41 (fun H locs hM15 => ?_)
  have hL16 : lgR E ρ (upT (upT (upT G.1 91 (some (.inr (0, 6)))) 92 (some (.inr (0, 6)))) 93 (some (.inr (0, (12 * (ρ 60 0).toNat)))), up2 (upT (up2 (upT (up2 (upT (up2 G.2.1 90 4 (some (G.2.2 60))) 91 (fun _ => none)) 90 1 (some a91)) 92 (fun _ => none)) 90 2 (some a92)) 93 (fun _ => none)) 90 3 (some a93), upT (upT (upT G.2.2 91 a91) 92 a92) 93 a93) (up2 (upT (upT (upT σ 91 ((fun _ => 0))) 92 ((fun _ => 0))) 93 ((fun _ => 0))) 90 0 k) := hL14.i9 (by decide)
  refine lv_aload_n hx hb dX16_init_44 rfl (lv_at hl 1 rfl) ?_
  refine g_getr CF hK hM15 60 (hL16.2.1.1 60 _ rfl) 3 3 rfl rfl (by decide) (gLk.n hK q286) (fun _ h => h) rfl (G.2.2 3) (hL16.2.1.2.1 3 3 rfl) dX16_init_45 ?_
  refine lv_astore_n (lv' := [(3, .ref (G.2.2 3)), (0, .ref (G.2.2 90)), (1, .ref (G.2.2 60)), (2, .int (jI k))]) hx hb dX16_init_48 rfl hl (by decide) rfl (fun ls hl => ?_)
  refine lv_aload_n hx hb dX16_init_49 rfl (lv_at hl 0 rfl) ?_
  refine g_alen CF hK hM15 3 (hL16.2.1.1 3 _ rfl) (by decide) dX16_init_50 ?_
  refine lv_istore (lv' := [(4, .int (jI (((12 * (ρ 60 0).toNat : Nat) : Int)))), (3, .ref (G.2.2 3)), (0, .ref (G.2.2 90)), (1, .ref (G.2.2 60)), (2, .int (jI k))]) hx hb dX16_init_51 hl (by decide) rfl (fun ls hl => ?_)
  refine lv_iconst (v := jI 0) hx hb dX16_init_53 rfl ?_
  refine lv_istore (lv' := [(5, .int (jI 0)), (4, .int (jI (((12 * (ρ 60 0).toNat : Nat) : Int)))), (3, .ref (G.2.2 3)), (0, .ref (G.2.2 90)), (1, .ref (G.2.2 60)), (2, .int (jI k))]) hx hb dX16_init_54 hl (by decide) rfl (fun ls hl => ?_)
  have c56 : ∀ (n56 : Nat) (j : Nat) (τ : y_S) (H : Heap) (locs : List Loc) (ls : Array Slot), (j ≤ 12 * (ρ 60 0).toNat) → (lgR E ρ (upT (upT (upT G.1 91 (some (.inr (0, 6)))) 92 (some (.inr (0, 6)))) 93 (some (.inr (0, (12 * (ρ 60 0).toNat)))), up2 (upT (up2 (upT (up2 (upT (up2 G.2.1 90 4 (some (G.2.2 60))) 91 (fun _ => none)) 90 1 (some a91)) 92 (fun _ => none)) 90 2 (some a92)) 93 (fun _ => none)) 90 3 (some a93), upT (upT (upT G.2.2 91 a91) 92 a92) 93 a93) τ) → (∀ t : Nat, t ≠ 93 → τ t = (up2 (upT (upT (upT σ 91 ((fun _ => 0))) 92 ((fun _ => 0))) 93 ((fun _ => 0))) 90 0 k) t) → (∀ l2 i2 : Int, mCell (ρ 60 0) l2 i2 → l2 * ρ 60 0 + i2 < (j : Int) → τ 93 (l2 * ρ 60 0 + i2) = ρ 3 (6 * l2 + i2)) → (12 * (ρ 60 0).toNat - j < n56) → gM E (gA G sz) (upT (upT (upT G.1 91 (some (.inr (0, 6)))) 92 (some (.inr (0, 6)))) 93 (some (.inr (0, (12 * (ρ 60 0).toNat)))), up2 (upT (up2 (upT (up2 (upT (up2 G.2.1 90 4 (some (G.2.2 60))) 91 (fun _ => none)) 90 1 (some a91)) 92 (fun _ => none)) 90 2 (some a92)) 93 (fun _ => none)) 90 3 (some a93), upT (upT (upT G.2.2 91 a91) 92 a92) 93 a93) τ s.heap H locs → lv_has ls 7 [(0, .ref (G.2.2 90)), (1, .ref (G.2.2 60)), (3, .ref (G.2.2 3)), (4, .int (jI (((12 * (ρ 60 0).toNat : Nat) : Int)))), (5, .int (jI ((j : Int))))] → W p l e ({ frames := 1, cells := 3, slots := 84, locals := 24 } : Room) s m ([.ref (G.2.2 90), .ref (G.2.2 60), .int (jI k)] : List Value).toArray below meth c H locs 3 (12 + (12 * (ρ 60 0).toNat)) (MQ below (gQ E G sz (gPV (fun G' τ' => tRu ρ G σ k G' τ' ∧ lgR E ρ G' τ'))) ([.ref (G.2.2 90), .ref (G.2.2 60), .int (jI k)] : List Value).toArray s 3 84 (gA G sz)) (F0 m 56 ls []) := by
    intro n56
    induction n56 with
    | zero => intro j τ H locs ls hj hLτ hτ hset hmu; exact absurd hmu (Nat.not_lt_zero _)
    | succ n56 ih56 =>
      intro j τ H locs ls hj hLτ hτ hset hmu56 hM17 hl
      refine lv_iload hx hb dX16_init_56 (lv_at hl 4 rfl) ?_
      refine lv_iload hx hb dX16_init_58 (lv_at hl 3 rfl) ?_
      refine x_icmp_ge (tgt := 106) hx hb dX16_init_60 (by decide) (by omega) (by omega) (fun b60 => ?_) (fun b60 => ?_)
      · exact g_vret CF hr hlocks hM17 ⟨rfl, ⟨fun t ht => (by have e0 : t ≠ 90 := (by omega); have e1 : t ≠ 91 := (by omega); have e2 : t ≠ 92 := (by omega); have e3 : t ≠ 93 := (by omega); refine ⟨?_, ?_, ?_, ?_⟩; all_goals (try rw [hτ t e3]); all_goals simp only [upT, up2, if_neg e0, if_neg e1, if_neg e2, if_neg e3]), rfl, ⟨hU, rfl, rfl, rfl⟩, ⟨rfl, rfl, rfl, rfl⟩, (by rw [hτ 90 (by decide)]; rfl), fun l2 i2 hc => hset l2 i2 hc (by have := cell_ix hc hn.2; have z : (l2 + 1) * ρ 60 0 ≤ 12 * ρ 60 0 := Int.mul_le_mul_of_nonneg_right (by have := hc.2.1; omega) (by omega); rw [Int.add_mul] at z; have := hc.2.2.2.1; omega)⟩, hLτ⟩ (by decide) (by show 0 + 6 + 6 + 12 * (ρ 60 0).toNat ≤ 84; omega) dX16_init_106
      · refine lv_aload_n hx hb dX16_init_63 rfl (lv_at hl 2 rfl) ?_
        refine lv_iload hx hb dX16_init_64 (lv_at hl 4 rfl) ?_
        refine g_aaldc CF hK hM17 3 (hLτ.2.1.1 3 _ rfl) (by decide) rfl (i := (j : Int)) (by omega) (by omega) (by omega) (hLτ.2.1.at hLτ.1.n.1 hLτ.1.n.2 (by omega)) dX16_init_66 (fun hCe => ?_) (fun hCe => ?_)
        · refine lv_astore (lv' := [(6, .ref ((upT (upT (upT G.2.2 91 a91) 92 a92) 93 a93) (cT ((j : Int) / ρ 60 0) ((j : Int) % ρ 60 0)))), (0, .ref (G.2.2 90)), (1, .ref (G.2.2 60)), (3, .ref (G.2.2 3)), (4, .int (jI (((12 * (ρ 60 0).toNat : Nat) : Int)))), (5, .int (jI ((j : Int))))]) hx hb dX16_init_67 hl (by decide) rfl (fun ls hl => ?_)
          refine lv_aload hx hb dX16_init_69 (lv_at hl 0 rfl) ?_
          refine lv_ifnull hx hb dX16_init_71 ?_
          have hjx := j_ix hn.1 hn.2 (show j < 12 * (ρ 60 0).toNat by omega)
          have hx5 := cell_ix hCe hn.2
          have hst := hO.s _ hx5.2.2.1 hx5.2.2.2
          refine lv_aload_n hx hb dX16_init_74 rfl (lv_at hl 1 rfl) ?_
          refine g_getr CF hK hM17 90 hU 3 3 rfl rfl (by decide) (Or.inl (hts _ q913)) (fun _ h => h) rfl a93 rfl dX16_init_75 ?_
          refine lv_aload hx hb dX16_init_78 (lv_at hl 0 rfl) ?_
          refine g_geti CF hK hM17 (cT ((j : Int) / ρ 60 0) ((j : Int) % ρ 60 0)) (hLτ.2.1.1 _ _ (lKd_c hLτ.1.n.2 hCe)) 0 0 rfl rfl (by decide) (gLk.n hK q245) (fun _ h => h) rfl dX16_init_80 ?_
          refine x_top (b := (j : Int) / ρ 60 0) (hLτ.2.2.1.2.2.2.2 _ _ hCe).1 ?_
          refine lv_aload_n hx hb dX16_init_83 rfl (lv_at hl 2 rfl) ?_
          refine g_geti CF hK hM17 60 (hLτ.2.1.1 60 _ rfl) 2 2 rfl rfl (by decide) (gLk.n hK q282) (fun _ h => h) rfl dX16_init_84 ?_
          refine x_top (b := ρ 60 0) hLτ.2.2.1.1 ?_
          refine x_imul hx hb dX16_init_87 ?_
          refine lv_aload hx hb dX16_init_88 (lv_at hl 0 rfl) ?_
          refine g_geti CF hK hM17 (cT ((j : Int) / ρ 60 0) ((j : Int) % ρ 60 0)) (hLτ.2.1.1 _ _ (lKd_c hLτ.1.n.2 hCe)) 1 1 rfl rfl (by decide) (gLk.n hK q249) (fun _ h => h) rfl dX16_init_90 ?_
          refine x_top (b := (j : Int) % ρ 60 0) (hLτ.2.2.1.2.2.2.2 _ _ hCe).2.1 ?_
          refine x_iadd hx hb dX16_init_93 ?_
          refine lv_aload hx hb dX16_init_94 (lv_at hl 0 rfl) ?_
          refine g_geti CF hK hM17 (cT ((j : Int) / ρ 60 0) ((j : Int) % ρ 60 0)) (hLτ.2.1.1 _ _ (lKd_c hLτ.1.n.2 hCe)) 2 2 rfl rfl (by decide) (gLk.n hK q253) (fun _ h => h) rfl dX16_init_96 ?_
          refine x_top (b := ρ 3 (6 * ((j : Int) / ρ 60 0) + (j : Int) % ρ 60 0)) (hLτ.2.2.1.2.2.2.2 _ _ hCe).2.2.1 ?_
          refine g_iast CF hK hM17 93 (by decide) rfl (i := (((j : Int) / ρ 60 0) * (ρ 60 0)) + ((j : Int) % ρ 60 0)) (v := ρ 3 (6 * ((j : Int) / ρ 60 0) + (j : Int) % ρ 60 0)) (by omega) (by omega) (by omega) (by omega) dX16_init_99 (fun H locs hM18 => ?_)
          refine x_iinc (lv' := [(5, .int (jI (((j : Int)) + 1))), (6, .ref ((upT (upT (upT G.2.2 91 a91) 92 a92) 93 a93) (cT ((j : Int) / ρ 60 0) ((j : Int) % ρ 60 0)))), (0, .ref (G.2.2 90)), (1, .ref (G.2.2 60)), (3, .ref (G.2.2 3)), (4, .int (jI (((12 * (ρ 60 0).toNat : Nat) : Int))))]) hx hb dX16_init_100 hl (k := 5) rfl (by decide) rfl (fun ls hl => ?_)
          refine lv_goto (tgt := 56) hx hb dX16_init_103 (by decide) ?_
          exact ih56  ((j + 1)) (up2 τ 93 ((((j : Int) / ρ 60 0) * (ρ 60 0)) + ((j : Int) % ρ 60 0)) (ρ 3 (6 * ((j : Int) / ρ 60 0) + (j : Int) % ρ 60 0))) _ _ _ (by first | omega | assumption | rfl) (hLτ.i9 (by decide)) (fun t h => (by rw [up2_n _ _ _ h]; exact hτ t h)) (fun l2 i2 hc h => Or.elim (Int.lt_or_le (l2 * ρ 60 0 + i2) (j : Int)) (fun z => (by rw [up2_s, up1_n _ _ (by omega)]; exact hset l2 i2 hc z)) (fun z => (by have e := jn_eq hn.1 hc.2.2.1 (by have := hc.2.2.2.1; omega) (show l2 * ρ 60 0 + i2 = (j : Int) by omega); rw [← e.1, ← e.2, up2_ss]))) (by omega) hM18 (lv_sub hl [2, 3, 4, 5, 0] rfl)
        · refine lv_astoreN (lv' := [(6, .null), (0, .ref (G.2.2 90)), (1, .ref (G.2.2 60)), (3, .ref (G.2.2 3)), (4, .int (jI (((12 * (ρ 60 0).toNat : Nat) : Int)))), (5, .int (jI ((j : Int))))]) hx hb dX16_init_67 hl (by decide) rfl (fun ls hl => ?_)
          refine lv_aloadN hx hb dX16_init_69 (lv_at hl 0 rfl) ?_
          refine lv_ifnullN (tgt := 100) hx hb dX16_init_71 (by decide) ?_
          refine x_iinc (lv' := [(5, .int (jI (((j : Int)) + 1))), (6, .null), (0, .ref (G.2.2 90)), (1, .ref (G.2.2 60)), (3, .ref (G.2.2 3)), (4, .int (jI (((12 * (ρ 60 0).toNat : Nat) : Int))))]) hx hb dX16_init_100 hl (k := 5) rfl (by decide) rfl (fun ls hl => ?_)
          refine lv_goto (tgt := 56) hx hb dX16_init_103 (by decide) ?_
          exact ih56  ((j + 1)) τ _ _ _ (by first | omega | assumption | rfl) hLτ hτ (fun l2 i2 hc h => Or.elim (Int.lt_or_le (l2 * ρ 60 0 + i2) (j : Int)) (fun z => hset l2 i2 hc z) (fun z => (by have e := jn_eq hn.1 hc.2.2.1 (by have := hc.2.2.2.1; omega) (show l2 * ρ 60 0 + i2 = (j : Int) by omega); exact absurd (e.1 ▸ e.2 ▸ hc) hCe))) (by omega) hM17 (lv_sub hl [2, 3, 4, 5, 0] rfl)
  exact c56 _ 0 (up2 (upT (upT (upT σ 91 ((fun _ => 0))) 92 ((fun _ => 0))) 93 ((fun _ => 0))) 90 0 k) _ _ _ (by first | omega | assumption | rfl) hL16 (fun t _ => rfl) (fun l2 i2 hc h => absurd h (by have := Int.mul_nonneg hc.1 (show (0 : Int) ≤ ρ 60 0 by omega); have := hc.2.2.1; omega)) (Nat.lt_succ_self _) hM15 (lv_sub hl [3, 4, 2, 1, 0] rfl)
