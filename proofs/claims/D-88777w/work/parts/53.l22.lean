/-! THE READER: what it throws -/
abbrev gCtT (l : Launch) (y : MethodName) (cc : ByteArray) (maxL : Nat) (ret : Option FieldType) (rm : Room) (E : y_E) (av : List Value) (G : y_G) (σ : y_S) (sz : Nat) (thr : Nat → y_G → y_S → Prop) (mc ms : Nat) : Prop := MetT l y (ws_ y cc maxL ret) rm (gP E av G σ sz) (gQT E G sz thr) mc ms (gA G sz)
/-- the reader leaves the rest as it was -/
def rdK (G : y_G) (σ : y_S) (G' : y_G) (τ' : y_S) : Prop := ∀ t : Nat, t < 10000 → t < 90 ∨ 100 ≤ t → G'.1 t = G.1 t ∧ G'.2.2 t = G.2.2 t ∧ (t ≠ 62 → G'.2.1 t = G.2.1 t) ∧ (t ≠ 26 → τ' t = σ t)
/-- a fault of this kind at this place is thrown -/
def thW (G : y_G) (σ : y_S) (kd pl : Int) (a : Nat) (G' : y_G) (τ' : y_S) : Prop := (G'.2.2 98 = a ∧ G'.1 98 = some (.inl 9) ∧ τ' 98 6 = kd ∧ τ' 98 7 = pl) ∧ rdK G σ G' τ'
theorem lgV.dr {ρ τ : y_S} {G : y_G} (h : lgV ρ G τ) : lgV ρ (drK G.1, G.2) τ := h.fr (fun t ht => ⟨by show drK G.1 t = _; unfold drK; unfold gdT at ht; rw [if_neg (by omega)], rfl, fun _ _ => rfl⟩) rfl rfl
set_option maxHeartbeats 400000 in
theorem t_rsign (l : Launch) (E : y_E) (Go : y_G) (σ : y_S) (sz : Nat) (ρ : y_S) (k : Int) (hL : lgV ρ Go σ) (hAt : 0 ≤ σ 26 1 ∧ σ 26 1 ≤ 1000) (hkr : R32 k) (hk : nxR ρ (σ 26 1) ≠ k) : gCtT l yX7_sign cX7_sign 2 none ({ frames := 4, cells := 1, slots := 8, locals := 94 }) E [.ref (Go.2.2 26), .int (jI k)] Go σ sz (thW Go σ 1 (σ 26 1)) 1 8 := by
  refine g_metT (by decide) (Nat.le_of_ble_eq_true rfl) ?_
  intro p e s m below meth c ls CF het hlocks hnm hK hM0 hA hl
  have hx := CF.1
  have hb := CF.2.1
  have hts := CF.2.2.2.2
  have hl : lv_has ls 2 [(0, .ref (Go.2.2 26)), (1, .int (jI k))] := hl
  obtain ⟨G, hGe⟩ : ∃ g : y_G, g = (drK Go.1, Go.2) := ⟨_, rfl⟩
  have hM0 := hM0.dr
  have hL := hL.dr
  rw [← hGe] at hM0 hL
  have hF : ∀ t : Nat, 90 ≤ t → t < 100 → G.1 t = none := fun t a b => (by rw [hGe]; exact drK_0 a b)
  have hl := lv_cast hl (b := [(0, .ref (G.2.2 26)), (1, .int (jI k))]) (by rw [hGe])
  have hO := hL.1
  have hn := hO.n
  have htp := hO.tp
  have hnr := nxR_r ρ (σ 26 1)
  refine lv_aload_n hx hb dX7_sign_0 rfl (lv_at hl 0 rfl) ?_
  refine g_calli (r := nxR ρ (σ 26 1)) hM0 hA (g_runV (As := []) (rest := []) CF hK hM0 (hL.2.1.1 26 _ rfl) rfl (l_rnext l E _ _ _ ρ  hL hAt) (cwV 0 hts (lw_V q627 q629 qs15 q67 q630) rfl rfl rfl (by decide +kernel) ⟨Nat.le_of_ble_eq_true rfl, Nat.le_of_ble_eq_true rfl⟩) rfl hl.1 rfl (Nat.le_of_ble_eq_true rfl) dX7_sign_1 ⟨Nat.le_of_ble_eq_true rfl, Nat.le_of_ble_eq_true rfl⟩) (fun H locs hM1 => ?_)
  refine lv_iload_n hx hb dX7_sign_4 rfl (lv_at hl 1 rfl) ?_
  have fa2 := nxR_r ρ (σ 26 1)
  refine x_icmp_eq (tgt := 21) hx hb dX7_sign_5 (by decide) (by have f0 := nxR_r ρ (σ 26 1); omega) (by omega) (fun b5 => ?_) (fun b5 => ?_)
  · exact absurd b5 hk
  · refine g_new CF hK hM1 hA 98 (hF 98 (by decide) (by decide)) (ci := 9) rfl rfl q631 q632 q80 (Nat.le_of_ble_eq_true rfl) (Nat.le_of_ble_eq_true rfl) dX7_sign_8 (fun H a98 hM3 => ?_)
    refine lv_dup hx hb dX7_sign_11 rfl ?_
    refine lv_iconst (v := jI 1) hx hb dX7_sign_12 rfl ?_
    refine lv_aload_n hx hb dX7_sign_13 rfl (lv_at hl 0 rfl) ?_
    refine g_geti CF hK hM3 26 (hL.2.1.1 26 _ rfl) 1 1 rfl rfl (by decide) (Or.inl (hts _ q197)) (fun _ h => h) rfl dX7_sign_14 ?_
    refine x_top (b := σ 26 1) rfl ?_
    refine g_callv hM3 hA (g_runI (As := [.int (jI 1), .int (jI (σ 26 1))]) (rest := [.ref a98]) CF hK hM3 (l_wrong l E _ _ _ 98 1 (σ 26 1) rfl (by decide) (by have f0 := (show R32 (σ 26 1) from hM3.r 26 1); first | omega | assumption | (refine ⟨?_, ?_⟩ <;> omega)) (by have f0 := (show R32 (σ 26 1) from hM3.r 26 1); first | omega | assumption | (refine ⟨?_, ?_⟩ <;> omega))) (cwI 2 hts (lw_meth q670) rfl rfl rfl (hts _ q80) (hts _ q668) (hts _ q669) rfl (by decide +kernel) ⟨Nat.le_of_ble_eq_true rfl, Nat.le_of_ble_eq_true rfl⟩) rfl hl.1 rfl (Nat.le_of_ble_eq_true rfl) dX7_sign_17 ⟨Nat.le_of_ble_eq_true rfl, Nat.le_of_ble_eq_true rfl⟩) (fun H locs hM4 => ?_)
    exact W.widen (by decide) (by decide) (g_athr CF het hlocks hM4 ⟨⟨rfl, rfl, rfl, rfl⟩, fun t h1 h2 => (by have e : t ≠ 98 := (by omega); have e2 : drK Go.1 t = Go.1 t := (by unfold drK; rw [if_neg (by omega)]); rw [hGe]; exact ⟨(upT_n _ _ e).trans e2, upT_n _ _ e, fun _ => (thR_n e).trans (upT_n _ _ e), fun _ => (by rw [up2_n _ _ _ e, up2_n _ _ _ e, upT_n _ _ e])⟩)⟩ dX7_sign_20)
