/-! A NEW PLATE -/
theorem g_asS {E : y_E} {s : State} (hK : gK E s) {ci : Nat} {q : vw_C} (hc : gCl[ci]? = some q) : ∀ comp c0 : ClassId, s.vm.findClass q.1 = some comp → s.vm.findClass q.1 = some c0 → s.vm.assignable c0 comp = true := fun comp c0 h1 h2 => by
  have hq := (hK.1 ci q hc).2
  cases h1.symm.trans h2
  cases hq.1.symm.trans h1
  exact va_assign hq
set_option maxHeartbeats 400000 in
theorem l_rdinit (l : Launch) (E : y_E) (G : y_G) (σ : y_S) (sz : Nat) (pa : Nat) (hU : G.1 26 = some (.inl 5)) (hn62 : G.1 62 = none) : gCt l yX7_init cX7_init 2 none ({ frames := 1, cells := 1, slots := 6, locals := 24 }) E [.ref (G.2.2 26), .ref pa] G σ sz (gPV (fun G' τ' => ∃ a : Nat, G' = (upT G.1 62 (some (.inr (5, 6))), up2 (upT (up2 G.2.1 26 3 (some pa)) 62 (fun _ => none)) 26 0 (some a), upT G.2.2 62 a) ∧ τ' = upT σ 62 (fun _ => 0))) 1 6 := by
  refine g_met (by decide) (Nat.le_of_ble_eq_true rfl) ?_
  intro p e s m below meth c ls CF hr hlocks hnm hK hM0 hA hl
  have hx := CF.1
  have hb := CF.2.1
  have hts := CF.2.2.2.2
  have hl : lv_has ls 2 [(0, .ref (G.2.2 26)), (1, .ref pa)] := hl
  refine lv_aload_n hx hb dX7_init_0 rfl (lv_at hl 0 rfl) ?_
  refine lv_aload_n hx hb dX7_init_1 rfl (lv_at hl 1 rfl) ?_
  refine g_putq CF hK hM0 26 (by decide) hU 3 3 rfl rfl (by decide) (Or.inl (hts _ q199)) (fun _ h => h) (Or.inr ⟨rfl, hnm, rfl, (hts _ q199)⟩) rfl (r := some pa) rfl rfl dX7_init_2 (fun H locs hM1 => ?_)
  refine lv_aload_n hx hb dX7_init_5 rfl (lv_at hl 0 rfl) ?_
  refine W.objInit hx hb CF.2.2.2.1 (hts _ q193) (hts _ q108) (hts _ q109) rfl (hl.1.trans CF.2.2.1.symm) rfl dX7_init_6 (Nat.le_of_ble_eq_true rfl) (Nat.le_of_ble_eq_true rfl) ?_
  refine lv_aload_n hx hb dX7_init_9 rfl (lv_at hl 0 rfl) ?_
  refine lv_bipush (v := jI 6) hx hb dX7_init_10 (by decide) ?_
  refine g_newr CF hK hM1 hA 62 hn62 5 (by decide) rfl hK.2.2.2.1.2.2 q194 (n := 6) rfl (by omega) (Nat.le_of_ble_eq_true rfl) (Nat.le_of_ble_eq_true rfl) dX7_init_12 (fun H a62 hM2 => ?_)
  refine g_putq CF hK hM2 26 (by decide) hU 0 0 rfl rfl (by decide) (Or.inl (hts _ q196)) (fun _ h => h) (Or.inr ⟨rfl, hnm, rfl, (hts _ q196)⟩) rfl (r := some a62) rfl rfl dX7_init_15 (fun H locs hM3 => ?_)
  exact g_vret CF hr hlocks hM3 ⟨rfl, _, rfl, rfl⟩ (by decide) (by decide) dX7_init_18
set_option maxHeartbeats 60000000 in
theorem l_init (l : Launch) (E : y_E) (ad : Nat → Nat) (sz : Nat) (x : Int) (hxr : R32 x) (hZ : gZr E 0 = some (ad 0)) : gCt l yX1_init cX1_init 4 none ({ frames := 5, cells := 100, slots := 16000, locals := 108 }) E [.ref (ad 60), .int (jI x)] (iK, iQ, ad) z0 sz (gPV (fun G' τ' => lgR E (oInit x) G' τ' ∧ G'.2.2 60 = ad 60 ∧ G'.2.2 0 = ad 0)) 100 16000 := by
  refine g_met (by decide) (Nat.le_of_ble_eq_true rfl) ?_
  intro p e s m below meth c ls CF hr hlocks hnm hK hM0 hA hl
  have hx := CF.1
  have hb := CF.2.1
  have hts := CF.2.2.2.2
  have hl : lv_has ls 4 [(0, .ref (ad 60)), (1, .int (jI x))] := hl
  refine lv_aload_n hx hb dX1_init_0 rfl (lv_at hl 0 rfl) ?_
  refine W.objInit hx hb CF.2.2.2.1 (hts _ q107) (hts _ q108) (hts _ q109) rfl (hl.1.trans CF.2.2.1.symm) rfl dX1_init_1 (Nat.le_of_ble_eq_true rfl) (Nat.le_of_ble_eq_true rfl) ?_
  refine lv_aload_n hx hb dX1_init_4 rfl (lv_at hl 0 rfl) ?_
  refine lv_bipush (v := jI 96) hx hb dX1_init_5 (by decide) ?_
  refine g_newb CF hK hM0 hA 61 rfl 0 (by decide) rfl q135 (n := 96) rfl (by omega) (show 0 + 1 ≤ 100 by omega) (show 0 + 96 ≤ 16000 by omega) dX1_init_7 (fun H a61 hM1 => ?_)
  refine g_putq CF hK hM1 60 (by decide) rfl 0 0 rfl rfl (by decide) (Or.inl (hts _ q280)) (fun _ h => h) (Or.inr ⟨rfl, hnm, rfl, (hts _ q280)⟩) rfl (r := some a61) rfl rfl dX1_init_9 (fun H locs hM2 => ?_)
  refine lv_aload_n hx hb dX1_init_12 rfl (lv_at hl 0 rfl) ?_
  refine lv_bipush (v := jI 96) hx hb dX1_init_13 (by decide) ?_
  refine g_newb CF hK hM2 hA 1 rfl 0 (by decide) rfl q135 (n := 96) rfl (by omega) (show 1 + 1 ≤ 100 by omega) (show 96 + 96 ≤ 16000 by omega) dX1_init_15 (fun H a1 hM3 => ?_)
  refine g_putq CF hK hM3 60 (by decide) rfl 1 1 rfl rfl (by decide) (Or.inl (hts _ q281)) (fun _ h => h) (Or.inr ⟨rfl, hnm, rfl, (hts _ q281)⟩) rfl (r := some a1) rfl rfl dX1_init_17 (fun H locs hM4 => ?_)
  refine lv_aload_n hx hb dX1_init_20 rfl (lv_at hl 0 rfl) ?_
  refine g_getr CF hK hM4 60 rfl 0 0 rfl rfl (by decide) (Or.inl (hts _ q280)) (fun _ h => h) rfl ((upT (upT ad 61 a61) 1 a1) 61) rfl dX1_init_21 ?_
  refine lv_iconst (v := jI 0) hx hb dX1_init_24 rfl ?_
  refine lv_iconst (v := jI 1) hx hb dX1_init_25 rfl ?_
  refine g_iast CF hK hM4 61 (by decide) rfl (i := 0) (v := 1) (by omega) (by omega) (by omega) (by omega) dX1_init_26 (fun H locs hM5 => ?_)
  have hM6 := gM_eq (σ' := lIn 1) lIn_1 hM5
  refine lv_iconst (v := jI 1) hx hb dX1_init_27 rfl ?_
  refine lv_istore_n (lv' := [(2, .int (jI 1)), (0, .ref (ad 60)), (1, .int (jI x))]) hx hb dX1_init_28 rfl hl (by decide) rfl (fun ls hl => ?_)
  have c29 : ∀ (n29 : Nat) (k : Int) (H : Heap) (locs : List Loc) (ls : Array Slot), (1 ≤ k) → (k ≤ 96) → ((96 - k).toNat < n29) → gM E (gA (iK, iQ, ad) sz) (upT (upT iK 61 (some (.inr (0, 96)))) 1 (some (.inr (0, 96))), up2 (upT (up2 (upT iQ 61 (fun _ => none)) 60 0 (some a61)) 1 (fun _ => none)) 60 1 (some a1), upT (upT ad 61 a61) 1 a1) (lIn k) s.heap H locs → lv_has ls 4 [(0, .ref (ad 60)), (1, .int (jI x)), (2, .int (jI k))] → W p l e ({ frames := 5, cells := 100, slots := 16000, locals := 108 } : Room) s m ([.ref (ad 60), .int (jI x)] : List Value).toArray below meth c H locs 2 192 (MQ below (gQ E (iK, iQ, ad) sz (gPV (fun G' τ' => lgR E (oInit x) G' τ' ∧ G'.2.2 60 = ad 60 ∧ G'.2.2 0 = ad 0))) ([.ref (ad 60), .int (jI x)] : List Value).toArray s 100 16000 (gA (iK, iQ, ad) sz)) (F0 m 29 ls []) := by
    intro n29
    induction n29 with
    | zero => intro k H locs ls hk0 hk1 hmu; exact absurd hmu (Nat.not_lt_zero _)
    | succ n29 ih29 =>
      intro k H locs ls hk0 hk1 hmu29 hM7 hl
      refine lv_iload_n hx hb dX1_init_29 rfl (lv_at hl 2 rfl) ?_
      refine lv_bipush (v := jI 96) hx hb dX1_init_30 (by decide) ?_
      refine x_icmp_ge (tgt := 113) hx hb dX1_init_32 (by decide) (by omega) (by omega) (fun b32 => ?_) (fun b32 => ?_)
      · have hM8 := gM_eq (σ' := lIn 96) (by rw [show k = 96 by omega]) hM7
        have hl := lv_sub hl [0, 1] rfl
        refine lv_aload_n hx hb dX1_init_113 rfl (lv_at hl 0 rfl) ?_
        refine lv_bipush (v := jI 99) hx hb dX1_init_114 (by decide) ?_
        refine g_puti CF hK hM8 60 (by decide) rfl 4 4 rfl rfl (by decide) (Or.inl (hts _ q290)) (fun _ h => h) (Or.inl rfl) rfl (v := 99) rfl rfl (by omega) dX1_init_116 (fun H locs hM9 => ?_)
        refine lv_aload_n hx hb dX1_init_119 rfl (lv_at hl 0 rfl) ?_
        refine g_new CF hK hM9 hA 5 rfl (ci := 1) rfl rfl q119 q120 q63 (show 2 + 1 ≤ 100 by omega) (show 192 + 2 ≤ 16000 by omega) dX1_init_120 (fun H a5 hM10 => ?_)
        refine lv_dup hx hb dX1_init_123 rfl ?_
        refine lv_aload_n hx hb dX1_init_124 rfl (lv_at hl 0 rfl) ?_
        refine g_callv hM10 hA (g_runIN (As := [.ref (ad 60)]) (rest := [.ref a5, .ref (ad 60)]) CF hK hM10 (l_x3i1 l E _ _ _ 5 (ad 60)  rfl (by decide)) ⟨va_cnB 1 hts (lw_meth q123) rfl rfl rfl (hK.2.2.1 _ q121 rfl) (hts _ q63) (by decide +kernel) ⟨Nat.le_of_ble_eq_true rfl, Nat.le_of_ble_eq_true rfl⟩, rfl, hts _ q122⟩ rfl hl.1 rfl (Nat.le_of_ble_eq_true rfl) dX1_init_125 ⟨(show 3 + 0 ≤ 100 by omega), (show 194 + 0 ≤ 16000 by omega)⟩) (fun H locs hM11 => ?_)
        refine g_putq CF hK hM11 60 (by decide) rfl 5 5 rfl rfl (by decide) (Or.inl (hts _ q291)) (fun _ h => h) (Or.inr ⟨rfl, hnm, rfl, (hts _ q291)⟩) rfl (r := some a5) rfl rfl dX1_init_128 (fun H locs hM12 => ?_)
        refine lv_aload_n hx hb dX1_init_131 rfl (lv_at hl 0 rfl) ?_
        refine g_new CF hK hM12 hA 6 rfl (ci := 2) rfl rfl q136 q137 q64 (show 3 + 1 ≤ 100 by omega) (show 194 + 3 ≤ 16000 by omega) dX1_init_132 (fun H a6 hM13 => ?_)
        refine lv_dup hx hb dX1_init_135 rfl ?_
        refine lv_aload_n hx hb dX1_init_136 rfl (lv_at hl 0 rfl) ?_
        refine g_callv hM13 hA (g_runIN (As := [.ref (ad 60)]) (rest := [.ref a6, .ref (ad 60)]) CF hK hM13 (l_x4i2 l E _ _ _ 6 (ad 60)  rfl (by decide)) ⟨va_cnB 1 hts (lw_meth q140) rfl rfl rfl (hK.2.2.1 _ q138 rfl) (hts _ q64) (by decide +kernel) ⟨Nat.le_of_ble_eq_true rfl, Nat.le_of_ble_eq_true rfl⟩, rfl, hts _ q139⟩ rfl hl.1 rfl (Nat.le_of_ble_eq_true rfl) dX1_init_137 ⟨(show 4 + 0 ≤ 100 by omega), (show 197 + 0 ≤ 16000 by omega)⟩) (fun H locs hM14 => ?_)
        refine g_putq CF hK hM14 60 (by decide) rfl 6 6 rfl rfl (by decide) (Or.inl (hts _ q292)) (fun _ h => h) (Or.inr ⟨rfl, hnm, rfl, (hts _ q292)⟩) rfl (r := some a6) rfl rfl dX1_init_140 (fun H locs hM15 => ?_)
        refine lv_aload_n hx hb dX1_init_143 rfl (lv_at hl 0 rfl) ?_
        refine g_new CF hK hM15 hA 7 rfl (ci := 3) rfl rfl q148 q149 q65 (show 4 + 1 ≤ 100 by omega) (show 197 + 6 ≤ 16000 by omega) dX1_init_144 (fun H a7 hM16 => ?_)
        refine lv_dup hx hb dX1_init_147 rfl ?_
        refine lv_aload_n hx hb dX1_init_148 rfl (lv_at hl 0 rfl) ?_
        refine g_callv hM16 hA (g_runIN (As := [.ref (ad 60)]) (rest := [.ref a7, .ref (ad 60)]) CF hK hM16 (l_x5i3 l E _ _ _ 7 (ad 60)  rfl (by decide)) ⟨va_cnB 1 hts (lw_meth q152) rfl rfl rfl (hK.2.2.1 _ q150 rfl) (hts _ q65) (by decide +kernel) ⟨Nat.le_of_ble_eq_true rfl, Nat.le_of_ble_eq_true rfl⟩, rfl, hts _ q151⟩ rfl hl.1 rfl (Nat.le_of_ble_eq_true rfl) dX1_init_149 ⟨(show 5 + 0 ≤ 100 by omega), (show 203 + 0 ≤ 16000 by omega)⟩) (fun H locs hM17 => ?_)
        refine g_putq CF hK hM17 60 (by decide) rfl 7 7 rfl rfl (by decide) (Or.inl (hts _ q293)) (fun _ h => h) (Or.inr ⟨rfl, hnm, rfl, (hts _ q293)⟩) rfl (r := some a7) rfl rfl dX1_init_152 (fun H locs hM18 => ?_)
        refine lv_aload_n hx hb dX1_init_155 rfl (lv_at hl 0 rfl) ?_
        refine g_new CF hK hM18 hA 8 rfl (ci := 4) rfl rfl q169 q170 q66 (show 5 + 1 ≤ 100 by omega) (show 203 + 3 ≤ 16000 by omega) dX1_init_156 (fun H a8 hM19 => ?_)
        refine lv_dup hx hb dX1_init_159 rfl ?_
        refine lv_aload_n hx hb dX1_init_160 rfl (lv_at hl 0 rfl) ?_
        refine g_callv hM19 hA (g_runIN (As := [.ref (ad 60)]) (rest := [.ref a8, .ref (ad 60)]) CF hK hM19 (l_x6i4 l E _ _ _ 8 (ad 60)  rfl (by decide)) ⟨va_cnB 1 hts (lw_meth q173) rfl rfl rfl (hK.2.2.1 _ q171 rfl) (hts _ q66) (by decide +kernel) ⟨Nat.le_of_ble_eq_true rfl, Nat.le_of_ble_eq_true rfl⟩, rfl, hts _ q172⟩ rfl hl.1 rfl (Nat.le_of_ble_eq_true rfl) dX1_init_161 ⟨(show 6 + 0 ≤ 100 by omega), (show 206 + 0 ≤ 16000 by omega)⟩) (fun H locs hM20 => ?_)
        refine g_putq CF hK hM20 60 (by decide) rfl 8 8 rfl rfl (by decide) (Or.inl (hts _ q294)) (fun _ h => h) (Or.inr ⟨rfl, hnm, rfl, (hts _ q294)⟩) rfl (r := some a8) rfl rfl dX1_init_164 (fun H locs hM21 => ?_)
        refine lv_aload_n hx hb dX1_init_167 rfl (lv_at hl 0 rfl) ?_
        refine lv_bipush (v := jI 6) hx hb dX1_init_168 (by decide) ?_
        refine g_newb CF hK hM21 hA 9 rfl 0 (by decide) rfl q135 (n := 6) rfl (by omega) (show 6 + 1 ≤ 100 by omega) (show 206 + 6 ≤ 16000 by omega) dX1_init_170 (fun H a9 hM22 => ?_)
        refine g_putq CF hK hM22 60 (by decide) rfl 9 9 rfl rfl (by decide) (Or.inl (hts _ q295)) (fun _ h => h) (Or.inr ⟨rfl, hnm, rfl, (hts _ q295)⟩) rfl (r := some a9) rfl rfl dX1_init_172 (fun H locs hM23 => ?_)
        refine lv_aload_n hx hb dX1_init_175 rfl (lv_at hl 0 rfl) ?_
        refine lv_bipush (v := jI 6) hx hb dX1_init_176 (by decide) ?_
        refine lv_bipush (v := jI 6) hx hb dX1_init_178 (by decide) ?_
        refine g_ml CF hK hM23 hA 10 200 6 6 0 6 (by decide) rfl (fun t h1 h2 => (by rcases (show t = 200 ∨ t = 201 ∨ t = 202 ∨ t = 203 ∨ t = 204 ∨ t = 205 by omega) with rfl | rfl | rfl | rfl | rfl | rfl <;> rfl)) (by decide) rfl q184 (by decide) (by decide) (show 7 + (1 + 6) ≤ 100 by omega) (show 212 + (6 + 6 * 6) ≤ 16000 by omega) dX1_init_180 (fun H locs m10 hM24 => ?_)
        refine g_putq CF hK hM24 60 (by decide) rfl 10 10 rfl rfl (by decide) (Or.inl (hts _ q296)) (fun _ h => h) (Or.inr ⟨rfl, hnm, rfl, (hts _ q296)⟩) rfl (r := some m10) rfl rfl dX1_init_184 (fun H locs hM25 => ?_)
        refine lv_aload_n hx hb dX1_init_187 rfl (lv_at hl 0 rfl) ?_
        refine lv_bipush (v := jI 6) hx hb dX1_init_188 (by decide) ?_
        refine lv_bipush (v := jI 6) hx hb dX1_init_190 (by decide) ?_
        refine g_ml CF hK hM25 hA 11 210 6 6 0 6 (by decide) rfl (fun t h1 h2 => (by rcases (show t = 210 ∨ t = 211 ∨ t = 212 ∨ t = 213 ∨ t = 214 ∨ t = 215 by omega) with rfl | rfl | rfl | rfl | rfl | rfl <;> rfl)) (by decide) rfl q184 (by decide) (by decide) (show 14 + (1 + 6) ≤ 100 by omega) (show 254 + (6 + 6 * 6) ≤ 16000 by omega) dX1_init_192 (fun H locs m11 hM26 => ?_)
        refine g_putq CF hK hM26 60 (by decide) rfl 11 11 rfl rfl (by decide) (Or.inl (hts _ q297)) (fun _ h => h) (Or.inr ⟨rfl, hnm, rfl, (hts _ q297)⟩) rfl (r := some m11) rfl rfl dX1_init_196 (fun H locs hM27 => ?_)
        refine lv_aload_n hx hb dX1_init_199 rfl (lv_at hl 0 rfl) ?_
        refine lv_bipush (v := jI 15) hx hb dX1_init_200 (by decide) ?_
        refine g_newb CF hK hM27 hA 12 rfl 0 (by decide) rfl q135 (n := 15) rfl (by omega) (show 21 + 1 ≤ 100 by omega) (show 296 + 15 ≤ 16000 by omega) dX1_init_202 (fun H a12 hM28 => ?_)
        refine g_putq CF hK hM28 60 (by decide) rfl 12 12 rfl rfl (by decide) (Or.inl (hts _ q298)) (fun _ h => h) (Or.inr ⟨rfl, hnm, rfl, (hts _ q298)⟩) rfl (r := some a12) rfl rfl dX1_init_204 (fun H locs hM29 => ?_)
        refine lv_aload_n hx hb dX1_init_207 rfl (lv_at hl 0 rfl) ?_
        refine lv_bipush (v := jI 15) hx hb dX1_init_208 (by decide) ?_
        refine g_newb CF hK hM29 hA 13 rfl 0 (by decide) rfl q135 (n := 15) rfl (by omega) (show 22 + 1 ≤ 100 by omega) (show 311 + 15 ≤ 16000 by omega) dX1_init_210 (fun H a13 hM30 => ?_)
        refine g_putq CF hK hM30 60 (by decide) rfl 13 13 rfl rfl (by decide) (Or.inl (hts _ q299)) (fun _ h => h) (Or.inr ⟨rfl, hnm, rfl, (hts _ q299)⟩) rfl (r := some a13) rfl rfl dX1_init_212 (fun H locs hM31 => ?_)
        refine lv_aload_n hx hb dX1_init_215 rfl (lv_at hl 0 rfl) ?_
        refine lv_bipush (v := jI 6) hx hb dX1_init_216 (by decide) ?_
        refine g_newb CF hK hM31 hA 14 rfl 0 (by decide) rfl q135 (n := 6) rfl (by omega) (show 23 + 1 ≤ 100 by omega) (show 326 + 6 ≤ 16000 by omega) dX1_init_218 (fun H a14 hM32 => ?_)
        refine g_putq CF hK hM32 60 (by decide) rfl 14 14 rfl rfl (by decide) (Or.inl (hts _ q300)) (fun _ h => h) (Or.inr ⟨rfl, hnm, rfl, (hts _ q300)⟩) rfl (r := some a14) rfl rfl dX1_init_220 (fun H locs hM33 => ?_)
        refine lv_aload_n hx hb dX1_init_223 rfl (lv_at hl 0 rfl) ?_
        refine lv_bipush (v := jI 10) hx hb dX1_init_224 (by decide) ?_
        refine g_newb CF hK hM33 hA 18 rfl 0 (by decide) rfl q135 (n := 10) rfl (by omega) (show 24 + 1 ≤ 100 by omega) (show 332 + 10 ≤ 16000 by omega) dX1_init_226 (fun H a18 hM34 => ?_)
        refine g_putq CF hK hM34 60 (by decide) rfl 18 18 rfl rfl (by decide) (Or.inl (hts _ q304)) (fun _ h => h) (Or.inr ⟨rfl, hnm, rfl, (hts _ q304)⟩) rfl (r := some a18) rfl rfl dX1_init_228 (fun H locs hM35 => ?_)
        refine lv_aload_n hx hb dX1_init_231 rfl (lv_at hl 0 rfl) ?_
        refine lv_bipush (v := jI 10) hx hb dX1_init_232 (by decide) ?_
        refine g_newb CF hK hM35 hA 19 rfl 0 (by decide) rfl q135 (n := 10) rfl (by omega) (show 25 + 1 ≤ 100 by omega) (show 342 + 10 ≤ 16000 by omega) dX1_init_234 (fun H a19 hM36 => ?_)
        refine g_putq CF hK hM36 60 (by decide) rfl 19 19 rfl rfl (by decide) (Or.inl (hts _ q305)) (fun _ h => h) (Or.inr ⟨rfl, hnm, rfl, (hts _ q305)⟩) rfl (r := some a19) rfl rfl dX1_init_236 (fun H locs hM37 => ?_)
        refine lv_aload_n hx hb dX1_init_239 rfl (lv_at hl 0 rfl) ?_
        refine lv_bipush (v := jI 13) hx hb dX1_init_240 (by decide) ?_
        refine lv_sipush (v := jI 1024) hx hb dX1_init_242 (by decide) ?_
        refine g_ml CF hK hM37 hA 21 240 13 7 1 1024 (by decide) rfl (fun t h1 h2 => (by rcases (show t = 240 ∨ t = 241 ∨ t = 242 ∨ t = 243 ∨ t = 244 ∨ t = 245 ∨ t = 246 ∨ t = 247 ∨ t = 248 ∨ t = 249 ∨ t = 250 ∨ t = 251 ∨ t = 252 by omega) with rfl | rfl | rfl | rfl | rfl | rfl | rfl | rfl | rfl | rfl | rfl | rfl | rfl <;> rfl)) (by decide) rfl q186 (by decide) (by decide) (show 26 + (1 + 13) ≤ 100 by omega) (show 352 + (13 + 13 * 1024) ≤ 16000 by omega) dX1_init_245 (fun H locs m21 hM38 => ?_)
        refine g_putq CF hK hM38 60 (by decide) rfl 21 21 rfl rfl (by decide) (Or.inl (hts _ q307)) (fun _ h => h) (Or.inr ⟨rfl, hnm, rfl, (hts _ q307)⟩) rfl (r := some m21) rfl rfl dX1_init_249 (fun H locs hM39 => ?_)
        refine lv_aload_n hx hb dX1_init_252 rfl (lv_at hl 0 rfl) ?_
        refine lv_bipush (v := jI 100) hx hb dX1_init_253 (by decide) ?_
        refine g_newb CF hK hM39 hA 24 rfl 2 (by decide) rfl q210 (n := 100) rfl (by omega) (show 40 + 1 ≤ 100 by omega) (show 13677 + 100 ≤ 16000 by omega) dX1_init_255 (fun H a24 hM40 => ?_)
        refine g_putq CF hK hM40 60 (by decide) rfl 24 24 rfl rfl (by decide) (Or.inl (hts _ q311)) (fun _ h => h) (Or.inr ⟨rfl, hnm, rfl, (hts _ q311)⟩) rfl (r := some a24) rfl rfl dX1_init_257 (fun H locs hM41 => ?_)
        refine lv_aload_n hx hb dX1_init_260 rfl (lv_at hl 0 rfl) ?_
        refine g_new CF hK hM41 hA 26 rfl (ci := 5) rfl rfl q188 q189 q67 (show 41 + 1 ≤ 100 by omega) (show 13777 + 4 ≤ 16000 by omega) dX1_init_261 (fun H a26 hM42 => ?_)
        refine lv_dup hx hb dX1_init_264 rfl ?_
        refine lv_aload_n hx hb dX1_init_265 rfl (lv_at hl 0 rfl) ?_
        refine g_callPV hM42 hA (g_runIN (As := [.ref (ad 60)]) (rest := [.ref a26, .ref (ad 60)]) CF hK hM42 (l_rdinit l E _ _ _ (ad 60)  rfl rfl) ⟨va_cnB 1 hts (lw_meth q192) rfl rfl rfl (hK.2.2.1 _ q190 rfl) (hts _ q67) (by decide +kernel) ⟨Nat.le_of_ble_eq_true rfl, Nat.le_of_ble_eq_true rfl⟩, rfl, hts _ q191⟩ rfl hl.1 rfl (Nat.le_of_ble_eq_true rfl) dX1_init_266 ⟨(show 42 + 1 ≤ 100 by omega), (show 13781 + 6 ≤ 16000 by omega)⟩) (fun G9 τ9 H locs hp hM43 => ?_)
        obtain ⟨a62, rfl, rfl⟩ := hp
        refine g_putq CF hK hM43 60 (by decide) rfl 26 26 rfl rfl (by decide) (Or.inl (hts _ q314)) (fun _ h => h) (Or.inr ⟨rfl, hnm, rfl, (hts _ q314)⟩) rfl (r := some a26) rfl rfl dX1_init_269 (fun H locs hM44 => ?_)
        refine lv_aload_n hx hb dX1_init_272 rfl (lv_at hl 0 rfl) ?_
        refine g_new CF hK hM44 hA 27 rfl (ci := 16) rfl rfl q211 q212 q70 (show 43 + 1 ≤ 100 by omega) (show 13787 + 3 ≤ 16000 by omega) dX1_init_273 (fun H a27 hM45 => ?_)
        refine lv_dup hx hb dX1_init_276 rfl ?_
        refine g_callv hM45 hA (g_runI (As := []) (rest := [.ref a27, .ref (ad 60)]) CF hK hM45 (j_i3 l E _ _ _ 27 (some (ad 0))  rfl (by decide) hZ) (cwI 0 hts (lw_meth q215) rfl rfl rfl (hts _ q70) (hts _ q213) (hts _ q214) rfl (by decide +kernel) ⟨Nat.le_of_ble_eq_true rfl, Nat.le_of_ble_eq_true rfl⟩) rfl hl.1 rfl (Nat.le_of_ble_eq_true rfl) dX1_init_277 ⟨(show 44 + 0 ≤ 100 by omega), (show 13790 + 0 ≤ 16000 by omega)⟩) (fun H locs hM46 => ?_)
        refine g_putq CF hK hM46 60 (by decide) rfl 27 27 rfl rfl (by decide) (Or.inl (hts _ q316)) (fun _ h => h) (Or.inr ⟨rfl, hnm, rfl, (hts _ q316)⟩) rfl (r := some a27) rfl rfl dX1_init_280 (fun H locs hM47 => ?_)
        refine lv_aload_n hx hb dX1_init_283 rfl (lv_at hl 0 rfl) ?_
        refine g_new CF hK hM47 hA 28 rfl (ci := 16) rfl rfl q211 q212 q70 (show 44 + 1 ≤ 100 by omega) (show 13790 + 3 ≤ 16000 by omega) dX1_init_284 (fun H a28 hM48 => ?_)
        refine lv_dup hx hb dX1_init_287 rfl ?_
        refine g_callv hM48 hA (g_runI (As := []) (rest := [.ref a28, .ref (ad 60)]) CF hK hM48 (j_i3 l E _ _ _ 28 (some (ad 0))  rfl (by decide) hZ) (cwI 0 hts (lw_meth q215) rfl rfl rfl (hts _ q70) (hts _ q213) (hts _ q214) rfl (by decide +kernel) ⟨Nat.le_of_ble_eq_true rfl, Nat.le_of_ble_eq_true rfl⟩) rfl hl.1 rfl (Nat.le_of_ble_eq_true rfl) dX1_init_288 ⟨(show 45 + 0 ≤ 100 by omega), (show 13793 + 0 ≤ 16000 by omega)⟩) (fun H locs hM49 => ?_)
        refine g_putq CF hK hM49 60 (by decide) rfl 28 28 rfl rfl (by decide) (Or.inl (hts _ q317)) (fun _ h => h) (Or.inr ⟨rfl, hnm, rfl, (hts _ q317)⟩) rfl (r := some a28) rfl rfl dX1_init_291 (fun H locs hM50 => ?_)
        refine lv_aload_n hx hb dX1_init_294 rfl (lv_at hl 0 rfl) ?_
        refine g_new CF hK hM50 hA 30 rfl (ci := 16) rfl rfl q211 q212 q70 (show 45 + 1 ≤ 100 by omega) (show 13793 + 3 ≤ 16000 by omega) dX1_init_295 (fun H a30 hM51 => ?_)
        refine lv_dup hx hb dX1_init_298 rfl ?_
        refine g_callv hM51 hA (g_runI (As := []) (rest := [.ref a30, .ref (ad 60)]) CF hK hM51 (j_i3 l E _ _ _ 30 (some (ad 0))  rfl (by decide) hZ) (cwI 0 hts (lw_meth q215) rfl rfl rfl (hts _ q70) (hts _ q213) (hts _ q214) rfl (by decide +kernel) ⟨Nat.le_of_ble_eq_true rfl, Nat.le_of_ble_eq_true rfl⟩) rfl hl.1 rfl (Nat.le_of_ble_eq_true rfl) dX1_init_299 ⟨(show 46 + 0 ≤ 100 by omega), (show 13796 + 0 ≤ 16000 by omega)⟩) (fun H locs hM52 => ?_)
        refine g_putq CF hK hM52 60 (by decide) rfl 30 30 rfl rfl (by decide) (Or.inl (hts _ q319)) (fun _ h => h) (Or.inr ⟨rfl, hnm, rfl, (hts _ q319)⟩) rfl (r := some a30) rfl rfl dX1_init_302 (fun H locs hM53 => ?_)
        refine lv_aload_n hx hb dX1_init_305 rfl (lv_at hl 0 rfl) ?_
        refine lv_bipush (v := jI 6) hx hb dX1_init_306 (by decide) ?_
        refine lv_bipush (v := jI 97) hx hb dX1_init_308 (by decide) ?_
        refine g_ml CF hK hM53 hA 32 220 6 6 0 97 (by decide) rfl (fun t h1 h2 => (by rcases (show t = 220 ∨ t = 221 ∨ t = 222 ∨ t = 223 ∨ t = 224 ∨ t = 225 by omega) with rfl | rfl | rfl | rfl | rfl | rfl <;> rfl)) (by decide) rfl q184 (by decide) (by decide) (show 46 + (1 + 6) ≤ 100 by omega) (show 13796 + (6 + 6 * 97) ≤ 16000 by omega) dX1_init_310 (fun H locs m32 hM54 => ?_)
        refine g_putq CF hK hM54 60 (by decide) rfl 32 32 rfl rfl (by decide) (Or.inl (hts _ q321)) (fun _ h => h) (Or.inr ⟨rfl, hnm, rfl, (hts _ q321)⟩) rfl (r := some m32) rfl rfl dX1_init_314 (fun H locs hM55 => ?_)
        refine lv_aload_n hx hb dX1_init_317 rfl (lv_at hl 0 rfl) ?_
        refine lv_iload_n hx hb dX1_init_318 rfl (lv_at hl 1 rfl) ?_
        refine lv_iconst (v := jI 5) hx hb dX1_init_319 rfl ?_
        refine g_calli (r := x % 5) hM55 hA (g_runS (As := [.int (jI x), .int (jI 5)]) (rest := [.ref (ad 60)]) CF hK hM55 (j_fm l E _ _ _  x 5 (by first | omega | assumption | (refine ⟨?_, ?_⟩ <;> omega)) (by first | omega | assumption | (refine ⟨?_, ?_⟩ <;> omega)) (by first | omega | assumption | (refine ⟨?_, ?_⟩ <;> omega))) (va_cwS 2 hts (lw_S q99 q100 q61 q101) rfl rfl rfl (by decide +kernel) ⟨Nat.le_of_ble_eq_true rfl, Nat.le_of_ble_eq_true rfl⟩) rfl hl.1 rfl (Nat.le_of_ble_eq_true rfl) dX1_init_320 ⟨(show 53 + 0 ≤ 100 by omega), (show 14384 + 0 ≤ 16000 by omega)⟩) (fun H locs hM56 => ?_)
        refine lv_iconst (v := jI 2) hx hb dX1_init_323 rfl ?_
        refine x_iadd hx hb dX1_init_324 ?_
        refine g_puti CF hK hM56 60 (by decide) rfl 2 2 rfl rfl (by decide) (Or.inl (hts _ q284)) (fun _ h => h) (Or.inr ⟨rfl, hnm, rfl, (hts _ q284)⟩) rfl (v := (x % 5) + 2) rfl rfl (by omega) dX1_init_325 (fun H locs hM57 => ?_)
        refine lv_aload_n hx hb dX1_init_328 rfl (lv_at hl 0 rfl) ?_
        refine lv_bipush (v := jI 12) hx hb dX1_init_329 (by decide) ?_
        refine lv_aload_n hx hb dX1_init_331 rfl (lv_at hl 0 rfl) ?_
        refine g_geti CF hK hM57 60 rfl 2 2 rfl rfl (by decide) (Or.inl (hts _ q284)) (fun _ h => h) rfl dX1_init_332 ?_
        refine x_top (b := (x % 5) + 2) rfl ?_
        refine x_imul hx hb dX1_init_335 ?_
        refine x_top (b := ((12 * (x % 5 + 2).toNat : Nat) : Int)) (by omega) ?_
        refine g_newr CF hK hM57 hA 3 rfl 4 (by decide) rfl hK.2.2.2.1.2.1 q237 (n := 12 * (x % 5 + 2).toNat) rfl (by omega) (show 53 + 1 ≤ 100 by omega) (show 14384 + 12 * (x % 5 + 2).toNat ≤ 16000 by omega) dX1_init_336 (fun H a3 hM58 => ?_)
        refine g_putq CF hK hM58 60 (by decide) rfl 3 3 rfl rfl (by decide) (Or.inl (hts _ q288)) (fun _ h => h) (Or.inr ⟨rfl, hnm, rfl, (hts _ q288)⟩) rfl (r := some a3) rfl rfl dX1_init_339 (fun H locs hM59 => ?_)
        have hB0 : iB E (x % 5 + 2) (upT (mlK (upT (upT (upT (upT (upT (upT (mlK (upT (upT (upT (upT (upT (mlK (mlK (upT (upT (upT (upT (upT (upT (upT iK 61 (some (.inr (0, 96)))) 1 (some (.inr (0, 96)))) 5 (some (.inl 1))) 6 (some (.inl 2))) 7 (some (.inl 3))) 8 (some (.inl 4))) 9 (some (.inr (0, 6)))) 10 200 6 6 0 6) 11 210 6 6 0 6) 12 (some (.inr (0, 15)))) 13 (some (.inr (0, 15)))) 14 (some (.inr (0, 6)))) 18 (some (.inr (0, 10)))) 19 (some (.inr (0, 10)))) 21 240 13 7 1 1024) 24 (some (.inr (2, 100)))) 26 (some (.inl 5))) 62 (some (.inr (5, 6)))) 27 (some (.inl 16))) 28 (some (.inl 16))) 30 (some (.inl 16))) 32 220 6 6 0 97) 3 (some (.inr (4, 12 * (x % 5 + 2).toNat))), up2 (upT (up2 (mlQ (up2 (up2 (upT (up2 (up2 (upT (up2 (up2 (upT (up2 (up2 (upT (up2 (upT (up2 (upT (up2 (mlQ (up2 (upT (up2 (upT (up2 (upT (up2 (upT (up2 (upT (up2 (mlQ (up2 (mlQ (up2 (upT (up2 (up2 (up2 (upT (up2 (up2 (up2 (up2 (up2 (upT (up2 (up2 (up2 (up2 (upT (up2 (up2 (up2 (upT (up2 (upT (up2 (upT iQ 61 (fun _ => none)) 60 0 (some a61)) 1 (fun _ => none)) 60 1 (some a1)) 5 (fun _ => none)) 5 1 (some (ad 60))) 5 0 (some (ad 60))) 60 5 (some a5)) 6 (fun _ => none)) 6 2 (some (ad 60))) 6 1 (some (ad 60))) 6 0 (some (ad 60))) 60 6 (some a6)) 7 (fun _ => none)) 7 5 (some (ad 60))) 7 2 (some (ad 60))) 7 1 (some (ad 60))) 7 0 (some (ad 60))) 60 7 (some a7)) 8 (fun _ => none)) 8 2 (some (ad 60))) 8 0 (some (ad 60))) 60 8 (some a8)) 9 (fun _ => none)) 60 9 (some a9)) 10 200 6 m10) 60 10 (some m10)) 11 210 6 m11) 60 11 (some m11)) 12 (fun _ => none)) 60 12 (some a12)) 13 (fun _ => none)) 60 13 (some a13)) 14 (fun _ => none)) 60 14 (some a14)) 18 (fun _ => none)) 60 18 (some a18)) 19 (fun _ => none)) 60 19 (some a19)) 21 240 13 m21) 60 21 (some m21)) 24 (fun _ => none)) 60 24 (some a24)) 26 (fun _ => none)) 26 3 (some (ad 60))) 62 (fun _ => none)) 26 0 (some a62)) 60 26 (some a26)) 27 (fun _ => none)) 27 1 (some (ad 0))) 60 27 (some a27)) 28 (fun _ => none)) 28 1 (some (ad 0))) 60 28 (some a28)) 30 (fun _ => none)) 30 1 (some (ad 0))) 60 30 (some a30)) 32 220 6 m32) 60 32 (some m32)) 3 (fun _ => none)) 60 3 (some a3), upT (mlA (upT (upT (upT (upT (upT (upT (mlA (upT (upT (upT (upT (upT (mlA (mlA (upT (upT (upT (upT (upT (upT (upT ad 61 a61) 1 a1) 5 a5) 6 a6) 7 a7) 8 a8) 9 a9) 10 200 6 m10) 11 210 6 m11) 12 a12) 13 a13) 14 a14) 18 a18) 19 a19) 21 240 13 m21) 24 a24) 26 a26) 62 a62) 27 a27) 28 a28) 30 a30) 32 220 6 m32) 3 a3) (upT (up2 (mlV (up2 (upT (up2 (upT (up2 (upT (upT (upT (upT (mlV (upT (upT (upT (upT (upT (mlV (mlV (upT (upT (upT (upT (upT (up2 (lIn 96) 60 4 99) 5 ((fun _ => 0))) 6 ((fun _ => 0))) 7 ((fun _ => 0))) 8 ((fun _ => 0))) 9 ((fun _ => 0))) 10 200 6) 11 210 6) 12 ((fun _ => 0))) 13 ((fun _ => 0))) 14 ((fun _ => 0))) 18 ((fun _ => 0))) 19 ((fun _ => 0))) 21 240 13) 24 ((fun _ => 0))) 26 ((fun _ => 0))) 62 ((fun _ => 0))) 27 ((fun _ => 0))) 27 0 0) 28 ((fun _ => 0))) 28 0 0) 30 ((fun _ => 0))) 30 0 0) 32 220 6) 60 2 ((x % 5) + 2)) 3 ((fun _ => 0))) := by
          refine ⟨⟨fun t k hk hc => lKd_x hk hc (fun t k => _ = some k) rfl rfl rfl rfl rfl rfl rfl rfl rfl rfl rfl rfl rfl rfl rfl rfl rfl rfl rfl rfl rfl rfl rfl rfl rfl (fun j hj => (by rcases (show j = 0 ∨ j = 1 ∨ j = 2 ∨ j = 3 ∨ j = 4 ∨ j = 5 by omega) with rfl | rfl | rfl | rfl | rfl | rfl <;> rfl)) (fun j hj => (by rcases (show j = 0 ∨ j = 1 ∨ j = 2 ∨ j = 3 ∨ j = 4 ∨ j = 5 by omega) with rfl | rfl | rfl | rfl | rfl | rfl <;> rfl)) (fun j hj => (by rcases (show j = 0 ∨ j = 1 ∨ j = 2 ∨ j = 3 ∨ j = 4 ∨ j = 5 by omega) with rfl | rfl | rfl | rfl | rfl | rfl <;> rfl)) (fun j hj => (by rcases (show j = 0 ∨ j = 1 ∨ j = 2 ∨ j = 3 ∨ j = 4 ∨ j = 5 ∨ j = 6 ∨ j = 7 ∨ j = 8 ∨ j = 9 ∨ j = 10 ∨ j = 11 ∨ j = 12 by omega) with rfl | rfl | rfl | rfl | rfl | rfl | rfl | rfl | rfl | rfl | rfl | rfl | rfl <;> rfl)), fun k t hk => ?_⟩, ⟨⟨rfl, rfl⟩, ⟨rfl, rfl, rfl⟩, ⟨rfl, rfl, rfl, rfl⟩, ⟨rfl, rfl⟩, ⟨rfl, rfl⟩, fun c hc => ?_, fun l hl => ?_⟩, ⟨⟨rfl, rfl, rfl⟩, ?_, rfl⟩, ⟨rfl, rfl, fun k a b => ?_, fun k a b => ?_, ?_⟩, hZ⟩
          · unfold lFl at hk
            split at hk <;> first | (cases hk; rfl) | cases hk
          · rcases (show c = 0 ∨ c = 1 ∨ c = 2 ∨ c = 3 ∨ c = 4 ∨ c = 5 by omega) with rfl | rfl | rfl | rfl | rfl | rfl <;> exact ⟨rfl, rfl, rfl⟩
          · rcases (show l = 0 ∨ l = 1 ∨ l = 2 ∨ l = 3 ∨ l = 4 ∨ l = 5 ∨ l = 6 ∨ l = 7 ∨ l = 8 ∨ l = 9 ∨ l = 10 ∨ l = 11 ∨ l = 12 by omega) with rfl | rfl | rfl | rfl | rfl | rfl | rfl | rfl | rfl | rfl | rfl | rfl | rfl <;> rfl
          · repeat (first | exact nnP.z (fun h => by dsimp only at h; omega) (fun h => by dsimp only at h; omega) | refine nnP.u ?_ (fun h => by dsimp only at h; omega) | refine nnP.m ?_ (fun h => by dsimp only at h; omega) (fun t a b h => by dsimp only at h; omega))
          · show up1 (up1 (fun _ => 0) 4 99) 2 (x % 5 + 2) k = 0
            rw [up1_n _ _ a, up1_n _ _ b]
          · show fillN zR csC 96 k = csC k ∧ fillN zR csS 96 k = csS k
            rw [fillN_in a b, fillN_in a b]
            exact ⟨rfl, rfl⟩
          · repeat (first | exact zz_lIn _ | refine zzP.s ?_ | refine zzP.u ?_ | refine zzP.m ?_ | refine zzP.o ?_)
        obtain ⟨Gb, τb, hM60, hB, h60b, h0b⟩ : ∃ (g : y_G) (τ : y_S), gM E (gA (iK, iQ, ad) sz) g τ s.heap H locs ∧ iB E (x % 5 + 2) g τ ∧ g.2.2 60 = ad 60 ∧ g.2.2 0 = ad 0 := ⟨_, _, hM59, hB0, rfl, rfl⟩
        have hl := lv_cast hl (b := [(0, .ref (Gb.2.2 60)), (1, .int (jI x))]) (by rw [h60b])
        refine W.widen (k := 54) (n := 15000) (show 54 ≤ 54 by omega) (show (14384 + 12 * (x % 5 + 2).toNat) ≤ 15000 by omega) ?_
        refine lv_iconst (v := jI 0) hx hb dX1_init_342 rfl ?_
        refine W.widen (k := 54 + 3 * (0 : Int).toNat) (n := 15000 + 21 * (0 : Int).toNat) (show 54 ≤ 54 + 3 * (0 : Int).toNat by omega) (show 15000 ≤ 15000 + 21 * (0 : Int).toNat by omega) ?_
        refine lv_istore_n (lv' := [(2, .int (jI 0)), (0, .ref (Gb.2.2 60)), (1, .int (jI x))]) hx hb dX1_init_343 rfl hl (by decide) rfl (fun ls hl => ?_)
        have c344 : ∀ (n344 : Nat) (la : Int) (Gc : y_G) (τc : y_S) (H : Heap) (locs : List Loc) (ls : Array Slot), (0 ≤ la) → (la ≤ 12) → (iC (x % 5 + 2) Gb τb Gc τc la 0) → ((12 - la).toNat < n344) → gM E (gA (iK, iQ, ad) sz) Gc τc s.heap H locs → lv_has ls 4 [(0, .ref (Gc.2.2 60)), (1, .int (jI x)), (2, .int (jI la))] → W p l e ({ frames := 5, cells := 100, slots := 16000, locals := 108 } : Room) s m ([.ref (ad 60), .int (jI x)] : List Value).toArray below meth c H locs 54 + 3 * la.toNat 15000 + 21 * la.toNat (MQ below (gQ E (iK, iQ, ad) sz (gPV (fun G' τ' => lgR E (oInit x) G' τ' ∧ G'.2.2 60 = ad 60 ∧ G'.2.2 0 = ad 0))) ([.ref (ad 60), .int (jI x)] : List Value).toArray s 100 16000 (gA (iK, iQ, ad) sz)) (F0 m 344 ls []) := by
          intro n344
          induction n344 with
          | zero => intro la Gc τc H locs ls hl0 hl1 hc hmu; exact absurd hmu (Nat.not_lt_zero _)
          | succ n344 ih344 =>
            intro la Gc τc H locs ls hl0 hl1 hc hmu344 hM61 hl
            have hk60c : Gc.1 60 = some (.inl 0) := (hc.1 60 (by decide)).1.trans (hB.1.1 60 _ rfl (by decide))
            have hk3c : Gc.1 3 = some (.inr (4, 12 * (x % 5 + 2).toNat)) := (hc.1 3 (by decide)).1.trans (hB.1.1 3 _ rfl (by decide))
            have hr3c : Gc.2.1 60 3 = some (Gc.2.2 3) := (by rw [(hc.1 60 (by decide)).2.2.1 (by decide), (hc.1 3 (by decide)).2.1]; exact hB.1.2 3 3 rfl)
            have hv2c : τc 60 2 = (x % 5 + 2) := (by rw [(hc.1 60 (by decide)).2.2.2]; exact hB.2.2.2.1.1)
            refine lv_iload_n hx hb dX1_init_344 rfl (lv_at hl 2 rfl) ?_
            refine lv_bipush (v := jI 12) hx hb dX1_init_345 (by decide) ?_
            refine x_icmp_ge (tgt := 399) hx hb dX1_init_347 (by decide) (by omega) (by omega) (fun b347 => ?_) (fun b347 => ?_)
            · exact g_vret CF hr hlocks hM61 ⟨rfl, iC.fin hxr hB (by rw [show (12 : Int) = la by omega]; exact hc), (hc.1 60 (by decide)).2.1.trans h60b, (hc.1 0 (by decide)).2.1.trans h0b⟩ (by omega) (by omega) dX1_init_399
            · refine lv_iload_n hx hb dX1_init_350 rfl (lv_at hl 2 rfl) ?_
              refine lv_iconst (v := jI 2) hx hb dX1_init_351 rfl ?_
              refine x_irem hx hb dX1_init_352 (by omega) (by omega) (by omega) ?_
              refine x_top (b := la % 2) (Int.tmod_eq_emod_of_nonneg hl0) ?_
              refine W.widen (k := 54 + 3 * la.toNat + ((la % 2) / 2).toNat) (n := 15000 + 21 * la.toNat + 7 * ((la % 2) / 2).toNat) (show 54 + 3 * la.toNat ≤ 54 + 3 * la.toNat + ((la % 2) / 2).toNat by omega) (show 15000 + 21 * la.toNat ≤ 15000 + 21 * la.toNat + 7 * ((la % 2) / 2).toNat by omega) ?_
              refine lv_istore_n (lv' := [(3, .int (jI (la % 2))), (0, .ref (Gc.2.2 60)), (1, .int (jI x)), (2, .int (jI la))]) hx hb dX1_init_353 rfl hl (by decide) rfl (fun ls hl => ?_)
              have c354 : ∀ (n354 : Nat) (i : Int) (Gd : y_G) (τd : y_S) (H : Heap) (locs : List Loc) (ls : Array Slot), (0 ≤ i) → (i ≤ x % 5 + 3) → (i % 2 = la % 2) → (iC (x % 5 + 2) Gb τb Gd τd la i) → ((8 - i).toNat < n354) → gM E (gA (iK, iQ, ad) sz) Gd τd s.heap H locs → lv_has ls 4 [(0, .ref (Gd.2.2 60)), (1, .int (jI x)), (2, .int (jI la)), (3, .int (jI i))] → W p l e ({ frames := 5, cells := 100, slots := 16000, locals := 108 } : Room) s m ([.ref (ad 60), .int (jI x)] : List Value).toArray below meth c H locs 54 + 3 * la.toNat + (i / 2).toNat 15000 + 21 * la.toNat + 7 * (i / 2).toNat (MQ below (gQ E (iK, iQ, ad) sz (gPV (fun G' τ' => lgR E (oInit x) G' τ' ∧ G'.2.2 60 = ad 60 ∧ G'.2.2 0 = ad 0))) ([.ref (ad 60), .int (jI x)] : List Value).toArray s 100 16000 (gA (iK, iQ, ad) sz)) (F0 m 354 ls []) := by
                intro n354
                induction n354 with
                | zero => intro i Gd τd H locs ls hi0 hi1 hip hd hmu; exact absurd hmu (Nat.not_lt_zero _)
                | succ n354 ih354 =>
                  intro i Gd τd H locs ls hi0 hi1 hip hd hmu354 hM62 hl
                  have hk60d : Gd.1 60 = some (.inl 0) := (hd.1 60 (by decide)).1.trans (hB.1.1 60 _ rfl (by decide))
                  have hk3d : Gd.1 3 = some (.inr (4, 12 * (x % 5 + 2).toNat)) := (hd.1 3 (by decide)).1.trans (hB.1.1 3 _ rfl (by decide))
                  have hr3d : Gd.2.1 60 3 = some (Gd.2.2 3) := (by rw [(hd.1 60 (by decide)).2.2.1 (by decide), (hd.1 3 (by decide)).2.1]; exact hB.1.2 3 3 rfl)
                  have hv2d : τd 60 2 = (x % 5 + 2) := (by rw [(hd.1 60 (by decide)).2.2.2]; exact hB.2.2.2.1.1)
                  refine lv_iload_n hx hb dX1_init_354 rfl (lv_at hl 3 rfl) ?_
                  refine lv_aload_n hx hb dX1_init_355 rfl (lv_at hl 0 rfl) ?_
                  refine g_geti CF hK hM62 60 hk60d 2 2 rfl rfl (by decide) (Or.inl (hts _ q284)) (fun _ h => h) rfl dX1_init_356 ?_
                  refine x_top (b := (x % 5 + 2)) hv2d ?_
                  refine lv_iconst (v := jI 1) hx hb dX1_init_359 rfl ?_
                  refine x_isub hx hb dX1_init_360 ?_
                  refine x_icmp_ge (tgt := 393) hx hb dX1_init_361 (by decide) (by omega) (by omega) (fun b361 => ?_) (fun b361 => ?_)
                  · refine x_iinc (lv' := [(2, .int (jI (la + 1))), (0, .ref (Gd.2.2 60)), (1, .int (jI x)), (3, .int (jI i))]) hx hb dX1_init_393 hl (k := 2) rfl (by decide) rfl (fun ls hl => ?_)
                    refine W.widen (k := 54 + 3 * (la + 1).toNat) (n := 15000 + 21 * (la + 1).toNat) (show 54 + 3 * la.toNat + (i / 2).toNat ≤ 54 + 3 * (la + 1).toNat by omega) (show 15000 + 21 * la.toNat + 7 * (i / 2).toNat ≤ 15000 + 21 * (la + 1).toNat by omega) ?_
                    refine lv_goto (tgt := 344) hx hb dX1_init_396 (by decide) ?_
                    exact ih344  (la + 1) Gd τd _ _ _ (by first | omega | assumption | rfl) (by first | omega | assumption | rfl) (hd.to (fun a b z => (by omega))) (by omega) hM62 (lv_sub hl [1, 2, 0] rfl)
                  · have hmc : mCell (x % 5 + 2) la i := (by omega)
                    have hc3 : (3 : Nat) ≠ cT la i := (by have := cT_ix (show (x % 5 + 2) ≤ 6 by omega) hmc; omega)
                    have hix := ce_ix hl0 (show la ≤ 11 by omega) hi0 (show i < (x % 5 + 2) by omega)
                    refine lv_aload_n hx hb dX1_init_364 rfl (lv_at hl 0 rfl) ?_
                    refine g_getr CF hK hM62 60 hk60d 3 3 rfl rfl (by decide) (Or.inl (hts _ q288)) (fun _ h => h) rfl (Gd.2.2 3) hr3d dX1_init_365 ?_
                    refine lv_iload_n hx hb dX1_init_368 rfl (lv_at hl 2 rfl) ?_
                    refine lv_aload_n hx hb dX1_init_369 rfl (lv_at hl 0 rfl) ?_
                    refine g_geti CF hK hM62 60 hk60d 2 2 rfl rfl (by decide) (Or.inl (hts _ q284)) (fun _ h => h) rfl dX1_init_370 ?_
                    refine x_top (b := (x % 5 + 2)) hv2d ?_
                    refine x_imul hx hb dX1_init_373 ?_
                    refine lv_iload_n hx hb dX1_init_374 rfl (lv_at hl 3 rfl) ?_
                    refine x_iadd hx hb dX1_init_375 ?_
                    refine g_new CF hK hM62 hA (cT la i) (hd.2.2.1 la i hmc (by omega)) (ci := 6) rfl rfl q237 q239 q71 (show 54 + 3 * la.toNat + (i / 2).toNat + 1 ≤ 100 by omega) (show 15000 + 21 * la.toNat + 7 * (i / 2).toNat + 7 ≤ 16000 by omega) dX1_init_376 (fun H a64 hM63 => ?_)
                    refine x_stk (st' := [.ref (upT Gd.2.2 (cT la i) a64 (cT la i)), .int (jI ((la * ((x % 5 + 2))) + i)), .ref (upT Gd.2.2 (cT la i) a64 3)]) (by rw [upT_s, upT_n _ _ hc3]) ?_
                    refine lv_dup hx hb dX1_init_379 rfl ?_
                    refine lv_aload_n hx hb dX1_init_380 rfl (lv_at hl 0 rfl) ?_
                    refine lv_iload_n hx hb dX1_init_381 rfl (lv_at hl 2 rfl) ?_
                    refine lv_iload_n hx hb dX1_init_382 rfl (lv_at hl 3 rfl) ?_
                    refine g_callv hM63 hA (g_runI (As := [.ref (Gd.2.2 60), .int (jI la), .int (jI i)]) (rest := [.ref (upT Gd.2.2 (cT la i) a64 (cT la i)), .int (jI ((la * ((x % 5 + 2))) + i)), .ref (upT Gd.2.2 (cT la i) a64 3)]) CF hK hM63 (l_cinit l E _ _ _ (cT la i) (Gd.2.2 60) la i (upT_s _ _ _) (cT_ne (by decide)) (by first | omega | assumption | (refine ⟨?_, ?_⟩ <;> omega)) (by first | omega | assumption | (refine ⟨?_, ?_⟩ <;> omega))) (cwI 3 hts (lw_meth q242) rfl rfl rfl (hts _ q71) (hts _ q240) (hts _ q241) rfl (by decide +kernel) ⟨Nat.le_of_ble_eq_true rfl, Nat.le_of_ble_eq_true rfl⟩) rfl hl.1 rfl (Nat.le_of_ble_eq_true rfl) dX1_init_383 ⟨(show (54 + 3 * la.toNat + (i / 2).toNat + 1) + 0 ≤ 100 by omega), (show (15000 + 21 * la.toNat + 7 * (i / 2).toNat + 7) + 0 ≤ 16000 by omega)⟩) (fun H locs hM65 => ?_)
                    refine g_aast CF hK hM65 3 (by decide) (show upT Gd.1 (cT la i) _ 3 = _ by rw [upT_n _ _ hc3]; exact hk3d) (by decide) rfl (i := (la * ((x % 5 + 2))) + i) hix.1 (by omega) (by omega) (upT_s _ _ _) rfl (g_asS hK rfl) rfl dX1_init_386 (fun H locs hM66 => ?_)
                    obtain ⟨Ge, τe, hM67, hd2⟩ : ∃ (g : y_G) (τ : y_S), gM E (gA (iK, iQ, ad) sz) g τ s.heap H locs ∧ iC (x % 5 + 2) Gb τb g τ la (i + 2) := ⟨_, _, hM66, hd.step (by omega) hmc⟩
                    have hl := lv_cast hl (b := [(0, .ref (Ge.2.2 60)), (1, .int (jI x)), (2, .int (jI la)), (3, .int (jI i))]) (by rw [((hd2.1 60 (by decide)).2.1.trans (hd.1 60 (by decide)).2.1.symm)])
                    refine x_iinc (lv' := [(3, .int (jI (i + 2))), (0, .ref (Ge.2.2 60)), (1, .int (jI x)), (2, .int (jI la))]) hx hb dX1_init_387 hl (k := 3) rfl (by decide) rfl (fun ls hl => ?_)
                    refine W.widen (k := 54 + 3 * la.toNat + ((i + 2) / 2).toNat) (n := 15000 + 21 * la.toNat + 7 * ((i + 2) / 2).toNat) (show (54 + 3 * la.toNat + (i / 2).toNat + 1) ≤ 54 + 3 * la.toNat + ((i + 2) / 2).toNat by omega) (show (15000 + 21 * la.toNat + 7 * (i / 2).toNat + 7) ≤ 15000 + 21 * la.toNat + 7 * ((i + 2) / 2).toNat by omega) ?_
                    refine lv_goto (tgt := 354) hx hb dX1_init_390 (by decide) ?_
                    exact ih354  (i + 2) Ge τe _ _ _ (by first | omega | assumption | rfl) (by first | omega | assumption | rfl) (by first | omega | assumption | rfl) hd2 (by omega) hM67 (lv_sub hl [1, 2, 3, 0] rfl)
              exact c354 _ (la % 2) Gc τc _ _ _ (by first | omega | assumption | rfl) (by first | omega | assumption | rfl) (by first | omega | assumption | rfl) (hc.to (fun a b z => (by omega))) (Nat.lt_succ_self _) hM61 (lv_sub hl [1, 2, 3, 0] rfl)
        exact c344 _ 0 Gb τb _ _ _ (by first | omega | assumption | rfl) (by first | omega | assumption | rfl) (iC.zero (by omega) hB) (Nat.lt_succ_self _) hM60 (lv_sub hl [1, 2, 0] rfl)
      · refine lv_aload_n hx hb dX1_init_35 rfl (lv_at hl 0 rfl) ?_
        refine g_getr CF hK hM7 60 rfl 0 0 rfl rfl (by decide) (Or.inl (hts _ q280)) (fun _ h => h) rfl ((upT (upT ad 61 a61) 1 a1) 61) rfl dX1_init_36 ?_
        refine lv_iload_n hx hb dX1_init_39 rfl (lv_at hl 2 rfl) ?_
        refine lv_ldc2 (v := jL 22) hx hb CF.2.2.2.1 (hts _ q110) dX1_init_40 ?_
        refine lv_aload_n hx hb dX1_init_43 rfl (lv_at hl 0 rfl) ?_
        refine g_getr CF hK hM7 60 rfl 0 0 rfl rfl (by decide) (Or.inl (hts _ q280)) (fun _ h => h) rfl ((upT (upT ad 61 a61) 1 a1) 61) rfl dX1_init_44 ?_
        refine lv_iload_n hx hb dX1_init_47 rfl (lv_at hl 2 rfl) ?_
        refine lv_iconst (v := jI 1) hx hb dX1_init_48 rfl ?_
        refine x_isub hx hb dX1_init_49 ?_
        refine g_iald CF hK hM7 61 rfl (i := k - 1) (by omega) (by omega) (by omega) dX1_init_50 ?_
        refine x_top (b := csC (k - 1)) (lIn_c hk0) ?_
        refine x_i2l hx hb dX1_init_51 (by have f0 := csC_g (k - 1); omega) ?_
        refine x_lmul hx hb dX1_init_52 ?_
        refine lv_ldc2 (v := jL 83) hx hb CF.2.2.2.1 (hts _ q111) dX1_init_53 ?_
        refine lv_aload_n hx hb dX1_init_56 rfl (lv_at hl 0 rfl) ?_
        refine g_getr CF hK hM7 60 rfl 1 1 rfl rfl (by decide) (Or.inl (hts _ q281)) (fun _ h => h) rfl ((upT (upT ad 61 a61) 1 a1) 1) rfl dX1_init_57 ?_
        refine lv_iload_n hx hb dX1_init_60 rfl (lv_at hl 2 rfl) ?_
        refine lv_iconst (v := jI 1) hx hb dX1_init_61 rfl ?_
        refine x_isub hx hb dX1_init_62 ?_
        refine g_iald CF hK hM7 1 rfl (i := k - 1) (by omega) (by omega) (by omega) dX1_init_63 ?_
        refine x_top (b := csS (k - 1)) (lIn_s hk0) ?_
        refine x_i2l hx hb dX1_init_64 (by have f0 := csS_g (k - 1); omega) ?_
        refine x_lmul hx hb dX1_init_65 ?_
        refine x_lsub hx hb dX1_init_66 ?_
        refine g_calli (r := ((22 * (csC (k - 1))) - (83 * (csS (k - 1)))) % 97) hM7 hA (g_runS (As := [.long (jL ((22 * (csC (k - 1))) - (83 * (csS (k - 1)))))]) (rest := [.int (jI k), .ref ((upT (upT ad 61 a61) 1 a1) 61)]) CF hK hM7 (l_part l E _ _ _  ((22 * (csC (k - 1))) - (83 * (csS (k - 1)))) (by have f0 := csC_g (k - 1); have f1 := csS_g (k - 1); first | omega | assumption | (refine ⟨?_, ?_⟩ <;> omega))) (va_cwS 1 hts (lw_S q112 q113 q60 q114) rfl rfl rfl (by decide +kernel) ⟨Nat.le_of_ble_eq_true rfl, Nat.le_of_ble_eq_true rfl⟩) rfl hl.1 rfl (Nat.le_of_ble_eq_true rfl) dX1_init_67 ⟨(show 2 + 0 ≤ 100 by omega), (show 192 + 0 ≤ 16000 by omega)⟩) (fun H locs hM68 => ?_)
        refine x_top (b := csC k) (csC_i hk0) ?_
        refine g_iast CF hK hM68 61 (by decide) rfl (i := k) (v := csC k) (by omega) (by omega) (by omega) (by have f0 := csC_g k; omega) dX1_init_70 (fun H locs hM69 => ?_)
        refine lv_aload_n hx hb dX1_init_71 rfl (lv_at hl 0 rfl) ?_
        refine g_getr CF hK hM69 60 rfl 1 1 rfl rfl (by decide) (Or.inl (hts _ q281)) (fun _ h => h) rfl ((upT (upT ad 61 a61) 1 a1) 1) rfl dX1_init_72 ?_
        refine lv_iload_n hx hb dX1_init_75 rfl (lv_at hl 2 rfl) ?_
        refine lv_ldc2 (v := jL 22) hx hb CF.2.2.2.1 (hts _ q110) dX1_init_76 ?_
        refine lv_aload_n hx hb dX1_init_79 rfl (lv_at hl 0 rfl) ?_
        refine g_getr CF hK hM69 60 rfl 1 1 rfl rfl (by decide) (Or.inl (hts _ q281)) (fun _ h => h) rfl ((upT (upT ad 61 a61) 1 a1) 1) rfl dX1_init_80 ?_
        refine lv_iload_n hx hb dX1_init_83 rfl (lv_at hl 2 rfl) ?_
        refine lv_iconst (v := jI 1) hx hb dX1_init_84 rfl ?_
        refine x_isub hx hb dX1_init_85 ?_
        refine g_iald CF hK hM69 1 rfl (i := k - 1) (by omega) (by omega) (by omega) dX1_init_86 ?_
        refine x_top (b := (lIn k) 1 (k - 1)) rfl ?_
        refine x_top (b := csS (k - 1)) (by rw [up2_n _ _ _ (by decide)]; exact lIn_s hk0) ?_
        refine x_i2l hx hb dX1_init_87 (by have f0 := csS_g (k - 1); omega) ?_
        refine x_lmul hx hb dX1_init_88 ?_
        refine lv_ldc2 (v := jL 83) hx hb CF.2.2.2.1 (hts _ q111) dX1_init_89 ?_
        refine lv_aload_n hx hb dX1_init_92 rfl (lv_at hl 0 rfl) ?_
        refine g_getr CF hK hM69 60 rfl 0 0 rfl rfl (by decide) (Or.inl (hts _ q280)) (fun _ h => h) rfl ((upT (upT ad 61 a61) 1 a1) 61) rfl dX1_init_93 ?_
        refine lv_iload_n hx hb dX1_init_96 rfl (lv_at hl 2 rfl) ?_
        refine lv_iconst (v := jI 1) hx hb dX1_init_97 rfl ?_
        refine x_isub hx hb dX1_init_98 ?_
        refine g_iald CF hK hM69 61 rfl (i := k - 1) (by omega) (by omega) (by omega) dX1_init_99 ?_
        refine x_top (b := csC (k - 1)) (by rw [up2_s, up1_n _ _ (by omega)]; exact lIn_c hk0) ?_
        refine x_i2l hx hb dX1_init_100 (by have f0 := csC_g (k - 1); omega) ?_
        refine x_lmul hx hb dX1_init_101 ?_
        refine x_ladd hx hb dX1_init_102 ?_
        refine g_calli (r := ((22 * (csS (k - 1))) + (83 * (csC (k - 1)))) % 97) hM69 hA (g_runS (As := [.long (jL ((22 * (csS (k - 1))) + (83 * (csC (k - 1)))))]) (rest := [.int (jI k), .ref ((upT (upT ad 61 a61) 1 a1) 1)]) CF hK hM69 (l_part l E _ _ _  ((22 * (csS (k - 1))) + (83 * (csC (k - 1)))) (by have f0 := csS_g (k - 1); have f1 := csC_g (k - 1); first | omega | assumption | (refine ⟨?_, ?_⟩ <;> omega))) (va_cwS 1 hts (lw_S q112 q113 q60 q114) rfl rfl rfl (by decide +kernel) ⟨Nat.le_of_ble_eq_true rfl, Nat.le_of_ble_eq_true rfl⟩) rfl hl.1 rfl (Nat.le_of_ble_eq_true rfl) dX1_init_103 ⟨(show 2 + 0 ≤ 100 by omega), (show 192 + 0 ≤ 16000 by omega)⟩) (fun H locs hM70 => ?_)
        refine x_top (b := csS k) (csS_i hk0) ?_
        refine g_iast CF hK hM70 1 (by decide) rfl (i := k) (v := csS k) (by omega) (by omega) (by omega) (by have f0 := csS_g k; omega) dX1_init_106 (fun H locs hM71 => ?_)
        have hM72 := gM_eq (σ' := lIn (k + 1)) (lIn_n (by omega)) hM71
        refine x_iinc (lv' := [(2, .int (jI (k + 1))), (0, .ref (ad 60)), (1, .int (jI x))]) hx hb dX1_init_107 hl (k := 2) rfl (by decide) rfl (fun ls hl => ?_)
        refine lv_goto (tgt := 29) hx hb dX1_init_110 (by decide) ?_
        exact ih29  (k + 1) _ _ _ (by first | omega | assumption | rfl) (by first | omega | assumption | rfl) (by omega) hM72 (lv_sub hl [1, 2, 0] rfl)
  exact c29 _ 1 _ _ _ (by first | omega | assumption | rfl) (by first | omega | assumption | rfl) (Nat.lt_succ_self _) hM6 (lv_sub hl [1, 2, 0] rfl)
