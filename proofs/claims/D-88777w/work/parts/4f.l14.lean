/-! LISTS GROW -/
def gPA (P : Nat → y_G → y_S → Prop) : Option Value → y_G → y_S → Prop := fun v G' τ' => ∃ a : Nat, v = some (.ref a) ∧ P a G' τ'
section GPA
variable {p : Program} {l : Launch} {e : Env} {R : Room} {s : State} {m : MethodId} {args : Array Value} {below : List Frame} {meth : Method} {c : Code} {H : Heap} {locs : List Loc} {cells slots mc ms : Nat} {Q : State → Prop} {pc : Nat} {ls : Array Slot} {rest st0 : List Value}
variable {E : y_E} {A : Nat → Prop} {G : y_G} {σ : y_S} {a : Array Value}
theorem g_callPA (hM : gM E A G σ s.heap H locs) (hA : ∀ q, s.heap.size ≤ q → A q) {P : Nat → y_G → y_S → Prop} (hr : va_Run p l e R s m args below meth c H locs cells slots mc ms (F0 m pc ls st0) rest (gQ E G H.size (gPA P) a) (gA G H.size))
    (kk : ∀ (b : Nat) (G' : y_G) (τ' : y_S) (H : Heap) (locs : List Loc), P b G' τ' → gM E A G' τ' s.heap H locs → W p l e R s m args below meth c H locs (cells + mc) (slots + ms) Q (F0 m (pc + 3) ls (.ref b :: rest))) : W p l e R s m args below meth c H locs cells slots Q (F0 m pc ls st0) :=
  g_call hM hA hr (fun v G' σ' H locs hp hM => by obtain ⟨r, rfl, hp⟩ := hp; exact kk r G' σ' H locs hp hM)
theorem x_stk {st st' : List Value} (e1 : st = st') (k : W p l e R s m args below meth c H locs cells slots Q (F0 m pc ls st')) : W p l e R s m args below meth c H locs cells slots Q (F0 m pc ls st) := by rw [e1]; exact k
theorem x_wrI {a : Int} (k : W p l e R s m args below meth c H locs cells slots Q (F0 m pc ls (.int (jI (wr a)) :: rest))) : W p l e R s m args below meth c H locs cells slots Q (F0 m pc ls (.int (jI a) :: rest)) := by rw [jI_wr]; exact k
end GPA
/-- what a list holds are objects -/
def lEl (G : y_G) (N : Int) (r : Int → Option Nat) : Prop := ∀ i : Int, 0 ≤ i → i < N → ∀ y : Nat, r i = some y → ∃ u ci : Nat, G.1 u = some (.inl ci) ∧ G.2.2 u = y
theorem lEl.up {G : y_G} {N : Int} {r : Int → Option Nat} (h : lEl G N r) {t : Nat} (ht : G.1 t = none) {k : y_K} {q : Nat → Int → Option Nat} {a : Nat} : lEl (upT G.1 t (some k), q, upT G.2.2 t a) N r := fun i h0 h1 y hy => by
  obtain ⟨u, ci, hu, hv⟩ := h i h0 h1 y hy
  have e : u ≠ t := fun z => by rw [z, ht] at hu; cases hu
  exact ⟨u, ci, by show upT G.1 t _ u = _; rw [upT_n _ _ e]; exact hu, by show upT G.2.2 t a u = y; rw [upT_n _ _ e]; exact hv⟩
set_option maxHeartbeats 400000 in
theorem j_nl (l : Launch) (E : y_E) (G : y_G) (σ : y_S) (sz : Nat) (o : Int) (k : Int) (q : Int) (ho0 : 0 ≤ o ∧ o ≤ 1000) (hk0 : 1 ≤ k ∧ k ≤ 1000) (hq0 : 0 ≤ q ∧ q ≤ 1000) : gCt l yJ8_newLength cJ8_newLength 4 (some .int) ({ frames := 1, cells := 0, slots := 0, locals := 21 }) E [.int (jI o), .int (jI k), .int (jI q)] G σ sz (gR (some (.int (jI (o + (if q ≤ k then k else q))))) G σ) 0 0 := by
  refine g_metF (by decide +kernel) (Nat.le_of_ble_eq_true rfl) ?_
  intro p e s m below meth c ls CF hr hlocks hnm hK hM0 hA hl
  have hx := CF.1
  have hb := CF.2.1
  have hts := CF.2.2.2.2
  have hl : lv_has ls 4 [(0, .int (jI o)), (1, .int (jI k)), (2, .int (jI q))] := hl
  refine lv_iload_n hx hb dJ8_newLength_0 rfl (lv_at hl 0 rfl) ?_
  refine lv_iload_n hx hb dJ8_newLength_1 rfl (lv_at hl 1 rfl) ?_
  refine lv_iload_n hx hb dJ8_newLength_2 rfl (lv_at hl 2 rfl) ?_
  refine g_calli (r := if q ≤ k then k else q) hM0 hA (g_runS (As := [.int (jI k), .int (jI q)]) (rest := [.int (jI o)]) CF hK hM0 (j_max l E _ _ _  k q (by first | omega | assumption | (refine ⟨?_, ?_⟩ <;> omega)) (by first | omega | assumption | (refine ⟨?_, ?_⟩ <;> omega))) (va_cwS 2 hts (lw_S q803 q804 q61 q805) rfl rfl rfl (by decide +kernel) ⟨Nat.le_of_ble_eq_true rfl, Nat.le_of_ble_eq_true rfl⟩) rfl hl.1 rfl (Nat.le_of_ble_eq_true rfl) dJ8_newLength_3 ⟨Nat.le_of_ble_eq_true rfl, Nat.le_of_ble_eq_true rfl⟩) (fun H locs hM1 => ?_)
  have hmx : 1 ≤ (if q ≤ k then k else q) ∧ (if q ≤ k then k else q) ≤ 1000 := (by split <;> omega)
  refine x_iadd hx hb dJ8_newLength_6 ?_
  refine lv_istore_n (lv' := [(3, .int (jI (o + (if q ≤ k then k else q)))), (0, .int (jI o)), (1, .int (jI k)), (2, .int (jI q))]) hx hb dJ8_newLength_7 rfl hl (by decide) rfl (fun ls hl => ?_)
  refine lv_iconst (v := jI 0) hx hb dJ8_newLength_8 rfl ?_
  refine lv_iload_n hx hb dJ8_newLength_9 rfl (lv_at hl 0 rfl) ?_
  refine x_icmp_ge (tgt := 21) hx hb dJ8_newLength_10 (by decide) (by omega) (by omega) (fun b10 => ?_) (fun b10 => ?_)
  · exact absurd b10 (by omega)
  · refine lv_iload_n hx hb dJ8_newLength_13 rfl (lv_at hl 0 rfl) ?_
    refine lv_ldc (v := jI 2147483639) hx hb CF.2.2.2.1 (hts _ q806) dJ8_newLength_14 ?_
    refine x_icmp_gt (tgt := 21) hx hb dJ8_newLength_16 (by decide) (by omega) (by omega) (fun b16 => ?_) (fun b16 => ?_)
    · exact absurd b16 (by omega)
    · refine lv_iload_n hx hb dJ8_newLength_19 rfl (lv_at hl 0 rfl) ?_
      exact g_iret CF hr hlocks hM1 (g_pi rfl) (by decide) (by decide) dJ8_newLength_20
set_option maxHeartbeats 400000 in
theorem j_co2 (l : Launch) (E : y_E) (G : y_G) (σ : y_S) (sz : Nat) (ta : Nat) (tn : Nat) (cap : Nat) (n : Nat) (hTa : G.1 ta = some (.inr (3, cap))) (hTn : G.1 tn = none) (hTn0 : tn ≠ 0) (hcn : cap ≤ n ∧ n ≤ 600) (hEl : lEl G (cap : Int) (G.2.1 ta)) : gCt l yJ9_copyOf_2 cJ9_copyOf_2 4 (some (.array (.object "java/lang/Object"))) ({ frames := 1, cells := 1, slots := 600, locals := 40 }) E [.ref (G.2.2 ta), .int (jI ((n : Int))), .ref (E.1.2 103 0)] G σ sz (gPA (fun a G' τ' => G' = (upT G.1 tn (some (.inr (3, n))), upT G.2.1 tn (fillQ (fun _ => none) (G.2.1 ta) (cap : Int)), upT G.2.2 tn a) ∧ τ' = upT σ tn (fun _ => 0))) 1 600 := by
  refine g_metF (by decide +kernel) (Nat.le_of_ble_eq_true rfl) ?_
  intro p e s m below meth c ls CF hr hlocks hnm hK hM0 hA hl
  have hx := CF.1
  have hb := CF.2.1
  have hts := CF.2.2.2.2
  have hl : lv_has ls 4 [(0, .ref (G.2.2 ta)), (1, .int (jI ((n : Int)))), (2, .ref (E.1.2 103 0))] := hl
  refine lv_aload_n hx hb dJ9_copyOf_2_0 rfl (lv_at hl 2 rfl) ?_
  refine g_ldcM CF hK q837 dJ9_copyOf_2_1 ?_
  refine lv_acmp_ne (rx := (some (E.1.2 103 0))) (ry := (some (E.1.2 103 0))) (tgt := 13) hx hb dJ9_copyOf_2_3 (by decide) (fun b3 => ?_) (fun b3 => ?_)
  · exact absurd rfl b3
  · refine lv_iload_n hx hb dJ9_copyOf_2_6 rfl (lv_at hl 1 rfl) ?_
    refine g_newr CF hK hM0 hA tn hTn 3 (by decide) rfl hK.2.2.2.1.1 q839 (n := n) rfl (by omega) (Nat.le_of_ble_eq_true rfl) (by show 0 + n ≤ 600; omega) dJ9_copyOf_2_7 (fun H a2 hM1 => ?_)
    refine lv_goto (tgt := 24) hx hb dJ9_copyOf_2_10 (by decide) ?_
    refine lv_astore_n (lv' := [(3, .ref a2), (0, .ref (G.2.2 ta)), (1, .int (jI ((n : Int)))), (2, .ref (E.1.2 103 0))]) hx hb dJ9_copyOf_2_24 rfl hl (by decide) rfl (fun ls hl => ?_)
    have hne : ta ≠ tn := fun z => (by rw [z, hTn] at hTa; cases hTa)
    have hl := lv_cast hl (b := [(3, .ref (upT G.2.2 tn a2 tn)), (0, .ref (upT G.2.2 tn a2 ta)), (1, .int (jI ((n : Int)))), (2, .ref (E.1.2 103 0))]) (by rw [upT_s, upT_n _ _ hne])
    refine lv_aload_n hx hb dJ9_copyOf_2_25 rfl (lv_at hl 1 rfl) ?_
    refine lv_iconst (v := jI 0) hx hb dJ9_copyOf_2_26 rfl ?_
    refine lv_aload_n hx hb dJ9_copyOf_2_27 rfl (lv_at hl 0 rfl) ?_
    refine lv_iconst (v := jI 0) hx hb dJ9_copyOf_2_28 rfl ?_
    refine lv_aload_n hx hb dJ9_copyOf_2_29 rfl (lv_at hl 1 rfl) ?_
    refine g_alen CF hK hM1 ta (show upT G.1 tn _ ta = _ by rw [upT_n _ _ hne]; exact hTa) (by decide) dJ9_copyOf_2_30 ?_
    refine lv_iload_n hx hb dJ9_copyOf_2_31 rfl (lv_at hl 2 rfl) ?_
    refine g_calli (r := if ((cap : Int)) ≤ ((n : Int)) then ((cap : Int)) else ((n : Int))) hM1 hA (g_runS (As := [.int (jI ((cap : Int))), .int (jI ((n : Int)))]) (rest := [.int (jI 0), .ref (upT G.2.2 tn a2 tn), .int (jI 0), .ref (upT G.2.2 tn a2 ta)]) CF hK hM1 (j_min l E _ _ _  ((cap : Int)) ((n : Int)) (by first | omega | assumption | (refine ⟨?_, ?_⟩ <;> omega)) (by first | omega | assumption | (refine ⟨?_, ?_⟩ <;> omega))) (va_cwS 2 hts (lw_S q840 q429 q61 q430) rfl rfl rfl (by decide +kernel) ⟨Nat.le_of_ble_eq_true rfl, Nat.le_of_ble_eq_true rfl⟩) rfl hl.1 rfl (Nat.le_of_ble_eq_true rfl) dJ9_copyOf_2_32 ⟨Nat.le_of_ble_eq_true rfl, (by show 0 + n + 0 ≤ 600; omega)⟩) (fun H locs hM3 => ?_)
    refine x_top (b := (cap : Int)) (by rw [if_pos (by omega)]) ?_
    refine g_copyr CF hK hM3 ta tn hTn0 (show upT G.1 tn _ ta = _ by rw [upT_n _ _ hne]; exact hTa) (upT_s _ _ _) (n := (cap : Int)) (by omega) (by omega) (by omega) (by omega) (show lEl _ _ _ from (by dsimp only; rw [upT_n _ _ hne]; exact hEl.up hTn)) q841 hl.1 (Nat.le_of_ble_eq_true rfl) (Nat.le_of_ble_eq_true rfl) dJ9_copyOf_2_35 (fun H locs hM4 => ?_)
    refine lv_aload_n hx hb dJ9_copyOf_2_38 rfl (lv_at hl 0 rfl) ?_
    exact g_aret CF hr (Or.inr ⟨_, rfl⟩) hlocks hM4 (r := some (upT G.2.2 tn a2 tn)) ⟨_, rfl, (by dsimp only; rw [upT_upT, upT_s, upT_s, upT_n _ _ hne]), rfl⟩ (by decide) (by show 0 + n ≤ 600; omega) dJ9_copyOf_2_39
set_option maxHeartbeats 400000 in
theorem j_co (l : Launch) (E : y_E) (G : y_G) (σ : y_S) (sz : Nat) (ta : Nat) (tn : Nat) (cap : Nat) (n : Nat) (hTa : G.1 ta = some (.inr (3, cap))) (hTn : G.1 tn = none) (hTn0 : tn ≠ 0) (hcn : cap ≤ n ∧ n ≤ 600) (hEl : lEl G (cap : Int) (G.2.1 ta)) : gCt l yJ9_copyOf cJ9_copyOf 2 (some (.array (.object "java/lang/Object"))) ({ frames := 2, cells := 1, slots := 600, locals := 63 }) E [.ref (G.2.2 ta), .int (jI ((n : Int)))] G σ sz (gPA (fun a G' τ' => G' = (upT G.1 tn (some (.inr (3, n))), upT G.2.1 tn (fillQ (fun _ => none) (G.2.1 ta) (cap : Int)), upT G.2.2 tn a) ∧ τ' = upT σ tn (fun _ => 0))) 1 600 := by
  refine g_metF (by decide +kernel) (Nat.le_of_ble_eq_true rfl) ?_
  intro p e s m below meth c ls CF hr hlocks hnm hK hM0 hA hl
  have hx := CF.1
  have hb := CF.2.1
  have hts := CF.2.2.2.2
  have hl : lv_has ls 2 [(0, .ref (G.2.2 ta)), (1, .int (jI ((n : Int))))] := hl
  refine lv_aload_n hx hb dJ9_copyOf_0 rfl (lv_at hl 0 rfl) ?_
  refine lv_iload_n hx hb dJ9_copyOf_1 rfl (lv_at hl 1 rfl) ?_
  refine lv_aload_n hx hb dJ9_copyOf_2 rfl (lv_at hl 0 rfl) ?_
  refine g_getC (rest := [.int (jI ((n : Int))), .ref (G.2.2 ta)]) CF hK hM0 ta hTa q813 hl.1 (Nat.le_of_ble_eq_true rfl) (Nat.le_of_ble_eq_true rfl) dJ9_copyOf_3 ?_
  refine g_callPA hM0 hA (g_runS (As := [.ref (G.2.2 ta), .int (jI ((n : Int))), .ref (E.1.2 103 0)]) (rest := []) CF hK hM0 (j_co2 l E _ _ _ ta tn cap n (by first | omega | assumption | (refine ⟨?_, ?_⟩ <;> omega)) (by first | omega | assumption | (refine ⟨?_, ?_⟩ <;> omega)) (by first | omega | assumption | (refine ⟨?_, ?_⟩ <;> omega)) (by first | omega | assumption | (refine ⟨?_, ?_⟩ <;> omega)) (by first | omega | assumption | (refine ⟨?_, ?_⟩ <;> omega))) (va_cwS 3 hts (lw_S q834 q835 q85 q836) rfl rfl rfl (by decide +kernel) ⟨Nat.le_of_ble_eq_true rfl, Nat.le_of_ble_eq_true rfl⟩) rfl hl.1 rfl (Nat.le_of_ble_eq_true rfl) dJ9_copyOf_6 ⟨Nat.le_of_ble_eq_true rfl, Nat.le_of_ble_eq_true rfl⟩) (fun a2 G2 τ2 H locs hp hM1 => ?_)
  obtain ⟨rfl, rfl⟩ := hp
  exact g_aret CF hr (Or.inr ⟨_, rfl⟩) hlocks hM1 (r := some a2) ⟨_, rfl, rfl, rfl⟩ (by decide) (by decide) dJ9_copyOf_9
/-- a full list -/
def lFu (tl ta : Nat) (N : Int) (f : Int → Nat) (G : y_G) : Prop := (N = 0 ∧ G.2.1 tl 1 = some (G.2.2 0)) ∨ (1 ≤ N ∧ N ≤ 300 ∧ G.1 ta = some (.inr (3, N.toNat)) ∧ G.2.1 tl 1 = some (G.2.2 ta) ∧ ∀ i : Int, 0 ≤ i → i < N → G.2.1 ta i = some (f i))
/-- a reference is added -/
def lAd (tl ta tn : Nat) (N : Int) (f : Int → Nat) (x : Nat) (G : y_G) (σ : y_S) (G' : y_G) (τ' : y_S) : Prop :=
  (∀ t : Nat, t ≠ ta → G'.1 t = G.1 t) ∧ (∀ t : Nat, t ≠ ta → t ≠ tn → G'.2.2 t = G.2.2 t ∧ (∀ k : Int, ¬ (t = tl ∧ k = 1) → G'.2.1 t k = G.2.1 t k) ∧ (t ≠ tl → τ' t = σ t)) ∧ lLs tl ta (N + 1) (fun i => if i = N then x else f i) G' τ'
def gwK (ta tn : Nat) (K : Nat → Option y_K) (t : Nat) : Option y_K := if t = tn then none else K (sw ta tn t)
theorem gw_M {E : y_E} {A : Nat → Prop} {G : y_G} {σ : y_S} {H0 H : Heap} {locs : List Loc} {ta tn : Nat} (h : gM E A G σ H0 H locs) (ha : ta ≠ 0) (hn : tn ≠ 0) : gM E A (gwK ta tn G.1, fun t => G.2.1 (sw ta tn t), fun t => G.2.2 (sw ta tn t)) (fun t => σ (sw ta tn t)) H0 H locs :=
  (h.tag (π := sw ta tn) sw_i (sw_n (Ne.symm ha) (Ne.symm hn))).drop (κ := gwK ta tn G.1) (fun t k hk => by
    unfold gwK at hk
    split at hk
    · cases hk
    · exact hk)
theorem lAd_g {tl ta tn : Nat} {N : Int} {f : Int → Nat} {x a c2 : Nat} {row : Int → Option Nat} {G : y_G} {σ : y_S} {v : Int} (hta : ta ≠ tl) (htn : tn ≠ tl) (hat : ta ≠ tn) (hn : G.1 tn = none) (hv : v = N + 1) (hN : 0 ≤ N) (h1 : N + 1 ≤ (c2 : Int)) (h2 : c2 ≤ 600) (h3 : ∀ i : Int, 0 ≤ i → i < N → row i = some (f i)) :
    lAd tl ta tn N f x G σ (gwK ta tn (upT G.1 tn (some (.inr (3, c2)))), fun t => up2 (up2 (upT G.2.1 tn row) tl 1 (some a)) tn N (some x) (sw ta tn t), fun t => upT G.2.2 tn a (sw ta tn t)) (fun t => up2 (upT σ tn (fun _ => 0)) tl 2 v (sw ta tn t)) := by
  subst hv
  refine ⟨fun t h => ?_, fun t h h' => ⟨?_, fun k hk => ?_, fun hl => ?_⟩, ?_, Or.inr ⟨c2, ?_, h1, by omega, h2, ?_, fun i i0 i1 => ?_⟩⟩
  · show gwK ta tn (upT G.1 tn _) t = _
    unfold gwK
    by_cases e : t = tn
    · rw [if_pos e, e, hn]
    · rw [if_neg e, sw_n h e, upT_n _ _ e]
  · show upT G.2.2 tn a (sw ta tn t) = _
    rw [sw_n h h', upT_n _ _ h']
  · show up2 (up2 (upT G.2.1 tn row) tl 1 (some a)) tn N (some x) (sw ta tn t) k = _
    rw [sw_n h h', up2_n _ _ _ h']
    by_cases e : t = tl
    · subst e
      rw [up2_s, up1_n _ _ (fun q => hk ⟨rfl, q⟩), upT_n _ _ h']
    · rw [up2_n _ _ _ e, upT_n _ _ h']
  · show up2 (upT σ tn (fun _ => 0)) tl 2 (N + 1) (sw ta tn t) = _
    rw [sw_n h h', up2_n _ _ _ hl, upT_n _ _ h']
  · show up2 (upT σ tn (fun _ => 0)) tl 2 (N + 1) (sw ta tn tl) 2 = _
    rw [sw_n (Ne.symm hta) (Ne.symm htn), up2_ss]
  · show gwK ta tn (upT G.1 tn _) ta = _
    unfold gwK
    rw [if_neg hat, sw_a, upT_s]
  · show up2 (up2 (upT G.2.1 tn row) tl 1 (some a)) tn N (some x) (sw ta tn tl) 1 = some (upT G.2.2 tn a (sw ta tn ta))
    rw [sw_n (Ne.symm hta) (Ne.symm htn), up2_n _ _ _ (Ne.symm htn), up2_ss, sw_a, upT_s]
  · show up2 (up2 (upT G.2.1 tn row) tl 1 (some a)) tn N (some x) (sw ta tn ta) i = some (if i = N then x else f i)
    rw [sw_a, up2_s]
    by_cases e : i = N
    · subst e
      rw [up1_s, if_pos rfl]
    · rw [up1_n _ _ e, if_neg e, up2_n _ _ _ htn, upT_s]
      exact h3 i i0 (by omega)
theorem lAd_r {tl ta tn : Nat} {N : Int} {f : Int → Nat} {x cap : Nat} {G : y_G} {σ : y_S} {v : Int} (hta : ta ≠ tl) (hk : G.1 ta = some (.inr (3, cap))) (hv : v = N + 1) (hN : 0 ≤ N) (h1 : N < (cap : Int)) (h2 : cap ≤ 600) (h4 : G.2.1 tl 1 = some (G.2.2 ta)) (h3 : ∀ i : Int, 0 ≤ i → i < N → G.2.1 ta i = some (f i)) :
    lAd tl ta tn N f x G σ (G.1, up2 G.2.1 ta N (some x), G.2.2) (up2 σ tl 2 v) := by
  subst hv
  refine ⟨fun t h => rfl, fun t h h' => ⟨rfl, fun k hk => ?_, fun hl => ?_⟩, ?_, Or.inr ⟨cap, hk, by omega, by omega, h2, ?_, fun i i0 i1 => ?_⟩⟩
  · show up2 G.2.1 ta N (some x) t k = _
    rw [up2_n _ _ _ h]
  · rw [up2_n _ _ _ hl]
  · rw [up2_ss]
  · show up2 G.2.1 ta N (some x) tl 1 = _
    rw [up2_n _ _ _ (Ne.symm hta)]
    exact h4
  · show up2 G.2.1 ta N (some x) ta i = some (if i = N then x else f i)
    rw [up2_s]
    by_cases e : i = N
    · subst e
      rw [up1_s, if_pos rfl]
    · rw [up1_n _ _ e, if_neg e]
      exact h3 i i0 (by omega)
set_option maxHeartbeats 400000 in
theorem j_gr2 (l : Launch) (E : y_E) (G : y_G) (σ : y_S) (sz : Nat) (tl : Nat) (ta : Nat) (tn : Nat) (N : Int) (f : Int → Nat) (k : Int) (hTl : G.1 tl = some (.inl 16)) (hTn : G.1 tn = none) (hTn0 : tn ≠ 0) (hTl0 : tl ≠ 0 ∧ ta ≠ 0 ∧ ta ≠ tl ∧ ta ≠ tn) (hFu : lFu tl ta N f G) (hE2 : lEl G N (fun i => some (f i))) (hZ0 : gZr E 0 = some (G.2.2 0) ∧ G.1 0 = some (.inr (3, 0))) (hk : k = N + 1) : gCt l yJ3_grow_2 cJ3_grow_2 4 (some (.array (.object "java/lang/Object"))) ({ frames := 3, cells := 1, slots := 600, locals := 84 }) E [.ref (G.2.2 tl), .int (jI k)] G σ sz (gPA (fun a G' τ' => ∃ (c2 : Nat) (row : Int → Option Nat), G' = (upT G.1 tn (some (.inr (3, c2))), up2 (upT G.2.1 tn row) tl 1 (some a), upT G.2.2 tn a) ∧ τ' = upT σ tn (fun _ => 0) ∧ N + 1 ≤ (c2 : Int) ∧ c2 ≤ 600 ∧ ∀ i : Int, 0 ≤ i → i < N → row i = some (f i))) 1 600 := by
  refine g_metF (by decide +kernel) (Nat.le_of_ble_eq_true rfl) ?_
  intro p e s m below meth c ls CF hr hlocks hnm hK hM0 hA hl
  have hx := CF.1
  have hb := CF.2.1
  have hts := CF.2.2.2.2
  have hl : lv_has ls 4 [(0, .ref (G.2.2 tl)), (1, .int (jI k))] := hl
  have htl : tl ≠ tn := fun z => (by rw [z, hTn] at hTl; cases hTl)
  rcases hFu with ⟨hN0, hfe⟩ | ⟨hN1, hN3, hfa, hfe, hel⟩
  · refine lv_aload_n hx hb dJ3_grow_2_0 rfl (lv_at hl 0 rfl) ?_
    refine g_getr CF hK hM0 tl hTl 1 1 rfl rfl (by decide) (Or.inl (hts _ q225)) (fun _ h => h) rfl (G.2.2 0) hfe dJ3_grow_2_1 ?_
    refine g_alen CF hK hM0 0 hZ0.2 (by decide) dJ3_grow_2_4 ?_
    refine x_top (b := 0) rfl ?_
    refine lv_istore_n (lv' := [(2, .int (jI 0)), (0, .ref (G.2.2 tl)), (1, .int (jI k))]) hx hb dJ3_grow_2_5 rfl hl (by decide) rfl (fun ls hl => ?_)
    refine lv_iload_n hx hb dJ3_grow_2_6 rfl (lv_at hl 0 rfl) ?_
    refine x_if_gt (tgt := 20) hx hb dJ3_grow_2_7 (by decide) (by omega) (fun b7 => ?_) (fun b7 => ?_)
    · exact absurd b7 (by decide)
    · refine lv_aload_n hx hb dJ3_grow_2_10 rfl (lv_at hl 1 rfl) ?_
      refine g_getr CF hK hM0 tl hTl 1 1 rfl rfl (by decide) (Or.inl (hts _ q225)) (fun _ h => h) rfl (G.2.2 0) hfe dJ3_grow_2_11 ?_
      refine g_gets CF hK hM0 0 (by decide) q223 (r := some (G.2.2 0)) hZ0.1 dJ3_grow_2_14 ?_
      refine lv_acmp_eq (rx := (some (G.2.2 0))) (ry := (some (G.2.2 0))) (tgt := 45) hx hb dJ3_grow_2_17 (by decide) (fun b17 => ?_) (fun b17 => ?_)
      · refine lv_aload_n hx hb dJ3_grow_2_45 rfl (lv_at hl 1 rfl) ?_
        refine lv_bipush (v := jI 10) hx hb dJ3_grow_2_46 (by decide) ?_
        refine lv_iload_n hx hb dJ3_grow_2_48 rfl (lv_at hl 2 rfl) ?_
        refine g_calli (r := if k ≤ 10 then 10 else k) hM0 hA (g_runS (As := [.int (jI 10), .int (jI k)]) (rest := [.ref (G.2.2 tl)]) CF hK hM0 (j_max l E _ _ _  10 k (by first | omega | assumption | (refine ⟨?_, ?_⟩ <;> omega)) (by first | omega | assumption | (refine ⟨?_, ?_⟩ <;> omega))) (va_cwS 2 hts (lw_S q842 q804 q61 q805) rfl rfl rfl (by decide +kernel) ⟨Nat.le_of_ble_eq_true rfl, Nat.le_of_ble_eq_true rfl⟩) rfl hl.1 rfl (Nat.le_of_ble_eq_true rfl) dJ3_grow_2_49 ⟨Nat.le_of_ble_eq_true rfl, Nat.le_of_ble_eq_true rfl⟩) (fun H locs hM1 => ?_)
        refine x_top (b := 10) (by rw [if_pos (by omega)]) ?_
        refine g_newr CF hK hM1 hA tn hTn 3 (by decide) rfl hK.2.2.2.1.1 q843 (n := 10) rfl (by omega) (Nat.le_of_ble_eq_true rfl) (Nat.le_of_ble_eq_true rfl) dJ3_grow_2_52 (fun H a3 hM2 => ?_)
        refine lv_dup_x1 hx hb dJ3_grow_2_55 rfl rfl ?_
        refine x_stk (st' := [.ref a3, .ref (upT G.2.2 tn a3 tl), .ref a3]) (by rw [upT_n _ _ htl]) ?_
        refine g_putq CF hK hM2 tl hTl0.1 (show upT G.1 tn _ tl = some (.inl 16) by rw [upT_n _ _ htl]; exact hTl) 1 1 rfl rfl (by decide) (Or.inl (hts _ q225)) (fun _ h => h) (Or.inl rfl) rfl (r := some a3) rfl rfl dJ3_grow_2_56 (fun H locs hM4 => ?_)
        exact g_aret CF hr (Or.inr ⟨_, rfl⟩) hlocks hM4 (r := some a3) ⟨_, rfl, 10, fun _ => none, rfl, rfl, (by omega), (by omega), fun i h0 h1 => absurd h1 (by omega)⟩ (by decide) (by decide) dJ3_grow_2_59
      · exact absurd rfl b17
  · have hsh : N.toNat >>> 1 = N.toNat / 2 := Nat.shiftRight_eq_div_pow _ 1
    refine lv_aload_n hx hb dJ3_grow_2_0 rfl (lv_at hl 0 rfl) ?_
    refine g_getr CF hK hM0 tl hTl 1 1 rfl rfl (by decide) (Or.inl (hts _ q225)) (fun _ h => h) rfl (G.2.2 ta) hfe dJ3_grow_2_1 ?_
    refine g_alen CF hK hM0 ta hfa (by decide) dJ3_grow_2_4 ?_
    refine x_top (b := ((N.toNat : Nat) : Int)) rfl ?_
    refine lv_istore_n (lv' := [(2, .int (jI (((N.toNat : Nat) : Int)))), (0, .ref (G.2.2 tl)), (1, .int (jI k))]) hx hb dJ3_grow_2_5 rfl hl (by decide) rfl (fun ls hl => ?_)
    refine lv_iload_n hx hb dJ3_grow_2_6 rfl (lv_at hl 0 rfl) ?_
    refine x_if_gt (tgt := 20) hx hb dJ3_grow_2_7 (by decide) (by omega) (fun b7 => ?_) (fun b7 => ?_)
    · refine lv_iload_n hx hb dJ3_grow_2_20 rfl (lv_at hl 0 rfl) ?_
      refine lv_iload_n hx hb dJ3_grow_2_21 rfl (lv_at hl 2 rfl) ?_
      refine lv_iload_n hx hb dJ3_grow_2_22 rfl (lv_at hl 0 rfl) ?_
      refine x_isub hx hb dJ3_grow_2_23 ?_
      refine lv_iload_n hx hb dJ3_grow_2_24 rfl (lv_at hl 0 rfl) ?_
      refine lv_iconst (v := jI 1) hx hb dJ3_grow_2_25 rfl ?_
      refine x_shrN (S := N.toNat) (w := 1) hx hb dJ3_grow_2_26 (by omega) (by omega) ?_
      refine g_calli (r := (((N.toNat : Nat) : Int)) + (if ((((N.toNat >>> 1) : Nat) : Int)) ≤ (k - (((N.toNat : Nat) : Int))) then (k - (((N.toNat : Nat) : Int))) else ((((N.toNat >>> 1) : Nat) : Int)))) hM0 hA (g_runS (As := [.int (jI (((N.toNat : Nat) : Int))), .int (jI (k - (((N.toNat : Nat) : Int)))), .int (jI ((((N.toNat >>> 1) : Nat) : Int)))]) (rest := []) CF hK hM0 (j_nl l E _ _ _  (((N.toNat : Nat) : Int)) (k - (((N.toNat : Nat) : Int))) ((((N.toNat >>> 1) : Nat) : Int)) (by omega) (by omega) (by omega)) (va_cwS 3 hts (lw_S q800 q801 q84 q802) rfl rfl rfl (by decide +kernel) ⟨Nat.le_of_ble_eq_true rfl, Nat.le_of_ble_eq_true rfl⟩) rfl hl.1 rfl (Nat.le_of_ble_eq_true rfl) dJ3_grow_2_27 ⟨Nat.le_of_ble_eq_true rfl, Nat.le_of_ble_eq_true rfl⟩) (fun H locs hM5 => ?_)
      obtain ⟨c2, hc2⟩ : ∃ z : Nat, (z : Int) = (((N.toNat : Nat) : Int)) + (if ((((N.toNat >>> 1) : Nat) : Int)) ≤ (k - (((N.toNat : Nat) : Int))) then (k - (((N.toNat : Nat) : Int))) else ((((N.toNat >>> 1) : Nat) : Int))) := ⟨((((N.toNat : Nat) : Int)) + (if ((((N.toNat >>> 1) : Nat) : Int)) ≤ (k - (((N.toNat : Nat) : Int))) then (k - (((N.toNat : Nat) : Int))) else ((((N.toNat >>> 1) : Nat) : Int)))).toNat, (by split <;> omega)⟩
      have hcb : N.toNat + 1 ≤ c2 ∧ c2 ≤ 600 := (by split at hc2 <;> omega)
      refine x_top (b := (c2 : Int)) hc2.symm ?_
      refine lv_istore_n (lv' := [(3, .int (jI ((c2 : Int)))), (2, .int (jI (((N.toNat : Nat) : Int)))), (0, .ref (G.2.2 tl)), (1, .int (jI k))]) hx hb dJ3_grow_2_30 rfl hl (by decide) rfl (fun ls hl => ?_)
      refine lv_aload_n hx hb dJ3_grow_2_31 rfl (lv_at hl 2 rfl) ?_
      refine lv_aload_n hx hb dJ3_grow_2_32 rfl (lv_at hl 2 rfl) ?_
      refine g_getr CF hK hM5 tl hTl 1 1 rfl rfl (by decide) (Or.inl (hts _ q225)) (fun _ h => h) rfl (G.2.2 ta) hfe dJ3_grow_2_33 ?_
      refine lv_iload_n hx hb dJ3_grow_2_36 rfl (lv_at hl 0 rfl) ?_
      refine g_callPA hM5 hA (g_runS (As := [.ref (G.2.2 ta), .int (jI ((c2 : Int)))]) (rest := [.ref (G.2.2 tl)]) CF hK hM5 (j_co l E _ _ _ ta tn N.toNat c2 hfa hTn hTn0 (by omega) (fun i h0 h1 y hy => hE2 i h0 (by omega) y (by show some (f i) = some y; rw [← hel i h0 (by omega)]; exact hy))) (va_cwS 2 hts (lw_S q810 q811 q85 q812) rfl rfl rfl (by decide +kernel) ⟨Nat.le_of_ble_eq_true rfl, Nat.le_of_ble_eq_true rfl⟩) rfl hl.1 rfl (Nat.le_of_ble_eq_true rfl) dJ3_grow_2_37 ⟨Nat.le_of_ble_eq_true rfl, Nat.le_of_ble_eq_true rfl⟩) (fun a7 G7 τ7 H locs hp hM6 => ?_)
      obtain ⟨rfl, rfl⟩ := hp
      refine lv_dup_x1 hx hb dJ3_grow_2_40 rfl rfl ?_
      refine x_stk (st' := [.ref a7, .ref (upT G.2.2 tn a7 tl), .ref a7]) (by rw [upT_n _ _ htl]) ?_
      refine g_putq CF hK hM6 tl hTl0.1 (show upT G.1 tn _ tl = some (.inl 16) by rw [upT_n _ _ htl]; exact hTl) 1 1 rfl rfl (by decide) (Or.inl (hts _ q225)) (fun _ h => h) (Or.inl rfl) rfl (r := some a7) rfl rfl dJ3_grow_2_41 (fun H locs hM8 => ?_)
      exact g_aret CF hr (Or.inr ⟨_, rfl⟩) hlocks hM8 (r := some a7) ⟨_, rfl, c2, _, rfl, rfl, (by omega), (by omega), fun i h0 h1 => (by rw [fillQ_in h0 (by omega)]; exact hel i h0 h1)⟩ (by decide) (by decide) dJ3_grow_2_44
    · exact absurd b7 (by omega)
set_option maxHeartbeats 400000 in
theorem j_gr (l : Launch) (E : y_E) (G : y_G) (σ : y_S) (sz : Nat) (tl : Nat) (ta : Nat) (tn : Nat) (N : Int) (f : Int → Nat) (hTl : G.1 tl = some (.inl 16)) (hTn : G.1 tn = none) (hTn0 : tn ≠ 0) (hTl0 : tl ≠ 0 ∧ ta ≠ 0 ∧ ta ≠ tl ∧ ta ≠ tn) (hFu : lFu tl ta N f G) (hE2 : lEl G N (fun i => some (f i))) (hZ0 : gZr E 0 = some (G.2.2 0) ∧ G.1 0 = some (.inr (3, 0))) (hSz : σ tl 2 = N) : gCt l yJ3_grow cJ3_grow 1 (some (.array (.object "java/lang/Object"))) ({ frames := 4, cells := 1, slots := 600, locals := 107 }) E [.ref (G.2.2 tl)] G σ sz (gPA (fun a G' τ' => ∃ (c2 : Nat) (row : Int → Option Nat), G' = (upT G.1 tn (some (.inr (3, c2))), up2 (upT G.2.1 tn row) tl 1 (some a), upT G.2.2 tn a) ∧ τ' = upT σ tn (fun _ => 0) ∧ N + 1 ≤ (c2 : Int) ∧ c2 ≤ 600 ∧ ∀ i : Int, 0 ≤ i → i < N → row i = some (f i))) 1 600 := by
  refine g_metF (by decide +kernel) (Nat.le_of_ble_eq_true rfl) ?_
  intro p e s m below meth c ls CF hr hlocks hnm hK hM0 hA hl
  have hx := CF.1
  have hb := CF.2.1
  have hts := CF.2.2.2.2
  have hl : lv_has ls 1 [(0, .ref (G.2.2 tl))] := hl
  refine lv_aload_n hx hb dJ3_grow_0 rfl (lv_at hl 0 rfl) ?_
  refine lv_aload_n hx hb dJ3_grow_1 rfl (lv_at hl 0 rfl) ?_
  refine g_geti CF hK hM0 tl hTl 2 2 rfl rfl (by decide) (Or.inl (hts _ q226)) (fun _ h => h) rfl dJ3_grow_2 ?_
  refine x_top (b := N) hSz ?_
  refine lv_iconst (v := jI 1) hx hb dJ3_grow_5 rfl ?_
  refine x_iadd hx hb dJ3_grow_6 ?_
  refine g_callPA hM0 hA (g_runV (As := [.int (jI (N + 1))]) (rest := []) CF hK hM0 hTl rfl (j_gr2 l E _ _ _ tl ta tn N f (N + 1) hTl hTn hTn0 hTl0 hFu hE2 hZ0 rfl) (cwV 1 hts (lw_V q796 q798 qs24 q70 q799) rfl rfl rfl (by decide +kernel) ⟨Nat.le_of_ble_eq_true rfl, Nat.le_of_ble_eq_true rfl⟩) rfl hl.1 rfl (Nat.le_of_ble_eq_true rfl) dJ3_grow_7 ⟨Nat.le_of_ble_eq_true rfl, Nat.le_of_ble_eq_true rfl⟩) (fun a2 G2 τ2 H locs hp hM1 => ?_)
  obtain ⟨cg, row, rfl, rfl, hcg1, hcg2, hrow⟩ := hp
  exact g_aret CF hr (Or.inr ⟨_, rfl⟩) hlocks hM1 (r := some a2) ⟨_, rfl, cg, row, rfl, rfl, hcg1, hcg2, hrow⟩ (by decide) (by decide) dJ3_grow_10
set_option maxHeartbeats 400000 in
theorem j_ad2 (l : Launch) (E : y_E) (G : y_G) (σ : y_S) (sz : Nat) (tl : Nat) (ta : Nat) (tn : Nat) (N : Int) (f : Int → Nat) (u : Nat) (ci : Nat) (x : Nat) (ar : Nat) (k : Int) (hTl : G.1 tl = some (.inl 16)) (hTn : G.1 tn = none) (hTn0 : tn ≠ 0) (hTl0 : tl ≠ 0 ∧ ta ≠ 0 ∧ ta ≠ tl ∧ ta ≠ tn) (hE2 : lEl G N (fun i => some (f i))) (hZ0 : gZr E 0 = some (G.2.2 0) ∧ G.1 0 = some (.inr (3, 0))) (hLs : lLs tl ta N f G σ) (hNb : 0 ≤ N ∧ N ≤ 300) (hU : G.1 u = some (.inl ci) ∧ G.2.2 u = x) (hAr : G.2.1 tl 1 = some ar) (hk : k = N) : gCt l yJ3_add_2 cJ3_add_2 4 none ({ frames := 5, cells := 1, slots := 600, locals := 127 }) E [.ref (G.2.2 tl), .ref x, .ref ar, .int (jI k)] G σ sz (gPV (lAd tl ta tn N f x G σ)) 1 600 := by
  refine g_metF (by decide +kernel) (Nat.le_of_ble_eq_true rfl) ?_
  intro p e s m below meth c ls CF hr hlocks hnm hK hM0 hA hl
  have hx := CF.1
  have hb := CF.2.1
  have hts := CF.2.2.2.2
  have hl : lv_has ls 4 [(0, .ref (G.2.2 tl)), (1, .ref x), (2, .ref ar), (3, .int (jI k))] := hl
  have htl : tl ≠ tn := fun z => (by rw [z, hTn] at hTl; cases hTl)
  have hun : u ≠ tn := fun z => (by rw [z, hTn] at hU; cases hU.1)
  obtain ⟨qc, hqc, -⟩ := hM0.1.1 u _ hU.1
  have hk9 := hk.symm
  subst hk9
  obtain ⟨hSz, hz | ⟨cap, hk1, hk2, hk3, hk4, hk5, hk6⟩⟩ := id hLs
  · obtain rfl : ar = G.2.2 0 := Option.some.inj (hAr.symm.trans hz.2.2)
    have hFu : lFu tl ta N f G := Or.inl ⟨hz.1, hz.2.2⟩
    refine lv_iload_n hx hb dJ3_add_2_0 rfl (lv_at hl 3 rfl) ?_
    refine lv_aload_n hx hb dJ3_add_2_1 rfl (lv_at hl 2 rfl) ?_
    refine g_alen CF hK hM0 0 hZ0.2 (by decide) dJ3_add_2_2 ?_
    refine x_icmp_ne (tgt := 11) hx hb dJ3_add_2_3 (by decide) (by omega) (by omega) (fun b3 => ?_) (fun b3 => ?_)
    · exact absurd b3 (by omega)
    · refine lv_aload_n hx hb dJ3_add_2_6 rfl (lv_at hl 0 rfl) ?_
      refine g_callPA hM0 hA (g_runV (As := []) (rest := []) CF hK hM0 hTl rfl (j_gr l E _ _ _ tl ta tn N f  hTl hTn hTn0 hTl0 (by first | omega | assumption | (refine ⟨?_, ?_⟩ <;> omega)) hE2 hZ0 hSz) (cwV 0 hts (lw_V q792 q794 qs23 q70 q795) rfl rfl rfl (by decide +kernel) ⟨Nat.le_of_ble_eq_true rfl, Nat.le_of_ble_eq_true rfl⟩) rfl hl.1 rfl (Nat.le_of_ble_eq_true rfl) dJ3_add_2_7 ⟨Nat.le_of_ble_eq_true rfl, Nat.le_of_ble_eq_true rfl⟩) (fun a2 G2 τ2 H locs hp hM1 => ?_)
      obtain ⟨cg, row, rfl, rfl, hcg1, hcg2, hrow⟩ := hp
      refine lv_astore_n (lv' := [(2, .ref a2), (0, .ref (G.2.2 tl)), (1, .ref x), (3, .int (jI N))]) hx hb dJ3_add_2_10 rfl hl (by decide) rfl (fun ls hl => ?_)
      have hl := lv_cast hl (b := [(2, .ref (upT G.2.2 tn a2 tn)), (0, .ref (upT G.2.2 tn a2 tl)), (1, .ref x), (3, .int (jI N))]) (by rw [upT_s, upT_n _ _ htl])
      refine lv_aload_n hx hb dJ3_add_2_11 rfl (lv_at hl 0 rfl) ?_
      refine lv_iload_n hx hb dJ3_add_2_12 rfl (lv_at hl 3 rfl) ?_
      refine lv_aload_n hx hb dJ3_add_2_13 rfl (lv_at hl 2 rfl) ?_
      refine g_aast CF hK hM1 tn hTn0 (show upT G.1 tn _ tn = some (.inr (3, cg)) by rw [upT_s]) (by decide) rfl (i := N) (by omega) (by omega) (by omega) (show upT G.1 tn _ u = some (.inl ci) by rw [upT_n _ _ hun]; exact hU.1) hqc (g_asO hK hqc) (by first | exact hU.2 | (show upT G.2.2 tn _ u = x; rw [upT_n _ _ hun]; exact hU.2)) dJ3_add_2_14 (fun H locs hM3 => ?_)
      refine lv_aload_n hx hb dJ3_add_2_15 rfl (lv_at hl 1 rfl) ?_
      refine lv_iload_n hx hb dJ3_add_2_16 rfl (lv_at hl 3 rfl) ?_
      refine lv_iconst (v := jI 1) hx hb dJ3_add_2_17 rfl ?_
      refine x_iadd hx hb dJ3_add_2_18 ?_
      refine g_puti CF hK hM3 tl hTl0.1 (show upT G.1 tn _ tl = some (.inl 16) by rw [upT_n _ _ htl]; exact hTl) 2 2 rfl rfl (by decide) (Or.inl (hts _ q226)) (fun _ h => h) (Or.inl rfl) rfl (v := N + 1) rfl rfl (by omega) dJ3_add_2_19 (fun H locs hM4 => ?_)
      have hM5 := gw_M (ta := ta) (tn := tn) hM4 hTl0.2.1 hTn0
      exact g_vret CF hr hlocks hM5 ⟨rfl, lAd_g hTl0.2.2.1 (Ne.symm htl) hTl0.2.2.2 hTn rfl (by omega) hcg1 hcg2 hrow⟩ (by decide) (by decide) dJ3_add_2_22
  · obtain rfl : ar = G.2.2 ta := Option.some.inj (hAr.symm.trans hk5)
    refine lv_iload_n hx hb dJ3_add_2_0 rfl (lv_at hl 3 rfl) ?_
    refine lv_aload_n hx hb dJ3_add_2_1 rfl (lv_at hl 2 rfl) ?_
    refine g_alen CF hK hM0 ta hk1 (by decide) dJ3_add_2_2 ?_
    refine x_icmp_ne (tgt := 11) hx hb dJ3_add_2_3 (by decide) (by omega) (by omega) (fun b3 => ?_) (fun b3 => ?_)
    · refine lv_aload_n hx hb dJ3_add_2_11 rfl (lv_at hl 2 rfl) ?_
      refine lv_iload_n hx hb dJ3_add_2_12 rfl (lv_at hl 3 rfl) ?_
      refine lv_aload_n hx hb dJ3_add_2_13 rfl (lv_at hl 1 rfl) ?_
      refine g_aast CF hK hM0 ta hTl0.2.1 hk1 (by decide) rfl (i := N) (by omega) (by omega) (by omega) hU.1 hqc (g_asO hK hqc) (by first | exact hU.2 | (show upT G.2.2 tn _ u = x; rw [upT_n _ _ hun]; exact hU.2)) dJ3_add_2_14 (fun H locs hM6 => ?_)
      refine lv_aload_n hx hb dJ3_add_2_15 rfl (lv_at hl 0 rfl) ?_
      refine lv_iload_n hx hb dJ3_add_2_16 rfl (lv_at hl 3 rfl) ?_
      refine lv_iconst (v := jI 1) hx hb dJ3_add_2_17 rfl ?_
      refine x_iadd hx hb dJ3_add_2_18 ?_
      refine g_puti CF hK hM6 tl hTl0.1 hTl 2 2 rfl rfl (by decide) (Or.inl (hts _ q226)) (fun _ h => h) (Or.inl rfl) rfl (v := N + 1) rfl rfl (by omega) dJ3_add_2_19 (fun H locs hM7 => ?_)
      exact g_vret CF hr hlocks hM7 ⟨rfl, lAd_r hTl0.2.2.1 hk1 rfl (by omega) (by omega) hk4 hk5 hk6⟩ (by decide) (by decide) dJ3_add_2_22
    · have hce : cap = N.toNat := (by omega)
      have hFu : lFu tl ta N f G := Or.inr ⟨by omega, by omega, by rw [hk1, hce], hk5, hk6⟩
      refine lv_aload_n hx hb dJ3_add_2_6 rfl (lv_at hl 0 rfl) ?_
      refine g_callPA hM0 hA (g_runV (As := []) (rest := []) CF hK hM0 hTl rfl (j_gr l E _ _ _ tl ta tn N f  hTl hTn hTn0 hTl0 (by first | omega | assumption | (refine ⟨?_, ?_⟩ <;> omega)) hE2 hZ0 hSz) (cwV 0 hts (lw_V q792 q794 qs23 q70 q795) rfl rfl rfl (by decide +kernel) ⟨Nat.le_of_ble_eq_true rfl, Nat.le_of_ble_eq_true rfl⟩) rfl hl.1 rfl (Nat.le_of_ble_eq_true rfl) dJ3_add_2_7 ⟨Nat.le_of_ble_eq_true rfl, Nat.le_of_ble_eq_true rfl⟩) (fun a9 G9 τ9 H locs hp hM8 => ?_)
      obtain ⟨cg, row, rfl, rfl, hcg1, hcg2, hrow⟩ := hp
      refine lv_astore_n (lv' := [(2, .ref a9), (0, .ref (G.2.2 tl)), (1, .ref x), (3, .int (jI N))]) hx hb dJ3_add_2_10 rfl hl (by decide) rfl (fun ls hl => ?_)
      have hl := lv_cast hl (b := [(2, .ref (upT G.2.2 tn a9 tn)), (0, .ref (upT G.2.2 tn a9 tl)), (1, .ref x), (3, .int (jI N))]) (by rw [upT_s, upT_n _ _ htl])
      refine lv_aload_n hx hb dJ3_add_2_11 rfl (lv_at hl 0 rfl) ?_
      refine lv_iload_n hx hb dJ3_add_2_12 rfl (lv_at hl 3 rfl) ?_
      refine lv_aload_n hx hb dJ3_add_2_13 rfl (lv_at hl 2 rfl) ?_
      refine g_aast CF hK hM8 tn hTn0 (show upT G.1 tn _ tn = some (.inr (3, cg)) by rw [upT_s]) (by decide) rfl (i := N) (by omega) (by omega) (by omega) (show upT G.1 tn _ u = some (.inl ci) by rw [upT_n _ _ hun]; exact hU.1) hqc (g_asO hK hqc) (by first | exact hU.2 | (show upT G.2.2 tn _ u = x; rw [upT_n _ _ hun]; exact hU.2)) dJ3_add_2_14 (fun H locs hM10 => ?_)
      refine lv_aload_n hx hb dJ3_add_2_15 rfl (lv_at hl 1 rfl) ?_
      refine lv_iload_n hx hb dJ3_add_2_16 rfl (lv_at hl 3 rfl) ?_
      refine lv_iconst (v := jI 1) hx hb dJ3_add_2_17 rfl ?_
      refine x_iadd hx hb dJ3_add_2_18 ?_
      refine g_puti CF hK hM10 tl hTl0.1 (show upT G.1 tn _ tl = some (.inl 16) by rw [upT_n _ _ htl]; exact hTl) 2 2 rfl rfl (by decide) (Or.inl (hts _ q226)) (fun _ h => h) (Or.inl rfl) rfl (v := N + 1) rfl rfl (by omega) dJ3_add_2_19 (fun H locs hM11 => ?_)
      have hM12 := gw_M (ta := ta) (tn := tn) hM11 hTl0.2.1 hTn0
      exact g_vret CF hr hlocks hM12 ⟨rfl, lAd_g hTl0.2.2.1 (Ne.symm htl) hTl0.2.2.2 hTn rfl (by omega) hcg1 hcg2 hrow⟩ (by decide) (by decide) dJ3_add_2_22
theorem lAd.m {tl ta tn : Nat} {N : Int} {f : Int → Nat} {x : Nat} {G : y_G} {σ : y_S} {G' : y_G} {τ' : y_S} {k v : Int} (h : lAd tl ta tn N f x G (up2 σ tl k v) G' τ') : lAd tl ta tn N f x G σ G' τ' :=
  ⟨h.1, fun t a b => ⟨(h.2.1 t a b).1, (h.2.1 t a b).2.1, fun c => by rw [(h.2.1 t a b).2.2 c, up2_n _ _ _ c]⟩, h.2.2⟩
theorem lLs.mc {tl ta : Nat} {N : Int} {f : Int → Nat} {G : y_G} {σ : y_S} (h : lLs tl ta N f G σ) {k v : Int} (hk : k ≠ 2) : lLs tl ta N f G (up2 σ tl k v) := by
  unfold lLs at h ⊢
  rw [up2_s, up1_n _ _ (Ne.symm hk)]
  exact h
set_option maxHeartbeats 400000 in
theorem j_add (l : Launch) (E : y_E) (G : y_G) (σ : y_S) (sz : Nat) (tl : Nat) (ta : Nat) (tn : Nat) (N : Int) (f : Int → Nat) (u : Nat) (ci : Nat) (x : Nat) (hTl : G.1 tl = some (.inl 16)) (hTn : G.1 tn = none) (hTn0 : tn ≠ 0) (hTl0 : tl ≠ 0 ∧ ta ≠ 0 ∧ ta ≠ tl ∧ ta ≠ tn) (hE2 : lEl G N (fun i => some (f i))) (hZ0 : gZr E 0 = some (G.2.2 0) ∧ G.1 0 = some (.inr (3, 0))) (hLs : lLs tl ta N f G σ) (hNb : 0 ≤ N ∧ N ≤ 300) (hU : G.1 u = some (.inl ci) ∧ G.2.2 u = x) : gCt l yJ3_add cJ3_add 2 (some .boolean) ({ frames := 6, cells := 1, slots := 600, locals := 150 }) E [.ref (G.2.2 tl), .ref x] G σ sz (gPI (fun r G' τ' => r = 1 ∧ lAd tl ta tn N f x G σ G' τ')) 1 600 := by
  refine g_metF (by decide +kernel) (Nat.le_of_ble_eq_true rfl) ?_
  intro p e s m below meth c ls CF hr hlocks hnm hK hM0 hA hl
  have hx := CF.1
  have hb := CF.2.1
  have hts := CF.2.2.2.2
  have hl : lv_has ls 2 [(0, .ref (G.2.2 tl)), (1, .ref x)] := hl
  obtain ⟨ar, har⟩ : ∃ z : Nat, G.2.1 tl 1 = some z := hLs.2.elim (fun h => ⟨_, h.2.2⟩) (fun ⟨cap, h1, h2, h3, h4, h5, h6⟩ => ⟨_, h5⟩)
  refine lv_aload_n hx hb dJ3_add_0 rfl (lv_at hl 0 rfl) ?_
  refine lv_dup hx hb dJ3_add_1 rfl ?_
  refine g_geti CF hK hM0 tl hTl 0 0 rfl rfl (by decide) (Or.inl (hts _ q228)) (u_same (hts _ q229)) rfl dJ3_add_2 ?_
  refine lv_iconst (v := jI 1) hx hb dJ3_add_5 rfl ?_
  refine x_iadd hx hb dJ3_add_6 ?_
  refine x_wrI ?_
  refine g_puti CF hK hM0 tl hTl0.1 hTl 0 0 rfl rfl (by decide) (Or.inl (hts _ q228)) (u_same (hts _ q229)) (Or.inl rfl) rfl (v := wr ((σ tl 0) + 1)) rfl rfl (by have f0 := wr_r ((σ tl 0) + 1); omega) dJ3_add_7 (fun H locs hM1 => ?_)
  refine lv_aload_n hx hb dJ3_add_10 rfl (lv_at hl 0 rfl) ?_
  refine lv_aload_n hx hb dJ3_add_11 rfl (lv_at hl 1 rfl) ?_
  refine lv_aload_n hx hb dJ3_add_12 rfl (lv_at hl 0 rfl) ?_
  refine g_getr CF hK hM1 tl hTl 1 1 rfl rfl (by decide) (Or.inl (hts _ q225)) (fun _ h => h) rfl ar har dJ3_add_13 ?_
  refine lv_aload_n hx hb dJ3_add_16 rfl (lv_at hl 0 rfl) ?_
  refine g_geti CF hK hM1 tl hTl 2 2 rfl rfl (by decide) (Or.inl (hts _ q226)) (fun _ h => h) rfl dJ3_add_17 ?_
  refine x_top (b := σ tl 2) (by rw [up2_s, up1_n _ _ (by decide)]) ?_
  refine x_top (b := N) hLs.1 ?_
  refine g_callPV hM1 hA (g_runV (As := [.ref x, .ref ar, .int (jI N)]) (rest := []) CF hK hM1 hTl rfl (j_ad2 l E _ _ _ tl ta tn N f u ci x ar N hTl hTn hTn0 hTl0 hE2 hZ0 (hLs.mc (by decide)) hNb hU har rfl) (cwV 3 hts (lw_V q788 q790 qs22 q70 q791) rfl rfl rfl (by decide +kernel) ⟨Nat.le_of_ble_eq_true rfl, Nat.le_of_ble_eq_true rfl⟩) rfl hl.1 rfl (Nat.le_of_ble_eq_true rfl) dJ3_add_20 ⟨Nat.le_of_ble_eq_true rfl, Nat.le_of_ble_eq_true rfl⟩) (fun G3 τ3 H locs hp hM2 => ?_)
  refine lv_iconst (v := jI 1) hx hb dJ3_add_23 rfl ?_
  exact g_zret CF hr hlocks hM2 (by omega) ⟨1, rfl, rfl, hp.m⟩ (by decide) (by decide) dJ3_add_24
set_option maxHeartbeats 400000 in
theorem j_clear (l : Launch) (E : y_E) (G : y_G) (σ : y_S) (sz : Nat) (tl : Nat) (ta : Nat) (N : Int) (f : Int → Nat) (hTl : G.1 tl = some (.inl 16)) (hTl2 : tl ≠ 0 ∧ ta ≠ 0 ∧ ta ≠ tl) (hZ0 : gZr E 0 = some (G.2.2 0) ∧ G.1 0 = some (.inr (3, 0))) (hLs : lLs tl ta N f G σ) (hNb : 0 ≤ N ∧ N ≤ 300) : gCt l yJ3_clear cJ3_clear 4 none ({ frames := 0, cells := 0, slots := 0, locals := 0 }) E [.ref (G.2.2 tl)] G σ sz (gPV (fun G' τ' => ∃ rf : Nat → Int → Option Nat, (G.1, rf, G.2.2) = G' ∧ (∀ (t : Nat) (k : Int), t ≠ ta → rf t k = G.2.1 t k) ∧ (∀ t : Nat, t ≠ tl → τ' t = σ t) ∧ ∀ f2 : Int → Nat, lLs tl ta 0 f2 G' τ')) 0 0 := by
  refine g_metF (by decide +kernel) (Nat.le_of_ble_eq_true rfl) ?_
  intro p e s m below meth c ls CF hr hlocks hnm hK hM0 hA hl
  have hx := CF.1
  have hb := CF.2.1
  have hts := CF.2.2.2.2
  have hl : lv_has ls 4 [(0, .ref (G.2.2 tl))] := hl
  obtain ⟨hSz, hz | ⟨cap, hk1, hk2, hk3, hk4, hk5, hk6⟩⟩ := id hLs
  · refine lv_aload_n hx hb dJ3_clear_0 rfl (lv_at hl 0 rfl) ?_
    refine lv_dup hx hb dJ3_clear_1 rfl ?_
    refine g_geti CF hK hM0 tl hTl 0 0 rfl rfl (by decide) (Or.inl (hts _ q228)) (u_same (hts _ q229)) rfl dJ3_clear_2 ?_
    refine lv_iconst (v := jI 1) hx hb dJ3_clear_5 rfl ?_
    refine x_iadd hx hb dJ3_clear_6 ?_
    refine x_wrI ?_
    refine g_puti CF hK hM0 tl hTl2.1 hTl 0 0 rfl rfl (by decide) (Or.inl (hts _ q228)) (u_same (hts _ q229)) (Or.inl rfl) rfl (v := wr ((σ tl 0) + 1)) rfl rfl (by have f0 := wr_r ((σ tl 0) + 1); omega) dJ3_clear_7 (fun H locs hM1 => ?_)
    refine lv_aload_n hx hb dJ3_clear_10 rfl (lv_at hl 0 rfl) ?_
    refine g_getr CF hK hM1 tl hTl 1 1 rfl rfl (by decide) (Or.inl (hts _ q225)) (fun _ h => h) rfl (G.2.2 0) hz.2.2 dJ3_clear_11 ?_
    refine lv_astore_n (lv' := [(1, .ref (G.2.2 0)), (0, .ref (G.2.2 tl))]) hx hb dJ3_clear_14 rfl hl (by decide) rfl (fun ls hl => ?_)
    refine lv_aload_n hx hb dJ3_clear_15 rfl (lv_at hl 1 rfl) ?_
    refine g_geti CF hK hM1 tl hTl 2 2 rfl rfl (by decide) (Or.inl (hts _ q226)) (fun _ h => h) rfl dJ3_clear_16 ?_
    refine x_top (b := σ tl 2) (by rw [up2_s, up1_n _ _ (by decide)]) ?_
    refine x_top (b := N) hSz ?_
    refine lv_istore_n (lv' := [(2, .int (jI N)), (1, .ref (G.2.2 0)), (0, .ref (G.2.2 tl))]) hx hb dJ3_clear_19 rfl hl (by decide) rfl (fun ls hl => ?_)
    refine lv_aload_n hx hb dJ3_clear_20 rfl (lv_at hl 2 rfl) ?_
    refine lv_iconst (v := jI 0) hx hb dJ3_clear_21 rfl ?_
    refine lv_dup_x1 hx hb dJ3_clear_22 rfl rfl ?_
    refine g_puti CF hK hM1 tl hTl2.1 hTl 2 2 rfl rfl (by decide) (Or.inl (hts _ q226)) (fun _ h => h) (Or.inl rfl) rfl (v := 0) rfl rfl (by omega) dJ3_clear_23 (fun H locs hM2 => ?_)
    refine lv_istore_n (lv' := [(3, .int (jI 0)), (2, .int (jI N)), (1, .ref (G.2.2 0)), (0, .ref (G.2.2 tl))]) hx hb dJ3_clear_26 rfl hl (by decide) rfl (fun ls hl => ?_)
    have c27 : ∀ (n27 : Nat) (i : Int) (rf : Nat → Int → Option Nat) (H : Heap) (locs : List Loc) (ls : Array Slot), (0 ≤ i) → (i ≤ N) → (∀ (t : Nat) (k : Int), t ≠ ta → rf t k = G.2.1 t k) → ((N - i).toNat < n27) → gM E (gA G sz) (G.1, rf, G.2.2) (up2 (up2 σ tl 0 (wr (σ tl 0 + 1))) tl 2 0) s.heap H locs → lv_has ls 4 [(0, .ref (G.2.2 tl)), (1, .ref (G.2.2 0)), (2, .int (jI N)), (3, .int (jI i))] → W p l e ({ frames := 0, cells := 0, slots := 0, locals := 0 } : Room) s m ([.ref (G.2.2 tl)] : List Value).toArray below meth c H locs 0 0 (MQ below (gQ E G sz (gPV (fun G' τ' => ∃ rf : Nat → Int → Option Nat, (G.1, rf, G.2.2) = G' ∧ (∀ (t : Nat) (k : Int), t ≠ ta → rf t k = G.2.1 t k) ∧ (∀ t : Nat, t ≠ tl → τ' t = σ t) ∧ ∀ f2 : Int → Nat, lLs tl ta 0 f2 G' τ'))) ([.ref (G.2.2 tl)] : List Value).toArray s 0 0 (gA G sz)) (F0 m 27 ls []) := by
      intro n27
      induction n27 with
      | zero => intro i rf H locs ls hi0 hi1 hrf hmu; exact absurd hmu (Nat.not_lt_zero _)
      | succ n27 ih27 =>
        intro i rf H locs ls hi0 hi1 hrf hmu27 hM3 hl
        refine lv_iload_n hx hb dJ3_clear_27 rfl (lv_at hl 3 rfl) ?_
        refine lv_iload_n hx hb dJ3_clear_28 rfl (lv_at hl 2 rfl) ?_
        refine x_icmp_ge (tgt := 42) hx hb dJ3_clear_29 (by decide) (by omega) (by omega) (fun b29 => ?_) (fun b29 => ?_)
        · exact g_vret CF hr hlocks hM3 ⟨rfl, rf, rfl, hrf, fun t h => (by rw [up2_n _ _ _ h, up2_n _ _ _ h]), fun f2 => ⟨up2_ss _ _ _ _, Or.inl ⟨rfl, hz.2.1, (by rw [← hz.2.2]; exact hrf tl 1 (Ne.symm hTl2.2.2))⟩⟩⟩ (by decide) (by decide) dJ3_clear_42
        · exact absurd b29 (by omega)
    exact c27 _ 0 G.2.1 _ _ _ (by first | omega | assumption | rfl) (by first | omega | assumption | rfl) (fun t k _ => rfl) (Nat.lt_succ_self _) hM2 (lv_sub hl [3, 2, 1, 0] rfl)
  · refine lv_aload_n hx hb dJ3_clear_0 rfl (lv_at hl 0 rfl) ?_
    refine lv_dup hx hb dJ3_clear_1 rfl ?_
    refine g_geti CF hK hM0 tl hTl 0 0 rfl rfl (by decide) (Or.inl (hts _ q228)) (u_same (hts _ q229)) rfl dJ3_clear_2 ?_
    refine lv_iconst (v := jI 1) hx hb dJ3_clear_5 rfl ?_
    refine x_iadd hx hb dJ3_clear_6 ?_
    refine x_wrI ?_
    refine g_puti CF hK hM0 tl hTl2.1 hTl 0 0 rfl rfl (by decide) (Or.inl (hts _ q228)) (u_same (hts _ q229)) (Or.inl rfl) rfl (v := wr ((σ tl 0) + 1)) rfl rfl (by have f0 := wr_r ((σ tl 0) + 1); omega) dJ3_clear_7 (fun H locs hM4 => ?_)
    refine lv_aload_n hx hb dJ3_clear_10 rfl (lv_at hl 0 rfl) ?_
    refine g_getr CF hK hM4 tl hTl 1 1 rfl rfl (by decide) (Or.inl (hts _ q225)) (fun _ h => h) rfl (G.2.2 ta) hk5 dJ3_clear_11 ?_
    refine lv_astore_n (lv' := [(1, .ref (G.2.2 ta)), (0, .ref (G.2.2 tl))]) hx hb dJ3_clear_14 rfl hl (by decide) rfl (fun ls hl => ?_)
    refine lv_aload_n hx hb dJ3_clear_15 rfl (lv_at hl 1 rfl) ?_
    refine g_geti CF hK hM4 tl hTl 2 2 rfl rfl (by decide) (Or.inl (hts _ q226)) (fun _ h => h) rfl dJ3_clear_16 ?_
    refine x_top (b := σ tl 2) (by rw [up2_s, up1_n _ _ (by decide)]) ?_
    refine x_top (b := N) hSz ?_
    refine lv_istore_n (lv' := [(2, .int (jI N)), (1, .ref (G.2.2 ta)), (0, .ref (G.2.2 tl))]) hx hb dJ3_clear_19 rfl hl (by decide) rfl (fun ls hl => ?_)
    refine lv_aload_n hx hb dJ3_clear_20 rfl (lv_at hl 2 rfl) ?_
    refine lv_iconst (v := jI 0) hx hb dJ3_clear_21 rfl ?_
    refine lv_dup_x1 hx hb dJ3_clear_22 rfl rfl ?_
    refine g_puti CF hK hM4 tl hTl2.1 hTl 2 2 rfl rfl (by decide) (Or.inl (hts _ q226)) (fun _ h => h) (Or.inl rfl) rfl (v := 0) rfl rfl (by omega) dJ3_clear_23 (fun H locs hM5 => ?_)
    refine lv_istore_n (lv' := [(3, .int (jI 0)), (2, .int (jI N)), (1, .ref (G.2.2 ta)), (0, .ref (G.2.2 tl))]) hx hb dJ3_clear_26 rfl hl (by decide) rfl (fun ls hl => ?_)
    have c27 : ∀ (n27 : Nat) (i : Int) (rf : Nat → Int → Option Nat) (H : Heap) (locs : List Loc) (ls : Array Slot), (0 ≤ i) → (i ≤ N) → (∀ (t : Nat) (k : Int), t ≠ ta → rf t k = G.2.1 t k) → ((N - i).toNat < n27) → gM E (gA G sz) (G.1, rf, G.2.2) (up2 (up2 σ tl 0 (wr (σ tl 0 + 1))) tl 2 0) s.heap H locs → lv_has ls 4 [(0, .ref (G.2.2 tl)), (1, .ref (G.2.2 ta)), (2, .int (jI N)), (3, .int (jI i))] → W p l e ({ frames := 0, cells := 0, slots := 0, locals := 0 } : Room) s m ([.ref (G.2.2 tl)] : List Value).toArray below meth c H locs 0 0 (MQ below (gQ E G sz (gPV (fun G' τ' => ∃ rf : Nat → Int → Option Nat, (G.1, rf, G.2.2) = G' ∧ (∀ (t : Nat) (k : Int), t ≠ ta → rf t k = G.2.1 t k) ∧ (∀ t : Nat, t ≠ tl → τ' t = σ t) ∧ ∀ f2 : Int → Nat, lLs tl ta 0 f2 G' τ'))) ([.ref (G.2.2 tl)] : List Value).toArray s 0 0 (gA G sz)) (F0 m 27 ls []) := by
      intro n27
      induction n27 with
      | zero => intro i rf H locs ls hi0 hi1 hrf hmu; exact absurd hmu (Nat.not_lt_zero _)
      | succ n27 ih27 =>
        intro i rf H locs ls hi0 hi1 hrf hmu27 hM6 hl
        refine lv_iload_n hx hb dJ3_clear_27 rfl (lv_at hl 3 rfl) ?_
        refine lv_iload_n hx hb dJ3_clear_28 rfl (lv_at hl 2 rfl) ?_
        refine x_icmp_ge (tgt := 42) hx hb dJ3_clear_29 (by decide) (by omega) (by omega) (fun b29 => ?_) (fun b29 => ?_)
        · exact g_vret CF hr hlocks hM6 ⟨rfl, rf, rfl, hrf, fun t h => (by rw [up2_n _ _ _ h, up2_n _ _ _ h]), fun f2 => ⟨up2_ss _ _ _ _, Or.inr ⟨cap, hk1, by omega, hk3, hk4, (by rw [← hk5]; exact hrf tl 1 (Ne.symm hTl2.2.2)), fun i a b => absurd a (by omega)⟩⟩⟩ (by decide) (by decide) dJ3_clear_42
        · refine lv_aload_n hx hb dJ3_clear_32 rfl (lv_at hl 1 rfl) ?_
          refine lv_iload_n hx hb dJ3_clear_33 rfl (lv_at hl 3 rfl) ?_
          refine lv_null hx hb dJ3_clear_34 ?_
          refine g_aastN CF hK hM6 ta hTl2.2.1 hk1 (by decide) rfl (i := i) (by omega) (by omega) (by omega) dJ3_clear_35 (fun H locs hM7 => ?_)
          refine x_iinc (lv' := [(3, .int (jI (i + 1))), (0, .ref (G.2.2 tl)), (1, .ref (G.2.2 ta)), (2, .int (jI N))]) hx hb dJ3_clear_36 hl (k := 3) rfl (by decide) rfl (fun ls hl => ?_)
          refine lv_goto (tgt := 27) hx hb dJ3_clear_39 (by decide) ?_
          exact ih27  (i + 1) (up2 rf ta i (none)) _ _ _ (by first | omega | assumption | rfl) (by first | omega | assumption | rfl) (fun t k h => (by rw [up2_n _ _ _ h]; exact hrf t k h)) (by omega) hM7 (lv_sub hl [1, 2, 3, 0] rfl)
    exact c27 _ 0 G.2.1 _ _ _ (by first | omega | assumption | rfl) (by first | omega | assumption | rfl) (fun t k _ => rfl) (Nat.lt_succ_self _) hM5 (lv_sub hl [3, 2, 1, 0] rfl)
