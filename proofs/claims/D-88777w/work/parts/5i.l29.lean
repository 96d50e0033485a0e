/-! NODES: their methods (2) -/
def mny (L : List Int) : Int := if 1000 ≤ (L.length : Int) then 1000 else (L.length : Int)
theorem mny_r (L : List Int) : 0 ≤ mny L ∧ mny L ≤ 1000 := by unfold mny; split <;> omega
theorem mny_app (A B : List Int) : (if 1000 ≤ mny A + mny B then 1000 else mny A + mny B) = mny (A ++ B) := by
  unfold mny
  rw [List.length_append]
  (repeat' split) <;> omega
theorem rdRep_len (L : List Int) : ∀ k : Nat, (rdRep k L).length = k * L.length
  | 0 => by show 0 = 0 * _; rw [Nat.zero_mul]
  | k + 1 => by show (rdRep k L ++ L).length = _; rw [List.length_append, rdRep_len L k, Nat.succ_mul]
theorem mul_b {t x : Int} (h0 : 0 ≤ t) (h1 : t ≤ 9) (x0 : 0 ≤ x) (x1 : x ≤ 1000) : 0 ≤ t * x ∧ t * x ≤ 9000 :=
  ⟨Int.mul_nonneg h0 x0, Int.le_trans (Int.mul_le_mul_of_nonneg_right h1 x0) (Int.le_trans (Int.mul_le_mul_of_nonneg_left x1 (by decide)) (by decide))⟩
theorem mny_rep {t : Int} (h0 : 0 ≤ t) (L : List Int) : (if 1000 ≤ t * mny L then 1000 else t * mny L) = mny (rdRep t.toNat L) := by
  obtain ⟨k, rfl⟩ := Int.eq_ofNat_of_zero_le h0
  show (if 1000 ≤ (k : Int) * mny L then 1000 else (k : Int) * mny L) = mny (rdRep k L)
  unfold mny
  rw [rdRep_len]
  have e : ((k * L.length : Nat) : Int) = (k : Int) * (L.length : Int) := Int.natCast_mul _ _
  rw [e]
  by_cases c : 1000 ≤ (L.length : Int)
  · rw [if_pos c]
    by_cases k0 : k = 0
    · subst k0
      rw [show ((0 : Nat) : Int) = 0 from rfl, Int.zero_mul, Int.zero_mul]
    · have h1 : (1 : Int) ≤ (k : Int) := by omega
      have h2 : (1 : Int) * 1000 ≤ (k : Int) * 1000 := Int.mul_le_mul_of_nonneg_right h1 (by decide)
      have h3 : (1 : Int) * (L.length : Int) ≤ (k : Int) * (L.length : Int) := Int.mul_le_mul_of_nonneg_right h1 (by omega)
      rw [if_pos (by omega), if_pos (by omega)]
  · rw [if_neg c]
/-- a work is added -/
def advW (σ : y_S) (v : Int) : y_S := up2 (up2 (up2 σ 18 (σ 60 20) (v / 100)) 60 20 (σ 60 20 + 1)) 19 (σ 60 20) (v % 100)
def gvS : List Int → y_S → y_S
  | [], σ => σ
  | v :: L, σ => gvS L (advW σ v)
theorem gvS_app : ∀ (A B : List Int) (σ : y_S), gvS B (gvS A σ) = gvS (A ++ B) σ
  | [], _, _ => rfl
  | _ :: A, B, _ => gvS_app A B _
theorem gvS_t {t : Nat} (h1 : t ≠ 18) (h2 : t ≠ 19) (h3 : t ≠ 60) : ∀ (L : List Int) (σ : y_S), gvS L σ t = σ t
  | [], _ => rfl
  | v :: L, σ => by
    show gvS L (advW σ v) t = _
    rw [gvS_t h1 h2 h3 L]
    unfold advW
    rw [up2_n _ _ _ h2, up2_n _ _ _ h3, up2_n _ _ _ h1]
theorem gvS_60 {k : Int} (h : k ≠ 20) : ∀ (L : List Int) (σ : y_S), gvS L σ 60 k = σ 60 k
  | [], _ => rfl
  | v :: L, σ => by
    show gvS L (advW σ v) 60 k = _
    rw [gvS_60 h L]
    unfold advW
    rw [up2_n _ _ _ (by decide), up2_s, up1_n _ _ h]
    rfl
theorem gvS_20 : ∀ (L : List Int) (σ : y_S), gvS L σ 60 20 = σ 60 20 + (L.length : Int)
  | [], σ => by show σ 60 20 = σ 60 20 + ((0 : Nat) : Int); omega
  | v :: L, σ => by
    show gvS L (advW σ v) 60 20 = _
    rw [gvS_20 L]
    show σ 60 20 + 1 + (L.length : Int) = σ 60 20 + ((L.length + 1 : Nat) : Int)
    omega
theorem lgV.gv {ρ : y_S} {G : y_G} {σ : y_S} (h : lgV ρ G σ) (L : List Int) : lgV ρ G (gvS L σ) := by
  obtain ⟨h1, h2, h3, h4, h5⟩ := h
  exact ⟨h1, h2, by rw [gvS_60 (by decide)]; exact h3, by rw [gvS_60 (by decide)]; exact h4, fun k a b => by rw [gvS_t (by decide) (by decide) (by decide)]; exact h5 k a b⟩
theorem agA_gv {A : Nat → Prop} {G : y_G} {σ : y_S} (hA : ∀ t, A t → 10000 ≤ t) (L : List Int) : agA A G σ G (gvS L σ) := fun t ht => ⟨rfl, rfl, rfl, gvS_t (by have := hA t ht; omega) (by have := hA t ht; omega) (by have := hA t ht; omega) L σ⟩
theorem rdCat_mo {f : Nat → List Int} {k : Nat} : ∀ d : Nat, (rdCat k f).length ≤ (rdCat (k + d) f).length
  | 0 => Nat.le_refl _
  | d + 1 => by
    show _ ≤ (rdCat (k + d) f ++ f (k + d)).length
    rw [List.length_append]
    have := rdCat_mo (f := f) (k := k) d
    omega
theorem rdCat_le {f : Nat → List Int} {k n : Nat} (h : k ≤ n) : (rdCat k f).length ≤ (rdCat n f).length := by
  obtain ⟨d, rfl⟩ := Nat.exists_eq_add_of_le h
  exact rdCat_mo d
theorem rdRep_le {L : List Int} {k n : Nat} (h : k ≤ n) : (rdRep k L).length ≤ (rdRep n L).length := by
  rw [rdRep_len, rdRep_len]
  exact Nat.mul_le_mul_right _ h
theorem ndV.oc {ρ : y_S} {G : y_G} {τ : y_S} {A : Nat → Prop} {h u : Nat} {L : List Int} (k : ndV ρ G τ A h u L) : ∃ ci : Nat, (ci = 8 ∨ ci = 10 ∨ ci = 11 ∨ ci = 12) ∧ G.1 u = some (.inl ci) := by
  cases h with
  | zero => exact k.elim
  | succ h =>
    rcases k.2 with ⟨ci, z1, z2, z3⟩ | ⟨z1, z2⟩
    · exact ⟨ci, Or.inr z1, z2⟩
    · exact ⟨8, Or.inl rfl, z1⟩
def CtMn (l : Launch) (E : y_E) (ρ : y_S) (h : Nat) : Prop := ∀ (G : y_G) (σ : y_S) (sz : Nat) (A : Nat → Prop) (u : Nat) (L : List Int), G.1 u = some (.inl 8) → ndV ρ G σ A h u L → gCt l yX11_many cX11_many 3 (some .int) ({ frames := 3 * h + 5, cells := 0, slots := 0, locals := 100 + 60 * h }) E [.ref (G.2.2 u)] G σ sz (gR (some (.int (jI (mny L)))) G σ) 0 0
def CtGv (l : Launch) (E : y_E) (ρ : y_S) (h : Nat) : Prop := ∀ (G : y_G) (σ : y_S) (sz : Nat) (A : Nat → Prop) (u : Nat) (L : List Int), (∀ t, A t → 10000 ≤ t) → lgV ρ G σ → G.1 u = some (.inl 8) → ndV ρ G σ A h u L → 0 ≤ σ 60 20 → σ 60 20 + (L.length : Int) ≤ 10 → gCt l yX11_gives cX11_gives 3 none ({ frames := 3 * h + 6, cells := 0, slots := 0, locals := 130 + 60 * h }) E [.ref (G.2.2 u)] G σ sz (gR none G (gvS L σ)) 0 0
section GMN
variable {p : Program} {l : Launch} {e : Env} {R : Room} {s : State} {m : MethodId} {args : Array Value} {below : List Frame} {meth : Method} {c : Code} {H : Heap} {locs : List Loc} {cells slots : Nat} {Q : State → Prop} {cc : ByteArray} {pc nL : Nat} {ls : Array Slot} {rest : List Value}
variable {E : y_E} {A0 : Nat → Prop} {G : y_G} {σ : y_S} {own : String} {ρ : y_S} {A : Nat → Prop} {h u : Nat} {L : List Int}
theorem g_manyN (CF : CallFix p m c cc nL s args lw_all own) (hK : gK E s) (hM : gM E A0 G σ s.heap H locs) (hA : ∀ q, s.heap.size ≤ q → A0 q) (hn : ndV ρ G σ A h u L) (hI : CtMn l E ρ h) {index : Nat} (hlink : Cond.methodLink own index ⟨"LightPlate$Node", "many", "()I"⟩ ∈ lw_all) (hl : ls.size = nL) (hW : (rest.map fun v => v.category).sum ≤ 8) (hdg : decode cc pc = .ok (.invokevirtual index, 3)) (hfr : 3 * h + 6 ≤ R.frames) (hlo : 130 + 60 * h ≤ R.locals) (hf : cells ≤ R.cells ∧ slots ≤ R.slots)
    (kk : ∀ (H : Heap) (locs : List Loc), gM E A0 G σ s.heap H locs → W p l e R s m args below meth c H locs cells slots Q (F0 m (pc + 3) ls (.int (jI (mny L)) :: rest))) : W p l e R s m args below meth c H locs cells slots Q (F0 m pc ls (.ref (G.2.2 u) :: rest)) := by
  have hts := CF.2.2.2.2
  have lf : ∀ ci : Nat, (ci = 10 ∨ ci = 11 ∨ ci = 12) → G.1 u = some (.inl ci) → mny L = 1 → W p l e R s m args below meth c H locs cells slots Q (F0 m pc ls (.ref (G.2.2 u) :: rest)) := fun ci hc hk h1 => by
    rw [h1] at kk
    rcases hc with rfl | rfl | rfl
    · exact g_calli hM hA (g_runU (As := []) (rest := rest) CF hK hM hk rfl (l_tmany l E _ _ _ u) (g_cu 0 hts hlink q846 (va_Decl.abs (hK.2.2.1 _ q845 rfl)) (hts _ q859) q848 q81 q849 rfl rfl (by decide +kernel) ⟨(show 0 + 1 ≤ R.frames by omega), (show 8 + (1 + 11) + 0 ≤ R.locals by omega)⟩) rfl hl rfl hW hdg hf) kk
    · exact g_calli hM hA (g_runU (As := []) (rest := rest) CF hK hM hk rfl (l_tmany l E _ _ _ u) (g_cu 0 hts hlink q846 (va_Decl.abs (hK.2.2.1 _ q845 rfl)) (hts _ q847) q848 q81 q849 rfl rfl (by decide +kernel) ⟨(show 0 + 1 ≤ R.frames by omega), (show 8 + (1 + 11) + 0 ≤ R.locals by omega)⟩) rfl hl rfl hW hdg hf) kk
    · exact g_calli hM hA (g_runU (As := []) (rest := rest) CF hK hM hk rfl (l_tmany l E _ _ _ u) (g_cu 0 hts hlink q846 (va_Decl.abs (hK.2.2.1 _ q845 rfl)) (hts _ q850) q848 q81 q849 rfl rfl (by decide +kernel) ⟨(show 0 + 1 ≤ R.frames by omega), (show 8 + (1 + 11) + 0 ≤ R.locals by omega)⟩) rfl hl rfl hW hdg hf) kk
  have tm : G.1 u = some (.inl 8) → W p l e R s m args below meth c H locs cells slots Q (F0 m pc ls (.ref (G.2.2 u) :: rest)) := fun hk =>
    g_calli hM hA (g_runU (As := []) (rest := rest) CF hK hM hk rfl (hI G σ _ A u L hk hn) (g_cu 0 hts hlink q846 (va_Decl.abs (hK.2.2.1 _ q845 rfl)) (hts _ q851) q852 q77 q853 rfl rfl (by decide +kernel) ⟨(show 3 * h + 5 + 1 ≤ R.frames by omega), (show 8 + (3 + 11) + (100 + 60 * h) ≤ R.locals by omega)⟩) rfl hl rfl hW hdg hf) kk
  cases h with
  | zero => exact hn.elim
  | succ h =>
    rcases hn.2 with ⟨ci, z1, z2, z3, z4, z5, z6, z7⟩ | ⟨z1, z2⟩
    · exact lf ci z1 z2 (by rw [z7]; rfl)
    · exact tm z1
theorem g_givesN (CF : CallFix p m c cc nL s args lw_all own) (hK : gK E s) (hM : gM E A0 G σ s.heap H locs) (hA : ∀ q, s.heap.size ≤ q → A0 q) (hn : ndV ρ G σ A h u L) (hA1 : ∀ t, A t → 10000 ≤ t) (hL : lgV ρ G σ) (h0 : 0 ≤ σ 60 20) (h1 : σ 60 20 + (L.length : Int) ≤ 10) (hI : CtGv l E ρ h) {index : Nat} (hlink : Cond.methodLink own index ⟨"LightPlate$Node", "gives", "()V"⟩ ∈ lw_all) (hl : ls.size = nL) (hW : (rest.map fun v => v.category).sum ≤ 8) (hdg : decode cc pc = .ok (.invokevirtual index, 3)) (hfr : 3 * h + 7 ≤ R.frames) (hlo : 160 + 60 * h ≤ R.locals) (hf : cells ≤ R.cells ∧ slots ≤ R.slots)
    (kk : ∀ (H : Heap) (locs : List Loc), gM E A0 G (gvS L σ) s.heap H locs → W p l e R s m args below meth c H locs cells slots Q (F0 m (pc + 3) ls rest)) : W p l e R s m args below meth c H locs cells slots Q (F0 m pc ls (.ref (G.2.2 u) :: rest)) := by
  have hts := CF.2.2.2.2
  have tm : G.1 u = some (.inl 8) → W p l e R s m args below meth c H locs cells slots Q (F0 m pc ls (.ref (G.2.2 u) :: rest)) := fun hk =>
    g_callv hM hA (g_runU (As := []) (rest := rest) CF hK hM hk rfl (hI G σ _ A u L hA1 hL hk hn h0 h1) (g_cu 0 hts hlink q863 (va_Decl.abs (hK.2.2.1 _ q862 rfl)) (hts _ q883) q884 q77 q885 rfl rfl (by decide +kernel) ⟨(show 3 * h + 6 + 1 ≤ R.frames by omega), (show 8 + (3 + 11) + (130 + 60 * h) ≤ R.locals by omega)⟩) rfl hl rfl hW hdg hf) kk
  cases h with
  | zero => exact hn.elim
  | succ h =>
    rcases hn.2 with ⟨ci, z1, z2, z3, z4, z5, z6, z7⟩ | ⟨z1, z2⟩
    · rw [z7] at h1
      have h1 : σ 60 20 + 1 ≤ 10 := h1
      have e : ∀ b : Int, b % 96 = (if ci = 10 then σ u 2 else if ci = 11 then (96 - σ u 2) % 96 else 24) → up2 (up2 (up2 σ 18 (σ 60 20) (σ u 1)) 60 20 (σ 60 20 + 1)) 19 (σ 60 20) (b % 96) = gvS L σ := fun b hb => by
        rw [z7, hb]
        have hy : 0 ≤ (if ci = 10 then σ u 2 else if ci = 11 then (96 - σ u 2) % 96 else 24) ∧ (if ci = 10 then σ u 2 else if ci = 11 then (96 - σ u 2) % 96 else 24) < 100 := by (repeat' split) <;> omega
        generalize (if ci = 10 then σ u 2 else if ci = 11 then (96 - σ u 2) % 96 else 24) = y at hy
        show _ = advW σ (100 * σ u 1 + y)
        unfold advW
        rw [show (100 * σ u 1 + y) / 100 = σ u 1 by omega, show (100 * σ u 1 + y) % 100 = y by omega]
      rcases z1 with rfl | rfl | rfl
      · have e1 := e (σ u 2) (by rw [if_pos rfl]; omega)
        exact g_callv hM hA (g_runU (As := []) (rest := rest) CF hK hM z2 rfl (l_gives10 l E _ _ _ ρ u hL z2 z3 z5 (by omega)) (g_cu 0 hts hlink q863 (va_Decl.abs (hK.2.2.1 _ q862 rfl)) (hts _ q887) q865 q81 q866 rfl rfl (by decide +kernel) ⟨(show 3 + 1 ≤ R.frames by omega), (show 8 + (1 + 11) + 64 ≤ R.locals by omega)⟩) rfl hl rfl hW hdg hf) (fun H locs hm => kk H locs (by rw [← e1]; exact hm))
      · have e1 := e (96 - σ u 2) (by rw [if_neg (by decide), if_pos rfl])
        exact g_callv hM hA (g_runU (As := []) (rest := rest) CF hK hM z2 rfl (l_gives11 l E _ _ _ ρ u hL z2 z3 z5 (by omega)) (g_cu 0 hts hlink q863 (va_Decl.abs (hK.2.2.1 _ q862 rfl)) (hts _ q864) q865 q81 q866 rfl rfl (by decide +kernel) ⟨(show 3 + 1 ≤ R.frames by omega), (show 8 + (1 + 11) + 64 ≤ R.locals by omega)⟩) rfl hl rfl hW hdg hf) (fun H locs hm => kk H locs (by rw [← e1]; exact hm))
      · have e1 := e ((-(96 - σ u 2)) % 96) (by rw [if_neg (by decide), if_neg (by decide), z6 rfl]; decide)
        exact g_callv hM hA (g_runU (As := []) (rest := rest) CF hK hM z2 rfl (l_gives12 l E _ _ _ ρ u hL z2 z3 z5 (by omega)) (g_cu 0 hts hlink q863 (va_Decl.abs (hK.2.2.1 _ q862 rfl)) (hts _ q882) q865 q81 q866 rfl rfl (by decide +kernel) ⟨(show 3 + 1 ≤ R.frames by omega), (show 8 + (1 + 11) + 64 ≤ R.locals by omega)⟩) rfl hl rfl hW hdg hf) (fun H locs hm => kk H locs (by rw [← e1]; exact hm))
    · exact tm z1
end GMN
set_option maxHeartbeats 400000 in
theorem l_tim (l : Launch) (E : y_E) (G : y_G) (σ : y_S) (sz : Nat) (ρ : y_S) (h : Nat) (A : Nat → Prop) (u : Nat) (ul : Nat) (n : Nat) (el : Nat → Nat) (Ls : Nat → List Int) (hU : G.1 u = some (.inl 8)) (ht0 : 0 ≤ σ u 1 ∧ σ u 1 ≤ 9) (hr2 : G.2.1 u 2 = some (G.2.2 ul)) (hul : G.1 ul = some (.inl 16)) (hnn : n ≤ 100) (hls : lLs ul (ul + 1) (n : Int) (fun i => G.2.2 (el i.toNat)) G σ) (hel : ∀ i : Nat, i < n → ndV ρ G σ A h (el i) (Ls i)) (hI : CtMn l E ρ h) : gCt l yX11_many cX11_many 3 (some .int) ({ frames := 3 * (h + 1) + 5, cells := 0, slots := 0, locals := 100 + 60 * (h + 1) }) E [.ref (G.2.2 u)] G σ sz (gR (some (.int (jI (mny (rdRep (σ u 1).toNat (rdCat n Ls)))))) G σ) 0 0 := by
  refine g_met (by decide) (Nat.le_of_ble_eq_true rfl) ?_
  intro p e s m below meth c ls CF hr hlocks hnm hK hM0 hA hl
  have hx := CF.1
  have hb := CF.2.1
  have hts := CF.2.2.2.2
  have hl : lv_has ls 3 [(0, .ref (G.2.2 u))] := hl
  refine lv_iconst (v := jI 0) hx hb dX11_many_0 rfl ?_
  refine lv_istore_n (lv' := [(1, .int (jI 0)), (0, .ref (G.2.2 u))]) hx hb dX11_many_1 rfl hl (by decide) rfl (fun ls hl => ?_)
  refine lv_iconst (v := jI 0) hx hb dX11_many_2 rfl ?_
  refine lv_istore_n (lv' := [(2, .int (jI 0)), (1, .int (jI 0)), (0, .ref (G.2.2 u))]) hx hb dX11_many_3 rfl hl (by decide) rfl (fun ls hl => ?_)
  have c4 : ∀ (n4 : Nat) (k : Nat) (H : Heap) (locs : List Loc) (ls : Array Slot), (k ≤ n) → (n - k < n4) → gM E (gA G sz) G σ s.heap H locs → lv_has ls 3 [(0, .ref (G.2.2 u)), (1, .int (jI (mny (rdCat k Ls)))), (2, .int (jI ((k : Int))))] → W p l e ({ frames := 3 * (h + 1) + 5, cells := 0, slots := 0, locals := 100 + 60 * (h + 1) } : Room) s m ([.ref (G.2.2 u)] : List Value).toArray below meth c H locs 0 0 (MQ below (gQ E G sz (gR (some (.int (jI (mny (rdRep (σ u 1).toNat (rdCat n Ls)))))) G σ)) ([.ref (G.2.2 u)] : List Value).toArray s 0 0 (gA G sz)) (F0 m 4 ls []) := by
    intro n4
    induction n4 with
    | zero => intro k H locs ls hk hmu; exact absurd hmu (Nat.not_lt_zero _)
    | succ n4 ih4 =>
      intro k H locs ls hk hmu4 hM1 hl
      refine lv_iload_n hx hb dX11_many_4 rfl (lv_at hl 2 rfl) ?_
      refine lv_aload_n hx hb dX11_many_5 rfl (lv_at hl 0 rfl) ?_
      refine g_getr CF hK hM1 u hU 2 2 rfl rfl (by decide) (Or.inl (hts _ q718)) (fun _ h => h) rfl (G.2.2 ul) hr2 dX11_many_6 ?_
      refine g_calli (r := σ ul 2) hM1 hA (g_runV (As := []) (rest := [.int (jI ((k : Int)))]) CF hK hM1 hul rfl (j_size l E _ _ _ ul  hul) (cwV 0 hts (lw_V q854 q480 q481 q70 q482) rfl rfl rfl (by decide +kernel) ⟨(show 0 + 1 ≤ 3 * (h + 1) + 5 by omega), (show 8 + (1 + 11) + (0) ≤ 100 + 60 * (h + 1) by omega)⟩) rfl hl.1 rfl (Nat.le_of_ble_eq_true rfl) dX11_many_9 ⟨Nat.le_of_ble_eq_true rfl, Nat.le_of_ble_eq_true rfl⟩) (fun H locs hM2 => ?_)
      refine x_top (b := (n : Int)) hls.1 ?_
      refine x_icmp_ge (tgt := 44) hx hb dX11_many_12 (by decide) (by omega) (by omega) (fun b12 => ?_) (fun b12 => ?_)
      · refine lv_sipush (v := jI 1000) hx hb dX11_many_44 (by decide) ?_
        refine lv_aload_n hx hb dX11_many_47 rfl (lv_at hl 0 rfl) ?_
        refine g_geti CF hK hM2 u hU 1 1 rfl rfl (by decide) (Or.inl (hts _ q717)) (fun _ h => h) rfl dX11_many_48 ?_
        refine lv_iload_n hx hb dX11_many_51 rfl (lv_at hl 1 rfl) ?_
        refine x_imul hx hb dX11_many_52 ?_
        refine g_calli (r := if 1000 ≤ ((σ u 1) * (mny (rdCat k Ls))) then 1000 else ((σ u 1) * (mny (rdCat k Ls)))) hM2 hA (g_runS (As := [.int (jI 1000), .int (jI ((σ u 1) * (mny (rdCat k Ls))))]) (rest := []) CF hK hM2 (j_min l E _ _ _  1000 ((σ u 1) * (mny (rdCat k Ls))) (by have f0 := hM2.r u 1; have f1 := mny_r (rdCat k Ls); first | omega | assumption | (refine ⟨?_, ?_⟩ <;> omega)) (by have q := mny_r (rdCat k Ls); have q2 := mul_b ht0.1 ht0.2 q.1 q.2; omega)) (va_cwS 2 hts (lw_S q858 q429 q61 q430) rfl rfl rfl (by decide +kernel) ⟨(show 0 + 1 ≤ 3 * (h + 1) + 5 by omega), (show 8 + (2 + 11) + (0) ≤ 100 + 60 * (h + 1) by omega)⟩) rfl hl.1 rfl (Nat.le_of_ble_eq_true rfl) dX11_many_53 ⟨Nat.le_of_ble_eq_true rfl, Nat.le_of_ble_eq_true rfl⟩) (fun H locs hM3 => ?_)
        refine x_top (b := mny (rdRep (σ u 1).toNat (rdCat n Ls))) (by have e : k = n := (by omega); subst e; exact mny_rep ht0.1 _) ?_
        exact g_iret CF hr hlocks hM3 (g_pi rfl) (by decide) (by decide) dX11_many_56
      · refine lv_sipush (v := jI 1000) hx hb dX11_many_15 (by decide) ?_
        refine lv_iload_n hx hb dX11_many_18 rfl (lv_at hl 1 rfl) ?_
        refine lv_aload_n hx hb dX11_many_19 rfl (lv_at hl 0 rfl) ?_
        refine g_getr CF hK hM2 u hU 2 2 rfl rfl (by decide) (Or.inl (hts _ q718)) (fun _ h => h) rfl (G.2.2 ul) hr2 dX11_many_20 ?_
        refine lv_iload_n hx hb dX11_many_23 rfl (lv_at hl 2 rfl) ?_
        refine g_callr (b := G.2.2 (el k)) hM2 hA (g_runV (As := [.int (jI ((k : Int)))]) (rest := [.int (jI (mny (rdCat k Ls))), .int (jI 1000)]) CF hK hM2 hul rfl (j_get l E _ _ _ ul (ul + 1) ((n : Int)) (fun i => G.2.2 (el i.toNat)) ((k : Int)) hul hls (by omega) (by omega)) (cwV 1 hts (lw_V q855 q484 q485 q70 q486) rfl rfl rfl (by decide +kernel) ⟨(show 2 + 1 ≤ 3 * (h + 1) + 5 by omega), (show 8 + (2 + 11) + (43) ≤ 100 + 60 * (h + 1) by omega)⟩) rfl hl.1 rfl (Nat.le_of_ble_eq_true rfl) dX11_many_24 ⟨Nat.le_of_ble_eq_true rfl, Nat.le_of_ble_eq_true rfl⟩) (fun H locs hM4 => ?_)
        obtain ⟨ci, hci, hkd⟩ := (hel k (by omega)).oc
        refine g_castN CF hK hM4 (el k) hci hkd q856 dX11_many_27 ?_
        refine g_manyN (rest := [.int (jI (mny (rdCat k Ls))), .int (jI 1000)]) CF hK hM4 hA (hel k (by omega)) hI q857 hl.1 (Nat.le_of_ble_eq_true rfl) dX11_many_30 (show 3 * h + 6 ≤ 3 * (h + 1) + 5 by omega) (show 130 + 60 * h ≤ 100 + 60 * (h + 1) by omega) ⟨Nat.le_refl _, Nat.le_refl _⟩ (fun H locs hM5 => ?_)
        refine x_iadd hx hb dX11_many_33 ?_
        refine g_calli (r := if 1000 ≤ ((mny (rdCat k Ls)) + (mny (Ls k))) then 1000 else ((mny (rdCat k Ls)) + (mny (Ls k)))) hM5 hA (g_runS (As := [.int (jI 1000), .int (jI ((mny (rdCat k Ls)) + (mny (Ls k))))]) (rest := []) CF hK hM5 (j_min l E _ _ _  1000 ((mny (rdCat k Ls)) + (mny (Ls k))) (by have f0 := mny_r (rdCat k Ls); have f1 := mny_r (Ls k); first | omega | assumption | (refine ⟨?_, ?_⟩ <;> omega)) (by have f0 := mny_r (rdCat k Ls); have f1 := mny_r (Ls k); first | omega | assumption | (refine ⟨?_, ?_⟩ <;> omega))) (va_cwS 2 hts (lw_S q858 q429 q61 q430) rfl rfl rfl (by decide +kernel) ⟨(show 0 + 1 ≤ 3 * (h + 1) + 5 by omega), (show 8 + (2 + 11) + (0) ≤ 100 + 60 * (h + 1) by omega)⟩) rfl hl.1 rfl (Nat.le_of_ble_eq_true rfl) dX11_many_34 ⟨Nat.le_of_ble_eq_true rfl, Nat.le_of_ble_eq_true rfl⟩) (fun H locs hM6 => ?_)
        refine x_top (b := mny (rdCat (k + 1) Ls)) (mny_app (rdCat k Ls) (Ls k)) ?_
        refine lv_istore_n (lv' := [(1, .int (jI (mny (rdCat (k + 1) Ls)))), (0, .ref (G.2.2 u)), (2, .int (jI ((k : Int))))]) hx hb dX11_many_37 rfl hl (by decide) rfl (fun ls hl => ?_)
        refine x_iinc (lv' := [(2, .int (jI (((k : Int)) + 1))), (1, .int (jI (mny (rdCat (k + 1) Ls)))), (0, .ref (G.2.2 u))]) hx hb dX11_many_38 hl (k := 2) rfl (by decide) rfl (fun ls hl => ?_)
        refine lv_goto (tgt := 4) hx hb dX11_many_41 (by decide) ?_
        exact ih4  ((k + 1)) _ _ _ (by have f0 := mny_r (rdCat (k + 1) Ls); first | omega | assumption | rfl) (by omega) hM6 (lv_sub hl [2, 1, 0] rfl)
  exact c4 _ 0 _ _ _ (by first | omega | assumption | rfl) (Nat.lt_succ_self _) hM0 (lv_sub hl [2, 1, 0] rfl)
set_option maxHeartbeats 400000 in
theorem l_tig (l : Launch) (E : y_E) (G : y_G) (σ : y_S) (sz : Nat) (ρ : y_S) (h : Nat) (A : Nat → Prop) (u : Nat) (ul : Nat) (n : Nat) (el : Nat → Nat) (Ls : Nat → List Int) (hU : G.1 u = some (.inl 8)) (ht0 : 0 ≤ σ u 1 ∧ σ u 1 ≤ 9) (hr2 : G.2.1 u 2 = some (G.2.2 ul)) (hul : G.1 ul = some (.inl 16)) (hnn : n ≤ 100) (hls : lLs ul (ul + 1) (n : Int) (fun i => G.2.2 (el i.toNat)) G σ) (hel : ∀ i : Nat, i < n → ndV ρ G σ A h (el i) (Ls i)) (hI : CtMn l E ρ h) (hG : CtGv l E ρ h) (hA1 : ∀ t, A t → 10000 ≤ t) (hL : lgV ρ G σ) (hu1 : 10000 ≤ u ∧ 10000 ≤ ul) (hc0 : 0 ≤ σ 60 20) (hc1 : σ 60 20 + ((rdRep (σ u 1).toNat (rdCat n Ls)).length : Int) ≤ 10) : gCt l yX11_gives cX11_gives 3 none ({ frames := 3 * (h + 1) + 6, cells := 0, slots := 0, locals := 130 + 60 * (h + 1) }) E [.ref (G.2.2 u)] G σ sz (gR none G (gvS (rdRep (σ u 1).toNat (rdCat n Ls)) σ)) 0 0 := by
  refine g_met (by decide) (Nat.le_of_ble_eq_true rfl) ?_
  intro p e s m below meth c ls CF hr hlocks hnm hK hM0 hA hl
  have hx := CF.1
  have hb := CF.2.1
  have hts := CF.2.2.2.2
  have hl : lv_has ls 3 [(0, .ref (G.2.2 u))] := hl
  have hcap : ∀ t k : Nat, t < (σ u 1).toNat → k < n → σ 60 20 + ((rdRep t (rdCat n Ls) ++ rdCat k Ls).length : Int) + ((Ls k).length : Int) ≤ 10 := fun t k h1 h2 => (by have q1 := rdRep_le (L := rdCat n Ls) (show t + 1 ≤ (σ u 1).toNat by omega); have q2 := rdCat_le (f := Ls) (show k + 1 ≤ n by omega); have q3 : (rdRep (t + 1) (rdCat n Ls)).length = (rdRep t (rdCat n Ls)).length + (rdCat n Ls).length := List.length_append; have q4 : (rdCat (k + 1) Ls).length = (rdCat k Ls).length + (Ls k).length := List.length_append; rw [List.length_append]; omega)
  have hv : ∀ X : List Int, gvS X σ u 1 = σ u 1 := fun X => (by rw [gvS_t (by omega) (by omega) (by omega)])
  have hvl : ∀ X : List Int, lLs ul (ul + 1) (n : Int) (fun i => G.2.2 (el i.toNat)) G (gvS X σ) := fun X => (by unfold lLs; rw [gvS_t (by omega) (by omega) (by omega)]; exact hls)
  refine lv_iconst (v := jI 0) hx hb dX11_gives_0 rfl ?_
  refine lv_istore_n (lv' := [(1, .int (jI 0)), (0, .ref (G.2.2 u))]) hx hb dX11_gives_1 rfl hl (by decide) rfl (fun ls hl => ?_)
  have c2 : ∀ (n2 : Nat) (t : Nat) (H : Heap) (locs : List Loc) (ls : Array Slot), (t ≤ (σ u 1).toNat) → ((σ u 1).toNat - t < n2) → gM E (gA G sz) G (gvS (rdRep t (rdCat n Ls)) σ) s.heap H locs → lv_has ls 3 [(0, .ref (G.2.2 u)), (1, .int (jI ((t : Int))))] → W p l e ({ frames := 3 * (h + 1) + 6, cells := 0, slots := 0, locals := 130 + 60 * (h + 1) } : Room) s m ([.ref (G.2.2 u)] : List Value).toArray below meth c H locs 0 0 (MQ below (gQ E G sz (gR none G (gvS (rdRep (σ u 1).toNat (rdCat n Ls)) σ))) ([.ref (G.2.2 u)] : List Value).toArray s 0 0 (gA G sz)) (F0 m 2 ls []) := by
    intro n2
    induction n2 with
    | zero => intro t H locs ls ht hmu; exact absurd hmu (Nat.not_lt_zero _)
    | succ n2 ih2 =>
      intro t H locs ls ht hmu2 hM1 hl
      refine lv_iload_n hx hb dX11_gives_2 rfl (lv_at hl 1 rfl) ?_
      refine lv_aload_n hx hb dX11_gives_3 rfl (lv_at hl 0 rfl) ?_
      refine g_geti CF hK hM1 u hU 1 1 rfl rfl (by decide) (Or.inl (hts _ q717)) (fun _ h => h) rfl dX11_gives_4 ?_
      refine x_top (b := σ u 1) (hv _) ?_
      refine x_icmp_ge (tgt := 66) hx hb dX11_gives_7 (by decide) (by omega) (by omega) (fun b7 => ?_) (fun b7 => ?_)
      · exact g_vret CF hr hlocks hM1 (g_pv (by rw [show t = (σ u 1).toNat by omega])) (by decide) (by decide) dX11_gives_66
      · refine lv_iconst (v := jI 0) hx hb dX11_gives_10 rfl ?_
        refine lv_istore_n (lv' := [(2, .int (jI 0)), (0, .ref (G.2.2 u)), (1, .int (jI ((t : Int))))]) hx hb dX11_gives_11 rfl hl (by decide) rfl (fun ls hl => ?_)
        have c12 : ∀ (n12 : Nat) (k : Nat) (H : Heap) (locs : List Loc) (ls : Array Slot), (k ≤ n) → (n - k < n12) → gM E (gA G sz) G (gvS (rdRep t (rdCat n Ls) ++ rdCat k Ls) σ) s.heap H locs → lv_has ls 3 [(0, .ref (G.2.2 u)), (1, .int (jI ((t : Int)))), (2, .int (jI ((k : Int))))] → W p l e ({ frames := 3 * (h + 1) + 6, cells := 0, slots := 0, locals := 130 + 60 * (h + 1) } : Room) s m ([.ref (G.2.2 u)] : List Value).toArray below meth c H locs 0 0 (MQ below (gQ E G sz (gR none G (gvS (rdRep (σ u 1).toNat (rdCat n Ls)) σ))) ([.ref (G.2.2 u)] : List Value).toArray s 0 0 (gA G sz)) (F0 m 12 ls []) := by
          intro n12
          induction n12 with
          | zero => intro k H locs ls hk hmu; exact absurd hmu (Nat.not_lt_zero _)
          | succ n12 ih12 =>
            intro k H locs ls hk hmu12 hM2 hl
            refine lv_iload_n hx hb dX11_gives_12 rfl (lv_at hl 2 rfl) ?_
            refine lv_aload_n hx hb dX11_gives_13 rfl (lv_at hl 0 rfl) ?_
            refine g_getr CF hK hM2 u hU 2 2 rfl rfl (by decide) (Or.inl (hts _ q718)) (fun _ h => h) rfl (G.2.2 ul) hr2 dX11_gives_14 ?_
            refine g_calli (r := (gvS (rdRep t (rdCat n Ls) ++ rdCat k Ls) σ) ul 2) hM2 hA (g_runV (As := []) (rest := [.int (jI ((k : Int)))]) CF hK hM2 hul rfl (j_size l E _ _ _ ul  hul) (cwV 0 hts (lw_V q854 q480 q481 q70 q482) rfl rfl rfl (by decide +kernel) ⟨(show 0 + 1 ≤ 3 * (h + 1) + 6 by omega), (show 8 + (1 + 11) + (0) ≤ 130 + 60 * (h + 1) by omega)⟩) rfl hl.1 rfl (Nat.le_of_ble_eq_true rfl) dX11_gives_17 ⟨Nat.le_of_ble_eq_true rfl, Nat.le_of_ble_eq_true rfl⟩) (fun H locs hM3 => ?_)
            refine x_top (b := (n : Int)) (hvl _).1 ?_
            refine x_icmp_ge (tgt := 60) hx hb dX11_gives_20 (by decide) (by omega) (by omega) (fun b20 => ?_) (fun b20 => ?_)
            · refine x_iinc (lv' := [(1, .int (jI (((t : Int)) + 1))), (0, .ref (G.2.2 u)), (2, .int (jI ((k : Int))))]) hx hb dX11_gives_60 hl (k := 1) rfl (by decide) rfl (fun ls hl => ?_)
              refine lv_goto (tgt := 2) hx hb dX11_gives_63 (by decide) ?_
              exact ih2  ((t + 1)) _ _ _ (by first | omega | assumption | rfl) (by omega) (gM_eq (show gvS (rdRep t (rdCat n Ls) ++ rdCat k Ls) σ = gvS (rdRep t (rdCat n Ls) ++ rdCat n Ls) σ by rw [show k = n by omega]) hM3) (lv_sub hl [1, 0] rfl)
            · refine lv_aload_n hx hb dX11_gives_23 rfl (lv_at hl 0 rfl) ?_
              refine g_getr CF hK hM3 u hU 2 2 rfl rfl (by decide) (Or.inl (hts _ q718)) (fun _ h => h) rfl (G.2.2 ul) hr2 dX11_gives_24 ?_
              refine lv_iload_n hx hb dX11_gives_27 rfl (lv_at hl 2 rfl) ?_
              refine g_callr (b := G.2.2 (el k)) hM3 hA (g_runV (As := [.int (jI ((k : Int)))]) (rest := []) CF hK hM3 hul rfl (j_get l E _ _ _ ul (ul + 1) ((n : Int)) (fun i => G.2.2 (el i.toNat)) ((k : Int)) hul (hvl _) (by omega) (by omega)) (cwV 1 hts (lw_V q855 q484 q485 q70 q486) rfl rfl rfl (by decide +kernel) ⟨(show 2 + 1 ≤ 3 * (h + 1) + 6 by omega), (show 8 + (2 + 11) + (43) ≤ 130 + 60 * (h + 1) by omega)⟩) rfl hl.1 rfl (Nat.le_of_ble_eq_true rfl) dX11_gives_28 ⟨Nat.le_of_ble_eq_true rfl, Nat.le_of_ble_eq_true rfl⟩) (fun H locs hM4 => ?_)
              obtain ⟨ci, hci, hkd⟩ := (hel k (by omega)).oc
              refine g_castN CF hK hM4 (el k) hci hkd q856 dX11_gives_31 ?_
              refine g_manyN (rest := []) CF hK hM4 hA (ndV.fr (agA_gv hA1 _) rfl rfl (fun _ z => z) _ _ _ (hel k (by omega))) hI q857 hl.1 (Nat.le_of_ble_eq_true rfl) dX11_gives_34 (show 3 * h + 6 ≤ 3 * (h + 1) + 6 by omega) (show 130 + 60 * h ≤ 130 + 60 * (h + 1) by omega) ⟨Nat.le_refl _, Nat.le_refl _⟩ (fun H locs hM5 => ?_)
              have fa6 := mny_r (Ls k)
              refine x_if_le (tgt := 54) hx hb dX11_gives_37 (by decide) (by have f0 := mny_r (Ls k); omega) (fun b37 => ?_) (fun b37 => ?_)
              · have hnil : Ls k = [] := List.eq_nil_of_length_eq_zero (by unfold mny at b37; split at b37 <;> omega)
                refine x_iinc (lv' := [(2, .int (jI (((k : Int)) + 1))), (0, .ref (G.2.2 u)), (1, .int (jI ((t : Int))))]) hx hb dX11_gives_54 hl (k := 2) rfl (by decide) rfl (fun ls hl => ?_)
                refine lv_goto (tgt := 12) hx hb dX11_gives_57 (by decide) ?_
                exact ih12  ((k + 1)) _ _ _ (by first | omega | assumption | rfl) (by omega) (gM_eq (show gvS (rdRep t (rdCat n Ls) ++ rdCat k Ls) σ = gvS (rdRep t (rdCat n Ls) ++ (rdCat k Ls ++ Ls k)) σ by rw [hnil, List.append_nil]) hM5) (lv_sub hl [1, 2, 0] rfl)
              · refine lv_aload_n hx hb dX11_gives_40 rfl (lv_at hl 0 rfl) ?_
                refine g_getr CF hK hM5 u hU 2 2 rfl rfl (by decide) (Or.inl (hts _ q718)) (fun _ h => h) rfl (G.2.2 ul) hr2 dX11_gives_41 ?_
                refine lv_iload_n hx hb dX11_gives_44 rfl (lv_at hl 2 rfl) ?_
                refine g_callr (b := G.2.2 (el k)) hM5 hA (g_runV (As := [.int (jI ((k : Int)))]) (rest := []) CF hK hM5 hul rfl (j_get l E _ _ _ ul (ul + 1) ((n : Int)) (fun i => G.2.2 (el i.toNat)) ((k : Int)) hul (hvl _) (by omega) (by omega)) (cwV 1 hts (lw_V q855 q484 q485 q70 q486) rfl rfl rfl (by decide +kernel) ⟨(show 2 + 1 ≤ 3 * (h + 1) + 6 by omega), (show 8 + (2 + 11) + (43) ≤ 130 + 60 * (h + 1) by omega)⟩) rfl hl.1 rfl (Nat.le_of_ble_eq_true rfl) dX11_gives_45 ⟨Nat.le_of_ble_eq_true rfl, Nat.le_of_ble_eq_true rfl⟩) (fun H locs hM7 => ?_)
                obtain ⟨ci, hci, hkd⟩ := (hel k (by omega)).oc
                refine g_castN CF hK hM7 (el k) hci hkd q856 dX11_gives_48 ?_
                refine g_givesN (rest := []) CF hK hM7 hA (ndV.fr (agA_gv hA1 _) rfl rfl (fun _ z => z) _ _ _ (hel k (by omega))) hA1 (hL.gv _) (by rw [gvS_20]; omega) (by rw [gvS_20]; exact hcap t k (by omega) (by omega)) hG q886 hl.1 (Nat.le_of_ble_eq_true rfl) dX11_gives_51 (show 3 * h + 7 ≤ 3 * (h + 1) + 6 by omega) (show 160 + 60 * h ≤ 130 + 60 * (h + 1) by omega) ⟨Nat.le_refl _, Nat.le_refl _⟩ (fun H locs hM8 => ?_)
                refine x_iinc (lv' := [(2, .int (jI (((k : Int)) + 1))), (0, .ref (G.2.2 u)), (1, .int (jI ((t : Int))))]) hx hb dX11_gives_54 hl (k := 2) rfl (by decide) rfl (fun ls hl => ?_)
                refine lv_goto (tgt := 12) hx hb dX11_gives_57 (by decide) ?_
                exact ih12  ((k + 1)) _ _ _ (by first | omega | assumption | rfl) (by omega) (gM_eq (show gvS (Ls k) (gvS (rdRep t (rdCat n Ls) ++ rdCat k Ls) σ) = gvS (rdRep t (rdCat n Ls) ++ (rdCat k Ls ++ Ls k)) σ by rw [gvS_app, List.append_assoc]) hM8) (lv_sub hl [1, 2, 0] rfl)
        exact c12 _ 0 _ _ _ (by first | omega | assumption | rfl) (Nat.lt_succ_self _) (gM_eq (show gvS (rdRep t (rdCat n Ls)) σ = gvS (rdRep t (rdCat n Ls) ++ []) σ by rw [List.append_nil]) hM1) (lv_sub hl [1, 2, 0] rfl)
  exact c2 _ 0 _ _ _ (by first | omega | assumption | rfl) (Nat.lt_succ_self _) (gM_eq rfl hM0) (lv_sub hl [1, 0] rfl)
theorem ct_mn (l : Launch) (E : y_E) (ρ : y_S) : ∀ h : Nat, CtMn l E ρ h
  | 0 => fun _ _ _ _ _ _ _ hn => hn.elim
  | h + 1 => fun G σ sz A u L hU hn => by
    rcases hn.2 with ⟨ci, z1, z2, z3⟩ | ⟨z1, z2, ul, L1, z3, ⟨y1, y2, y3, n, el, Ls, y4, y5, y6, y7⟩, z5⟩
    · rw [hU] at z2; injection z2 with z2; injection z2 with z2; omega
    · rw [z5, y7]
      exact l_tim l E G σ sz ρ h A u ul n el Ls hU z2 z3 y3 y4 y5 y6 (ct_mn l E ρ h)
theorem ct_gv (l : Launch) (E : y_E) (ρ : y_S) : ∀ h : Nat, CtGv l E ρ h
  | 0 => fun _ _ _ _ _ _ _ _ _ hn => hn.elim
  | h + 1 => fun G σ sz A u L hA1 hL hU hn h0 h1 => by
    rcases hn.2 with ⟨ci, z1, z2, z3⟩ | ⟨z1, z2, ul, L1, z3, ⟨y1, y2, y3, n, el, Ls, y4, y5, y6, y7⟩, z5⟩
    · rw [hU] at z2; injection z2 with z2; injection z2 with z2; omega
    · rw [z5, y7] at h1 ⊢
      exact l_tig l E G σ sz ρ h A u ul n el Ls hU z2 z3 y3 y4 y5 y6 (ct_mn l E ρ h) (ct_gv l E ρ h) hA1 hL ⟨hA1 _ hn.1, hA1 _ y1⟩ h0 h1
