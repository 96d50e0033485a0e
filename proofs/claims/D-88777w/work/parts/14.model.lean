/-! THE REFERENCE'S MEMORY: the object is tag 60, the array of field k is tag k; its rows -/
abbrev gCt (l : Launch) (y : MethodName) (cc : ByteArray) (maxL : Nat) (ret : Option FieldType) (rm : Room) (E : y_E) (av : List Value) (G : y_G) (σ : y_S) (sz : Nat) (post : Option Value → y_G → y_S → Prop) (mc ms : Nat) : Prop := Met l y (ws_ y cc maxL ret) rm (gP E av G σ sz) (gQ E G sz post) mc ms (gA G sz)
def mKd (t : Nat) : Option y_K := match t with
  | 1 => some (.inr (0, 96))
  | 2 => some (.inr (0, 96))
  | 3 => some (.inr (0, 72))
  | 4 => some (.inr (0, 72))
  | 5 => some (.inr (0, 72))
  | 6 => some (.inr (0, 72))
  | 8 => some (.inr (0, 72))
  | 9 => some (.inr (0, 72))
  | 10 => some (.inr (0, 6))
  | 11 => some (.inr (0, 36))
  | 12 => some (.inr (0, 36))
  | 13 => some (.inr (0, 15))
  | 14 => some (.inr (0, 15))
  | 15 => some (.inr (0, 6))
  | 19 => some (.inr (0, 11))
  | 20 => some (.inr (0, 11))
  | 22 => some (.inr (1, 13312))
  | 23 => some (.inr (0, 100))
  | 24 => some (.inr (0, 1300))
  | 25 => some (.inr (0, 100))
  | 26 => some (.inr (0, 100))
  | 27 => some (.inr (0, 66))
  | 28 => some (.inr (0, 6))
  | 29 => some (.inr (1, 6))
  | 35 => some (.inr (0, 240))
  | 36 => some (.inr (0, 240))
  | 37 => some (.inr (0, 2880))
  | 38 => some (.inr (0, 60))
  | 39 => some (.inr (0, 60))
  | 40 => some (.inr (0, 60))
  | 44 => some (.inr (0, 72))
  | 45 => some (.inr (0, 289))
  | 46 => some (.inr (1, 289))
  | 51 => some (.inr (0, 97))
  | 60 => some (.inl 7)
  | _ => none
def mRf (ad : Nat → Nat) (t : Nat) (i : Int) : Option Nat := if t = 60 then some (ad i.toNat) else none
def mG (ad : Nat → Nat) : y_G := (mKd, mRf ad, ad)
def iCmp (a b : Int) : Int := if a < b then -1 else if a = b then 0 else 1
theorem iCmp_spec (a b : Int) : (a < b ∧ iCmp a b = -1) ∨ (a = b ∧ iCmp a b = 0) ∨ (b < a ∧ iCmp a b = 1) := by
  unfold iCmp
  by_cases h : a < b
  · exact Or.inl ⟨h, by rw [if_pos h]⟩
  · by_cases h2 : a = b
    · exact Or.inr (Or.inl ⟨h2, by rw [if_neg h, if_pos h2]⟩)
    · exact Or.inr (Or.inr ⟨by omega, by rw [if_neg h, if_neg h2]⟩)
theorem tm97 (v : Int) : (0 ≤ v ∧ v.tmod 97 = v % 97) ∨ (v < 0 ∧ v.tmod 97 = -((-v) % 97)) := by
  by_cases h : 0 ≤ v
  · exact Or.inl ⟨h, Int.tmod_eq_emod_of_nonneg h⟩
  · refine Or.inr ⟨by omega, ?_⟩
    rw [← Int.tmod_eq_emod_of_nonneg (by omega), Int.neg_tmod, Int.neg_neg]
theorem tm96 (v : Int) : (0 ≤ v ∧ v.tmod 96 = v % 96) ∨ (v < 0 ∧ v.tmod 96 = -((-v) % 96)) := by
  by_cases h : 0 ≤ v
  · exact Or.inl ⟨h, Int.tmod_eq_emod_of_nonneg h⟩
  · refine Or.inr ⟨by omega, ?_⟩
    rw [← Int.tmod_eq_emod_of_nonneg (by omega), Int.neg_tmod, Int.neg_neg]
theorem tm5 (v : Int) : (0 ≤ v ∧ v.tmod 5 = v % 5) ∨ (v < 0 ∧ v.tmod 5 = -((-v) % 5)) := by
  by_cases h : 0 ≤ v
  · exact Or.inl ⟨h, Int.tmod_eq_emod_of_nonneg h⟩
  · refine Or.inr ⟨by omega, ?_⟩
    rw [← Int.tmod_eq_emod_of_nonneg (by omega), Int.neg_tmod, Int.neg_neg]
theorem tm2 (v : Int) : (0 ≤ v ∧ v.tmod 2 = v % 2) ∨ (v < 0 ∧ v.tmod 2 = -((-v) % 2)) := by
  by_cases h : 0 ≤ v
  · exact Or.inl ⟨h, Int.tmod_eq_emod_of_nonneg h⟩
  · refine Or.inr ⟨by omega, ?_⟩
    rw [← Int.tmod_eq_emod_of_nonneg (by omega), Int.neg_tmod, Int.neg_neg]
theorem tm6 (v : Int) : (0 ≤ v ∧ v.tmod 6 = v % 6) ∨ (v < 0 ∧ v.tmod 6 = -((-v) % 6)) := by
  by_cases h : 0 ≤ v
  · exact Or.inl ⟨h, Int.tmod_eq_emod_of_nonneg h⟩
  · refine Or.inr ⟨by omega, ?_⟩
    rw [← Int.tmod_eq_emod_of_nonneg (by omega), Int.neg_tmod, Int.neg_neg]
theorem tm100 (v : Int) : (0 ≤ v ∧ v.tmod 100 = v % 100) ∨ (v < 0 ∧ v.tmod 100 = -((-v) % 100)) := by
  by_cases h : 0 ≤ v
  · exact Or.inl ⟨h, Int.tmod_eq_emod_of_nonneg h⟩
  · refine Or.inr ⟨by omega, ?_⟩
    rw [← Int.tmod_eq_emod_of_nonneg (by omega), Int.neg_tmod, Int.neg_neg]
theorem tm4 (v : Int) : (0 ≤ v ∧ v.tmod 4 = v % 4) ∨ (v < 0 ∧ v.tmod 4 = -((-v) % 4)) := by
  by_cases h : 0 ≤ v
  · exact Or.inl ⟨h, Int.tmod_eq_emod_of_nonneg h⟩
  · refine Or.inr ⟨by omega, ?_⟩
    rw [← Int.tmod_eq_emod_of_nonneg (by omega), Int.neg_tmod, Int.neg_neg]
theorem g_fz {v : Int} (h : v = 0 ∨ v = 1) : fits .boolean (.int (jI v)) = true := by rcases h with rfl | rfl <;> rfl
theorem g_b01 (P : Prop) [Decidable P] : (if P then (1 : Int) else 0) = 0 ∨ (if P then (1 : Int) else 0) = 1 := by by_cases h : P <;> simp [h]
section XB
variable {p : Program} {l : Launch} {e : Env} {R : Room} {s : State} {m : MethodId} {args : Array Value} {below : List Frame} {meth : Method} {c : Code} {H : Heap} {locs : List Loc} {cells slots : Nat} {Q : State → Prop} {cc : ByteArray} {pc : Nat} {ls : Array Slot} {rest : List Value}
theorem x_bif_eq (hx : p.tables.exec = Jvm.exec) (hb : c.code = cc) {P : Prop} [Decidable P] {off : Int} {tgt : Nat} (hdg : decode cc pc = .ok (.ifCond .eq off, 3)) (ht : (pc : Int) + off = (tgt : Int))
    (kt : ¬ P → W p l e R s m args below meth c H locs cells slots Q (F0 m tgt ls rest)) (kf : P → W p l e R s m args below meth c H locs cells slots Q (F0 m (pc + 3) ls rest)) : W p l e R s m args below meth c H locs cells slots Q (F0 m pc ls (.int (jI (if P then 1 else 0)) :: rest)) := by
  by_cases h : P
  · rw [if_pos h]
    exact x_if_eq hx hb hdg ht ⟨by decide, by decide⟩ (fun q => absurd q (by decide)) (fun _ => kf h)
  · rw [if_neg h]
    exact x_if_eq hx hb hdg ht ⟨by decide, by decide⟩ (fun _ => kt h) (fun q => absurd rfl q)
theorem x_bif_ne (hx : p.tables.exec = Jvm.exec) (hb : c.code = cc) {P : Prop} [Decidable P] {off : Int} {tgt : Nat} (hdg : decode cc pc = .ok (.ifCond .ne off, 3)) (ht : (pc : Int) + off = (tgt : Int))
    (kt : P → W p l e R s m args below meth c H locs cells slots Q (F0 m tgt ls rest)) (kf : ¬ P → W p l e R s m args below meth c H locs cells slots Q (F0 m (pc + 3) ls rest)) : W p l e R s m args below meth c H locs cells slots Q (F0 m pc ls (.int (jI (if P then 1 else 0)) :: rest)) := by
  by_cases h : P
  · rw [if_pos h]
    exact x_if_ne hx hb hdg ht ⟨by decide, by decide⟩ (fun _ => kt h) (fun q => absurd q (by decide))
  · rw [if_neg h]
    exact x_if_ne hx hb hdg ht ⟨by decide, by decide⟩ (fun q => absurd rfl q) (fun _ => kf h)
theorem x_lcmp (hx : p.tables.exec = Jvm.exec) (hb : c.code = cc) {a b : Int} (hdg : decode cc pc = .ok (.lcmp, 1)) (ha : R64 a) (hb2 : R64 b)
    (k : W p l e R s m args below meth c H locs cells slots Q (F0 m (pc + 1) ls (.int (jI (iCmp a b)) :: rest))) : W p l e R s m args below meth c H locs cells slots Q (F0 m pc ls (.long (jL b) :: .long (jL a) :: rest)) := by
  refine W.lcmp hx hb hdg ?_
  have e : lg_cmp (jL a) (jL b) = jI (iCmp a b) := by
    have hl : jL a < jL b ↔ a < b := by rw [Int64.lt_iff_toInt_lt, jL_toInt ha, jL_toInt hb2]
    have he : jL a = jL b ↔ a = b := ⟨fun h => by have := congrArg Int64.toInt h; rwa [jL_toInt ha, jL_toInt hb2] at this, fun h => by rw [h]⟩
    have hg : jL b < jL a ↔ b < a := by rw [Int64.lt_iff_toInt_lt, jL_toInt ha, jL_toInt hb2]
    unfold lg_cmp iCmp
    by_cases h1 : a < b
    · rw [if_neg (fun q => by have := hg.mp q; omega), if_neg (fun q => by have := he.mp q; omega), if_pos h1]
      rfl
    · by_cases h2 : a = b
      · rw [if_neg (fun q => by have := hg.mp q; omega), if_pos (he.mpr h2), if_neg h1, if_pos h2]
        rfl
      · rw [if_pos (hg.mpr (by omega)), if_neg h1, if_neg h2]
        rfl
  rw [e]
  exact k
end XB
