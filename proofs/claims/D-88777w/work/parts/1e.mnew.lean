/-! THE REFERENCE'S MEMORY WHILE IT IS MADE: the arrays of the fields below B are there -/
def mKk (B t : Nat) : Option y_K := if t = 60 ∨ t < B then mKd t else none
def mRk (ad : Nat → Nat) (B t : Nat) (i : Int) : Option Nat := if t = 60 ∧ i < (B : Int) ∧ (mKd i.toNat).isSome = true then some (ad i.toNat) else none
def mGk (ad : Nat → Nat) (B : Nat) : y_G := (mKk B, mRk ad B, ad)
def z0 : y_S := fun _ _ => 0
theorem mKk_s {B k : Nat} {kd : y_K} (hk : mKd k = some kd) (hB : B ≤ k) (hgap : ∀ t : Nat, t < k → B ≤ t → mKd t = none) : upT (mKk B) k (some kd) = mKk (k + 1) := by
  funext t
  by_cases e : t = k
  · subst e
    rw [upT_s]
    unfold mKk
    rw [if_pos (Or.inr (by omega)), hk]
  · rw [upT_n _ _ e]
    unfold mKk
    by_cases h6 : t = 60
    · rw [if_pos (Or.inl h6), if_pos (Or.inl h6)]
    · by_cases h1 : t < B
      · rw [if_pos (Or.inr h1), if_pos (Or.inr (by omega))]
      · rw [if_neg (by omega)]
        by_cases h2 : t < k
        · rw [if_pos (Or.inr (by omega)), hgap t h2 (by omega)]
        · rw [if_neg (by omega)]
theorem mRk_s {ad : Nat → Nat} {B k a : Nat} {kd : y_K} (hk : mKd k = some kd) (h6 : k ≠ 60) (hB : B ≤ k) (hgap : ∀ t : Nat, t < k → B ≤ t → mKd t = none) : up2 (upT (mRk ad B) k (fun _ => none)) 60 (k : Int) (some a) = mRk (upT ad k a) (k + 1) := by
  funext t i
  have hm0 : mKd 0 = none := rfl
  by_cases e : t = 60
  · subst e
    rw [up2_s, upT_n _ _ (Ne.symm h6)]
    by_cases e2 : i = (k : Int)
    · subst e2
      rw [up1_s]
      unfold mRk
      rw [if_pos ⟨rfl, by omega, by rw [Int.toNat_natCast, hk]; rfl⟩, Int.toNat_natCast, upT_s]
    · rw [up1_n _ _ e2]
      unfold mRk
      by_cases h1 : (mKd i.toNat).isSome = true
      · have h0 : 0 ≤ i := by
          by_cases q : 0 ≤ i
          · exact q
          · rw [show i.toNat = 0 by omega, hm0] at h1; exact absurd h1 (by decide)
        by_cases h2 : i < (B : Int)
        · rw [if_pos ⟨rfl, h2, h1⟩, if_pos ⟨rfl, by omega, h1⟩, upT_n _ _ (by omega)]
        · rw [if_neg (fun q => h2 q.2.1)]
          by_cases h3 : i < (k : Int)
          · have h4 := hgap i.toNat (by omega) (by omega)
            rw [h4] at h1
            exact absurd h1 (by decide)
          · rw [if_neg (fun q => by have := q.2.1; omega)]
      · rw [if_neg (fun q => h1 q.2.2), if_neg (fun q => h1 q.2.2)]
  · rw [up2_n _ _ _ e]
    unfold mRk
    rw [if_neg (fun q => e q.1)]
    by_cases e3 : t = k
    · subst e3; rw [upT_s]
    · rw [upT_n _ _ e3]
      rw [if_neg (fun q => e q.1)]
theorem gAv_0 {ak n : Nat} {r : Int → Option Nat} (h : (gAty ak).isReference = false) {cA : ClassId} (hd : defaultValue (gAty ak) = .int 0) : arrV cA n (fun _ => defaultValue (gAty ak)) = arrV cA n (gAv ak (fun _ => 0) r) := by
  congr 1
  funext j
  rw [gAv_i h, hd]
  rfl
section GN
variable {p : Program} {l : Launch} {e : Env} {R : Room} {s : State} {m : MethodId} {args : Array Value} {below : List Frame} {meth : Method} {c : Code} {H : Heap} {locs : List Loc} {cells slots : Nat} {Q : State → Prop} {cc : ByteArray} {pc nL : Nat} {ls : Array Slot} {rest : List Value}
variable {E : y_E} {A : Nat → Prop} {G : y_G} {σ : y_S} {own : String}
/-- a new array of ints or truth values, by a tag that nothing has -/
theorem g_newa (CF : CallFix p m c cc nL s args lw_all own) (hK : gK E s) (hM : gM E A G σ s.heap H locs) (hA : ∀ q, s.heap.size ≤ q → A q) (t : Nat) (ht : G.1 t = none) (ak : Nat) (hak : ak < 3) {atype : ArrayType} (hty : newarray.typeOf atype = gAty ak) (harr : (Cond.arrayClass (gAty ak)) ∈ lw_all)
    {nI : Int} {n : Nat} (hn : nI = (n : Int)) (hb : n ≤ 100000) (hcells : cells + 1 ≤ R.cells) (hslots : slots + n ≤ R.slots) (hdg : decode cc pc = .ok (.newarray atype, 2))
    (kk : ∀ (H1 : Heap), gM E A (upT G.1 t (some (.inr (ak, n))), upT G.2.1 t (fun _ => none), upT G.2.2 t H.size) (upT σ t (fun _ => 0)) s.heap H1 locs → W p l e R s m args below meth c H1 locs (cells + 1) (slots + n) Q (F0 m (pc + 2) ls (.ref H.size :: rest))) : W p l e R s m args below meth c H locs cells slots Q (F0 m pc ls (.int (jI nI) :: rest)) := by
  subst hn
  obtain ⟨hx, hbb, hml, hown, hts⟩ := CF
  have h0 : jI (n : Int) = nI n := jI_nat n
  refine va_newaK hx hbb (by rw [hty]; exact hts _ harr) rfl hdg rfl (by rw [← jI_0, jI_lt ⟨by omega, by omega⟩ ⟨by decide, by decide⟩]; omega) (by rw [jI_clamp (by omega) (by omega), Int.toNat_natCast]) ?_ hcells hslots rfl fun H1 cA e1 z1 o1 hAr hNm => ?_
  · rw [hty]
    match ak, hak with
    | 0, _ => show n * 4 ≤ _; omega
    | 1, _ => show n * 1 ≤ _; omega
    | 2, _ => show n * 1 ≤ _; omega
  · refine kk H1 (gM.push hM hA t ht (fun _ => ⟨by decide, by decide⟩) ?_ z1 o1)
    obtain ⟨kA, comp, h1, h2, h3, h4⟩ := hK.2.1 ak (by omega)
    rw [hty] at hNm e1
    cases hNm.symm.trans h3
    show H1[H.size]? = some _
    rw [e1]
    match ak, hak with
    | 0, _ => rw [gAv_0 rfl rfl]
    | 1, _ => rw [gAv_0 rfl rfl]
    | 2, _ => rw [gAv_0 rfl rfl]
theorem g_putiB (CF : CallFix p m c cc nL s args lw_all own) (hK : gK E s) (hM : gM E A G σ s.heap H locs) (t : Nat) (h0 : t ≠ 0) {ci : Nat} (ht : G.1 t = some (.inl ci)) {b : Nat} (ha : G.2.2 t = b) (k : Nat) (kI : Int) (hkI : (k : Int) = kI) {q : vw_C} (hc : gCl[ci]? = some q) (hk : k < q.2.2) {index : Nat} {ref : String} (hlink : gLk s args own index ref (q.2.1 k).2.1 (q.2.1 k).2.2.1)
    (hsame : ∀ x, s.fieldFound? (q.2.1 k).1 (q.2.1 k).2.1 (q.2.1 k).2.2.1 = some x → s.fieldFound? ref (q.2.1 k).2.1 (q.2.1 k).2.2.1 = some x) (hfin : (q.2.1 k).2.2.2 = false ∨ ((q.2.1 k).2.2.2 = true ∧ meth.name = "<init>" ∧ (q.2.1 k).1 = own ∧ (Cond.fieldLink own index ref (q.2.1 k).2.1 (q.2.1 k).2.2.1).before args s = true))
    (hty : (gTy ci k).isReference = false) {v : Int} (hn : narrow (gTy ci k) (.int (jI v)) = .int (jI v)) (hfit : fits (gTy ci k) (.int (jI v)) = true) (hv : R32 v) (hdg : decode cc pc = .ok (.putfield index, 3))
    (kk : ∀ (H : Heap) (locs : List Loc), gM E A G (up2 σ t kI v) s.heap H locs → W p l e R s m args below meth c H locs cells slots Q (F0 m (pc + 3) ls rest)) : W p l e R s m args below meth c H locs cells slots Q (F0 m pc ls (.int (jI v) :: .ref b :: rest)) := by
  subst ha
  exact g_puti CF hK hM t h0 ht k kI hkI hc hk hlink hsame hfin hty hn hfit hv hdg kk
/-- a field's array is made -/
theorem g_fieldArr (CF : CallFix p m c cc nL s args lw_all own) (hK : gK E s) {ad : Nat → Nat} {B : Nat} (hM : gM E A (mGk ad B) σ s.heap H locs) (hA : ∀ q, s.heap.size ≤ q → A q) {b : Nat} (ha : ad 60 = b) (k : Nat) (ak : Nat) (hak : ak < 3) {atype : ArrayType} (hty : newarray.typeOf atype = gAty ak) (harr : (Cond.arrayClass (gAty ak)) ∈ lw_all)
    {nI : Int} {n : Nat} (hn : nI = (n : Int)) (hkd : mKd k = some (.inr (ak, n))) (hB : B ≤ k) (h60 : k < 60) (hgap : ∀ t : Nat, t < k → B ≤ t → mKd t = none) (hσ : σ k = fun _ => 0) (hb : n ≤ 100000) (hcells : cells + 1 ≤ R.cells) (hslots : slots + n ≤ R.slots) (hdg : decode cc pc = .ok (.newarray atype, 2))
    (hk : k < 52) {index : Nat} {ref : String} (hlink : gLk s args own index ref (TX9 k).2.1 (TX9 k).2.2.1)
    (hsame : ∀ x, s.fieldFound? (TX9 k).1 (TX9 k).2.1 (TX9 k).2.2.1 = some x → s.fieldFound? ref (TX9 k).2.1 (TX9 k).2.2.1 = some x) (hfin : (TX9 k).2.2.2 = false ∨ ((TX9 k).2.2.2 = true ∧ meth.name = "<init>" ∧ (TX9 k).1 = own ∧ (Cond.fieldLink own index ref (TX9 k).2.1 (TX9 k).2.2.1).before args s = true))
    (hty2 : (gTy 7 k).isReference = true) (hdp : decode cc (pc + 2) = .ok (.putfield index, 3))
    (kk : ∀ (H : Heap) (locs : List Loc) (ad' : Nat → Nat), ad' 60 = b → gM E A (mGk ad' (k + 1)) σ s.heap H locs → W p l e R s m args below meth c H locs (cells + 1) (slots + n) Q (F0 m (pc + 5) ls rest)) : W p l e R s m args below meth c H locs cells slots Q (F0 m pc ls (.int (jI nI) :: .ref b :: rest)) := by
  refine g_newa CF hK hM hA k ?_ ak hak hty harr hn hb hcells hslots hdg fun H1 hM1 => ?_
  · show mKk B k = none
    unfold mKk
    rw [if_neg (by omega)]
  · have e1 : upT σ k (fun _ => 0) = σ := by rw [← hσ, upT_self]
    rw [e1] at hM1
    have h62 : upT (mGk ad B).2.2 k H.size 60 = b := by rw [upT_n _ _ (by omega)]; exact ha
    rw [← h62]
    refine g_putq (r := some H.size) CF hK hM1 60 (by decide) (ci := 7) ?_ k (k : Int) rfl rfl hk hlink hsame hfin hty2 ?_ ?_ hdp fun H2 locs2 hM2 => ?_
    · show upT (mKk B) k _ 60 = _
      rw [upT_n _ _ (by omega)]
      rfl
    · cases hq : gTy 7 k <;> rw [hq] at hty2 <;> first | rfl | exact absurd hty2 (by decide)
    · cases hq : gTy 7 k <;> rw [hq] at hty2 <;> first | rfl | exact absurd hty2 (by decide)
    · refine kk H2 locs2 (upT ad k H.size) (by rw [upT_n _ _ (by omega)]; exact ha) ?_
      have e2 := mKk_s hkd hB hgap
      have e3 := mRk_s (ad := ad) (a := H.size) hkd (by omega) hB hgap
      unfold mGk
      rw [← e2, ← e3]
      exact hM2
end GN
theorem mGk_G {E : y_E} {A : Nat → Prop} {ad : Nat → Nat} {σ : y_S} {H0 H : Heap} {locs : List Loc} (h : gM E A (mGk ad 52) σ H0 H locs) : gM E A (mG ad) σ H0 H locs := by
  have hk : ∀ t, mKk 52 t = mKd t := fun t => by
    unfold mKk
    by_cases h1 : t = 60 ∨ t < 52
    · rw [if_pos h1]
    · rw [if_neg h1]
      unfold mKd
      split <;> first | rfl | omega
  obtain ⟨⟨h1, h2, h3⟩, h4, h5⟩ := h
  refine ⟨⟨fun t k ht => ?_, fun t u ht hu e => h2 t u (by show mKk 52 t ≠ none; rw [hk]; exact ht) (by show mKk 52 u ≠ none; rw [hk]; exact hu) e, h3.1, fun k hk3 => by
    obtain ⟨cell, z1, z2, z3, z4⟩ := h3.2 k hk3
    exact ⟨cell, z1, z2, z3, fun t ht => z4 t (by show mKk 52 t ≠ none; rw [hk]; exact ht)⟩⟩, fun t h0 ht => h4 t h0 (by show mKk 52 t ≠ none; rw [hk]; exact ht), h5⟩
  have h6 := h1 t k (by show mKk 52 t = some k; rw [hk]; exact ht)
  by_cases e : t = 60
  · subst e
    cases (show mKd 60 = some (.inl 7) from rfl).symm.trans ht
    obtain ⟨q, hq, ob⟩ := h6
    refine ⟨q, hq, ob.to fun j hj => ?_⟩
    cases hq
    have hr : ∀ j : Nat, j < 52 → (gTy 7 j).isReference = true → (mKd j).isSome = true := by decide +kernel
    unfold gV
    split
    · rename_i hi
      show va_rf (mRk ad 52 60 (j : Int)) = va_rf (mRf ad 60 (j : Int))
      have hj : j < 52 := hj
      unfold mRk mRf
      rw [if_pos ⟨rfl, by omega, by rw [Int.toNat_natCast]; exact hr j hj hi⟩, if_pos rfl]
    · rfl
  · have e1 : (mGk ad 52).2.1 t = (mG ad).2.1 t := by
      funext i
      show mRk ad 52 t i = mRf ad t i
      unfold mRk mRf
      rw [if_neg (fun q => e q.1), if_neg e]
    rw [← e1]
    exact h6
/-- the turns: powers of one -/
def csN : Nat → Int × Int
  | 0 => (1, 0)
  | k + 1 => (((csN k).1 * 22 - (csN k).2 * 83) % 97, ((csN k).2 * 22 + (csN k).1 * 83) % 97)
theorem csN_r : ∀ k : Nat, (0 ≤ (csN k).1 ∧ (csN k).1 ≤ 96) ∧ (0 ≤ (csN k).2 ∧ (csN k).2 ≤ 96)
  | 0 => ⟨⟨by decide, by decide⟩, ⟨by decide, by decide⟩⟩
  | k + 1 => by rw [csN]; show (0 ≤ _ % 97 ∧ _ % 97 ≤ 96) ∧ (0 ≤ _ % 97 ∧ _ % 97 ≤ 96); omega
def csC (k : Int) : Int := (csN k.toNat).1
def csS (k : Int) : Int := (csN k.toNat).2
def zR : Int → Int := fun _ => 0
def oIn0 (x : Int) : y_S := up2 (up2 z0 60 7 99) 60 0 (x % 5 + 2)
def oIn1 (x k : Int) : y_S := upT (upT (oIn0 x) 1 (fillN zR csC k)) 2 (fillN zR csS k)
def oIn2 (x k : Int) : y_S := upT (upT (oIn1 x 96) 4 (fillN zR (fun _ => -1) k)) 5 (fillN zR (fun _ => -1) k)
/-- the memory that is made -/
def oInit (x : Int) : y_S := oIn2 x 72
theorem oIn1_1 (x : Int) : up2 (oIn0 x) 1 0 1 = oIn1 x 1 := by
  unfold oIn1
  have e1 : fillN zR csS 1 = zR := by
    funext i
    unfold fillN
    split
    · rename_i h
      rw [show i = 0 by omega]
      rfl
    · rfl
  have e2 : up1 zR 0 1 = fillN zR csC 1 := by
    have := fillN_s (f := zR) (g := csC) (n := 0) (v := 1) (by decide) rfl
    rw [fillN_0] at this
    exact this
  rw [e1, ← e2, up2_upT]
  exact (upT_self (upT (oIn0 x) 1 (up1 zR 0 1)) 2).symm
theorem csC_s {q : Nat} {v : Int} (h : v = ((csN q).1 * 22 - (csN q).2 * 83) % 97) : v = csC ((q : Int) + 1) := by
  unfold csC
  rw [show ((q : Int) + 1).toNat = q + 1 by omega, csN, h]
theorem csS_s {q : Nat} {v : Int} (h : v = ((csN q).2 * 22 + (csN q).1 * 83) % 97) : v = csS ((q : Int) + 1) := by
  unfold csS
  rw [show ((q : Int) + 1).toNat = q + 1 by omega, csN, h]
theorem csC_n (q : Nat) : csC (q : Int) = (csN q).1 := by unfold csC; rw [Int.toNat_natCast]
theorem csS_n (q : Nat) : csS (q : Int) = (csN q).2 := by unfold csS; rw [Int.toNat_natCast]
theorem oIn1_c {x : Int} {q : Nat} : oIn1 x ((q : Int) + 1) 1 (q : Int) = (csN q).1 := by
  have : oIn1 x ((q : Int) + 1) 1 (q : Int) = csC (q : Int) := fillN_in (f := zR) (g := csC) (by omega) (by omega)
  rw [this, csC_n]
theorem oIn1_s {x : Int} {q : Nat} : oIn1 x ((q : Int) + 1) 2 (q : Int) = (csN q).2 := by
  have : oIn1 x ((q : Int) + 1) 2 (q : Int) = csS (q : Int) := fillN_in (f := zR) (g := csS) (by omega) (by omega)
  rw [this, csS_n]
theorem oIn1_n {x : Int} {q : Nat} {a b : Int} (ha : a = csC ((q : Int) + 1)) (hb : b = csS ((q : Int) + 1)) : up2 (up2 (oIn1 x ((q : Int) + 1)) 1 ((q : Int) + 1) a) 2 ((q : Int) + 1) b = oIn1 x ((q : Int) + 1 + 1) := by
  unfold oIn1
  rw [up2_cT _ (by decide), up2_fill (by omega) ha, up2_fill (by omega) hb]
theorem oIn2_0 (x : Int) : oIn1 x 96 = oIn2 x 0 := by
  unfold oIn2
  rw [fillN_0]
  exact ((upT_self (upT (oIn1 x 96) 4 zR) 5).trans (upT_self (oIn1 x 96) 4)).symm
theorem oIn2_n {x k : Int} (h : 0 ≤ k) : up2 (up2 (oIn2 x k) 4 k (-1)) 5 k (-1) = oIn2 x (k + 1) := by
  unfold oIn2
  rw [up2_cT _ (by decide), up2_fill h rfl, up2_fill h rfl]
