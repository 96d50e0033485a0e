/-! THE REFERENCE IN PURE WORDS (7): feeding and programs -/
/-- the k-th byte of a long -/
def btL (x : Int) (k : Int) : Int := (x / 2 ^ (8 * k).toNat) % 256
theorem jL_shr {a : Int} (ha : R64 a) {s : Nat} (hs : s < 64) : jL a >>> ((jI (s : Int)).toInt64 &&& 63) = jL (a / 2 ^ s) := by
  have e1 : ∀ n : Nat, n < 64 → (((jI (n : Int)).toInt64 &&& 63).toBitVec.smod 64).toNat = n := by decide +kernel
  apply Int64.toInt_inj.mp
  have h1 : (jL a >>> ((jI (s : Int)).toInt64 &&& 63)).toInt = a >>> s := by
    show ((jL a).toBitVec.sshiftRight (((jI (s : Int)).toInt64 &&& 63).toBitVec.smod 64).toNat).toInt = _
    rw [e1 s hs, BitVec.toInt_sshiftRight]
    show (jL a).toInt >>> s = _
    rw [jL_toInt ha]
  rw [h1, Int.shiftRight_eq_div_pow]
  have hp : (0 : Int) < 2 ^ s := Int.pow_pos (by decide)
  have h2 : R64 (a / 2 ^ s) := by
    by_cases h0 : 0 ≤ a
    · have := Int.ediv_le_self (2 ^ s) h0
      have := Int.ediv_nonneg h0 (Int.le_of_lt hp)
      omega
    · have h3 : a ≤ a / 2 ^ s := by
        rw [Int.le_ediv_iff_mul_le hp]
        have h4 : (1 : Int) ≤ 2 ^ s := hp
        have : a * 2 ^ s ≤ a * 1 := Int.mul_le_mul_of_nonpos_left (by omega) h4
        omega
      have h5 : a / 2 ^ s < 0 := Int.ediv_neg_of_neg_of_pos (by omega) hp
      omega
  rw [jL_toInt h2]
  rfl
theorem jL_and255 {a : Int} (ha : R64 a) : jL a &&& jL 255 = jL (a % 256) := by
  apply Int64.toInt_inj.mp
  rw [jL_toInt (show R64 (a % 256) by omega)]
  show ((jL a).toBitVec &&& (255 : BitVec 64)).toInt = _
  have h1 : ((jL a).toBitVec &&& (255 : BitVec 64)).toNat = (jL a).toBitVec.toNat % 256 := by
    rw [BitVec.toNat_and]
    exact Nat.and_two_pow_sub_one_eq_mod (jL a).toBitVec.toNat 8
  have h2 : ((jL a).toBitVec.toNat : Int) = a % 18446744073709551616 := by
    have h3 : (jL a).toBitVec.toInt = a := jL_toInt ha
    have h4 := BitVec.toInt_eq_toNat_bmod (jL a).toBitVec
    rw [h3] at h4
    have h5 := (jL a).toBitVec.isLt
    generalize (jL a).toBitVec.toNat = N at h4 h5
    have h6 : ((N : Int).bmod (2 ^ 64)) % ((2 ^ 64 : Nat) : Int) = (N : Int) % ((2 ^ 64 : Nat) : Int) := Int.bmod_emod
    rw [← h4] at h6
    have h7 : ((2 ^ 64 : Nat) : Int) = 18446744073709551616 := by decide
    rw [h7] at h6
    omega
  rw [BitVec.toInt_eq_toNat_of_lt (by omega), h1]
  omega
section XL
variable {p : Program} {l : Launch} {e : Env} {R : Room} {s : State} {m : MethodId} {args : Array Value} {below : List Frame} {meth : Method} {c : Code} {H : Heap} {locs : List Loc} {cells slots : Nat} {Q : State → Prop} {cc : ByteArray} {pc : Nat} {ls : Array Slot} {rest : List Value}
theorem x_lshr (hx : p.tables.exec = Jvm.exec) (hb : c.code = cc) {a b : Int} (hdg : decode cc pc = .ok (.lshr, 1)) (ha : R64 a) (h0 : 0 ≤ b) (h1 : b < 64)
    (k : W p l e R s m args below meth c H locs cells slots Q (F0 m (pc + 1) ls (.long (jL (a / 2 ^ b.toNat)) :: rest))) : W p l e R s m args below meth c H locs cells slots Q (F0 m pc ls (.int (jI b) :: .long (jL a) :: rest)) :=
  lv_lshr hx hb hdg (by rw [← jL_shr ha (s := b.toNat) (by omega), Int.toNat_of_nonneg h0]) k
theorem x_land255 (hx : p.tables.exec = Jvm.exec) (hb : c.code = cc) {a : Int} (hdg : decode cc pc = .ok (.land, 1)) (ha : R64 a)
    (k : W p l e R s m args below meth c H locs cells slots Q (F0 m (pc + 1) ls (.long (jL (a % 256)) :: rest))) : W p l e R s m args below meth c H locs cells slots Q (F0 m pc ls (.long (jL 255) :: .long (jL a) :: rest)) :=
  lv_land hx hb hdg (by rw [jL_and255 ha]; exact k)
end XL
theorem shr_r {a : Int} (ha : R64 a) (s : Nat) : R64 (a / 2 ^ s) := by
  have hp : (0 : Int) < 2 ^ s := Int.pow_pos (by decide)
  by_cases h0 : 0 ≤ a
  · have := Int.ediv_le_self (2 ^ s) h0
    have := Int.ediv_nonneg h0 (Int.le_of_lt hp)
    omega
  · have h3 : a ≤ a / 2 ^ s := by
      rw [Int.le_ediv_iff_mul_le hp]
      have h4 : (1 : Int) ≤ 2 ^ s := hp
      have : a * 2 ^ s ≤ a * 1 := Int.mul_le_mul_of_nonpos_left (by omega) h4
      omega
    have h5 : a / 2 ^ s < 0 := Int.ediv_neg_of_neg_of_pos (by omega) hp
    omega
def feS (σ : y_S) (x n i : Int) : y_S := upT (up2 σ 60 30 (σ 60 30 + i)) 23 (fillA (σ 23) (fun q => btL x (n - 1 - q)) (σ 60 30) i)
def oFeed (σ : y_S) (x n : Int) : Int × y_S := if ¬ (1 ≤ n ∧ n ≤ 8) then (-2, σ) else if 100 < σ 60 30 + n then (-4, σ) else (σ 60 30 + n, feS σ x n n)
theorem up2_id (σ : y_S) (t : Nat) (i : Int) : up2 σ t i (σ t i) = σ := by
  rw [up2_upT]
  have : up1 (σ t) i (σ t i) = σ t := by funext j; unfold up1; split <;> simp_all
  rw [this, upT_self]
theorem feS_0 (σ : y_S) (x n : Int) : σ = feS σ x n 0 := by
  unfold feS
  rw [fillA_0, Int.add_zero, up2_id, upT_self]
theorem feS_s {σ : y_S} {x n i v : Int} (h : 0 ≤ i) (hv : v = btL x (n - 1 - i)) : up2 (up2 (feS σ x n i) 23 (σ 60 30 + i) v) 60 30 (σ 60 30 + i + 1) = feS σ x n (i + 1) := by
  unfold feS
  rw [up2_fillA h hv, up2_cT _ (by decide), up2_up2]
  rw [show σ 60 30 + i + 1 = σ 60 30 + (i + 1) by omega]
/-- one more work on the list that is open -/
def aAdd (σ : y_S) (v : Int) : y_S := if σ 25 (σ 60 32) = 11 then σ else up2 (up2 σ 24 (13 * σ 60 32 + σ 25 (σ 60 32)) v) 25 (σ 60 32) (σ 25 (σ 60 32) + 1)
def aOpen (σ : y_S) (how : Int) : y_S := up2 (up2 (up2 σ 60 32 (σ 60 32 + 1)) 25 (σ 60 32 + 1) 0) 26 (σ 60 32 + 1) how
/-- works of row t from place a on are added -/
def aAddF (t : Nat) (a : Int) : Nat → Int → y_S → y_S
  | 0, _, σ => σ
  | f + 1, k, σ => aAddF t a f (k + 1) (aAdd σ (σ t (a + k)))
def aRou (a : Int) (N : Nat) : Nat → y_S → y_S
  | 0, σ => σ
  | r + 1, σ => aRou a N r (aAddF 24 a N 0 σ)
def pOk (σ : y_S) : Prop := mN σ ∧ (0 ≤ σ 60 31 ∧ σ 60 31 ≤ σ 60 30 ∧ σ 60 30 ≤ 100) ∧ (0 ≤ σ 60 32 ∧ 2 * σ 60 32 ≤ σ 60 31) ∧ (∀ k : Int, 0 ≤ k → k < 100 → 0 ≤ σ 25 k ∧ σ 25 k ≤ 11) ∧ (∀ k : Int, 0 ≤ k → k < 100 → 0 ≤ σ 26 k ∧ σ 26 k ≤ 15) ∧ (∀ k : Int, 0 ≤ k → k < 6 → 0 ≤ σ 28 k ∧ σ 28 k ≤ 11) ∧ (∀ k : Int, 0 ≤ k → k < 100 → 0 ≤ σ 23 k ∧ σ 23 k ≤ 255) ∧ (∀ k : Int, 0 ≤ k → k < 1300 → 0 ≤ σ 24 k ∧ σ 24 k ≤ 499) ∧ (∀ k : Int, 0 ≤ k → k < 66 → 0 ≤ σ 27 k ∧ σ 27 k ≤ 499)
def rgI (n a b : Int) (f : Int → Int) : Prop := ∀ k : Int, 0 ≤ k → k < n → a ≤ f k ∧ f k ≤ b
theorem rgI.up {n a b : Int} {f : Int → Int} (h : rgI n a b f) {i v : Int} (h0 : a ≤ v) (h1 : v ≤ b) : rgI n a b (up1 f i v) := by
  intro k c d
  by_cases e : k = i
  · subst e; rw [up1_s]; exact ⟨h0, h1⟩
  · rw [up1_n _ _ e]; exact h k c d
theorem rgI.fA {n a b : Int} {f g : Int → Int} (h : rgI n a b f) {s c : Int} (hg : ∀ k : Int, 0 ≤ k → k < c → a ≤ g k ∧ g k ≤ b) : rgI n a b (fillA f g s c) := by
  intro k x y
  unfold fillA
  split
  · exact hg _ (by omega) (by omega)
  · exact h k x y
theorem pOk_add {σ : y_S} (h : pOk σ) {v : Int} (h0 : 0 ≤ v) (h1 : v ≤ 499) : pOk (aAdd σ v) := by
  unfold aAdd
  split
  · exact h
  · rename_i hne
    obtain ⟨a1, a2, a3, a4, a5, a6, a7, a8, a9⟩ := h
    have h4 := a4 (σ 60 32) (by omega) (by omega)
    refine ⟨a1, a2, a3, ?_, a5, a6, a7, ?_, a9⟩
    · have : rgI 100 0 11 (up1 (σ 25) (σ 60 32) (σ 25 (σ 60 32) + 1)) := rgI.up a4 (by omega) (by omega)
      exact this
    · have : rgI 1300 0 499 (up1 (σ 24) (13 * σ 60 32 + σ 25 (σ 60 32)) v) := rgI.up a8 h0 h1
      exact this
theorem aAdd_60 (σ : y_S) (v : Int) : aAdd σ v 60 = σ 60 := by unfold aAdd; split <;> rfl
theorem aAdd_t (σ : y_S) (v : Int) {t : Nat} (h4 : t ≠ 24) (h5 : t ≠ 25) : aAdd σ v t = σ t := by
  unfold aAdd
  split
  · rfl
  · rw [up2_n _ _ _ h5, up2_n _ _ _ h4]
theorem aAdd_25 (σ : y_S) (v : Int) {k : Int} (h : k ≠ σ 60 32) : aAdd σ v 25 k = σ 25 k := by
  unfold aAdd
  split
  · rfl
  · rw [up2_s, up1_n _ _ h]; rfl
theorem pOk_addF {t : Nat} {a : Int} (ht : t = 24 ∨ t = 27) (ha : 0 ≤ a) : ∀ (f : Nat) (k : Int) (σ : y_S), pOk σ → 0 ≤ k → (t = 24 → a + k + (f : Int) ≤ 1300) → (t = 27 → a + k + (f : Int) ≤ 66) → pOk (aAddF t a f k σ)
  | 0, _, _, h, _, _, _ => h
  | f + 1, k, σ, h, hk, h1, h2 => by
    rw [aAddF]
    have hv : 0 ≤ σ t (a + k) ∧ σ t (a + k) ≤ 499 := by
      obtain ⟨a1, a2, a3, a4, a5, a6, a7, a8, a9⟩ := h
      rcases ht with rfl | rfl
      · have := h1 rfl; exact a8 (a + k) (by omega) (by omega)
      · have := h2 rfl; exact a9 (a + k) (by omega) (by omega)
    exact pOk_addF ht ha f (k + 1) _ (pOk_add h hv.1 hv.2) (by omega) (fun q => by have := h1 q; omega) (fun q => by have := h2 q; omega)
def mSame2 (σ τ : y_S) : Prop := ∀ t : Nat, t ≠ 24 → t ≠ 25 → τ t = σ t
/-- the bracket that closes: deep is one less; a name is told, or its works are added so often -/
def aClose (σ : y_S) : y_S := if 10 ≤ σ 26 (σ 60 32) then upT (up2 (up2 (up2 σ 60 32 (σ 60 32 - 1)) 29 (σ 26 (σ 60 32) - 10) 1) 28 (σ 26 (σ 60 32) - 10) (σ 25 (σ 60 32))) 27 (fillA (σ 27) (fun k => σ 24 (13 * σ 60 32 + k)) (11 * (σ 26 (σ 60 32) - 10)) (σ 25 (σ 60 32))) else aRou (13 * σ 60 32) (σ 25 (σ 60 32)).toNat (σ 26 (σ 60 32)).toNat (up2 σ 60 32 (σ 60 32 - 1))
def aUse (σ : y_S) (nm : Int) : y_S := if σ 29 nm = 0 then (if σ 60 33 < 0 then up2 σ 60 33 (σ 60 31 - 1) else σ) else aAddF 27 (11 * nm) (σ 28 nm).toNat 0 σ
/-- on by one sign -/
def aOn (σ : y_S) : y_S := up2 σ 60 31 (σ 60 31 + 1)
abbrev isDg (b : Int) : Prop := 48 ≤ b ∧ b ≤ 57
abbrev isNm (b : Int) : Prop := 97 ≤ b ∧ b ≤ 102
/-- a blank and a number: 1 and the memory, or 0 where it breaks -/
def nuF (σ : y_S) (most : Int) : Int × y_S :=
  if mSig σ ≠ 32 then (0, σ) else
  if ¬ isDg (mSig (aOn σ)) ∨ most < mSig (aOn σ) - 48 then (0, aOn σ) else
  if ¬ isDg (mSig (aOn (up2 (aOn σ) 60 34 (mSig (aOn σ) - 48)))) ∨ mSig (aOn σ) - 48 = 0 then (1, aOn (up2 (aOn σ) 60 34 (mSig (aOn σ) - 48))) else
  if most < 10 * (mSig (aOn σ) - 48) + mSig (aOn (up2 (aOn σ) 60 34 (mSig (aOn σ) - 48))) - 48 then (0, aOn (up2 (aOn σ) 60 34 (mSig (aOn σ) - 48))) else
  (1, aOn (up2 (aOn (up2 (aOn σ) 60 34 (mSig (aOn σ) - 48))) 60 34 (10 * (mSig (aOn σ) - 48) + mSig (aOn (up2 (aOn σ) 60 34 (mSig (aOn σ) - 48))) - 48)))
theorem mSig_r {σ : y_S} (hT : ∀ k : Int, 0 ≤ k → k < 100 → 0 ≤ σ 23 k ∧ σ 23 k ≤ 255) (h0 : 0 ≤ σ 60 31) (h1 : σ 60 30 ≤ 100) : (-1 ≤ mSig σ ∧ mSig σ ≤ 255) ∧ (mSig σ = -1 ∨ σ 60 31 < σ 60 30) := by
  unfold mSig
  split
  · have := hT (σ 60 31) (by omega) (by omega); omega
  · omega
theorem nuF_01 (σ : y_S) (m : Int) : (nuF σ m).1 = 0 ∨ (nuF σ m).1 = 1 := by
  unfold nuF
  (repeat' split) <;> first | exact Or.inl rfl | exact Or.inr rfl
theorem aAddF_s {t : Nat} {a : Int} {f : Nat} {k : Int} {σ : y_S} : aAddF t a (f + 1) k σ = aAddF t a f (k + 1) (aAdd σ (σ t (a + k))) := rfl
