/-! BITS: sets as numbers -/
theorem j_sl : ∀ n : Nat, n < 32 → ((jI (n : Int) &&& 31).toBitVec.smod 32).toNat = n := by decide +kernel
theorem jI_and (a b : Nat) : jI (a : Int) &&& jI (b : Int) = jI ((a &&& b : Nat) : Int) := by
  rw [jI_nat, jI_nat, jI_nat]
  apply Int32.toBitVec_inj.1
  show BitVec.ofNat 32 a &&& BitVec.ofNat 32 b = BitVec.ofNat 32 (a &&& b)
  rw [BitVec.ofNat_and]
theorem jI_or (a b : Nat) : jI (a : Int) ||| jI (b : Int) = jI ((a ||| b : Nat) : Int) := by
  rw [jI_nat, jI_nat, jI_nat]
  apply Int32.toBitVec_inj.1
  show BitVec.ofNat 32 a ||| BitVec.ofNat 32 b = BitVec.ofNat 32 (a ||| b)
  rw [BitVec.ofNat_or]
theorem jI_shr {a w : Nat} (ha : a < 2147483648) (hw : w < 32) : jI (a : Int) >>> (jI (w : Int) &&& 31) = jI ((a >>> w : Nat) : Int) := by
  rw [jI_nat a, pk_shrN (by omega) _ w (j_sl w hw), Nat.shiftRight_eq_div_pow, jI_nat]
theorem jI_shl1 {w : Nat} (hw : w < 31) : jI 1 <<< (jI (w : Int) &&& 31) = jI ((2 ^ w : Nat) : Int) := by
  have h2 : 2 ^ w ≤ 2 ^ 30 := Nat.pow_le_pow_right (by decide) (by omega)
  have e : jI 1 = nI 1 := rfl
  rw [e, pk_shlN _ w (j_sl w (by omega)) (by rw [Nat.one_mul]; omega), Nat.one_mul, jI_nat]
theorem jI_not (a : Int) : jI a ^^^ jI (-1) = jI (-1 - a) := by
  have h : ∀ x : Int32, x ^^^ (-1) = -1 - x := by
    intro x
    apply Int32.toBitVec_inj.1
    show x.toBitVec ^^^ (-1 : BitVec 32) = (-1 : BitVec 32) - x.toBitVec
    rw [show (-1 : BitVec 32) = BitVec.allOnes 32 from rfl, BitVec.xor_allOnes, BitVec.allOnes_sub_eq_not]
  have e : jI (-1) = -1 := rfl
  rw [e, h, ← e, jI_sub]
theorem jI_m1and (a : Int) : jI (-1) &&& jI a = jI a := by
  have h : ∀ x : Int32, (-1) &&& x = x := by
    intro x
    apply Int32.toBitVec_inj.1
    show (-1 : BitVec 32) &&& x.toBitVec = x.toBitVec
    rw [show (-1 : BitVec 32) = BitVec.allOnes 32 from rfl, BitVec.allOnes_and]
  exact h _
theorem jI_shl {a w : Nat} (hw : w < 31) (h : a * 2 ^ w < 4294967296) : jI (a : Int) <<< (jI (w : Int) &&& 31) = jI ((a <<< w : Nat) : Int) := by
  rw [jI_nat a, pk_shlN _ w (j_sl w (by omega)) (by omega), Nat.shiftLeft_eq, jI_nat]
/-- what is free: the bits below w that D hasn't -/
def frS (w D : Nat) : Nat := 2 ^ w - (D + 1)
theorem frS_bit {w D : Nat} (h : D < 2 ^ w) (i : Nat) : (frS w D).testBit i = (decide (i < w) && !D.testBit i) := Nat.testBit_two_pow_sub_succ h i
theorem frS_lt {w D : Nat} : frS w D < 2 ^ w := by
  have := Nat.two_pow_pos w
  unfold frS; omega
theorem jI_free {w D : Nat} (hw : w < 31) (h : D < 2 ^ w) : jI ((2 ^ w - 1 : Nat) : Int) &&& jI (-1 - (D : Int)) = jI ((frS w D : Nat) : Int) := by
  have hp : 2 ^ w ≤ 2 ^ 30 := Nat.pow_le_pow_right (by decide) (by omega)
  have e : jI (-1 - (D : Int)) = nI (2 ^ 32 - (D + 1)) := by
    rw [← jI_nat]
    apply Int32.toInt_inj.mp
    show (Int32.ofInt _).toInt = (Int32.ofInt _).toInt
    rw [Int32.toInt_ofInt, Int32.toInt_ofInt, ← Int.emod_bmod (-1 - (D : Int)), ← Int.emod_bmod (((2 ^ 32 - (D + 1) : Nat)) : Int)]
    congr 1
    have : ((2 ^ 32 - (D + 1) : Nat) : Int) = 4294967296 - (D : Int) - 1 := by omega
    rw [this]
    show (-1 - (D : Int)) % 4294967296 = (4294967296 - (D : Int) - 1) % 4294967296
    omega
  have eq1 : jI ((2 ^ w - 1 : Nat) : Int) = nI (2 ^ w - 1) := jI_nat _
  have eq2 : (2 ^ w - 1) &&& (2 ^ 32 - (D + 1)) = frS w D := by
    apply Nat.eq_of_testBit_eq
    intro i
    rw [Nat.testBit_and, Nat.testBit_two_pow_sub_one, Nat.testBit_two_pow_sub_succ (by omega), frS_bit h]
    by_cases hi : i < w
    · simp [hi, show i < 32 by omega]
    · simp [hi]
  rw [e, eq1, ← jI_nat, ← jI_nat, jI_and, eq2]
/-- the next smaller set within F -/
def nxS (S F : Nat) : Nat := if S = 0 then F else (S - 1) &&& F
theorem jI_nxt (S F : Nat) : jI ((S : Int) - 1) &&& jI (F : Int) = jI ((nxS S F : Nat) : Int) := by
  unfold nxS
  by_cases h : S = 0
  · subst h
    rw [if_pos rfl]
    exact jI_m1and _
  · rw [if_neg h, ← jI_and, show ((S - 1 : Nat) : Int) = (S : Int) - 1 by omega]
theorem sub_half {T F : Nat} (h : T &&& F = T) : (T / 2) &&& (F / 2) = T / 2 ∧ T % 2 ≤ F % 2 := by
  have h1 := congrArg (· / 2) h
  have h2 := congrArg (· % 2) h
  simp only [Nat.and_div_two] at h1
  refine ⟨h1, ?_⟩
  have h3 : (T &&& F) % 2 = (T % 2) &&& (F % 2) := by rw [Nat.and_mod_two_pow (n := 1)]
  have h4 : (T % 2) &&& (F % 2) ≤ F % 2 := Nat.and_le_right
  have h5 : (T &&& F) % 2 = T % 2 := h2
  omega
/-- of the sets within F that are below S, the next one is the greatest -/
theorem nxS_max : ∀ (S F T : Nat), S &&& F = S → T &&& F = T → T < S → T ≤ (S - 1) &&& F := by
  intro S
  induction S using Nat.strongRecOn with
  | ind S ih =>
    intro F T hS hT hlt
    obtain ⟨s1, s2⟩ := sub_half hS
    obtain ⟨t1, t2⟩ := sub_half hT
    have hd : ((S - 1) &&& F) / 2 = ((S - 1) / 2) &&& (F / 2) := Nat.and_div_two
    have hm : ((S - 1) &&& F) % 2 = ((S - 1) % 2) &&& (F % 2) := by rw [Nat.and_mod_two_pow (n := 1)]
    by_cases hs : S % 2 = 1
    · have e1 : (S - 1) / 2 = S / 2 := by omega
      rw [e1, s1] at hd
      omega
    · have e1 : (S - 1) / 2 = S / 2 - 1 := by omega
      have e2 : (S - 1) % 2 = 1 := by omega
      rw [e1] at hd
      rw [e2] at hm
      have h6 : 1 &&& (F % 2) = F % 2 := by
        rcases (by omega : F % 2 = 0 ∨ F % 2 = 1) with q | q <;> rw [q] <;> rfl
      rw [h6] at hm
      have := ih (S / 2) (by omega) (F / 2) (T / 2) s1 t1 (by omega)
      omega
theorem nxS_sub (S F : Nat) : nxS S F &&& F = nxS S F := by
  unfold nxS
  split
  · exact Nat.and_self F
  · rw [Nat.and_assoc, Nat.and_self]
theorem nxS_lt {S F : Nat} (h : S ≠ 0) : nxS S F < S := by
  unfold nxS
  rw [if_neg h]
  have : (S - 1) &&& F ≤ S - 1 := Nat.and_le_left
  omega
theorem nxS_le {S F : Nat} : nxS S F ≤ F := by
  unfold nxS
  split
  · exact Nat.le_refl _
  · exact Nat.and_le_right
theorem testBit_shr (S w : Nat) : (S >>> w) &&& 1 = if S.testBit w = true then 1 else 0 := by
  rw [Nat.and_one_is_mod, Nat.testBit_eq_decide_div_mod_eq, Nat.shiftRight_eq_div_pow]
  by_cases h : S / 2 ^ w % 2 = 1
  · simp [h]
  · simp [h]; omega
section XN
variable {p : Program} {l : Launch} {e : Env} {R : Room} {s : State} {m : MethodId} {args : Array Value} {below : List Frame} {meth : Method} {c : Code} {H : Heap} {locs : List Loc} {cells slots : Nat} {Q : State → Prop} {cc : ByteArray} {pc : Nat} {ls : Array Slot} {rest : List Value}
theorem x_shrN (hx : p.tables.exec = Jvm.exec) (hb : c.code = cc) {S w : Nat} (hdg : decode cc pc = .ok (.ishr, 1)) (hS : S < 2147483648) (hw : w < 32)
    (k : W p l e R s m args below meth c H locs cells slots Q (F0 m (pc + 1) ls (.int (jI ((S >>> w : Nat) : Int)) :: rest))) : W p l e R s m args below meth c H locs cells slots Q (F0 m pc ls (.int (jI (w : Int)) :: .int (jI (S : Int)) :: rest)) :=
  lv_ishr hx hb hdg (by rw [jI_shr hS hw]; exact k)
theorem x_tb (hx : p.tables.exec = Jvm.exec) (hb : c.code = cc) {S w : Nat} (hdg : decode cc pc = .ok (.iand, 1))
    (k : W p l e R s m args below meth c H locs cells slots Q (F0 m (pc + 1) ls (.int (jI (if S.testBit w = true then 1 else 0)) :: rest))) : W p l e R s m args below meth c H locs cells slots Q (F0 m pc ls (.int (jI 1) :: .int (jI ((S >>> w : Nat) : Int)) :: rest)) :=
  lv_iand hx hb hdg (by
    have e : jI ((S >>> w : Nat) : Int) &&& jI 1 = jI (if S.testBit w = true then 1 else 0) := by
      rw [show jI 1 = jI ((1 : Nat) : Int) from rfl, jI_and, testBit_shr]
      split <;> rfl
    rw [e]; exact k)
theorem x_andN (hx : p.tables.exec = Jvm.exec) (hb : c.code = cc) {a b : Nat} (hdg : decode cc pc = .ok (.iand, 1))
    (k : W p l e R s m args below meth c H locs cells slots Q (F0 m (pc + 1) ls (.int (jI ((a &&& b : Nat) : Int)) :: rest))) : W p l e R s m args below meth c H locs cells slots Q (F0 m pc ls (.int (jI (b : Int)) :: .int (jI (a : Int)) :: rest)) :=
  lv_iand hx hb hdg (by rw [jI_and]; exact k)
theorem x_orN (hx : p.tables.exec = Jvm.exec) (hb : c.code = cc) {a b : Nat} (hdg : decode cc pc = .ok (.ior, 1))
    (k : W p l e R s m args below meth c H locs cells slots Q (F0 m (pc + 1) ls (.int (jI ((a ||| b : Nat) : Int)) :: rest))) : W p l e R s m args below meth c H locs cells slots Q (F0 m pc ls (.int (jI (b : Int)) :: .int (jI (a : Int)) :: rest)) :=
  lv_ior hx hb hdg (by rw [jI_or]; exact k)
theorem x_shl1 (hx : p.tables.exec = Jvm.exec) (hb : c.code = cc) {w : Nat} (hdg : decode cc pc = .ok (.ishl, 1)) (hw : w < 31)
    (k : W p l e R s m args below meth c H locs cells slots Q (F0 m (pc + 1) ls (.int (jI ((2 ^ w : Nat) : Int)) :: rest))) : W p l e R s m args below meth c H locs cells slots Q (F0 m pc ls (.int (jI (w : Int)) :: .int (jI 1) :: rest)) :=
  lv_ishl hx hb hdg (by rw [jI_shl1 hw]; exact k)
theorem x_shlN (hx : p.tables.exec = Jvm.exec) (hb : c.code = cc) {a w : Nat} (hdg : decode cc pc = .ok (.ishl, 1)) (hw : w < 31) (h : a * 2 ^ w < 4294967296)
    (k : W p l e R s m args below meth c H locs cells slots Q (F0 m (pc + 1) ls (.int (jI ((a <<< w : Nat) : Int)) :: rest))) : W p l e R s m args below meth c H locs cells slots Q (F0 m pc ls (.int (jI (w : Int)) :: .int (jI (a : Int)) :: rest)) :=
  lv_ishl hx hb hdg (by rw [jI_shl hw h]; exact k)
theorem x_not (hx : p.tables.exec = Jvm.exec) (hb : c.code = cc) {a : Int} (hdg : decode cc pc = .ok (.ixor, 1))
    (k : W p l e R s m args below meth c H locs cells slots Q (F0 m (pc + 1) ls (.int (jI (-1 - a)) :: rest))) : W p l e R s m args below meth c H locs cells slots Q (F0 m pc ls (.int (jI (-1)) :: .int (jI a) :: rest)) :=
  lv_ixor hx hb hdg (by rw [jI_not]; exact k)
theorem x_free (hx : p.tables.exec = Jvm.exec) (hb : c.code = cc) {w D : Nat} (hdg : decode cc pc = .ok (.iand, 1)) (hw : w < 31) (hD : D < 2 ^ w)
    (k : W p l e R s m args below meth c H locs cells slots Q (F0 m (pc + 1) ls (.int (jI ((frS w D : Nat) : Int)) :: rest))) : W p l e R s m args below meth c H locs cells slots Q (F0 m pc ls (.int (jI (-1 - (D : Int))) :: .int (jI ((2 ^ w - 1 : Nat) : Int)) :: rest)) :=
  lv_iand hx hb hdg (by rw [jI_free hw hD]; exact k)
theorem x_nxt (hx : p.tables.exec = Jvm.exec) (hb : c.code = cc) {S F : Nat} (hdg : decode cc pc = .ok (.iand, 1))
    (k : W p l e R s m args below meth c H locs cells slots Q (F0 m (pc + 1) ls (.int (jI ((nxS S F : Nat) : Int)) :: rest))) : W p l e R s m args below meth c H locs cells slots Q (F0 m pc ls (.int (jI (F : Int)) :: .int (jI ((S : Int) - 1)) :: rest)) :=
  lv_iand hx hb hdg (by rw [jI_nxt]; exact k)
theorem x_bicmp_ne (hx : p.tables.exec = Jvm.exec) (hb : c.code = cc) {P : Prop} [Decidable P] {off : Int} {tgt : Nat} (hdg : decode cc pc = .ok (.if_icmp .ne off, 3)) (ht : (pc : Int) + off = (tgt : Int))
    (kt : ¬ P → W p l e R s m args below meth c H locs cells slots Q (F0 m tgt ls rest)) (kf : P → W p l e R s m args below meth c H locs cells slots Q (F0 m (pc + 3) ls rest)) : W p l e R s m args below meth c H locs cells slots Q (F0 m pc ls (.int (jI 1) :: .int (jI (if P then 1 else 0)) :: rest)) := by
  by_cases h : P
  · rw [if_pos h]
    exact x_icmp_ne hx hb hdg ht ⟨by decide, by decide⟩ ⟨by decide, by decide⟩ (fun q => absurd rfl q) (fun _ => kf h)
  · rw [if_neg h]
    exact x_icmp_ne hx hb hdg ht ⟨by decide, by decide⟩ ⟨by decide, by decide⟩ (fun _ => kt h) (fun q => absurd q (by decide))
theorem x_bicmp_eq (hx : p.tables.exec = Jvm.exec) (hb : c.code = cc) {P : Prop} [Decidable P] {off : Int} {tgt : Nat} (hdg : decode cc pc = .ok (.if_icmp .eq off, 3)) (ht : (pc : Int) + off = (tgt : Int))
    (kt : P → W p l e R s m args below meth c H locs cells slots Q (F0 m tgt ls rest)) (kf : ¬ P → W p l e R s m args below meth c H locs cells slots Q (F0 m (pc + 3) ls rest)) : W p l e R s m args below meth c H locs cells slots Q (F0 m pc ls (.int (jI 1) :: .int (jI (if P then 1 else 0)) :: rest)) := by
  by_cases h : P
  · rw [if_pos h]
    exact x_icmp_eq hx hb hdg ht ⟨by decide, by decide⟩ ⟨by decide, by decide⟩ (fun _ => kt h) (fun q => absurd rfl q)
  · rw [if_neg h]
    exact x_icmp_eq hx hb hdg ht ⟨by decide, by decide⟩ ⟨by decide, by decide⟩ (fun q => absurd q (by decide)) (fun _ => kf h)
end XN
