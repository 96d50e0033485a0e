/-! NUMBERS: Java's ints and longs by integers (jI, jL: ring maps; ranges R32, R64), and the instructions' rows over them -/
def jI (z : Int) : Int32 := Int32.ofInt z
def jL (z : Int) : Int64 := Int64.ofInt z
abbrev R32 (z : Int) : Prop := -2147483648 ≤ z ∧ z ≤ 2147483647
abbrev R64 (z : Int) : Prop := -9223372036854775808 ≤ z ∧ z ≤ 9223372036854775807
theorem jI_toInt {z : Int} (h : R32 z) : (jI z).toInt = z := Int32.toInt_ofInt_of_le (by omega) (by omega)
theorem jI_of (x : Int32) : jI x.toInt = x := Int32.ofInt_toInt x
theorem jI_r (x : Int32) : R32 x.toInt := ⟨by have := x.le_toInt; omega, by have := x.toInt_lt; omega⟩
theorem jL_toInt {z : Int} (h : R64 z) : (jL z).toInt = z := Int64.toInt_ofInt_of_le (by omega) (by omega)
theorem jL_of (x : Int64) : jL x.toInt = x := Int64.ofInt_toInt x
theorem jL_r (x : Int64) : R64 x.toInt := ⟨by have := x.le_toInt; omega, by have := x.toInt_lt; omega⟩
theorem jI_eq {a b : Int} (ha : R32 a) (hb : R32 b) : jI a = jI b ↔ a = b :=
  ⟨fun h => by have := congrArg Int32.toInt h; rwa [jI_toInt ha, jI_toInt hb] at this, fun h => by rw [h]⟩
theorem jI_lt {a b : Int} (ha : R32 a) (hb : R32 b) : jI a < jI b ↔ a < b := by
  rw [Int32.lt_iff_toInt_lt, jI_toInt ha, jI_toInt hb]
theorem jI_le {a b : Int} (ha : R32 a) (hb : R32 b) : jI a ≤ jI b ↔ a ≤ b := by
  rw [Int32.le_iff_toInt_le, jI_toInt ha, jI_toInt hb]
theorem jI_0 : jI 0 = 0 := rfl
theorem jI_add (a b : Int) : jI a + jI b = jI (a + b) := (Int32.ofInt_add a b).symm
theorem jI_sub (a b : Int) : jI a - jI b = jI (a - b) := (Int32.ofInt_sub a b).symm
theorem jI_mul (a b : Int) : jI a * jI b = jI (a * b) := (Int32.ofInt_mul a b).symm
theorem jI_neg (a : Int) : - jI a = jI (-a) := (Int32.ofInt_neg a).symm
theorem jL_add (a b : Int) : jL a + jL b = jL (a + b) := (Int64.ofInt_add a b).symm
theorem jL_sub (a b : Int) : jL a - jL b = jL (a - b) := (Int64.ofInt_sub a b).symm
theorem jL_mul (a b : Int) : jL a * jL b = jL (a * b) := (Int64.ofInt_mul a b).symm
theorem jI_div {a b : Int} (ha : R32 a) (hb : R32 b) : jI a / jI b = jI (a.tdiv b) :=
  (Int32.ofInt_tdiv (by rw [Int32.toInt_minValue]; omega) (by rw [Int32.toInt_maxValue]; omega) (by rw [Int32.toInt_minValue]; omega) (by rw [Int32.toInt_maxValue]; omega)).symm
theorem jI_rem {a b : Int} (ha : R32 a) (hb : R32 b) : jI a - jI a / jI b * jI b = jI (a.tmod b) := by
  rw [jI_div ha hb, jI_mul, jI_sub, Int.tmod_def, Int.mul_comm]
theorem jL_div {a b : Int} (ha : R64 a) (hb : R64 b) : jL a / jL b = jL (a.tdiv b) :=
  (Int64.ofInt_tdiv (by rw [Int64.toInt_minValue]; omega) (by rw [Int64.toInt_maxValue]; omega) (by rw [Int64.toInt_minValue]; omega) (by rw [Int64.toInt_maxValue]; omega)).symm
theorem jL_rem {a b : Int} (ha : R64 a) (hb : R64 b) : jL a - jL a / jL b * jL b = jL (a.tmod b) := by
  rw [jL_div ha hb, jL_mul, jL_sub, Int.tmod_def, Int.mul_comm]
theorem jI_ne0 {a : Int} (ha : R32 a) (h : a ≠ 0) : ¬ jI a = 0 := fun q => h ((jI_eq ha ⟨by decide, by decide⟩).mp (q.trans jI_0.symm))
theorem jL_ne0 {a : Int} (ha : R64 a) (h : a ≠ 0) : ¬ jL a = 0 := fun q => h (by
  have h1 := congrArg Int64.toInt q
  rw [jL_toInt ha] at h1
  exact h1)
theorem jI_clamp {z : Int} (h0 : 0 ≤ z) (h1 : z ≤ 2147483647) : (jI z).toNatClampNeg = z.toNat := by
  show (jI z).toInt.toNat = z.toNat
  rw [jI_toInt ⟨by omega, h1⟩]
theorem jI_in {z : Int} {n : Nat} (h0 : 0 ≤ z) (h1 : z < n) (hn : n ≤ 2147483647) : vp_in (jI z) n := by
  intro h
  rcases h with h | h
  · rw [← jI_0, jI_lt ⟨by omega, by omega⟩ ⟨by decide, by decide⟩] at h
    omega
  · rw [jI_clamp h0 (by omega)] at h
    omega
theorem jI_l {z : Int} (h : R32 z) : (jI z).toInt64 = jL z :=
  Int32.toInt64_ofInt (by rw [Int32.toInt_minValue]; omega) (by rw [Int32.toInt_maxValue]; omega)
theorem jL_i (z : Int) : (jL z).toInt32 = jI z := Int64.toInt32_ofInt
theorem jI_b (z : Int) : (jI z).toInt8.toInt32 = jI (z.bmod 256) := by
  have e : (jI z).toInt8 = Int8.ofInt z := Int32.toInt8_ofInt
  rw [e, ← Int32.ofInt_int8ToInt, Int8.toInt_ofInt]
  rfl
/-- the bits of a number that is not negative -/
theorem jI_nat (n : Nat) : jI (n : Int) = nI n := Int32.ofInt_eq_ofNat
theorem jL_nat (n : Nat) : jL (n : Int) = lN n := Int64.ofInt_eq_ofNat
theorem jI_toNat {z : Int} (h : 0 ≤ z) : jI z = nI z.toNat := by
  rw [← jI_nat, Int.toNat_of_nonneg h]
section XR
variable {p : Program} {l : Launch} {e : Env} {R : Room} {s : State} {m : MethodId} {args : Array Value} {below : List Frame} {meth : Method} {c : Code} {H : Heap} {locs : List Loc} {cells slots : Nat} {Q : State → Prop} {cc : ByteArray} {pc : Nat} {ls : Array Slot} {rest : List Value}
theorem x_iadd (hx : p.tables.exec = Jvm.exec) (hb : c.code = cc) {a b : Int} (hdg : decode cc pc = .ok (.iadd, 1))
    (k : W p l e R s m args below meth c H locs cells slots Q (F0 m (pc + 1) ls (.int (jI (a + b)) :: rest))) : W p l e R s m args below meth c H locs cells slots Q (F0 m pc ls (.int (jI b) :: .int (jI a) :: rest)) :=
  lv_iadd hx hb hdg (by rw [jI_add]; exact k)
theorem x_isub (hx : p.tables.exec = Jvm.exec) (hb : c.code = cc) {a b : Int} (hdg : decode cc pc = .ok (.isub, 1))
    (k : W p l e R s m args below meth c H locs cells slots Q (F0 m (pc + 1) ls (.int (jI (a - b)) :: rest))) : W p l e R s m args below meth c H locs cells slots Q (F0 m pc ls (.int (jI b) :: .int (jI a) :: rest)) :=
  lv_isub hx hb hdg (by rw [jI_sub]; exact k)
theorem x_imul (hx : p.tables.exec = Jvm.exec) (hb : c.code = cc) {a b : Int} (hdg : decode cc pc = .ok (.imul, 1))
    (k : W p l e R s m args below meth c H locs cells slots Q (F0 m (pc + 1) ls (.int (jI (a * b)) :: rest))) : W p l e R s m args below meth c H locs cells slots Q (F0 m pc ls (.int (jI b) :: .int (jI a) :: rest)) :=
  lv_imul hx hb hdg (by rw [jI_mul]; exact k)
theorem x_ineg (hx : p.tables.exec = Jvm.exec) (hb : c.code = cc) {a : Int} (hdg : decode cc pc = .ok (.ineg, 1))
    (k : W p l e R s m args below meth c H locs cells slots Q (F0 m (pc + 1) ls (.int (jI (-a)) :: rest))) : W p l e R s m args below meth c H locs cells slots Q (F0 m pc ls (.int (jI a) :: rest)) :=
  lv_ineg hx hb hdg (by rw [jI_neg]; exact k)
theorem x_idiv (hx : p.tables.exec = Jvm.exec) (hb : c.code = cc) {a b : Int} (hdg : decode cc pc = .ok (.idiv, 1)) (ha : R32 a) (hb2 : R32 b) (hne : b ≠ 0)
    (k : W p l e R s m args below meth c H locs cells slots Q (F0 m (pc + 1) ls (.int (jI (a.tdiv b)) :: rest))) : W p l e R s m args below meth c H locs cells slots Q (F0 m pc ls (.int (jI b) :: .int (jI a) :: rest)) :=
  lv_idiv hx hb hdg (jI_ne0 hb2 hne) (by rw [jI_div ha hb2]; exact k)
theorem x_irem (hx : p.tables.exec = Jvm.exec) (hb : c.code = cc) {a b : Int} (hdg : decode cc pc = .ok (.irem, 1)) (ha : R32 a) (hb2 : R32 b) (hne : b ≠ 0)
    (k : W p l e R s m args below meth c H locs cells slots Q (F0 m (pc + 1) ls (.int (jI (a.tmod b)) :: rest))) : W p l e R s m args below meth c H locs cells slots Q (F0 m pc ls (.int (jI b) :: .int (jI a) :: rest)) :=
  lv_irem hx hb hdg (jI_ne0 hb2 hne) (by rw [jI_rem ha hb2]; exact k)
theorem x_ladd (hx : p.tables.exec = Jvm.exec) (hb : c.code = cc) {a b : Int} (hdg : decode cc pc = .ok (.ladd, 1))
    (k : W p l e R s m args below meth c H locs cells slots Q (F0 m (pc + 1) ls (.long (jL (a + b)) :: rest))) : W p l e R s m args below meth c H locs cells slots Q (F0 m pc ls (.long (jL b) :: .long (jL a) :: rest)) :=
  lv_ladd hx hb hdg (by rw [jL_add]; exact k)
theorem x_lsub (hx : p.tables.exec = Jvm.exec) (hb : c.code = cc) {a b : Int} (hdg : decode cc pc = .ok (.lsub, 1))
    (k : W p l e R s m args below meth c H locs cells slots Q (F0 m (pc + 1) ls (.long (jL (a - b)) :: rest))) : W p l e R s m args below meth c H locs cells slots Q (F0 m pc ls (.long (jL b) :: .long (jL a) :: rest)) :=
  lv_lsub hx hb hdg (by rw [jL_sub]; exact k)
theorem x_lmul (hx : p.tables.exec = Jvm.exec) (hb : c.code = cc) {a b : Int} (hdg : decode cc pc = .ok (.lmul, 1))
    (k : W p l e R s m args below meth c H locs cells slots Q (F0 m (pc + 1) ls (.long (jL (a * b)) :: rest))) : W p l e R s m args below meth c H locs cells slots Q (F0 m pc ls (.long (jL b) :: .long (jL a) :: rest)) :=
  lv_lmul hx hb hdg (by rw [jL_mul]; exact k)
theorem x_ldiv (hx : p.tables.exec = Jvm.exec) (hb : c.code = cc) {a b : Int} (hdg : decode cc pc = .ok (.ldiv, 1)) (ha : R64 a) (hb2 : R64 b) (hne : b ≠ 0)
    (k : W p l e R s m args below meth c H locs cells slots Q (F0 m (pc + 1) ls (.long (jL (a.tdiv b)) :: rest))) : W p l e R s m args below meth c H locs cells slots Q (F0 m pc ls (.long (jL b) :: .long (jL a) :: rest)) :=
  lv_ldiv hx hb hdg (jL_ne0 hb2 hne) (by rw [jL_div ha hb2]; exact k)
theorem x_lrem (hx : p.tables.exec = Jvm.exec) (hb : c.code = cc) {a b : Int} (hdg : decode cc pc = .ok (.lrem, 1)) (ha : R64 a) (hb2 : R64 b) (hne : b ≠ 0)
    (k : W p l e R s m args below meth c H locs cells slots Q (F0 m (pc + 1) ls (.long (jL (a.tmod b)) :: rest))) : W p l e R s m args below meth c H locs cells slots Q (F0 m pc ls (.long (jL b) :: .long (jL a) :: rest)) :=
  lv_lrem hx hb hdg (jL_ne0 hb2 hne) (by rw [jL_rem ha hb2]; exact k)
theorem x_i2l (hx : p.tables.exec = Jvm.exec) (hb : c.code = cc) {a : Int} (hdg : decode cc pc = .ok (.i2l, 1)) (ha : R32 a)
    (k : W p l e R s m args below meth c H locs cells slots Q (F0 m (pc + 1) ls (.long (jL a) :: rest))) : W p l e R s m args below meth c H locs cells slots Q (F0 m pc ls (.int (jI a) :: rest)) :=
  lv_i2l hx hb hdg (jI_l ha) k
theorem x_l2i (hx : p.tables.exec = Jvm.exec) (hb : c.code = cc) {a : Int} (hdg : decode cc pc = .ok (.l2i, 1))
    (k : W p l e R s m args below meth c H locs cells slots Q (F0 m (pc + 1) ls (.int (jI a) :: rest))) : W p l e R s m args below meth c H locs cells slots Q (F0 m pc ls (.long (jL a) :: rest)) :=
  lv_l2i hx hb hdg (jL_i a) k
theorem x_i2b (hx : p.tables.exec = Jvm.exec) (hb : c.code = cc) {a : Int} (hdg : decode cc pc = .ok (.i2b, 1))
    (k : W p l e R s m args below meth c H locs cells slots Q (F0 m (pc + 1) ls (.int (jI (a.bmod 256)) :: rest))) : W p l e R s m args below meth c H locs cells slots Q (F0 m pc ls (.int (jI a) :: rest)) :=
  lv_i2b hx hb hdg (jI_b a) k
theorem x_icmp_eq (hx : p.tables.exec = Jvm.exec) (hb : c.code = cc) {a b : Int} {off : Int} {tgt : Nat} (hdg : decode cc pc = .ok (.if_icmp .eq off, 3)) (ht : (pc : Int) + off = (tgt : Int)) (ha : R32 a) (hb2 : R32 b)
    (kt : a = b → W p l e R s m args below meth c H locs cells slots Q (F0 m tgt ls rest)) (kf : a ≠ b → W p l e R s m args below meth c H locs cells slots Q (F0 m (pc + 3) ls rest)) : W p l e R s m args below meth c H locs cells slots Q (F0 m pc ls (.int (jI b) :: .int (jI a) :: rest)) :=
  lv_icmp_eq hx hb hdg ht (fun h => kt ((jI_eq ha hb2).mp h)) (fun h => kf (fun q => h ((jI_eq ha hb2).mpr q)))
theorem x_icmp_ne (hx : p.tables.exec = Jvm.exec) (hb : c.code = cc) {a b : Int} {off : Int} {tgt : Nat} (hdg : decode cc pc = .ok (.if_icmp .ne off, 3)) (ht : (pc : Int) + off = (tgt : Int)) (ha : R32 a) (hb2 : R32 b)
    (kt : a ≠ b → W p l e R s m args below meth c H locs cells slots Q (F0 m tgt ls rest)) (kf : a = b → W p l e R s m args below meth c H locs cells slots Q (F0 m (pc + 3) ls rest)) : W p l e R s m args below meth c H locs cells slots Q (F0 m pc ls (.int (jI b) :: .int (jI a) :: rest)) :=
  lv_icmp_ne hx hb hdg ht (fun h => kt (fun q => h ((jI_eq ha hb2).mpr q))) (fun h => kf ((jI_eq ha hb2).mp h))
theorem x_icmp_lt (hx : p.tables.exec = Jvm.exec) (hb : c.code = cc) {a b : Int} {off : Int} {tgt : Nat} (hdg : decode cc pc = .ok (.if_icmp .lt off, 3)) (ht : (pc : Int) + off = (tgt : Int)) (ha : R32 a) (hb2 : R32 b)
    (kt : a < b → W p l e R s m args below meth c H locs cells slots Q (F0 m tgt ls rest)) (kf : b ≤ a → W p l e R s m args below meth c H locs cells slots Q (F0 m (pc + 3) ls rest)) : W p l e R s m args below meth c H locs cells slots Q (F0 m pc ls (.int (jI b) :: .int (jI a) :: rest)) :=
  lv_icmp_lt hx hb hdg ht (fun h => kt ((jI_lt ha hb2).mp h)) (fun h => kf (Int.not_lt.mp (fun q => h ((jI_lt ha hb2).mpr q))))
theorem x_icmp_ge (hx : p.tables.exec = Jvm.exec) (hb : c.code = cc) {a b : Int} {off : Int} {tgt : Nat} (hdg : decode cc pc = .ok (.if_icmp .ge off, 3)) (ht : (pc : Int) + off = (tgt : Int)) (ha : R32 a) (hb2 : R32 b)
    (kt : b ≤ a → W p l e R s m args below meth c H locs cells slots Q (F0 m tgt ls rest)) (kf : a < b → W p l e R s m args below meth c H locs cells slots Q (F0 m (pc + 3) ls rest)) : W p l e R s m args below meth c H locs cells slots Q (F0 m pc ls (.int (jI b) :: .int (jI a) :: rest)) :=
  lv_icmp_ge hx hb hdg ht (fun h => kt ((jI_le hb2 ha).mp h)) (fun h => kf (Int.not_le.mp (fun q => h ((jI_le hb2 ha).mpr q))))
theorem x_icmp_gt (hx : p.tables.exec = Jvm.exec) (hb : c.code = cc) {a b : Int} {off : Int} {tgt : Nat} (hdg : decode cc pc = .ok (.if_icmp .gt off, 3)) (ht : (pc : Int) + off = (tgt : Int)) (ha : R32 a) (hb2 : R32 b)
    (kt : b < a → W p l e R s m args below meth c H locs cells slots Q (F0 m tgt ls rest)) (kf : a ≤ b → W p l e R s m args below meth c H locs cells slots Q (F0 m (pc + 3) ls rest)) : W p l e R s m args below meth c H locs cells slots Q (F0 m pc ls (.int (jI b) :: .int (jI a) :: rest)) :=
  lv_icmp_gt hx hb hdg ht (fun h => kt ((jI_lt hb2 ha).mp h)) (fun h => kf (Int.not_lt.mp (fun q => h ((jI_lt hb2 ha).mpr q))))
theorem x_icmp_le (hx : p.tables.exec = Jvm.exec) (hb : c.code = cc) {a b : Int} {off : Int} {tgt : Nat} (hdg : decode cc pc = .ok (.if_icmp .le off, 3)) (ht : (pc : Int) + off = (tgt : Int)) (ha : R32 a) (hb2 : R32 b)
    (kt : a ≤ b → W p l e R s m args below meth c H locs cells slots Q (F0 m tgt ls rest)) (kf : b < a → W p l e R s m args below meth c H locs cells slots Q (F0 m (pc + 3) ls rest)) : W p l e R s m args below meth c H locs cells slots Q (F0 m pc ls (.int (jI b) :: .int (jI a) :: rest)) :=
  lv_icmp_le hx hb hdg ht (fun h => kt ((jI_le ha hb2).mp h)) (fun h => kf (Int.not_le.mp (fun q => h ((jI_le ha hb2).mpr q))))
theorem x_r0 : R32 0 := ⟨by decide, by decide⟩
theorem x_if_eq (hx : p.tables.exec = Jvm.exec) (hb : c.code = cc) {a : Int} {off : Int} {tgt : Nat} (hdg : decode cc pc = .ok (.ifCond .eq off, 3)) (ht : (pc : Int) + off = (tgt : Int)) (ha : R32 a)
    (kt : a = 0 → W p l e R s m args below meth c H locs cells slots Q (F0 m tgt ls rest)) (kf : a ≠ 0 → W p l e R s m args below meth c H locs cells slots Q (F0 m (pc + 3) ls rest)) : W p l e R s m args below meth c H locs cells slots Q (F0 m pc ls (.int (jI a) :: rest)) :=
  lv_if_eq hx hb hdg ht (fun h => kt ((jI_eq ha x_r0).mp h)) (fun h => kf (fun q => h ((jI_eq ha x_r0).mpr q)))
theorem x_if_ne (hx : p.tables.exec = Jvm.exec) (hb : c.code = cc) {a : Int} {off : Int} {tgt : Nat} (hdg : decode cc pc = .ok (.ifCond .ne off, 3)) (ht : (pc : Int) + off = (tgt : Int)) (ha : R32 a)
    (kt : a ≠ 0 → W p l e R s m args below meth c H locs cells slots Q (F0 m tgt ls rest)) (kf : a = 0 → W p l e R s m args below meth c H locs cells slots Q (F0 m (pc + 3) ls rest)) : W p l e R s m args below meth c H locs cells slots Q (F0 m pc ls (.int (jI a) :: rest)) :=
  lv_if_ne hx hb hdg ht (fun h => kt (fun q => h ((jI_eq ha x_r0).mpr q))) (fun h => kf ((jI_eq ha x_r0).mp h))
theorem x_if_lt (hx : p.tables.exec = Jvm.exec) (hb : c.code = cc) {a : Int} {off : Int} {tgt : Nat} (hdg : decode cc pc = .ok (.ifCond .lt off, 3)) (ht : (pc : Int) + off = (tgt : Int)) (ha : R32 a)
    (kt : a < 0 → W p l e R s m args below meth c H locs cells slots Q (F0 m tgt ls rest)) (kf : 0 ≤ a → W p l e R s m args below meth c H locs cells slots Q (F0 m (pc + 3) ls rest)) : W p l e R s m args below meth c H locs cells slots Q (F0 m pc ls (.int (jI a) :: rest)) :=
  lv_if_lt hx hb hdg ht (fun h => kt ((jI_lt ha x_r0).mp h)) (fun h => kf (Int.not_lt.mp (fun q => h ((jI_lt ha x_r0).mpr q))))
theorem x_if_ge (hx : p.tables.exec = Jvm.exec) (hb : c.code = cc) {a : Int} {off : Int} {tgt : Nat} (hdg : decode cc pc = .ok (.ifCond .ge off, 3)) (ht : (pc : Int) + off = (tgt : Int)) (ha : R32 a)
    (kt : 0 ≤ a → W p l e R s m args below meth c H locs cells slots Q (F0 m tgt ls rest)) (kf : a < 0 → W p l e R s m args below meth c H locs cells slots Q (F0 m (pc + 3) ls rest)) : W p l e R s m args below meth c H locs cells slots Q (F0 m pc ls (.int (jI a) :: rest)) :=
  lv_if_ge hx hb hdg ht (fun h => kt ((jI_le x_r0 ha).mp h)) (fun h => kf (Int.not_le.mp (fun q => h ((jI_le x_r0 ha).mpr q))))
theorem x_if_gt (hx : p.tables.exec = Jvm.exec) (hb : c.code = cc) {a : Int} {off : Int} {tgt : Nat} (hdg : decode cc pc = .ok (.ifCond .gt off, 3)) (ht : (pc : Int) + off = (tgt : Int)) (ha : R32 a)
    (kt : 0 < a → W p l e R s m args below meth c H locs cells slots Q (F0 m tgt ls rest)) (kf : a ≤ 0 → W p l e R s m args below meth c H locs cells slots Q (F0 m (pc + 3) ls rest)) : W p l e R s m args below meth c H locs cells slots Q (F0 m pc ls (.int (jI a) :: rest)) :=
  lv_if_gt hx hb hdg ht (fun h => kt ((jI_lt x_r0 ha).mp h)) (fun h => kf (Int.not_lt.mp (fun q => h ((jI_lt x_r0 ha).mpr q))))
theorem x_if_le (hx : p.tables.exec = Jvm.exec) (hb : c.code = cc) {a : Int} {off : Int} {tgt : Nat} (hdg : decode cc pc = .ok (.ifCond .le off, 3)) (ht : (pc : Int) + off = (tgt : Int)) (ha : R32 a)
    (kt : a ≤ 0 → W p l e R s m args below meth c H locs cells slots Q (F0 m tgt ls rest)) (kf : 0 < a → W p l e R s m args below meth c H locs cells slots Q (F0 m (pc + 3) ls rest)) : W p l e R s m args below meth c H locs cells slots Q (F0 m pc ls (.int (jI a) :: rest)) :=
  lv_if_le hx hb hdg ht (fun h => kt ((jI_le ha x_r0).mp h)) (fun h => kf (Int.not_le.mp (fun q => h ((jI_le ha x_r0).mpr q))))
theorem x_iinc (hx : p.tables.exec = Jvm.exec) (hb : c.code = cc) {i nL k : Nat} {n a : Int} {lv lv' : List (Nat × Value)} (hdg : decode cc pc = .ok (.iinc i n, 3)) (h : lv_has ls nL lv) (hk : lv[k]? = some (i, .int (jI a))) (hn : i < nL) (hl : (i, Value.int (jI (a + n))) :: lv.filter (fun q => !(q.1 == i) && !(q.1 + 1 == i && q.2.category == 2)) = lv')
    (kk : ∀ ls' : Array Slot, lv_has ls' nL lv' → W p l e R s m args below meth c H locs cells slots Q (F0 m (pc + 3) ls' rest)) : W p l e R s m args below meth c H locs cells slots Q (F0 m pc ls rest) :=
  lv_iinc (v := jI (a + n)) hx hb hdg h hk (jI_add a n) hn hl kk
/-- the int on the stack by another name of the same number -/
theorem x_top {a b : Int} (h : a = b) (k : W p l e R s m args below meth c H locs cells slots Q (F0 m pc ls (.int (jI b) :: rest))) : W p l e R s m args below meth c H locs cells slots Q (F0 m pc ls (.int (jI a) :: rest)) := by
  rw [h]; exact k
theorem x_topl {a b : Int} (h : a = b) (k : W p l e R s m args below meth c H locs cells slots Q (F0 m pc ls (.long (jL b) :: rest))) : W p l e R s m args below meth c H locs cells slots Q (F0 m pc ls (.long (jL a) :: rest)) := by
  rw [h]; exact k
end XR
