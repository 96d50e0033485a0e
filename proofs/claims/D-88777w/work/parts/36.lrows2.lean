/-! REFERENCES OR NULL IN LOCALS -/
theorem va_rf_cat (r : Option Nat) : (va_rf r).category = 1 := by cases r <;> rfl
theorem cat_i (x : Int32) : (Value.int x).category = 1 := rfl
theorem cat_r (x : Nat) : (Value.ref x).category = 1 := rfl
theorem cat_n : (Value.null).category = 1 := rfl
section XQ
variable {p : Program} {l : Launch} {e : Env} {R : Room} {s : State} {m : MethodId} {args : Array Value} {below : List Frame} {meth : Method} {c : Code} {H : Heap} {locs : List Loc} {cells slots mc ms : Nat} {Q : State → Prop} {cc : ByteArray} {pc : Nat} {ls : Array Slot} {rest st0 : List Value}
variable {E : y_E} {A : Nat → Prop} {G : y_G} {σ : y_S} {a : Array Value}
theorem x_qload_n (hx : p.tables.exec = Jvm.exec) (hb : c.code = cc) {k : Fin 4} {i : Nat} {r : Option Nat} (hdg : decode cc pc = .ok (.aload_n k, 1)) (hi : (k : Nat) = i) (hl : ls[i]? = some (.val (va_rf r)))
    (kk : W p l e R s m args below meth c H locs cells slots Q (F0 m (pc + 1) ls (va_rf r :: rest))) : W p l e R s m args below meth c H locs cells slots Q (F0 m pc ls rest) := by
  cases r with
  | none => exact lv_aload_nN hx hb hdg hi hl kk
  | some b => exact lv_aload_n hx hb hdg hi hl kk
theorem x_qload (hx : p.tables.exec = Jvm.exec) (hb : c.code = cc) {i : Nat} {r : Option Nat} (hdg : decode cc pc = .ok (.aload i, 2)) (hl : ls[i]? = some (.val (va_rf r)))
    (kk : W p l e R s m args below meth c H locs cells slots Q (F0 m (pc + 2) ls (va_rf r :: rest))) : W p l e R s m args below meth c H locs cells slots Q (F0 m pc ls rest) := by
  cases r with
  | none => exact lv_aloadN hx hb hdg hl kk
  | some b => exact lv_aload hx hb hdg hl kk
theorem x_qstore_n (hx : p.tables.exec = Jvm.exec) (hb : c.code = cc) {k : Fin 4} {i nL : Nat} {r : Option Nat} {lv lv' : List (Nat × Value)} (hdg : decode cc pc = .ok (.astore_n k, 1)) (hi : (k : Nat) = i) (h : lv_has ls nL lv) (hn : i < nL) (hl : (i, va_rf r) :: lv.filter (fun q => !(q.1 == i) && !(q.1 + 1 == i && q.2.category == 2)) = lv')
    (kk : ∀ ls : Array Slot, lv_has ls nL lv' → W p l e R s m args below meth c H locs cells slots Q (F0 m (pc + 1) ls rest)) : W p l e R s m args below meth c H locs cells slots Q (F0 m pc ls (va_rf r :: rest)) := by
  cases r with
  | none => exact lv_astore_nN hx hb hdg hi h hn hl kk
  | some b => exact lv_astore_n hx hb hdg hi h hn hl kk
theorem x_qstore (hx : p.tables.exec = Jvm.exec) (hb : c.code = cc) {i nL : Nat} {r : Option Nat} {lv lv' : List (Nat × Value)} (hdg : decode cc pc = .ok (.astore i, 2)) (h : lv_has ls nL lv) (hn : i < nL) (hl : (i, va_rf r) :: lv.filter (fun q => !(q.1 == i) && !(q.1 + 1 == i && q.2.category == 2)) = lv')
    (kk : ∀ ls : Array Slot, lv_has ls nL lv' → W p l e R s m args below meth c H locs cells slots Q (F0 m (pc + 2) ls rest)) : W p l e R s m args below meth c H locs cells slots Q (F0 m pc ls (va_rf r :: rest)) := by
  cases r with
  | none => exact lv_astoreN hx hb hdg h hn hl kk
  | some b => exact lv_astore hx hb hdg h hn hl kk
theorem x_ifnull (hx : p.tables.exec = Jvm.exec) (hb : c.code = cc) {r : Option Nat} {off : Int} {tgt : Nat} (hdg : decode cc pc = .ok (.ifnull off, 3)) (ht : (pc : Int) + off = (tgt : Int)) (kt : r = none → W p l e R s m args below meth c H locs cells slots Q (F0 m tgt ls rest)) (kf : r ≠ none → W p l e R s m args below meth c H locs cells slots Q (F0 m (pc + 3) ls rest)) : W p l e R s m args below meth c H locs cells slots Q (F0 m pc ls (va_rf r :: rest)) := by
  cases r with
  | none => exact lv_ifnullN hx hb hdg ht (kt rfl)
  | some b => exact lv_ifnull hx hb hdg (kf (fun q => by cases q))
theorem x_ifnonnull (hx : p.tables.exec = Jvm.exec) (hb : c.code = cc) {r : Option Nat} {off : Int} {tgt : Nat} (hdg : decode cc pc = .ok (.ifnonnull off, 3)) (ht : (pc : Int) + off = (tgt : Int)) (kt : r ≠ none → W p l e R s m args below meth c H locs cells slots Q (F0 m tgt ls rest)) (kf : r = none → W p l e R s m args below meth c H locs cells slots Q (F0 m (pc + 3) ls rest)) : W p l e R s m args below meth c H locs cells slots Q (F0 m pc ls (va_rf r :: rest)) := by
  cases r with
  | none => exact lv_ifnonnullN hx hb hdg (kf rfl)
  | some b => exact lv_ifnonnull hx hb hdg ht (kt (fun q => by cases q))
theorem g_callr (hM : gM E A G σ s.heap H locs) (hA : ∀ q, s.heap.size ≤ q → A q) {b : Nat} {G1 : y_G} {σ1 : y_S} (hr : va_Run p l e R s m args below meth c H locs cells slots mc ms (F0 m pc ls st0) rest (gQ E G H.size (gR (some (.ref b)) G1 σ1) a) (gA G H.size))
    (kk : ∀ (H : Heap) (locs : List Loc), gM E A G1 σ1 s.heap H locs → W p l e R s m args below meth c H locs (cells + mc) (slots + ms) Q (F0 m (pc + 3) ls (.ref b :: rest))) : W p l e R s m args below meth c H locs cells slots Q (F0 m pc ls st0) :=
  g_call hM hA hr (fun v G' σ' H locs hp hM => by obtain ⟨rfl, rfl, rfl⟩ := hp; exact kk H locs hM)
end XQ
theorem g_pq {b : Nat} {r : Option Nat} {σ : y_S} {G : y_G} (e : r = some b) : gR (some (.ref b)) G σ (some (va_rf r)) G σ := by subst e; exact ⟨rfl, rfl, rfl⟩
/-! WHAT A LOOK SAYS OF THE CELLS (κ: the reference's memory with what light goes by) -/
theorem lCk_c {n l i : Int} (hn : n ≤ 6) (hc : mCell n l i) : lCk n (6 * l + i) := by
  have := cell_ix hc hn
  exact ⟨this.2.2.1, this.2.2.2, by rw [this.1, this.2.1]; exact hc⟩
def lkK (K : Nat) (ρ : y_S) (G : y_G) (τ κ : y_S) : Prop := match K with
  | 5 => ∀ k : Int, lCk (ρ 60 0) k → κ 8 k = ρ 3 k
  | 6 => ∀ k : Int, lCk (ρ 60 0) k → κ 8 k = ρ 3 k ∧ κ 9 k = ρ 6 k
  | 7 => (-2 ≤ τ 7 4 ∧ τ 7 4 ≤ 2) ∧ ∀ k : Int, lCk (ρ 60 0) k → κ 8 k = ρ 3 k ∧ κ 9 k = mKn ρ k (ρ 60 41) + (if some (G.2.2 (100 + k.toNat)) = G.2.1 7 3 then τ 7 4 else 0)
  | _ => ∃ q : Nat, (q : Int) < ρ 60 41 ∧ G.2.1 8 1 = some (G.2.2 (1000 + 4 * q)) ∧ ∀ k : Int, lCk (ρ 60 0) k → κ 8 k = ρ 37 (72 * (q : Int) + k) ∧ κ 9 k = mKn ρ k (q : Int)
theorem lkK.fr {K : Nat} {ρ : y_S} {G : y_G} {τ τ' κ : y_S} (h : lkK K ρ G τ κ) (e : τ' 7 = τ 7) : lkK K ρ G τ' κ := by
  unfold lkK at h ⊢
  rw [e]
  exact h
theorem q_none {P : Prop} [Decidable P] {x : Nat} : (if P then none else some x) = none ↔ P := by
  by_cases h : P
  · rw [if_pos h]; exact ⟨fun _ => h, fun _ => rfl⟩
  · rw [if_neg h]; exact ⟨fun q => (by cases q), fun q => absurd q h⟩
theorem kB_y {fc ff : Int → Int} {cell tick : Int} {k : Nat} (h1 : fc (k : Int) = cell) (h2 : ff (k : Int) ≤ tick) (h3 : kBest fc ff cell tick k < 0 ∨ ff (kBest fc ff cell tick k) ≤ ff (k : Int)) : kBest fc ff cell tick (k + 1) = (k : Int) := by rw [kBest, if_pos ⟨h1, h2, h3⟩]
theorem kB_n {fc ff : Int → Int} {cell tick : Int} {k : Nat} (h : ¬ (fc (k : Int) = cell ∧ ff (k : Int) ≤ tick ∧ (kBest fc ff cell tick k < 0 ∨ ff (kBest fc ff cell tick k) ≤ ff (k : Int)))) : kBest fc ff cell tick (k + 1) = kBest fc ff cell tick k := by rw [kBest, if_neg h]
/-- cells are apart -/
theorem lg_ceq {n : Int} {E : y_E} {A : Nat → Prop} {G : y_G} {σ : y_S} {H0 H : Heap} {locs : List Loc} (hS : lgS n G) (hM : gM E A G σ H0 H locs) (hn : n ≤ 6) {k l i : Int} (hk : lCk n k) (hc : mCell n l i) : k = 6 * l + i ↔ some (G.2.2 (100 + k.toNat)) = some (G.2.2 (cT l i)) := by
  have e : 100 + k.toNat = cT (k / 6) (k % 6) := by unfold cT; have := hk.1; omega
  constructor
  · intro q
    subst q
    rfl
  · intro q
    have q := Option.some.inj q
    rw [e] at q
    have h1 := hS.1 _ _ (lKd_c hn hk.2.2)
    have h2 := hS.1 _ _ (lKd_c hn hc)
    have h3 := hM.1.2.1 _ _ (by rw [h1]; exact fun q => by cases q) (by rw [h2]; exact fun q => by cases q) q
    have h4 := cT_inj hn hk.2.2 hc h3
    omega
