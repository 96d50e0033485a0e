/-! ROWS OVER THE MEMORY: fields, arrays, new cells, contracts, calls, ends -/
def gLk (s : State) (args : Array Value) (own : String) (index : Nat) (ref n d : String) : Prop := (Cond.fieldLink own index ref n d).before args s = true ∨ ∃ host, (Cond.fieldLinkNest own index ref n d host).before args s = true
theorem gLk.n {E : y_E} {s : State} {args : Array Value} {own ref n d host : String} {index : Nat} (hK : gK E s) (h : (Cond.fieldLinkNest own index ref n d host) ∈ lw_tbl) : gLk s args own index ref n d := Or.inr ⟨host, va_Nw.use rfl (hK.2.2.1 _ h rfl)⟩
theorem gV_i {ci k : Nat} {f : Int → Int} {r : Int → Option Nat} (h : (gTy ci k).isReference = false) : gV ci f r k = .int (jI (f (k : Int))) := by simp [gV, h]
theorem gV_r {ci k : Nat} {f : Int → Int} {r : Int → Option Nat} (h : (gTy ci k).isReference = true) : gV ci f r k = va_rf (r (k : Int)) := by simp [gV, h]
theorem gV_ui {ci k : Nat} {f : Int → Int} {r : Int → Option Nat} {v : Int} (h : (gTy ci k).isReference = false) (j : Nat) : updV (gV ci f r) k (.int (jI v)) j = gV ci (up1 f (k : Int) v) r j := by
  by_cases e : j = k
  · subst e; rw [gV_i h, up1_s]; simp [updV]
  · simp only [updV, e, if_false]
    unfold gV
    rw [up1_n _ _ (by omega)]
theorem gV_ur {ci k : Nat} {f : Int → Int} {r : Int → Option Nat} {v : Option Nat} (h : (gTy ci k).isReference = true) (j : Nat) : updV (gV ci f r) k (va_rf v) j = gV ci f (up1 r (k : Int) v) j := by
  by_cases e : j = k
  · subst e; rw [gV_r h, up1_s]; simp [updV]
  · simp only [updV, e, if_false]
    unfold gV
    rw [up1_n _ _ (by omega)]
theorem gAv_i {ak j : Nat} {f : Int → Int} {r : Int → Option Nat} (h : (gAty ak).isReference = false) : gAv ak f r j = .int (jI (f (j : Int))) := by simp [gAv, h]
theorem gAv_r {ak j : Nat} {f : Int → Int} {r : Int → Option Nat} (h : (gAty ak).isReference = true) : gAv ak f r j = va_rf (r (j : Int)) := by simp [gAv, h]
theorem gAv_ui {ak k : Nat} {f : Int → Int} {r : Int → Option Nat} {v : Int} (h : (gAty ak).isReference = false) : updV (gAv ak f r) k (.int (jI v)) = gAv ak (up1 f (k : Int) v) r := by
  funext j
  by_cases e : j = k
  · subst e; rw [gAv_i h, up1_s]; simp [updV]
  · simp only [updV, e, if_false]
    unfold gAv
    rw [up1_n _ _ (by omega)]
theorem gAv_ur {ak k : Nat} {f : Int → Int} {r : Int → Option Nat} {v : Option Nat} (h : (gAty ak).isReference = true) : updV (gAv ak f r) k (va_rf v) = gAv ak f (up1 r (k : Int) v) := by
  funext j
  by_cases e : j = k
  · subst e; rw [gAv_r h, up1_s]; simp [updV]
  · simp only [updV, e, if_false]
    unfold gAv
    rw [up1_n _ _ (by omega)]
section GR
variable {p : Program} {l : Launch} {e : Env} {R : Room} {s : State} {m : MethodId} {args : Array Value} {below : List Frame} {meth : Method} {c : Code} {H : Heap} {locs : List Loc} {cells slots : Nat} {Q : State → Prop} {cc : ByteArray} {pc nL : Nat} {ls : Array Slot} {rest : List Value}
variable {E : y_E} {A : Nat → Prop} {G : y_G} {σ : y_S} {H0 : Heap} {own : String}
theorem g_get (CF : CallFix p m c cc nL s args lw_all own) (hK : gK E s) (hM : gM E A G σ H0 H locs) (t : Nat) {ci : Nat} (ht : G.1 t = some (.inl ci)) (k : Nat) {q : vw_C} (hc : gCl[ci]? = some q) (hk : k < q.2.2) {index : Nat} {ref : String} (hlink : gLk s args own index ref (q.2.1 k).2.1 (q.2.1 k).2.2.1)
    (hsame : ∀ x, s.fieldFound? (q.2.1 k).1 (q.2.1 k).2.1 (q.2.1 k).2.2.1 = some x → s.fieldFound? ref (q.2.1 k).2.1 (q.2.1 k).2.2.1 = some x) {v : Value} (hv : gV ci (σ t) (G.2.1 t) k = v) (hdg : decode cc pc = .ok (.getfield index, 3))
    (kk : W p l e R s m args below meth c H locs cells slots Q (F0 m (pc + 3) ls (v :: rest))) : W p l e R s m args below meth c H locs cells slots Q (F0 m pc ls (.ref (G.2.2 t) :: rest)) := by
  obtain ⟨hx, hb, hml, hown, hts⟩ := CF
  obtain ⟨q', h1, cell, q1, q2, q3, q4⟩ := hM.1.1 t _ ht
  cases h1.symm.trans hc
  obtain ⟨hS, hfc, kC, hkC, hkind⟩ := hK.1 ci _ hc
  obtain ⟨cf, kf, fi, f, hi, hsl⟩ := hS k hk
  have hst := (u_facts hfc hkC (u_lays hts (gCl_in ci _ hc) hk) hi).1
  have hne : cell.vm ≠ .unknown := by rw [q3]; exact fun h => by cases h
  have hsv : cell.slots[f.slot]? = some v := by rw [hsl, q4 k hk, hv]
  rcases hlink with hl | ⟨host, hl⟩
  · exact W.getf hx hb hown hl (hsame _ hi) hst q1 hne hsv rfl rfl hdg kk
  · exact va_Wgetf hx hb hown hl (hsame _ hi) hst q1 hne hsv rfl rfl hdg kk
theorem g_geti (CF : CallFix p m c cc nL s args lw_all own) (hK : gK E s) (hM : gM E A G σ H0 H locs) (t : Nat) {ci : Nat} (ht : G.1 t = some (.inl ci)) (k : Nat) (kI : Int) (hkI : (k : Int) = kI) {q : vw_C} (hc : gCl[ci]? = some q) (hk : k < q.2.2) {index : Nat} {ref : String} (hlink : gLk s args own index ref (q.2.1 k).2.1 (q.2.1 k).2.2.1)
    (hsame : ∀ x, s.fieldFound? (q.2.1 k).1 (q.2.1 k).2.1 (q.2.1 k).2.2.1 = some x → s.fieldFound? ref (q.2.1 k).2.1 (q.2.1 k).2.2.1 = some x) (hty : (gTy ci k).isReference = false) (hdg : decode cc pc = .ok (.getfield index, 3))
    (kk : W p l e R s m args below meth c H locs cells slots Q (F0 m (pc + 3) ls (.int (jI (σ t kI)) :: rest))) : W p l e R s m args below meth c H locs cells slots Q (F0 m pc ls (.ref (G.2.2 t) :: rest)) :=
  g_get CF hK hM t ht k hc hk hlink hsame (by rw [gV_i hty, hkI]) hdg kk
theorem g_getq (CF : CallFix p m c cc nL s args lw_all own) (hK : gK E s) (hM : gM E A G σ H0 H locs) (t : Nat) {ci : Nat} (ht : G.1 t = some (.inl ci)) (k : Nat) (kI : Int) (hkI : (k : Int) = kI) {q : vw_C} (hc : gCl[ci]? = some q) (hk : k < q.2.2) {index : Nat} {ref : String} (hlink : gLk s args own index ref (q.2.1 k).2.1 (q.2.1 k).2.2.1)
    (hsame : ∀ x, s.fieldFound? (q.2.1 k).1 (q.2.1 k).2.1 (q.2.1 k).2.2.1 = some x → s.fieldFound? ref (q.2.1 k).2.1 (q.2.1 k).2.2.1 = some x) (hty : (gTy ci k).isReference = true) {r : Option Nat} (hr : G.2.1 t kI = r) (hdg : decode cc pc = .ok (.getfield index, 3))
    (kk : W p l e R s m args below meth c H locs cells slots Q (F0 m (pc + 3) ls (va_rf r :: rest))) : W p l e R s m args below meth c H locs cells slots Q (F0 m pc ls (.ref (G.2.2 t) :: rest)) :=
  g_get CF hK hM t ht k hc hk hlink hsame (by rw [gV_r hty, hkI, hr]) hdg kk
theorem g_getr (CF : CallFix p m c cc nL s args lw_all own) (hK : gK E s) (hM : gM E A G σ H0 H locs) (t : Nat) {ci : Nat} (ht : G.1 t = some (.inl ci)) (k : Nat) (kI : Int) (hkI : (k : Int) = kI) {q : vw_C} (hc : gCl[ci]? = some q) (hk : k < q.2.2) {index : Nat} {ref : String} (hlink : gLk s args own index ref (q.2.1 k).2.1 (q.2.1 k).2.2.1)
    (hsame : ∀ x, s.fieldFound? (q.2.1 k).1 (q.2.1 k).2.1 (q.2.1 k).2.2.1 = some x → s.fieldFound? ref (q.2.1 k).2.1 (q.2.1 k).2.2.1 = some x) (hty : (gTy ci k).isReference = true) (a : Nat) (hr : G.2.1 t kI = some a) (hdg : decode cc pc = .ok (.getfield index, 3))
    (kk : W p l e R s m args below meth c H locs cells slots Q (F0 m (pc + 3) ls (.ref a :: rest))) : W p l e R s m args below meth c H locs cells slots Q (F0 m pc ls (.ref (G.2.2 t) :: rest)) :=
  g_get CF hK hM t ht k hc hk hlink hsame (by rw [gV_r hty, hkI, hr]; rfl) hdg kk
/-- a store in a field: the cell behind it -/
theorem g_putV (CF : CallFix p m c cc nL s args lw_all own) (hK : gK E s) (hM : gM E A G σ H0 H locs) (t : Nat) {ci : Nat} (ht : G.1 t = some (.inl ci)) (k : Nat) {q : vw_C} (hc : gCl[ci]? = some q) (hk : k < q.2.2) {index : Nat} {ref : String} (hlink : gLk s args own index ref (q.2.1 k).2.1 (q.2.1 k).2.2.1)
    (hsame : ∀ x, s.fieldFound? (q.2.1 k).1 (q.2.1 k).2.1 (q.2.1 k).2.2.1 = some x → s.fieldFound? ref (q.2.1 k).2.1 (q.2.1 k).2.2.1 = some x) (hfin : (q.2.1 k).2.2.2 = false ∨ ((q.2.1 k).2.2.2 = true ∧ meth.name = "<init>" ∧ (q.2.1 k).1 = own ∧ (Cond.fieldLink own index ref (q.2.1 k).2.1 (q.2.1 k).2.2.1).before args s = true))
    {v : Value} (hn : narrow (gTy ci k) v = v) (hfit : fits (gTy ci k) v = true) (hdg : decode cc pc = .ok (.putfield index, 3))
    (kk : ∀ (H1 : Heap) (n : Nat), t_OB (G.2.2 t) (E.1.1 ci) q.2.2 (E.1.2 ci) H1 (updV (gV ci (σ t) (G.2.1 t)) k v) → H1.size = H.size → (∀ z : Nat, z ≠ G.2.2 t → H1[z]? = H[z]?) → W p l e R s m args below meth c H1 (locs ++ [⟨G.2.2 t, n⟩]) cells slots Q (F0 m (pc + 3) ls rest)) : W p l e R s m args below meth c H locs cells slots Q (F0 m pc ls (v :: .ref (G.2.2 t) :: rest)) := by
  obtain ⟨hx, hb, hml, hown, hts⟩ := CF
  obtain ⟨q', h1, cell, q1, q2, q3, q4⟩ := hM.1.1 t _ ht
  cases h1.symm.trans hc
  have hap := g_slots hts (gCl_in ci _ hc) (hK.1 ci _ hc) (gTy ci) (gCl_ty ci _ hc) (gCl_nd ci _ hc)
  obtain ⟨hS, hfc, kC, hkC, hkind⟩ := hK.1 ci _ hc
  obtain ⟨cf, kf, fi, f, hi, hsl⟩ := hS k hk
  have hst := (u_facts hfc hkC (u_lays hts (gCl_in ci _ hc) hk) hi).1
  have hlay := hts _ (gCl_in ci _ hc _ (u_in_lay hk))
  have hd := gCl_ty ci _ hc k hk
  unfold u_lay at hlay
  rcases hfin with hfin | ⟨hfin, hin2, hdecl, hl⟩
  · rw [if_neg (by rw [hfin]; decide)] at hlay
    have h6 := u_store hfc hkC hkind hlay hi hd hn hfit
    rcases hlink with hl | ⟨host, hl⟩
    · refine W.putK hx hb (f := f) ⟨hown, hl, ⟨cf, kf, fi, hsame _ hi⟩, hst⟩ (by rw [q2]; exact h6) q1 q3 (by rw [hsl]; exact k2_hasslot (q4 k hk)) rfl rfl hdg fun H' e1 e2 e3 => ?_
      rw [hsl] at e1
      exact kk H' _ ⟨_, e1, q2, q3, t_set q4 hap hk v⟩ e2 e3
    · refine va_WputK hx hb (f := f) hown hl (hsame _ hi) hst (by rw [q2]; exact h6) q1 q3 (by rw [hsl]; exact k2_hasslot (q4 k hk)) rfl rfl hdg fun H' e1 e2 e3 => ?_
      rw [hsl] at e1
      exact kk H' _ ⟨_, e1, q2, q3, t_set q4 hap hk v⟩ e2 e3
  · rw [if_pos hfin] at hlay
    have hcf : m.cls = cf := by
      obtain ⟨_, _, c', _, _, _, -, -, hf', -, -, -, hown2, -⟩ := Cond.laysFinal_spec hlay
      have e1 : c' = cf := by have := hi.symm.trans hf'; simp at this; exact this.1.symm
      rw [hdecl] at hown2
      rw [← e1]; exact Option.some.inj (hown.symm.trans hown2)
    have h6 := u_fits hfc hkC hkind (Or.inr hlay) hi hd hn hfit
    refine W.putFinK hx hb hown hl (hsame _ hi) hst hcf hin2 (by rw [q2]; exact h6) q1 q3 (by rw [hsl]; exact k2_hasslot (q4 k hk)) rfl rfl hdg fun H' e1 e2 e3 => ?_
    rw [hsl] at e1
    exact kk H' _ ⟨_, e1, q2, q3, t_set q4 hap hk v⟩ e2 e3
theorem g_puti (CF : CallFix p m c cc nL s args lw_all own) (hK : gK E s) (hM : gM E A G σ H0 H locs) (t : Nat) (h0 : t ≠ 0) {ci : Nat} (ht : G.1 t = some (.inl ci)) (k : Nat) (kI : Int) (hkI : (k : Int) = kI) {q : vw_C} (hc : gCl[ci]? = some q) (hk : k < q.2.2) {index : Nat} {ref : String} (hlink : gLk s args own index ref (q.2.1 k).2.1 (q.2.1 k).2.2.1)
    (hsame : ∀ x, s.fieldFound? (q.2.1 k).1 (q.2.1 k).2.1 (q.2.1 k).2.2.1 = some x → s.fieldFound? ref (q.2.1 k).2.1 (q.2.1 k).2.2.1 = some x) (hfin : (q.2.1 k).2.2.2 = false ∨ ((q.2.1 k).2.2.2 = true ∧ meth.name = "<init>" ∧ (q.2.1 k).1 = own ∧ (Cond.fieldLink own index ref (q.2.1 k).2.1 (q.2.1 k).2.2.1).before args s = true))
    (hty : (gTy ci k).isReference = false) {v : Int} (hn : narrow (gTy ci k) (.int (jI v)) = .int (jI v)) (hfit : fits (gTy ci k) (.int (jI v)) = true) (hv : R32 v) (hdg : decode cc pc = .ok (.putfield index, 3))
    (kk : ∀ (H : Heap) (locs : List Loc), gM E A G (up2 σ t kI v) H0 H locs → W p l e R s m args below meth c H locs cells slots Q (F0 m (pc + 3) ls rest)) : W p l e R s m args below meth c H locs cells slots Q (F0 m pc ls (.int (jI v) :: .ref (G.2.2 t) :: rest)) := by
  subst hkI
  refine g_putV CF hK hM t ht k hc hk hlink hsame hfin hn hfit hdg fun H1 n h1 h2 h3 => ?_
  exact kk H1 _ (hM.seti h0 ht hv ⟨q, hc, h1.to (fun j _ => gV_ui hty j)⟩ h2 h3)
theorem g_putq (CF : CallFix p m c cc nL s args lw_all own) (hK : gK E s) (hM : gM E A G σ H0 H locs) (t : Nat) (h0 : t ≠ 0) {ci : Nat} (ht : G.1 t = some (.inl ci)) (k : Nat) (kI : Int) (hkI : (k : Int) = kI) {q : vw_C} (hc : gCl[ci]? = some q) (hk : k < q.2.2) {index : Nat} {ref : String} (hlink : gLk s args own index ref (q.2.1 k).2.1 (q.2.1 k).2.2.1)
    (hsame : ∀ x, s.fieldFound? (q.2.1 k).1 (q.2.1 k).2.1 (q.2.1 k).2.2.1 = some x → s.fieldFound? ref (q.2.1 k).2.1 (q.2.1 k).2.2.1 = some x) (hfin : (q.2.1 k).2.2.2 = false ∨ ((q.2.1 k).2.2.2 = true ∧ meth.name = "<init>" ∧ (q.2.1 k).1 = own ∧ (Cond.fieldLink own index ref (q.2.1 k).2.1 (q.2.1 k).2.2.1).before args s = true))
    (hty : (gTy ci k).isReference = true) {r : Option Nat} (hn : narrow (gTy ci k) (va_rf r) = va_rf r) (hfit : fits (gTy ci k) (va_rf r) = true) (hdg : decode cc pc = .ok (.putfield index, 3))
    (kk : ∀ (H : Heap) (locs : List Loc), gM E A (G.1, up2 G.2.1 t kI r, G.2.2) σ H0 H locs → W p l e R s m args below meth c H locs cells slots Q (F0 m (pc + 3) ls rest)) : W p l e R s m args below meth c H locs cells slots Q (F0 m pc ls (va_rf r :: .ref (G.2.2 t) :: rest)) := by
  subst hkI
  refine g_putV CF hK hM t ht k hc hk hlink hsame hfin hn hfit hdg fun H1 n h1 h2 h3 => ?_
  exact kk H1 _ (hM.setr h0 ht ⟨q, hc, h1.to (fun j _ => gV_ur hty j)⟩ h2 h3)
/-- arrays of numbers: 0 ints, 1 booleans, 2 bytes -/
theorem g_iald (CF : CallFix p m c cc nL s args lw_all own) (hK : gK E s) (hM : gM E A G σ H0 H locs) (t : Nat) {n : Nat} (ht : G.1 t = some (.inr (0, n))) {i : Int} (h0 : 0 ≤ i) (h1 : i < n) (hn : n ≤ 2147483647) (hdg : decode cc pc = .ok (.iaload, 1))
    (kk : W p l e R s m args below meth c H locs cells slots Q (F0 m (pc + 1) ls (.int (jI (σ t i)) :: rest))) : W p l e R s m args below meth c H locs cells slots Q (F0 m pc ls (.int (jI i) :: .ref (G.2.2 t) :: rest)) :=
  W.iald (v := .int (jI (σ t i))) CF.1 CF.2.1 (hM.1.1 t _ ht) ((hK.2.1 0 (by decide)).arr n _) (fun q => by cases q) (by rw [arrV_size]; exact jI_in h0 h1 hn) (by rw [jI_clamp h0 (by omega), arrV_read _ _ (by omega), gAv_i rfl, Int.toNat_of_nonneg h0]) rfl rfl hdg kk
theorem g_zald (CF : CallFix p m c cc nL s args lw_all own) (hK : gK E s) (hM : gM E A G σ H0 H locs) (t : Nat) {n : Nat} (ht : G.1 t = some (.inr (1, n))) {i : Int} (h0 : 0 ≤ i) (h1 : i < n) (hn : n ≤ 2147483647) (hdg : decode cc pc = .ok (.baload, 1))
    (kk : W p l e R s m args below meth c H locs cells slots Q (F0 m (pc + 1) ls (.int (jI (σ t i)) :: rest))) : W p l e R s m args below meth c H locs cells slots Q (F0 m pc ls (.int (jI i) :: .ref (G.2.2 t) :: rest)) :=
  W.zald (v := .int (jI (σ t i))) CF.1 CF.2.1 (hM.1.1 t _ ht) ((hK.2.1 1 (by decide)).arr n _) (fun q => by cases q) (by rw [arrV_size]; exact jI_in h0 h1 hn) (by rw [jI_clamp h0 (by omega), arrV_read _ _ (by omega), gAv_i rfl, Int.toNat_of_nonneg h0]) rfl rfl hdg kk
theorem g_bald (CF : CallFix p m c cc nL s args lw_all own) (hK : gK E s) (hM : gM E A G σ H0 H locs) (t : Nat) {n : Nat} (ht : G.1 t = some (.inr (2, n))) {i : Int} (h0 : 0 ≤ i) (h1 : i < n) (hn : n ≤ 2147483647) (hdg : decode cc pc = .ok (.baload, 1))
    (kk : W p l e R s m args below meth c H locs cells slots Q (F0 m (pc + 1) ls (.int (jI (σ t i)) :: rest))) : W p l e R s m args below meth c H locs cells slots Q (F0 m pc ls (.int (jI i) :: .ref (G.2.2 t) :: rest)) :=
  W.bald (v := .int (jI (σ t i))) CF.1 CF.2.1 (hM.1.1 t _ ht) ((hK.2.1 2 (by decide)).arr n _) (fun q => by cases q) (by rw [arrV_size]; exact jI_in h0 h1 hn) (by rw [jI_clamp h0 (by omega), arrV_read _ _ (by omega), gAv_i rfl, Int.toNat_of_nonneg h0]) rfl rfl hdg kk
theorem g_aald (CF : CallFix p m c cc nL s args lw_all own) (hK : gK E s) (hM : gM E A G σ H0 H locs) (t : Nat) {ak n : Nat} (ht : G.1 t = some (.inr (ak, n))) (hak : ak < 8) (href : (gAty ak).isReference = true) {i : Int} (h0 : 0 ≤ i) (h1 : i < n) (hn : n ≤ 2147483647) {r : Option Nat} (hr : G.2.1 t i = r) (hdg : decode cc pc = .ok (.aaload, 1))
    (kk : W p l e R s m args below meth c H locs cells slots Q (F0 m (pc + 1) ls (va_rf r :: rest))) : W p l e R s m args below meth c H locs cells slots Q (F0 m pc ls (.int (jI i) :: .ref (G.2.2 t) :: rest)) :=
  W.aald (v := va_rf r) (ty := gAty ak) CF.1 CF.2.1 (hM.1.1 t _ ht) ((hK.2.1 ak hak).arr n _) href (fun q => by cases q) (by rw [arrV_size]; exact jI_in h0 h1 hn) (by rw [jI_clamp h0 (by omega), arrV_read _ _ (by omega), gAv_r href, Int.toNat_of_nonneg h0, hr]) rfl rfl hdg kk
theorem g_alen (CF : CallFix p m c cc nL s args lw_all own) (hK : gK E s) (hM : gM E A G σ H0 H locs) (t : Nat) {ak n : Nat} (ht : G.1 t = some (.inr (ak, n))) (hak : ak < 8) (hdg : decode cc pc = .ok (.arraylength, 1))
    (kk : W p l e R s m args below meth c H locs cells slots Q (F0 m (pc + 1) ls (.int (jI (n : Int)) :: rest))) : W p l e R s m args below meth c H locs cells slots Q (F0 m pc ls (.ref (G.2.2 t) :: rest)) :=
  W.alen (n := jI (n : Int)) CF.1 CF.2.1 (hM.1.1 t _ ht) ((hK.2.1 ak hak).arr n _) (by rw [arrV_size]; exact (jI_nat n).symm) rfl rfl hdg kk
theorem g_iast (CF : CallFix p m c cc nL s args lw_all own) (hK : gK E s) (hM : gM E A G σ H0 H locs) (t : Nat) (ht0 : t ≠ 0) {n : Nat} (ht : G.1 t = some (.inr (0, n))) {i v : Int} (h0 : 0 ≤ i) (h1 : i < n) (hn : n ≤ 2147483647) (hv : R32 v) (hdg : decode cc pc = .ok (.iastore, 1))
    (kk : ∀ (H : Heap) (locs : List Loc), gM E A G (up2 σ t i v) H0 H locs → W p l e R s m args below meth c H locs cells slots Q (F0 m (pc + 1) ls rest)) : W p l e R s m args below meth c H locs cells slots Q (F0 m pc ls (.int (jI v) :: .int (jI i) :: .ref (G.2.2 t) :: rest)) := by
  refine W.iast CF.1 CF.2.1 (hM.1.1 t _ ht) ((hK.2.1 0 (by decide)).arr n _) (fun q => by cases q) (by rw [arrV_size]; exact jI_in h0 h1 hn) rfl rfl hdg fun H1 e z oq => ?_
  refine kk H1 _ (hM.seti ht0 ht hv ?_ z oq)
  show H1[G.2.2 t]? = some (arrV (E.2 0) n (gAv 0 (up1 (σ t) i v) (G.2.1 t)))
  rw [e, arrV_store, gAv_ui rfl, jI_clamp h0 (by omega), Int.toNat_of_nonneg h0]
theorem g_nz {v : Int} (h : v = 0 ∨ v = 1) : narrow .boolean (.int (jI v)) = .int (jI v) := by rcases h with rfl | rfl <;> rfl
theorem g_zast (CF : CallFix p m c cc nL s args lw_all own) (hK : gK E s) (hM : gM E A G σ H0 H locs) (t : Nat) (ht0 : t ≠ 0) {n : Nat} (ht : G.1 t = some (.inr (1, n))) {i v : Int} (h0 : 0 ≤ i) (h1 : i < n) (hn : n ≤ 2147483647) (hv : v = 0 ∨ v = 1) (hdg : decode cc pc = .ok (.bastore, 1))
    (kk : ∀ (H : Heap) (locs : List Loc), gM E A G (up2 σ t i v) H0 H locs → W p l e R s m args below meth c H locs cells slots Q (F0 m (pc + 1) ls rest)) : W p l e R s m args below meth c H locs cells slots Q (F0 m pc ls (.int (jI v) :: .int (jI i) :: .ref (G.2.2 t) :: rest)) := by
  refine W.zast CF.1 CF.2.1 (hM.1.1 t _ ht) ((hK.2.1 1 (by decide)).arr n _) (fun q => by cases q) (by rw [arrV_size]; exact jI_in h0 h1 hn) rfl rfl hdg fun H1 e z oq => ?_
  refine kk H1 _ (hM.seti ht0 ht ⟨by omega, by omega⟩ ?_ z oq)
  show H1[G.2.2 t]? = some (arrV (E.2 1) n (gAv 1 (up1 (σ t) i v) (G.2.1 t)))
  rw [e, g_nz hv, arrV_store, gAv_ui rfl, jI_clamp h0 (by omega), Int.toNat_of_nonneg h0]
theorem g_nb {v : Int} (h0 : -128 ≤ v) (h1 : v ≤ 127) : narrow .byte (.int (jI v)) = .int (jI v) := by
  show Value.int (jI v).toInt8.toInt32 = _
  rw [jI_b, Int.bmod_eq_of_le (by omega) (by omega)]
theorem g_bast (CF : CallFix p m c cc nL s args lw_all own) (hK : gK E s) (hM : gM E A G σ H0 H locs) (t : Nat) (ht0 : t ≠ 0) {n : Nat} (ht : G.1 t = some (.inr (2, n))) {i v : Int} (h0 : 0 ≤ i) (h1 : i < n) (hn : n ≤ 2147483647) (hv0 : -128 ≤ v) (hv1 : v ≤ 127) (hdg : decode cc pc = .ok (.bastore, 1))
    (kk : ∀ (H : Heap) (locs : List Loc), gM E A G (up2 σ t i v) H0 H locs → W p l e R s m args below meth c H locs cells slots Q (F0 m (pc + 1) ls rest)) : W p l e R s m args below meth c H locs cells slots Q (F0 m pc ls (.int (jI v) :: .int (jI i) :: .ref (G.2.2 t) :: rest)) := by
  refine W.bast CF.1 CF.2.1 (hM.1.1 t _ ht) ((hK.2.1 2 (by decide)).arr n _) (fun q => by cases q) (by rw [arrV_size]; exact jI_in h0 h1 hn) rfl rfl hdg fun H1 e z oq => ?_
  refine kk H1 _ (hM.seti ht0 ht ⟨by omega, by omega⟩ ?_ z oq)
  show H1[G.2.2 t]? = some (arrV (E.2 2) n (gAv 2 (up1 (σ t) i v) (G.2.1 t)))
  rw [e, g_nb hv0 hv1, arrV_store, gAv_ui rfl, jI_clamp h0 (by omega), Int.toNat_of_nonneg h0]
/-- contracts: a start, an end -/
def gP (E : y_E) (av : List Value) (G : y_G) (σ : y_S) (sz : Nat) : Array Value → State → Prop := fun v U => v = av.toArray ∧ gK E U ∧ U.heap.size = sz ∧ gMem E G σ U.heap
def gQ (E : y_E) (G : y_G) (sz : Nat) (post : Option Value → y_G → y_S → Prop) : Array Value → State → Outcome → State → Prop := fun _ st oc t => (∃ (v : Option Value) (G' : y_G) (σ' : y_S), oc = .returned v ∧ post v G' σ' ∧ gMem E G' σ' t.heap ∧ ∀ u : Nat, u ≠ 0 → G'.1 u ≠ none → gA G sz (G'.2.2 u)) ∧ va_F (gA G sz) st t
/-- an answer, and the memory behind it -/
abbrev gR (v : Option Value) (G1 : y_G) (σ1 : y_S) : Option Value → y_G → y_S → Prop := fun v' G' σ' => v' = v ∧ G' = G1 ∧ σ' = σ1
theorem gP_blind {av : List Value} {sz : Nat} : FrameBlind (gP E av G σ sz) := by
  intro a U g mk h
  obtain ⟨h1, h2, h3, h4⟩ := h
  exact ⟨h1, gK.warm (s := U) (U := U.calling g mk a) (State.WarmedH.refl U) h2, h3, h4⟩
end GR
