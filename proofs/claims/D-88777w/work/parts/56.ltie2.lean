/-! LISTS OF AT MOST ELEVEN WORKS -/
def l11 (row : Int → Int) (o n : Int) (X : List Int) : Prop := n = ((X.take 11).length : Int) ∧ ∀ k : Nat, k < (X.take 11).length → row (o + (k : Int)) = (X.take 11).getD k 0
theorem l11.tk {row : Int → Int} {o n : Int} {X Y : List Int} (h : l11 row o n X) (e : X.take 11 = Y.take 11) : l11 row o n Y := by
  unfold l11 at h ⊢
  rw [← e]
  exact h
theorem l11.le {row : Int → Int} {o n : Int} {X : List Int} (h : l11 row o n X) : 0 ≤ n ∧ n ≤ 11 := by
  have h1 := h.1
  have h2 : (X.take 11).length ≤ 11 := by rw [List.length_take]; omega
  omega
theorem l11.cg {row row' : Int → Int} {o o' n n' : Int} {X : List Int} (h : l11 row o n X) (hn : n' = n) (hr : ∀ k : Int, 0 ≤ k → k < n → row' (o' + k) = row (o + k)) : l11 row' o' n' X := by
  refine ⟨hn.trans h.1, fun k hk => ?_⟩
  rw [hr k (by omega) (by have := h.1; omega)]
  exact h.2 k hk
theorem l11_0 (row : Int → Int) (o : Int) : l11 row o 0 [] := ⟨rfl, fun k hk => absurd hk (Nat.not_lt_zero _)⟩
theorem l11.push {row : Int → Int} {o n : Int} {X : List Int} (h : l11 row o n X) (v : Int) : (n = 11 → l11 row o n (X ++ [v])) ∧ (n ≠ 11 → l11 (up1 row (o + n) v) o (n + 1) (X ++ [v])) := by
  have h1 := h.1
  have hl : (X.take 11).length = min 11 X.length := List.length_take
  constructor
  · intro e
    refine h.tk ?_
    rw [List.take_append_of_le_length (by omega)]
  · intro e
    have hx : X.length < 11 := by omega
    have e1 : X.take 11 = X := List.take_of_length_le (by omega)
    have e2 : (X ++ [v]).take 11 = X ++ [v] := List.take_of_length_le (by rw [List.length_append]; show X.length + 1 ≤ 11; omega)
    have h2 := h.2
    unfold l11
    rw [e2]
    rw [e1] at h1 h2
    refine ⟨by rw [List.length_append]; show n + 1 = ((X.length + 1 : Nat) : Int); omega, fun k hk => ?_⟩
    rw [List.length_append] at hk
    have hk : k < X.length + 1 := hk
    by_cases c : k = X.length
    · subst c
      rw [← h1, up1_s]
      rw [List.getD_eq_getElem?_getD, List.getElem?_append_right (Nat.le_refl _), Nat.sub_self]
      rfl
    · rw [up1_n _ _ (by omega), h2 k (by omega), List.getD_eq_getElem?_getD, List.getD_eq_getElem?_getD, List.getElem?_append_left (by omega)]
theorem tk_app {X Y B : List Int} (h : X.take 11 = Y.take 11) : (X ++ B.take 11).take 11 = (Y ++ B).take 11 := by
  have l1 : (X.take 11).length = min 11 X.length := List.length_take
  have l2 : (Y.take 11).length = min 11 Y.length := List.length_take
  rw [h, l2] at l1
  rw [List.take_append, List.take_append, h]
  congr 1
  by_cases c : 11 ≤ X.length
  · have e1 : 11 - X.length = 0 := by omega
    have e2 : 11 - Y.length = 0 := by omega
    rw [e1, e2, List.take_zero, List.take_zero]
  · have e : X.length = Y.length := by omega
    rw [e, List.take_take]
    congr 1
    omega
theorem tk_rep {A B : List Int} : ∀ w : Nat, (A ++ rdRep w (B.take 11)).take 11 = (A ++ rdRep w B).take 11
  | 0 => rfl
  | w + 1 => by
    show (A ++ (rdRep w (B.take 11) ++ B.take 11)).take 11 = (A ++ (rdRep w B ++ B)).take 11
    rw [← List.append_assoc, ← List.append_assoc]
    exact tk_app (tk_rep w)
theorem rdRep_c (M : List Int) : ∀ w : Nat, M ++ rdRep w M = rdRep w M ++ M
  | 0 => by show M ++ [] = [] ++ M; rw [List.append_nil, List.nil_append]
  | w + 1 => by
    show M ++ (rdRep w M ++ M) = (rdRep w M ++ M) ++ M
    rw [← List.append_assoc, rdRep_c M w]
/-- nothing has changed but the list at depth d -/
def qA (d : Int) (σ τ : y_S) : Prop := (∀ t : Nat, t ≠ 24 → t ≠ 25 → τ t = σ t) ∧ (∀ j : Int, j ≠ d → τ 25 j = σ 25 j) ∧ ∀ x : Int, ¬ (13 * d ≤ x ∧ x < 13 * d + 13) → τ 24 x = σ 24 x
theorem qA.rf {d : Int} {σ : y_S} : qA d σ σ := ⟨fun _ _ _ => rfl, fun _ _ => rfl, fun _ _ => rfl⟩
theorem qA.tr {d : Int} {σ τ υ : y_S} (h : qA d σ τ) (k : qA d τ υ) : qA d σ υ := ⟨fun t a b => (k.1 t a b).trans (h.1 t a b), fun j a => (k.2.1 j a).trans (h.2.1 j a), fun x a => (k.2.2 x a).trans (h.2.2 x a)⟩
theorem aAdd_q {σ : y_S} {d : Int} {acc : List Int} (hd : σ 60 32 = d) (h : l11 (σ 24) (13 * d) (σ 25 d) acc) (v : Int) : qA d σ (aAdd σ v) ∧ l11 (aAdd σ v 24) (13 * d) (aAdd σ v 25 d) (acc ++ [v]) := by
  have p := h.push v
  have le := h.le
  unfold aAdd
  rw [hd]
  by_cases c : σ 25 d = 11
  · rw [if_pos c]
    exact ⟨qA.rf, p.1 c⟩
  · rw [if_neg c]
    refine ⟨⟨fun t a b => by rw [up2_n _ _ _ b, up2_n _ _ _ a], fun j a => by rw [up2_s, up1_n _ _ a]; rfl, fun x a => ?_⟩, ?_⟩
    · show up2 σ 24 _ v 24 x = _
      rw [up2_s, up1_n _ _ (by omega)]
    · have := p.2 c
      rw [up2_s, up1_s]
      exact this
theorem aAddF_q {t : Nat} {a d : Int} (ht : t = 27 ∨ (t = 24 ∧ 13 * d + 13 ≤ a)) : ∀ (M : List Int) (k : Int) (σ : y_S) (acc : List Int), σ 60 32 = d → 0 ≤ k → (∀ i : Nat, i < M.length → σ t (a + k + (i : Int)) = M.getD i 0) → l11 (σ 24) (13 * d) (σ 25 d) acc → qA d σ (aAddF t a M.length k σ) ∧ l11 (aAddF t a M.length k σ 24) (13 * d) (aAddF t a M.length k σ 25 d) (acc ++ M)
  | [], k, σ, acc, _, _, _, h => ⟨qA.rf, by rw [List.append_nil]; exact h⟩
  | v :: M, k, σ, acc, hd, hk, hM, h => by
    show qA d σ (aAddF t a (M.length + 1) k σ) ∧ l11 (aAddF t a (M.length + 1) k σ 24) (13 * d) (aAddF t a (M.length + 1) k σ 25 d) (acc ++ (v :: M))
    rw [aAddF_s]
    have hv : σ t (a + k) = v := by
      have := hM 0 (Nat.succ_pos _)
      rw [show a + k + ((0 : Nat) : Int) = a + k by omega] at this
      exact this
    rw [hv]
    have q := aAdd_q hd h v
    have b := aAddF_q ht M (k + 1) (aAdd σ v) (acc ++ [v]) (by rw [aAdd_60]; exact hd) (by omega) (fun i hi => by
      have e := hM (i + 1) (Nat.succ_lt_succ hi)
      rw [show a + (k + 1) + (i : Int) = a + k + ((i + 1 : Nat) : Int) by omega]
      refine Eq.trans ?_ e
      rcases ht with rfl | ⟨rfl, h2⟩
      · rw [q.1.1 27 (by decide) (by decide)]
      · exact q.1.2.2 _ (by omega)) q.2
    rw [List.append_assoc] at b
    exact ⟨q.1.tr b.1, b.2⟩
theorem aRou_q {a d : Int} (ha : 13 * d + 13 ≤ a) (M : List Int) : ∀ (r : Nat) (σ : y_S) (acc : List Int), σ 60 32 = d → (∀ i : Nat, i < M.length → σ 24 (a + (i : Int)) = M.getD i 0) → l11 (σ 24) (13 * d) (σ 25 d) acc → qA d σ (aRou a M.length r σ) ∧ l11 (aRou a M.length r σ 24) (13 * d) (aRou a M.length r σ 25 d) (acc ++ rdRep r M)
  | 0, σ, acc, _, _, h => ⟨qA.rf, by show l11 _ _ _ (acc ++ []); rw [List.append_nil]; exact h⟩
  | r + 1, σ, acc, hd, hM, h => by
    rw [aRou]
    have q := aAddF_q (t := 24) (a := a) (Or.inr ⟨rfl, ha⟩) M 0 σ acc hd (Int.le_refl _) (fun i hi => by rw [Int.add_zero]; exact hM i hi) h
    have b := aRou_q ha M r (aAddF 24 a M.length 0 σ) (acc ++ M) (by rw [aAddF_60]; exact hd) (fun i hi => by
      rw [q.1.2.2 _ (by omega)]
      exact hM i hi) q.2
    refine ⟨q.1.tr b.1, ?_⟩
    have e : acc ++ M ++ rdRep r M = acc ++ rdRep (r + 1) M := by
      show _ = acc ++ (rdRep r M ++ M)
      rw [List.append_assoc, rdRep_c]
    rw [← e]
    exact b.2
