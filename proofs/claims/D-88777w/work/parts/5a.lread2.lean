/-! THE READER'S CONTRACTS: their forms -/
def rEd (R : rR) : Int := match R with
  | .inl p => p + 1
  | .inr (a1, _, _, _) => a1
def rPn (E : y_E) (ρ : y_S) (G : y_G) (σ : y_S) (A : Nat → Prop) (N : Nat) (R : rR) : Option Value → y_G → y_S → Prop := fun v G' τ' => ∃ (u N' : Nat) (a1 lk1 : Int) (nm1 : rM) (L : List Int), R = .inr (a1, lk1, nm1, L) ∧ v = some (.ref (G'.2.2 u)) ∧ ndV ρ G' τ' (aX A N N') a1.toNat u L ∧ lgP E ρ G' τ' (aX A N N') N' a1 lk1 nm1 ∧ rdN N G σ G' τ' ∧ N ≤ N'
def rPl (o : Int) (E : y_E) (ρ : y_S) (G : y_G) (σ : y_S) (A : Nat → Prop) (N : Nat) (R : rR) : Option Value → y_G → y_S → Prop := fun v G' τ' => ∃ (u N' : Nat) (a1 lk1 : Int) (nm1 : rM) (L : List Int), R = .inr (a1, lk1, nm1, L) ∧ v = some (.ref (G'.2.2 u)) ∧ lsV (ndV ρ G' τ' (aX A N N') (a1 - o).toNat) (aX A N N') G' τ' u L ∧ lgP E ρ G' τ' (aX A N N') N' a1 lk1 nm1 ∧ rdN N G σ G' τ' ∧ N ≤ N'
def rTh (G : y_G) (σ : y_S) (R : rR) : Nat → y_G → y_S → Prop := fun x G' τ' => ∃ p : Int, R = .inl p ∧ thW G σ 1 p x G' τ'
theorem rPn_no {E : y_E} {ρ : y_S} {G : y_G} {σ : y_S} {A : Nat → Prop} {N : Nat} {p : Int} : ∀ (v : Option Value) (G' : y_G) (σ' : y_S), ¬ rPn E ρ G σ A N (.inl p) v G' σ' := fun v G' σ' ⟨_, _, _, _, _, _, h, _⟩ => by cases h
theorem rPl_no {o : Int} {E : y_E} {ρ : y_S} {G : y_G} {σ : y_S} {A : Nat → Prop} {N : Nat} {p : Int} : ∀ (v : Option Value) (G' : y_G) (σ' : y_S), ¬ rPl o E ρ G σ A N (.inl p) v G' σ' := fun v G' σ' ⟨_, _, _, _, _, _, h, _⟩ => by cases h
theorem rTh_no {G : y_G} {σ : y_S} {z : Int × Int × rM × List Int} : ∀ (x : Nat) (G' : y_G) (σ' : y_S), ¬ rTh G σ (.inr z) x G' σ' := fun x G' σ' ⟨_, h, _⟩ => by cases h
theorem rTh_of {G G1 : y_G} {σ σ1 : y_S} {p : Int} (h : rdK G σ G1 σ1) : ∀ (x : Nat) (G' : y_G) (σ' : y_S), rTh G1 σ1 (.inl p) x G' σ' → rTh G σ (.inl p) x G' σ' := fun x G' σ' ⟨q, e, k⟩ => ⟨q, e, k.of h⟩
theorem rTh_w {G G1 : y_G} {σ σ1 : y_S} {p : Int} (h : rdK G σ G1 σ1) : ∀ (x : Nat) (G' : y_G) (σ' : y_S), thW G1 σ1 1 p x G' σ' → rTh G σ (.inl p) x G' σ' := fun x G' σ' k => ⟨p, rfl, k.of h⟩
/-- on by one sign -/
theorem lgP.adv {E : y_E} {ρ τ : y_S} {G : y_G} {A : Nat → Prop} {N : Nat} {a lk v : Int} {nm : rM} (h : lgP E ρ G τ A N a lk nm) (hv : v = a + 1) (h1 : a < ρ 60 30) : lgP E ρ G (up2 τ 26 1 v) A N (a + 1) lk nm ∧ rdN N G τ G (up2 τ 26 1 v) := by
  have k : rdN N G τ G (up2 τ 26 1 v) := fun t _ _ => ⟨rfl, rfl, fun _ => rfl, fun z => up2_n _ _ _ z⟩
  exact ⟨h.fr (k.k h.2.2.1.1) (k.ag h.2.2.1.2.2.2) (fun _ z => z) rfl (by rw [up2_s, up1_s, hv]) (by rw [up2_s, up1_n _ _ (by decide)]; exact h.2.1.2) (Nat.le_refl _) h.2.2.1.2.1 h.2.2.1.2.2.1 h.2.2.1.2.2.2 (by omega) (by omega) h.2.2.2.2.2.2, k⟩
theorem lgP.to {E : y_E} {ρ τ : y_S} {G : y_G} {A : Nat → Prop} {N : Nat} {a lk v b : Int} {nm : rM} (h : lgP E ρ G τ A N a lk nm) (hv : v = b) (h0 : a ≤ b) (h1 : b ≤ ρ 60 30) : lgP E ρ G (up2 τ 26 1 v) A N b lk nm ∧ rdN N G τ G (up2 τ 26 1 v) := by
  have k : rdN N G τ G (up2 τ 26 1 v) := fun t _ _ => ⟨rfl, rfl, fun _ => rfl, fun z => up2_n _ _ _ z⟩
  exact ⟨h.fr (k.k h.2.2.1.1) (k.ag h.2.2.1.2.2.2) (fun _ z => z) rfl (by rw [up2_s, up1_s, hv]) (by rw [up2_s, up1_n _ _ (by decide)]; exact h.2.1.2) (Nat.le_refl _) h.2.2.1.2.1 h.2.2.1.2.2.1 h.2.2.1.2.2.2 h0 h1 h.2.2.2.2.2.2, k⟩
theorem lgP.lack {E : y_E} {ρ τ : y_S} {G : y_G} {A : Nat → Prop} {N : Nat} {a lk v : Int} {nm : rM} (h : lgP E ρ G τ A N a lk nm) (hv : rLo v) : lgP E ρ G (up2 τ 26 2 v) A N a v nm ∧ rdN N G τ G (up2 τ 26 2 v) := by
  have k : rdN N G τ G (up2 τ 26 2 v) := fun t _ _ => ⟨rfl, rfl, fun _ => rfl, fun z => up2_n _ _ _ z⟩
  exact ⟨h.fr (k.k h.2.2.1.1) (k.ag h.2.2.1.2.2.2) (fun _ z => z) rfl (by rw [up2_s, up1_n _ _ (by decide)]; exact h.2.1.1) (by rw [up2_s, up1_s]) (Nat.le_refl _) h.2.2.1.2.1 h.2.2.1.2.2.1 h.2.2.1.2.2.2 (Int.le_refl _) h.2.2.2.2.2.1.2 hv, k⟩
/-- something new at the next tag -/
theorem lgP.new {E : y_E} {ρ τ : y_S} {G : y_G} {A : Nat → Prop} {N : Nat} {a lk : Int} {nm : rM} (h : lgP E ρ G τ A N a lk nm) {k : y_K} {ad : Nat} {N' : Nat} (hN : N < N') : lgP E ρ (upT G.1 N (some k), upT G.2.1 N (fun _ => none), upT G.2.2 N ad) (upT τ N (fun _ => 0)) A N' a lk nm ∧ rdN N G τ (upT G.1 N (some k), upT G.2.1 N (fun _ => none), upT G.2.2 N ad) (upT τ N (fun _ => 0)) := by
  have q : rdN N G τ (upT G.1 N (some k), upT G.2.1 N (fun _ => none), upT G.2.2 N ad) (upT τ N (fun _ => 0)) := fun t h1 _ => by
    have e : t ≠ N := by omega
    exact ⟨upT_n _ _ e, upT_n _ _ e, fun _ => upT_n _ _ e, fun _ => upT_n _ _ e⟩
  have h5 := h.2.2.1.1
  exact ⟨h.fr (q.k h5) (q.ag h.2.2.1.2.2.2) (fun _ z => z) (upT_n _ _ (by omega)) (by rw [upT_n _ _ (by omega)]; exact h.2.1.1) (by rw [upT_n _ _ (by omega)]; exact h.2.1.2) (by omega) (fun t ht => by show upT G.1 N _ t = none; rw [upT_n _ _ (by omega)]; exact h.2.2.1.2.1 t (by omega)) (fun t t1 t2 => by show upT G.1 N _ t = none; rw [upT_n _ _ (by omega)]; exact h.2.2.1.2.2.1 t t1 t2) (fun t ht => by have := h.2.2.1.2.2.2 t ht; omega) (Int.le_refl _) h.2.2.2.2.2.1.2 h.2.2.2.2.2.2, q⟩
/-- a new thing (at x, none of A's) gets its references and numbers -/
theorem lgP.ini {E : y_E} {ρ τ : y_S} {G : y_G} {A : Nat → Prop} {N x : Nat} {a lk : Int} {nm : rM} (h : lgP E ρ G τ A N a lk nm) (hx : 10000 ≤ x) (hA : ¬ A x) {r : Nat → Int → Option Nat} {υ : y_S} (hr : ∀ t : Nat, t ≠ x → r t = G.2.1 t) (hu : ∀ t : Nat, t ≠ x → υ t = τ t) : lgP E ρ (G.1, r, G.2.2) υ A N a lk nm := by
  exact h.fr (fun t t1 _ => ⟨rfl, rfl, fun _ => hr t (by omega), fun _ => hu t (by omega)⟩) (fun t ht => by have e : t ≠ x := (fun z => hA (z ▸ ht)); exact ⟨rfl, rfl, hr t e, hu t e⟩) (fun _ z => z) (hr 62 (by omega)) (by rw [hu 26 (by omega)]; exact h.2.1.1) (by rw [hu 26 (by omega)]; exact h.2.1.2) (Nat.le_refl _) h.2.2.1.2.1 h.2.2.1.2.2.1 h.2.2.1.2.2.2 (Int.le_refl _) h.2.2.2.2.2.1.2 h.2.2.2.2.2.2
/-- more tags may be A's -/
theorem lgP.more {E : y_E} {ρ τ : y_S} {G : y_G} {A A' : Nat → Prop} {N : Nat} {a lk : Int} {nm : rM} (h : lgP E ρ G τ A N a lk nm) (hA : ∀ t, A t → A' t) (hA' : ∀ t, A' t → 10000 ≤ t ∧ t < N) : lgP E ρ G τ A' N a lk nm :=
  h.fr (fun t _ _ => ⟨rfl, rfl, fun _ => rfl, fun _ => rfl⟩) agA.rf hA rfl h.2.1.1 h.2.1.2 (Nat.le_refl _) h.2.2.1.2.1 h.2.2.1.2.2.1 hA' (Int.le_refl _) h.2.2.2.2.2.1.2 h.2.2.2.2.2.2
theorem aX_bd {A : Nat → Prop} {N N' : Nat} (hA : ∀ t, A t → 10000 ≤ t ∧ t < N) (h1 : 10000 ≤ N) (h2 : N ≤ N') : ∀ t, aX A N N' t → 10000 ≤ t ∧ t < N' := fun t q => by
  rcases q with q | q
  · have := hA t q; omega
  · omega
theorem rdCat_e {n : Nat} {f g : Nat → List Int} (h : ∀ i : Nat, i < n → f i = g i) : rdCat n f = rdCat n g := by
  induction n with
  | zero => rfl
  | succ n ih =>
    show rdCat n f ++ f n = rdCat n g ++ g n
    rw [ih (fun i hi => h i (by omega)), h n (Nat.lt_succ_self n)]
/-- the list that grows, at tags N and N + 1 -/
def lsI (ρ : y_S) (A : Nat → Prop) (N : Nat) (G : y_G) (τ : y_S) (N' : Nat) (h : Nat) (acc : List Int) : Prop := G.1 N = some (.inl 16) ∧ ∃ (n : Nat) (el : Nat → Nat) (Ls : Nat → List Int), n ≤ h ∧ lLs N (N + 1) (n : Int) (fun i => G.2.2 (el i.toNat)) G τ ∧ (∀ i : Nat, i < n → ndV ρ G τ (aX A (N + 2) N') h (el i) (Ls i)) ∧ acc = rdCat n Ls
theorem lsI.keep {ρ : y_S} {A : Nat → Prop} {N N1 N2 h h' : Nat} {G G' : y_G} {τ τ' : y_S} {acc : List Int} (k : lsI ρ A N G τ N1 h acc) (q : rdN N1 G τ G' τ') (hA : ∀ t, A t → 10000 ≤ t ∧ t < N) (h1 : 10000 ≤ N) (h2 : N + 2 ≤ N1) (h3 : N1 ≤ N2) (h4 : h ≤ h') : lsI ρ A N G' τ' N2 h' acc := by
  obtain ⟨k1, n, el, Ls, k2, k3, k4, k5⟩ := k
  have a := q N (by omega) (by omega)
  have b := q (N + 1) (by omega) (by omega)
  have c := q 0 (by omega) (by omega)
  have d := q 60 (by omega) (by omega)
  have ag : agA (aX A (N + 2) N1) G τ G' τ' := q.ag (fun t ht => by rcases ht with z | z <;> first | (have := hA t z; omega) | omega)
  refine ⟨a.1.trans k1, n, el, Ls, by omega, k3.tr ⟨a.1, a.2.1, a.2.2.1 (by omega), a.2.2.2 (by omega)⟩ b.1 b.2.1 (b.2.2.1 (by omega)) c.2.1 (fun i i0 i1 => (ag _ (k4 i.toNat (by omega)).a).2.1), fun i hi => (ndV.fr ag c.2.1 d.2.1 (fun t ht => ht.imp id (fun z => by omega)) _ _ _ (k4 i hi)).le h4, k5⟩
theorem lsI.zero {ρ : y_S} {A : Nat → Prop} {N N' h : Nat} {G : y_G} {τ : y_S} (h1 : G.1 N = some (.inl 16)) (h2 : τ N 2 = 0) (h3 : G.1 (N + 1) = none) (h4 : G.2.1 N 1 = some (G.2.2 0)) : lsI ρ A N G τ N' h [] := ⟨h1, 0, fun _ => 0, fun _ => [], Nat.zero_le _, ⟨h2, Or.inl ⟨rfl, h3, h4⟩⟩, fun i hi => absurd hi (Nat.not_lt_zero _), rfl⟩
/-- a node is added -/
theorem lsI.add {E : y_E} {ρ : y_S} {A : Nat → Prop} {N N' u x n : Nat} {a lk : Int} {nm : rM} {G G' : y_G} {τ τ' : y_S} {acc L : List Int} {el : Nat → Nat} {Ls : Nat → List Int} (hP : lgP E ρ G τ (aX A (N + 2) N') N' a lk nm) (hA : ∀ t, A t → 10000 ≤ t ∧ t < N) (h1 : 10000 ≤ N) (h2 : N + 2 ≤ N')
    (k1 : G.1 N = some (.inl 16)) (k2 : n + 1 ≤ a.toNat) (k4 : ∀ i : Nat, i < n → ndV ρ G τ (aX A (N + 2) N') a.toNat (el i) (Ls i)) (k5 : acc = rdCat n Ls) (hd : ndV ρ G τ (aX A (N + 2) N') a.toNat u L) (hx : x = G.2.2 u) (ad : lAd N (N + 1) 99 (n : Int) (fun i => G.2.2 (el i.toNat)) x G τ G' τ') :
    lsI ρ A N G' τ' N' a.toNat (acc ++ L) ∧ lgP E ρ G' τ' (aX A (N + 2) N') N' a lk nm ∧ rdN N G τ G' τ' := by
  obtain ⟨d1, d2, d3⟩ := ad
  have hB : ∀ t, aX A (N + 2) N' t → 10000 ≤ t ∧ t < N' ∧ t ≠ N ∧ t ≠ N + 1 := fun t q => by
    rcases q with q | q
    · have := hA t q; omega
    · omega
  have ag : agA (aX A (N + 2) N') G τ G' τ' := fun t ht => by
    have b := hB t ht
    have e := d2 t b.2.2.2 (by omega)
    exact ⟨d1 t b.2.2.2, e.1, funext (fun k => e.2.1 k (fun z => b.2.2.1 z.1)), e.2.2 b.2.2.1⟩
  have kk : rdN N G τ G' τ' := fun t t1 t2 => by
    have e := d2 t (by omega) (by omega)
    exact ⟨d1 t (by omega), e.1, fun _ => funext (fun k => e.2.1 k (fun z => by omega)), fun _ => e.2.2 (by omega)⟩
  have c0 := kk 0 (by omega) (by omega)
  have c60 := kk 60 (by omega) (by omega)
  have c26 := kk 26 (by omega) (by omega)
  have e26 := d2 26 (by omega) (by omega)
  have hP' : lgP E ρ G' τ' (aX A (N + 2) N') N' a lk nm := hP.fr (kk.k h1) ag (fun _ z => z) (funext (fun k => (d2 62 (by omega) (by omega)).2.1 k (fun z => by omega))) (by rw [e26.2.2 (by omega)]; exact hP.2.1.1) (by rw [e26.2.2 (by omega)]; exact hP.2.1.2) (Nat.le_refl _) (fun t ht => by rw [d1 t (by omega)]; exact hP.2.2.1.2.1 t ht) (fun t t1 t2 => by rw [d1 t (by omega)]; exact hP.2.2.1.2.2.1 t t1 t2) hP.2.2.1.2.2.2 (Int.le_refl _) hP.2.2.2.2.2.1.2 hP.2.2.2.2.2.2
  refine ⟨⟨by rw [d1 N (by omega)]; exact k1, n + 1, fun i => if i = n then u else el i, fun i => if i = n then L else Ls i, k2, ?_, fun i hi => ?_, ?_⟩, hP', kk⟩
  · unfold lLs at d3 ⊢
    obtain ⟨f1, f2⟩ := d3
    refine ⟨by rw [f1]; omega, ?_⟩
    rcases f2 with ⟨z, -⟩ | ⟨cap, g1, g2, g3, g4, g5, g6⟩
    · exact absurd z (by omega)
    · refine Or.inr ⟨cap, g1, by omega, g3, g4, g5, fun i i0 i1 => ?_⟩
      rw [g6 i i0 (by omega)]
      dsimp only
      by_cases c : i = (n : Int)
      · rw [if_pos c, if_pos (by omega), hx, (ag u hd.a).2.1]
      · rw [if_neg c, if_neg (by omega), (ag _ (k4 i.toNat (by omega)).a).2.1]
  · dsimp only
    by_cases c : i = n
    · rw [if_pos c, if_pos c]
      exact ndV.fr ag c0.2.1 c60.2.1 (fun _ z => z) _ _ _ hd
    · rw [if_neg c, if_neg c]
      exact ndV.fr ag c0.2.1 c60.2.1 (fun _ z => z) _ _ _ (k4 i (by omega))
  · show acc ++ L = rdCat n (fun i => if i = n then L else Ls i) ++ (if n = n then L else Ls n)
    rw [if_pos rfl, k5, rdCat_e (g := Ls) (fun i hi => if_neg (by omega))]
/-- the list is whole -/
theorem lsI.v {ρ : y_S} {A : Nat → Prop} {N N' h : Nat} {G : y_G} {τ : y_S} {acc : List Int} (k : lsI ρ A N G τ N' h acc) (h2 : N + 2 ≤ N') (hh : h ≤ 100) : lsV (ndV ρ G τ (aX A N N') h) (aX A N N') G τ N acc := by
  obtain ⟨k1, n, el, Ls, k2, k3, k4, k5⟩ := k
  exact ⟨Or.inr ⟨Nat.le_refl _, by omega⟩, Or.inr ⟨by omega, by omega⟩, k1, n, el, Ls, by omega, k3, fun i hi => ndV.fr agA.rf rfl rfl (fun t ht => ht.imp id (fun z => by omega)) _ _ _ (k4 i hi), k5⟩
/-- a Times node -/
theorem ndV.ti {ρ : y_S} {G : y_G} {τ : y_S} {A A' : Nat → Prop} {x ul h : Nat} {w : Int} {L : List Int} (hl : lsV (ndV ρ G τ A h) A G τ ul L) (hx : ¬ A x) (hx' : A' x) (hA : ∀ t, A t → A' t) (hk : G.1 x = some (.inl 8)) (h0 : 0 ≤ w) (h1 : w ≤ 9) {r : Nat → Int → Option Nat} {υ : y_S} (hr : ∀ t : Nat, t ≠ x → r t = G.2.1 t) (hu : ∀ t : Nat, t ≠ x → υ t = τ t) (hr2 : r x 2 = some (G.2.2 ul)) (hu1 : υ x 1 = w) : ndV ρ (G.1, r, G.2.2) υ A' (h + 1) x (rdRep w.toNat L) := by
  have ag : agA A G τ (G.1, r, G.2.2) υ := fun t ht => by
    have e : t ≠ x := fun z => hx (z ▸ ht)
    exact ⟨rfl, rfl, hr t e, hu t e⟩
  refine ⟨hx', Or.inr ⟨hk, by rw [hu1]; exact ⟨h0, h1⟩, ul, L, hr2, hl.fr ag rfl hA (fun u L q => ndV.fr ag rfl rfl hA _ _ _ q) (fun u L q => q.a), by rw [hu1]⟩⟩
/-! their cases -/
theorem rBr_c {ρ : y_S} {S : Int → Int → rM → Option rR} {a lk : Int} {nm : rM} {R : rR} (h : rBr ρ S a lk nm = some R) : (nxR ρ a ≠ 40 ∧ R = .inl a) ∨ (nxR ρ a = 40 ∧ ∃ R1, rSs ρ S 101 (a + 1) lk nm [] = some R1 ∧ ((∃ p, R1 = .inl p ∧ R = .inl p) ∨ ∃ (a1 lk1 : Int) (nm1 : rM) (L : List Int), R1 = .inr (a1, lk1, nm1, L) ∧ ((nxR ρ a1 ≠ 41 ∧ R = .inl a1) ∨ (nxR ρ a1 = 41 ∧ R = .inr (a1 + 1, lk1, nm1, L))))) := by
  unfold rBr at h
  by_cases c : nxR ρ a ≠ 40
  · rw [if_pos c] at h; cases h; exact Or.inl ⟨c, rfl⟩
  · rw [if_neg c] at h
    refine Or.inr ⟨by omega, ?_⟩
    rcases hs : rSs ρ S 101 (a + 1) lk nm [] with _ | (p | ⟨a1, lk1, nm1, L⟩)
    · rw [hs] at h; cases h
    · rw [hs] at h; cases h; exact ⟨_, rfl, Or.inl ⟨p, rfl, rfl⟩⟩
    · rw [hs] at h
      dsimp only at h
      refine ⟨_, rfl, Or.inr ⟨a1, lk1, nm1, L, rfl, ?_⟩⟩
      by_cases c3 : nxR ρ a1 ≠ 41
      · rw [if_pos c3] at h; cases h; exact Or.inl ⟨c3, rfl⟩
      · rw [if_neg c3] at h; cases h; exact Or.inr ⟨by omega, rfl⟩
theorem rNa_c {ρ : y_S} {S : Int → Int → rM → Option rR} {k a lk : Int} {nm : rM} {R : rR} (h : rNa ρ S k a lk nm = some R) : (nxR ρ a = 61 ∧ ∃ R1, rBr ρ S (a + 1) lk nm = some R1 ∧ ((∃ p, R1 = .inl p ∧ R = .inl p) ∨ ∃ (a1 lk1 : Int) (nm1 : rM) (L : List Int), R1 = .inr (a1, lk1, nm1, L) ∧ R = .inr (a1, lk1, up1 nm1 k (some L), []))) ∨ (nxR ρ a ≠ 61 ∧ ((∃ L, nm k = some L ∧ R = .inr (a, lk, nm, L)) ∨ (nm k = none ∧ ((lk = -1 ∧ R = .inr (a, a - 1, nm, [])) ∨ (lk ≠ -1 ∧ R = .inr (a, lk, nm, [])))))) := by
  unfold rNa at h
  by_cases c : nxR ρ a = 61
  · rw [if_pos c] at h
    refine Or.inl ⟨c, ?_⟩
    rcases hs : rBr ρ S (a + 1) lk nm with _ | (p | ⟨a1, lk1, nm1, L⟩)
    · rw [hs] at h; cases h
    · rw [hs] at h; cases h; exact ⟨_, rfl, Or.inl ⟨p, rfl, rfl⟩⟩
    · rw [hs] at h; cases h; exact ⟨_, rfl, Or.inr ⟨a1, lk1, nm1, L, rfl, rfl⟩⟩
  · rw [if_neg c] at h
    refine Or.inr ⟨c, ?_⟩
    rcases hs : nm k with _ | L
    · rw [hs] at h
      cases h
      by_cases c3 : lk = -1
      · rw [if_pos c3]; exact Or.inr ⟨rfl, Or.inl ⟨c3, rfl⟩⟩
      · rw [if_neg c3]; exact Or.inr ⟨rfl, Or.inr ⟨c3, rfl⟩⟩
    · rw [hs] at h; cases h; exact Or.inl ⟨L, rfl, rfl⟩
/-- behind a statement: another one, or the end -/
def rSl (ρ : y_S) (S : Int → Int → rM → Option rR) (g : Nat) (a lk : Int) (nm : rM) (acc : List Int) : Option rR := if nxR ρ a = 59 then rSs ρ S g (a + 1) lk nm acc else some (.inr (a, lk, nm, acc))
theorem rSs_c {ρ : y_S} {S : Int → Int → rM → Option rR} {g : Nat} {a lk : Int} {nm : rM} {acc : List Int} {R : rR} (h : rSs ρ S (g + 1) a lk nm acc = some R) : ∃ R1, S a lk nm = some R1 ∧ ((∃ p, R1 = .inl p ∧ R = .inl p) ∨ ∃ (a1 lk1 : Int) (nm1 : rM) (L : List Int), R1 = .inr (a1, lk1, nm1, L) ∧ rSl ρ S g a1 lk1 nm1 (acc ++ L) = some R) := by
  rw [rSs] at h
  rcases hs : S a lk nm with _ | (p | ⟨a1, lk1, nm1, L⟩)
  · rw [hs] at h; cases h
  · rw [hs] at h; cases h; exact ⟨_, rfl, Or.inl ⟨p, rfl, rfl⟩⟩
  · rw [hs] at h; exact ⟨_, rfl, Or.inr ⟨a1, lk1, nm1, L, rfl, h⟩⟩
theorem rSl_c {ρ : y_S} {S : Int → Int → rM → Option rR} {g : Nat} {a lk : Int} {nm : rM} {acc : List Int} {R : rR} (h : rSl ρ S g a lk nm acc = some R) : (nxR ρ a = 59 ∧ rSs ρ S g (a + 1) lk nm acc = some R) ∨ (nxR ρ a ≠ 59 ∧ R = .inr (a, lk, nm, acc)) := by
  unfold rSl at h
  by_cases c : nxR ρ a = 59
  · rw [if_pos c] at h; exact Or.inl ⟨c, h⟩
  · rw [if_neg c] at h; cases h; exact Or.inr ⟨c, rfl⟩
theorem rSl_pos {ρ : y_S} {S : Int → Int → rM → Option rR} (hS : rGd ρ S) {g : Nat} {a lk : Int} {nm : rM} {acc : List Int} {R : rR} (h0 : 0 ≤ a) (h1 : a ≤ ρ 60 30) (hl : rLo lk) (h : rSl ρ S g a lk nm acc = some R) : a ≤ rEd R := by
  rcases rSl_c h with ⟨c, k⟩ | ⟨c, rfl⟩
  · have c2 := nxR_lt (ρ := ρ) (a := a) (by omega)
    have q := rSs_pos hS g (a + 1) lk nm acc R (by omega) (by omega) hl k
    rcases R with p | ⟨a1, lk1, nm1, L⟩
    · have q : a + 1 ≤ p ∧ p ≤ ρ 60 30 := q
      show a ≤ p + 1; omega
    · have q : a + 1 < a1 ∧ a1 ≤ ρ 60 30 ∧ rLo lk1 := q
      show a ≤ a1; omega
  · exact Int.le_refl _
theorem rPos.ed {ρ : y_S} {a : Int} {R : rR} (h : rPos ρ a R) : a + 1 ≤ rEd R ∧ rEd R ≤ ρ 60 30 + 1 := by
  rcases R with p | ⟨a1, lk1, nm1, L⟩
  · have q : a ≤ p ∧ p ≤ ρ 60 30 := h
    show a + 1 ≤ p + 1 ∧ p + 1 ≤ _
    omega
  · have q : a < a1 ∧ a1 ≤ ρ 60 30 ∧ rLo lk1 := h
    show a + 1 ≤ a1 ∧ a1 ≤ _
    omega
theorem rSt_c {ρ : y_S} {f : Nat} {a lk : Int} {nm : rM} {R : rR} (h : rSt ρ (f + 1) a lk nm = some R) :
    (nxR ρ a = -1 ∧ R = .inl a) ∨ ((97 ≤ nxR ρ a ∧ nxR ρ a < 103) ∧ rNa ρ (rSt ρ f) (nxR ρ a - 97) (a + 1) lk nm = some R) ∨
    ((48 ≤ nxR ρ a ∧ nxR ρ a ≤ 57) ∧ ∃ R1, rBr ρ (rSt ρ f) (a + 1) lk nm = some R1 ∧ ((∃ p, R1 = .inl p ∧ R = .inl p) ∨ ∃ (a1 lk1 : Int) (nm1 : rM) (L : List Int), R1 = .inr (a1, lk1, nm1, L) ∧ R = .inr (a1, lk1, nm1, rdRep (nxR ρ a - 48).toNat L))) ∨
    (nxR ρ a ≠ -1 ∧ ¬ (97 ≤ nxR ρ a ∧ nxR ρ a < 103) ∧ ¬ (48 ≤ nxR ρ a ∧ nxR ρ a ≤ 57) ∧ (nxR ρ a ≠ 116 ∧ nxR ρ a ≠ 115 ∧ nxR ρ a ≠ 117) ∧ R = .inl a) ∨
    ((nxR ρ a = 116 ∨ nxR ρ a = 115 ∨ nxR ρ a = 117) ∧ ((rNu ρ (a + 1) (ρ 60 0 - 2) = none ∧ R = .inl (rNp ρ (a + 1) (ρ 60 0 - 2))) ∨ ∃ i a1 : Int, rNu ρ (a + 1) (ρ 60 0 - 2) = some (i, a1) ∧
      ((nxR ρ a = 115 ∧ R = .inr (a1, lk, nm, [100 * i + 24])) ∨ (nxR ρ a ≠ 115 ∧ ((rNu ρ a1 95 = none ∧ R = .inl (rNp ρ a1 95)) ∨ ∃ k a2 : Int, rNu ρ a1 95 = some (k, a2) ∧ R = .inr (a2, lk, nm, [100 * i + (if nxR ρ a = 116 then k else (96 - k) % 96)])))))) := by
  rw [rSt] at h
  by_cases c1 : nxR ρ a = -1
  · rw [if_pos c1] at h; cases h; exact Or.inl ⟨c1, rfl⟩
  · rw [if_neg c1] at h
    by_cases c2 : 97 ≤ nxR ρ a ∧ nxR ρ a < 103
    · rw [if_pos c2] at h; exact Or.inr (Or.inl ⟨c2, h⟩)
    · rw [if_neg c2] at h
      by_cases c3 : 48 ≤ nxR ρ a ∧ nxR ρ a ≤ 57
      · rw [if_pos c3] at h
        refine Or.inr (Or.inr (Or.inl ⟨c3, ?_⟩))
        rcases hs : rBr ρ (rSt ρ f) (a + 1) lk nm with _ | (p | ⟨a1, lk1, nm1, L⟩)
        · rw [hs] at h; cases h
        · rw [hs] at h; cases h; exact ⟨_, rfl, Or.inl ⟨p, rfl, rfl⟩⟩
        · rw [hs] at h; cases h; exact ⟨_, rfl, Or.inr ⟨a1, lk1, nm1, L, rfl, rfl⟩⟩
      · rw [if_neg c3] at h
        by_cases c4 : nxR ρ a ≠ 116 ∧ nxR ρ a ≠ 115 ∧ nxR ρ a ≠ 117
        · rw [if_pos c4] at h; cases h; exact Or.inr (Or.inr (Or.inr (Or.inl ⟨c1, c2, c3, c4, rfl⟩)))
        · rw [if_neg c4] at h
          refine Or.inr (Or.inr (Or.inr (Or.inr ⟨by omega, ?_⟩)))
          unfold rLf at h
          rcases hs : rNu ρ (a + 1) (ρ 60 0 - 2) with _ | ⟨i, a1⟩
          · rw [hs] at h; cases h; exact Or.inl ⟨rfl, rfl⟩
          · rw [hs] at h
            refine Or.inr ⟨i, a1, rfl, ?_⟩
            dsimp only at h
            by_cases c5 : nxR ρ a = 115
            · rw [if_pos c5] at h; cases h; exact Or.inl ⟨c5, rfl⟩
            · rw [if_neg c5] at h
              refine Or.inr ⟨c5, ?_⟩
              rcases hs2 : rNu ρ a1 95 with _ | ⟨k, a2⟩
              · rw [hs2] at h; cases h; exact Or.inl ⟨rfl, rfl⟩
              · rw [hs2] at h; cases h; exact Or.inr ⟨k, a2, rfl, rfl⟩
/-! calls -/
section GR
variable {p : Program} {l : Launch} {e : Env} {R : Room} {s : State} {m : MethodId} {args : Array Value} {below : List Frame} {meth : Method} {c : Code} {H : Heap} {locs : List Loc} {cells slots mc ms mc' ms' : Nat} {Q : State → Prop} {pc : Nat} {ls : Array Slot} {rest st0 : List Value}
variable {E : y_E} {A0 : Nat → Prop} {G G0 : y_G} {σ : y_S} {a : Array Value} {sz : Nat} {thr thr' : Nat → y_G → y_S → Prop}
theorem g_passE (hm' : cells + mc = mc') (hs' : slots + ms = ms') (het : c.exceptionTable.isEmpty = true) (hlocks : meth.locks = false) (hM : gM E (gA G0 sz) G σ s.heap H locs) (hA : ∀ q, s.heap.size ≤ q → gA G0 sz q)
    (hr : ∀ T : State, T.heap = H → Stand p l e R s m args below meth c T locs cells slots → ∃ (o : Outcome) (st₀ t : State) (L : List Loc), st₀.heap = H ∧ gQT E G H.size thr a st₀ o t ∧ (∀ q ∈ L, gA G H.size q.base) ∧ ∀ x : Nat, o = .threw x → ∃ T' : State, Stand p l e R s m args below meth c T' (locs ++ L) (cells + mc) (slots + ms) ∧ T'.heap = t.heap ∧ T'.vm = t.vm ∧ Steps p.tables e below (T.setTop (F0 m pc ls st0)) ((T'.setTop { F0 m pc ls st0 with stack := rest }).pushFrame (.throwing x)))
    (hp : ∀ x G' σ', thr x G' σ' → thr' x G' σ') :
    W p l e R s m args below meth c H locs cells slots (MQT below (gQT E G0 sz thr') args s mc' ms' (gA G0 sz)) (F0 m pc ls st0) := by
  subst hm'
  subst hs'
  exact g_pass het hlocks hM hA hr hp
theorem g_callRn (hM : gM E A0 G σ s.heap H locs) (hA : ∀ q, s.heap.size ≤ q → A0 q) {ρ : y_S} {A : Nat → Prop} {N : Nat} {a1 lk1 : Int} {nm1 : rM} {L : List Int} (hr : va_Run p l e R s m args below meth c H locs cells slots mc ms (F0 m pc ls st0) rest (gQ E G H.size (rPn E ρ G σ A N (.inr (a1, lk1, nm1, L))) a) (gA G H.size))
    (kk : ∀ (u N' : Nat) (G' : y_G) (τ' : y_S) (H : Heap) (locs : List Loc), ndV ρ G' τ' (aX A N N') a1.toNat u L → lgP E ρ G' τ' (aX A N N') N' a1 lk1 nm1 → rdN N G σ G' τ' → N ≤ N' → gM E A0 G' τ' s.heap H locs → W p l e R s m args below meth c H locs (cells + mc) (slots + ms) Q (F0 m (pc + 3) ls (.ref (G'.2.2 u) :: rest))) : W p l e R s m args below meth c H locs cells slots Q (F0 m pc ls st0) :=
  g_call hM hA hr (fun v G' σ' H locs hp hM => by obtain ⟨u, N', _, _, _, _, e, rfl, h1, h2, h3, h4⟩ := hp; cases e; exact kk u N' G' σ' H locs h1 h2 h3 h4 hM)
theorem g_callRl (hM : gM E A0 G σ s.heap H locs) (hA : ∀ q, s.heap.size ≤ q → A0 q) {o : Int} {ρ : y_S} {A : Nat → Prop} {N : Nat} {a1 lk1 : Int} {nm1 : rM} {L : List Int} (hr : va_Run p l e R s m args below meth c H locs cells slots mc ms (F0 m pc ls st0) rest (gQ E G H.size (rPl o E ρ G σ A N (.inr (a1, lk1, nm1, L))) a) (gA G H.size))
    (kk : ∀ (u N' : Nat) (G' : y_G) (τ' : y_S) (H : Heap) (locs : List Loc), lsV (ndV ρ G' τ' (aX A N N') (a1 - o).toNat) (aX A N N') G' τ' u L → lgP E ρ G' τ' (aX A N N') N' a1 lk1 nm1 → rdN N G σ G' τ' → N ≤ N' → gM E A0 G' τ' s.heap H locs → W p l e R s m args below meth c H locs (cells + mc) (slots + ms) Q (F0 m (pc + 3) ls (.ref (G'.2.2 u) :: rest))) : W p l e R s m args below meth c H locs cells slots Q (F0 m pc ls st0) :=
  g_call hM hA hr (fun v G' σ' H locs hp hM => by obtain ⟨u, N', _, _, _, _, e, rfl, h1, h2, h3, h4⟩ := hp; cases e; exact kk u N' G' σ' H locs h1 h2 h3 h4 hM)
end GR
theorem rdK.rf {G : y_G} {σ : y_S} : rdK G σ G σ := fun _ _ _ => ⟨rfl, rfl, fun _ => rfl, fun _ => rfl⟩
theorem lsV.at {ρ : y_S} {A : Nat → Prop} {G G' : y_G} {τ τ' : y_S} {ul h h' : Nat} {L : List Int} (k : lsV (ndV ρ G τ A h) A G τ ul L) (g : agA A G τ G' τ') (r : rdK G τ G' τ') (hh : h ≤ h') : lsV (ndV ρ G' τ' A h') A G' τ' ul L :=
  k.fr g (r 0 (by decide) (by decide)).2.1 (fun _ z => z) (fun u L q => (ndV.fr g (r 0 (by decide) (by decide)).2.1 (r 60 (by decide) (by decide)).2.1 (fun _ z => z) _ _ _ q).le hh) (fun u L q => q.a)
/-- the contracts -/
def CtSt (l : Launch) (E : y_E) (ρ : y_S) (f : Nat) : Prop := ∀ (G : y_G) (σ : y_S) (sz : Nat) (A : Nat → Prop) (N : Nat) (a lk : Int) (nm : rM) (R : rR), lgP E ρ G σ A N a lk nm → rSt ρ f a lk nm = some R → gCtB l yX7_statement cX7_statement 4 (some (.object "LightPlate$Node")) ({ frames := 4 * f + 12, cells := 3 * (rEd R - a).toNat - 1, slots := 620 * (rEd R - a).toNat - 600, locals := 300 + 100 * f }) E [.ref (G.2.2 26)] G σ sz (rPn E ρ G σ A N R) (rTh G σ R) (3 * (rEd R - a).toNat - 1) (620 * (rEd R - a).toNat - 600)
def CtSs (l : Launch) (E : y_E) (ρ : y_S) (f : Nat) : Prop := ∀ (G : y_G) (σ : y_S) (sz : Nat) (A : Nat → Prop) (N : Nat) (a lk : Int) (nm : rM) (R : rR), lgP E ρ G σ A N a lk nm → rSs ρ (rSt ρ f) 101 a lk nm [] = some R → gCtB l yX7_statements cX7_statements 2 (some (.object "java/util/ArrayList")) ({ frames := 4 * f + 13, cells := 3 * (rEd R - a).toNat + 1, slots := 620 * (rEd R - a).toNat + 3, locals := 325 + 100 * f }) E [.ref (G.2.2 26)] G σ sz (rPl 0 E ρ G σ A N R) (rTh G σ R) (3 * (rEd R - a).toNat + 1) (620 * (rEd R - a).toNat + 3)
def CtBr (l : Launch) (E : y_E) (ρ : y_S) (f : Nat) : Prop := ∀ (G : y_G) (σ : y_S) (sz : Nat) (A : Nat → Prop) (N : Nat) (a lk : Int) (nm : rM) (R : rR), lgP E ρ G σ A N a lk nm → rBr ρ (rSt ρ f) a lk nm = some R → gCtB l yX7_inside cX7_inside 2 (some (.object "java/util/ArrayList")) ({ frames := 4 * f + 14, cells := 3 * (rEd R - a).toNat, slots := 620 * (rEd R - a).toNat, locals := 350 + 100 * f }) E [.ref (G.2.2 26)] G σ sz (rPl 1 E ρ G σ A N R) (rTh G σ R) (3 * (rEd R - a).toNat) (620 * (rEd R - a).toNat)
def CtNa (l : Launch) (E : y_E) (ρ : y_S) (f : Nat) : Prop := ∀ (G : y_G) (σ : y_S) (sz : Nat) (A : Nat → Prop) (N : Nat) (k a lk : Int) (nm : rM) (R : rR), lgP E ρ G σ A N a lk nm → 0 ≤ k → k < 6 → 1 ≤ a → rNa ρ (rSt ρ f) k a lk nm = some R → gCtB l yX7_name cX7_name 3 (some (.object "LightPlate$Node")) ({ frames := 4 * f + 15, cells := 3 * (rEd R - a).toNat + 2, slots := 620 * (rEd R - a).toNat + 7, locals := 375 + 100 * f }) E [.ref (G.2.2 26), .int (jI k)] G σ sz (rPn E ρ G σ A N R) (rTh G σ R) (3 * (rEd R - a).toNat + 2) (620 * (rEd R - a).toNat + 7)
