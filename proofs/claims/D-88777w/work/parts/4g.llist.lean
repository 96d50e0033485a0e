/-! LISTS THAT GROW: what stays shown -/
/-- a tag that is out of the scratch room and of the lists' -/
def gdT (t : Nat) : Prop := (t < 63 ∨ 66 ≤ t) ∧ (t < 90 ∨ 100 ≤ t) ∧ t < 260
theorem lKd_gd {n : Int} {t : Nat} {k : y_K} (h : lKd n t = some k) : gdT t := by
  unfold lKd at h
  unfold gdT
  split at h <;> first | omega | skip
  by_cases h1 : 100 ≤ t ∧ t < 172 ∧ mCell n (((t - 100 : Nat) : Int) / 6) (((t - 100 : Nat) : Int) % 6)
  · omega
  · rw [if_neg h1] at h
    by_cases h2 : (200 ≤ t ∧ t < 206) ∨ (210 ≤ t ∧ t < 216)
    · omega
    · rw [if_neg h2] at h
      by_cases h3 : 220 ≤ t ∧ t < 226
      · omega
      · rw [if_neg h3] at h
        by_cases h4 : 240 ≤ t ∧ t < 253
        · omega
        · rw [if_neg h4] at h; cases h
theorem lFl_le {k t : Nat} (h : lFl k = some t) : t ≤ 61 := by
  unfold lFl at h
  split at h <;> first | (cases h; omega) | cases h
theorem cT_gd {n l i : Int} (hn : n ≤ 6) (hc : mCell n l i) : gdT (cT l i) := by have := cT_ix hn hc; unfold gdT; omega
theorem lgS.fr2 {n : Int} {G G' : y_G} (h : lgS n G) (hn : n ≤ 6) (hG : ∀ t : Nat, gdT t → G'.1 t = G.1 t ∧ G'.2.2 t = G.2.2 t ∧ ∀ k : Int, ¬ (t = 7 ∧ k = 3) → ¬ (t = 8 ∧ k = 1) → t ≠ 62 → ¬ (t = 27 ∨ t = 28 ∨ t = 30) → G'.2.1 t k = G.2.1 t k) : lgS n G' := by
  obtain ⟨h1, h2, h3, h4, ⟨h50, h51⟩, ⟨h60, h61, h62⟩, ⟨h70, h71, h72, h75⟩, ⟨h80, h82⟩, ⟨h90, h93⟩, h10, h11⟩ := h
  have ga : ∀ t : Nat, gdT t → G'.2.2 t = G.2.2 t := fun t ht => (hG t ht).2.1
  have gr : ∀ (t : Nat) (k : Int), gdT t → ¬ (t = 7 ∧ k = 3) → ¬ (t = 8 ∧ k = 1) → t ≠ 62 → ¬ (t = 27 ∨ t = 28 ∨ t = 30) → G'.2.1 t k = G.2.1 t k := fun t k ht => (hG t ht).2.2 k
  have gk : ∀ (t u : Nat) (k : Int), gdT t → gdT u → ¬ (t = 7 ∧ k = 3) → ¬ (t = 8 ∧ k = 1) → t ≠ 62 → ¬ (t = 27 ∨ t = 28 ∨ t = 30) → G.2.1 t k = some (G.2.2 u) → G'.2.1 t k = some (G'.2.2 u) := fun t u k ht hu a b c d e => by rw [gr t k ht a b c d, ga u hu]; exact e
  have g : ∀ t : Nat, t < 63 ∨ (100 ≤ t ∧ t < 260) → gdT t := fun t h => by unfold gdT; omega
  refine ⟨fun t k e => by rw [(hG t (lKd_gd e)).1]; exact h1 t k e, fun k t e => gk 60 t k (g _ (by decide)) (g _ (by have := lFl_le e; omega)) (by omega) (by omega) (by decide) (by decide) (h2 k t e), fun l i a b c d => ?_, fun l i hc => gk _ 60 6 (cT_gd hn hc) (g _ (by decide)) (by omega) (by omega) (cT_62 hn hc) (by have := cT_ix hn hc; omega) (h4 l i hc),
    ⟨gk 5 60 0 (g _ (by decide)) (g _ (by decide)) (by decide) (by decide) (by decide) (by decide) h50, gk 5 60 1 (g _ (by decide)) (g _ (by decide)) (by decide) (by decide) (by decide) (by decide) h51⟩,
    ⟨gk 6 60 0 (g _ (by decide)) (g _ (by decide)) (by decide) (by decide) (by decide) (by decide) h60, gk 6 60 1 (g _ (by decide)) (g _ (by decide)) (by decide) (by decide) (by decide) (by decide) h61, gk 6 60 2 (g _ (by decide)) (g _ (by decide)) (by decide) (by decide) (by decide) (by decide) h62⟩,
    ⟨gk 7 60 0 (g _ (by decide)) (g _ (by decide)) (by decide) (by decide) (by decide) (by decide) h70, gk 7 60 1 (g _ (by decide)) (g _ (by decide)) (by decide) (by decide) (by decide) (by decide) h71, gk 7 60 2 (g _ (by decide)) (g _ (by decide)) (by decide) (by decide) (by decide) (by decide) h72, gk 7 60 5 (g _ (by decide)) (g _ (by decide)) (by decide) (by decide) (by decide) (by decide) h75⟩,
    ⟨gk 8 60 0 (g _ (by decide)) (g _ (by decide)) (by decide) (by decide) (by decide) (by decide) h80, gk 8 60 2 (g _ (by decide)) (g _ (by decide)) (by decide) (by decide) (by decide) (by decide) h82⟩,
    ⟨gk 26 62 0 (g _ (by decide)) (g _ (by decide)) (by decide) (by decide) (by decide) (by decide) h90, gk 26 60 3 (g _ (by decide)) (g _ (by decide)) (by decide) (by decide) (by decide) (by decide) h93⟩,
    fun c hc => ⟨gk 10 (200 + c) _ (g _ (by decide)) (g _ (by omega)) (by omega) (by omega) (by decide) (by decide) (h10 c hc).1, gk 11 (210 + c) _ (g _ (by decide)) (g _ (by omega)) (by omega) (by omega) (by decide) (by decide) (h10 c hc).2.1, gk 32 (220 + c) _ (g _ (by decide)) (g _ (by omega)) (by omega) (by omega) (by decide) (by decide) (h10 c hc).2.2⟩,
    fun l hl => gk 21 (240 + l) _ (g _ (by decide)) (g _ (by omega)) (by omega) (by omega) (by decide) (by decide) (h11 l hl)⟩
  rw [gr 3 _ (g _ (by decide)) (by omega) (by omega) (by decide) (by decide), h3 l i a b c d]
  by_cases hc : mCell n l i
  · rw [if_pos hc, if_pos hc, ga _ (cT_gd hn hc)]
  · rw [if_neg hc, if_neg hc]
/-- two memories agree at a tag -/
def gAg (G : y_G) (τ : y_S) (G' : y_G) (τ' : y_S) (t : Nat) : Prop := G'.1 t = G.1 t ∧ G'.2.2 t = G.2.2 t ∧ G'.2.1 t = G.2.1 t ∧ τ' t = τ t
theorem lRu.tr {ρ τ τ' : y_S} {G G' : y_G} {q : Nat} (h : lRu ρ G τ q) (a0 : gAg G τ G' τ' (1000 + 4 * q)) (a1 : gAg G τ G' τ' (1001 + 4 * q)) (a2 : gAg G τ G' τ' (1002 + 4 * q)) (a3 : gAg G τ G' τ' (1003 + 4 * q)) (h60 : G'.2.2 60 = G.2.2 60) : lRu ρ G' τ' q := by
  unfold lRu at h ⊢
  rw [a0.1, a1.1, a2.1, a3.1, a0.2.2.1, a1.2.1, a2.2.1, a3.2.1, h60, a0.2.2.2, a1.2.2.2, a2.2.2.2, a3.2.2.2]
  exact h
theorem lFi.tr {ρ τ τ' : y_S} {G G' : y_G} {q : Nat} (h : lFi ρ G τ q) (a : gAg G τ G' τ' (2000 + q)) (hc : ∀ t : Nat, 100 ≤ t → t < 172 → G'.2.2 t = G.2.2 t) : lFi ρ G' τ' q := by
  have hk := h.2.1
  unfold lFi at h ⊢
  rw [a.1, a.2.2.1, a.2.2.2, hc (100 + (ρ 38 (q : Int)).toNat) (by omega) (by have := hk.1; have := hk.2.1; omega)]
  exact h
theorem lHy.tr {ρ τ τ' : y_S} {G G' : y_G} {q : Nat} (h : lHy ρ G τ q) (a : gAg G τ G' τ' (3000 + q)) (hk : q = 0 ∨ lCk (ρ 60 0) (ρ 44 (((q : Int) - 1) / 4))) (hc : ∀ t : Nat, 100 ≤ t → t < 172 → G'.2.2 t = G.2.2 t) : lHy ρ G' τ' q := by
  unfold lHy at h ⊢
  rw [a.1, a.2.2.1, a.2.2.2]
  refine ⟨h.1, ?_, h.2.2⟩
  rw [h.2.1]
  rcases hk with hk | hk
  · rw [if_pos hk, if_pos hk]
  · rw [hc (100 + (ρ 44 (((q : Int) - 1) / 4)).toNat) (by omega) (by have := hk.1; have := hk.2.1; omega)]
theorem lLs.tr {tl ta : Nat} {N : Int} {f f' : Int → Nat} {G G' : y_G} {τ τ' : y_S} (h : lLs tl ta N f G τ) (a : gAg G τ G' τ' tl) (b1 : G'.1 ta = G.1 ta) (b2 : G'.2.2 ta = G.2.2 ta) (b3 : G'.2.1 ta = G.2.1 ta) (h0 : G'.2.2 0 = G.2.2 0) (hf : ∀ i : Int, 0 ≤ i → i < N → f' i = f i) : lLs tl ta N f' G' τ' := by
  unfold lLs at h ⊢
  rw [a.2.2.2, b1, b2, b3, a.2.2.1, h0]
  refine ⟨h.1, ?_⟩
  rcases h.2 with z | ⟨cap, z1, z2, z3, z4, z5, z6⟩
  · exact Or.inl z
  · exact Or.inr ⟨cap, z1, z2, z3, z4, z5, fun i i0 i1 => by rw [hf i i0 i1]; exact z6 i i0 i1⟩
/-- nothing changes but the scratch room -/
theorem lgR.n9 {E : y_E} {ρ τ τ' : y_S} {G G' : y_G} (h : lgR E ρ G τ) (ha : ∀ t : Nat, t < 90 ∨ 100 ≤ t → gAg G τ G' τ' t) : lgR E ρ G' τ' := by
  obtain ⟨o, h2, h3, h4, ⟨⟨d1, d2⟩, ⟨d3, d4⟩, ⟨d5, d6, d7⟩, d8⟩, h6⟩ := h
  have hn := o.n.2
  have hr := o.rn
  have hf := o.fe
  have hh := o.h48
  have hy := o.hy
  have gc : ∀ t : Nat, 100 ≤ t → t < 172 → G'.2.2 t = G.2.2 t := fun t a b => (ha t (Or.inr a)).2.1
  have a6 := ha 60 (Or.inl (by decide))
  have a0 := ha 0 (Or.inl (by decide))
  refine ⟨o, h2.fr2 hn (fun t ht => ?_), h3.fr hn lgE.rf (fun t ht => (ha t (by omega)).2.2.2) (fun k _ => by rw [a6.2.2.2]), h4.fr hn lgE.rf (fun t ht => (ha t (by omega)).2.2.2) (fun k _ => by rw [a6.2.2.2]), ⟨⟨?_, fun q hq => ?_⟩, ⟨?_, fun q hq => ?_⟩, ⟨?_, fun q hq => ?_, d7⟩, fun t ht => ?_⟩, by rw [a0.2.1]; exact h6⟩
  · have a := ha t ht.2.1
    exact ⟨a.1, a.2.1, fun k _ _ _ _ => by rw [a.2.2.1]⟩
  · have b := ha 63 (Or.inl (by decide))
    exact d1.tr (ha 27 (Or.inl (by decide))) b.1 b.2.1 b.2.2.1 a0.2.1 (fun i i0 i1 => (ha _ (Or.inr (by omega))).2.1)
  · exact (d2 q hq).tr (ha _ (Or.inr (by omega))) (ha _ (Or.inr (by omega))) (ha _ (Or.inr (by omega))) (ha _ (Or.inr (by omega))) a6.2.1
  · have b := ha 64 (Or.inl (by decide))
    exact d3.tr (ha 28 (Or.inl (by decide))) b.1 b.2.1 b.2.2.1 a0.2.1 (fun i i0 i1 => (ha _ (Or.inr (by omega))).2.1)
  · exact (d4 q hq).tr (ha _ (Or.inr (by omega))) gc
  · have b := ha 65 (Or.inl (by decide))
    exact d5.tr (ha 30 (Or.inl (by decide))) b.1 b.2.1 b.2.2.1 a0.2.1 (fun i i0 i1 => (ha _ (Or.inr (by omega))).2.1)
  · refine (d6 q hq).tr (ha _ (Or.inr (by omega))) ?_ gc
    by_cases q0 : q = 0
    · exact Or.inl q0
    · exact Or.inr (d7 _ (by omega) (by omega))
  · rw [(ha t (Or.inr (by omega))).1]
    exact d8 t ht
theorem lgR.al {E : y_E} {ρ τ : y_S} {G : y_G} (h : lgR E ρ G τ) {t : Nat} (ht : 90 ≤ t ∧ t < 100) {k : Option y_K} {r : Int → Option Nat} {a : Nat} {f : Int → Int} : lgR E ρ (upT G.1 t k, upT G.2.1 t r, upT G.2.2 t a) (upT τ t f) := h.n9 (fun u hu => by
  have e : u ≠ t := by omega
  exact ⟨upT_n _ _ e, upT_n _ _ e, upT_n _ _ e, upT_n _ _ e⟩)
theorem lgR.rf9 {E : y_E} {ρ τ : y_S} {G : y_G} (h : lgR E ρ G τ) {t : Nat} (ht : 90 ≤ t ∧ t < 100) {k : Int} {r : Option Nat} : lgR E ρ (G.1, up2 G.2.1 t k r, G.2.2) τ := h.n9 (fun u hu => by
  have e : u ≠ t := by omega
  exact ⟨rfl, rfl, up2_n _ _ _ e, rfl⟩)
theorem lgR.i9 {E : y_E} {ρ τ : y_S} {G : y_G} (h : lgR E ρ G τ) {t : Nat} (ht : 90 ≤ t ∧ t < 100) {k v : Int} : lgR E ρ G (up2 τ t k v) := h.n9 (fun u hu => by
  have e : u ≠ t := by omega
  exact ⟨rfl, rfl, rfl, up2_n _ _ _ e⟩)
/-- the scratch room is let go -/
def drK (K : Nat → Option y_K) (t : Nat) : Option y_K := if 90 ≤ t ∧ t < 100 then none else K t
theorem lgR.dr {E : y_E} {ρ τ : y_S} {G : y_G} (h : lgR E ρ G τ) : lgR E ρ (drK G.1, G.2) τ := h.n9 (fun u hu => ⟨by show drK G.1 u = _; unfold drK; rw [if_neg (by omega)], rfl, rfl, rfl⟩)
theorem gM.dr {E : y_E} {A : Nat → Prop} {G : y_G} {σ : y_S} {H0 H : Heap} {locs : List Loc} (h : gM E A G σ H0 H locs) : gM E A (drK G.1, G.2) σ H0 H locs := h.drop (fun t k hk => by
  unfold drK at hk
  split at hk
  · cases hk
  · exact hk)
theorem drK_0 {K : Nat → Option y_K} {t : Nat} (h0 : 90 ≤ t) (h1 : t < 100) : drK K t = none := by unfold drK; rw [if_pos ⟨h0, h1⟩]
/-- a finding is added -/
theorem lgR_found {E : y_E} {ρ τ τ' : y_S} {G G' : y_G} (h : lgR E ρ G τ) {l i n tk : Int} (hc : mCell (ρ 60 0) l i) (hk : mOk (up2 (up2 (up2 (up2 (up2 ρ 38 (ρ 60 43) (6 * l + i)) 39 (ρ 60 43) n) 40 (ρ 60 43) tk) 60 43 (ρ 60 43 + 1)) 60 42 (ρ 60 42 + 1)))
    {q : Nat} (hq : (q : Int) = ρ 60 43) (ha : ∀ t : Nat, t ≠ 28 → t ≠ 64 → t ≠ 2000 + q → t < 90 ∨ 100 ≤ t → G'.1 t = G.1 t ∧ G'.2.2 t = G.2.2 t ∧ G'.2.1 t = G.2.1 t ∧ (t ≠ 60 → τ' t = τ t)) (h28 : G'.1 28 = G.1 28 ∧ G'.2.2 28 = G.2.2 28) (h60 : ∀ k : Int, k ≠ 29 → τ' 60 k = τ 60 k) (h29 : τ' 60 29 = ρ 60 42 + 1)
    (hfi : G'.1 (2000 + q) = some (.inl 14) ∧ G'.2.1 (2000 + q) 0 = some (G.2.2 (cT l i)) ∧ τ' (2000 + q) 1 = n ∧ τ' (2000 + q) 2 = tk) (hls : lLs 28 64 (ρ 60 43 + 1) (fun i => G'.2.2 (2000 + i.toNat)) G' τ') :
    lgR E (up2 (up2 (up2 (up2 (up2 ρ 38 (ρ 60 43) (6 * l + i)) 39 (ρ 60 43) n) 40 (ρ 60 43) tk) 60 43 (ρ 60 43 + 1)) 60 42 (ρ 60 42 + 1)) G' τ' := by
  obtain ⟨o, h2, h3, h4, ⟨⟨d1, d2⟩, ⟨d3, d4⟩, ⟨d5, d6, d7⟩, d8⟩, h6⟩ := h
  have hn := o.n.2
  have hr := o.rn
  have hf := o.fe
  have hh := o.h48
  have hy := o.hy
  have hcx := lCk_c hn hc
  have gc : ∀ t : Nat, 100 ≤ t → t < 172 → G'.2.2 t = G.2.2 t := fun t a b => (ha t (by omega) (by omega) (by omega) (Or.inr a)).2.1
  have a6 := ha 60 (by decide) (by decide) (by omega) (Or.inl (by decide))
  have a0 := ha 0 (by decide) (by decide) (by omega) (Or.inl (by decide))
  have hg : ∀ t : Nat, t ≠ 28 → t ≠ 64 → t ≠ 2000 + q → t ≠ 60 → t < 90 ∨ 100 ≤ t → gAg G τ G' τ' t := fun t a b c d e => by
    have z := ha t a b c e
    exact ⟨z.1, z.2.1, z.2.2.1, z.2.2.2 d⟩
  refine ⟨hk, h2.fr2 hn (fun t ht => ?_), ?_, ?_, ⟨⟨?_, fun u hu => ?_⟩, ⟨?_, fun u hu => ?_⟩, ⟨?_, fun u hu => ?_, d7⟩, fun t ht => ?_⟩, by rw [a0.2.1]; exact h6⟩
  · unfold gdT at ht
    by_cases e : t = 28
    · subst e; exact ⟨h28.1, h28.2, fun k _ _ _ z => absurd (Or.inr (Or.inl rfl)) z⟩
    · have a := ha t e (by omega) (by omega) ht.2.1
      exact ⟨a.1, a.2.1, fun k _ _ _ _ => by rw [a.2.2.1]⟩
  · have hM : ∀ k : Int, k = 2 ∨ k = 4 → τ' 60 k = τ 60 k := fun k z => h60 k (by omega)
    obtain ⟨m1, m2, m3, m4, m5⟩ := h3
    refine ⟨(hM 2 (by decide)).trans m1, (hM 4 (by decide)).trans m2, h29, fun k a b => ?_, fun l i hc => ?_⟩
    · rw [(hg 61 (by decide) (by decide) (by omega) (by decide) (by decide)).2.2.2, (hg 1 (by decide) (by decide) (by omega) (by decide) (by decide)).2.2.2]
      exact m4 k a b
    · have hcx := cT_ix hn hc
      rw [(hg (cT l i) (by omega) (by omega) (by omega) (by omega) (by omega)).2.2.2]
      exact m5 l i hc
  · exact h4.fr (ρ' := ρ) hn lgE.rf (fun t ht => (hg t (by omega) (by omega) (by omega) (by omega) (by omega)).2.2.2) (fun k z => h60 k (by omega))
  · have b := ha 63 (by decide) (by decide) (by omega) (by decide)
    exact d1.tr (hg 27 (by decide) (by decide) (by omega) (by decide) (by decide)) b.1 b.2.1 b.2.2.1 a0.2.1 (fun i i0 i1 => (hg _ (by omega) (by omega) (by omega) (by omega) (by omega)).2.1)
  · have hu : (u : Int) < ρ 60 41 := hu
    exact (d2 u hu).tr (hg _ (by omega) (by omega) (by omega) (by omega) (by omega)) (hg _ (by omega) (by omega) (by omega) (by omega) (by omega)) (hg _ (by omega) (by omega) (by omega) (by omega) (by omega)) (hg _ (by omega) (by omega) (by omega) (by omega) (by omega)) a6.2.1
  · exact hls
  · have hu : (u : Int) < ρ 60 43 + 1 := hu
    by_cases e : u = q
    · subst e
      unfold lFi
      have e38 : up2 (up2 (up2 (up2 (up2 ρ 38 (ρ 60 43) (6 * l + i)) 39 (ρ 60 43) n) 40 (ρ 60 43) tk) 60 43 (ρ 60 43 + 1)) 60 42 (ρ 60 42 + 1) 38 = up1 (ρ 38) (ρ 60 43) (6 * l + i) := rfl
      have e39 : up2 (up2 (up2 (up2 (up2 ρ 38 (ρ 60 43) (6 * l + i)) 39 (ρ 60 43) n) 40 (ρ 60 43) tk) 60 43 (ρ 60 43 + 1)) 60 42 (ρ 60 42 + 1) 39 = up1 (ρ 39) (ρ 60 43) n := rfl
      have e40 : up2 (up2 (up2 (up2 (up2 ρ 38 (ρ 60 43) (6 * l + i)) 39 (ρ 60 43) n) 40 (ρ 60 43) tk) 60 43 (ρ 60 43 + 1)) 60 42 (ρ 60 42 + 1) 40 = up1 (ρ 40) (ρ 60 43) tk := rfl
      rw [e38, e39, e40, hq, up1_s, up1_s, up1_s]
      refine ⟨hfi.1, hcx, ?_, hfi.2.2.1, hfi.2.2.2⟩
      rw [hfi.2.1, gc (100 + (6 * l + i).toNat) (by omega) (by have := hcx.1; have := hcx.2.1; omega)]
      rfl
    · have z := (d4 u (by omega)).tr (hg _ (by omega) (by omega) (by omega) (by omega) (by omega)) gc
      unfold lFi at z ⊢
      have e38 : up2 (up2 (up2 (up2 (up2 ρ 38 (ρ 60 43) (6 * l + i)) 39 (ρ 60 43) n) 40 (ρ 60 43) tk) 60 43 (ρ 60 43 + 1)) 60 42 (ρ 60 42 + 1) 38 = up1 (ρ 38) (ρ 60 43) (6 * l + i) := rfl
      have e39 : up2 (up2 (up2 (up2 (up2 ρ 38 (ρ 60 43) (6 * l + i)) 39 (ρ 60 43) n) 40 (ρ 60 43) tk) 60 43 (ρ 60 43 + 1)) 60 42 (ρ 60 42 + 1) 39 = up1 (ρ 39) (ρ 60 43) n := rfl
      have e40 : up2 (up2 (up2 (up2 (up2 ρ 38 (ρ 60 43) (6 * l + i)) 39 (ρ 60 43) n) 40 (ρ 60 43) tk) 60 43 (ρ 60 43 + 1)) 60 42 (ρ 60 42 + 1) 40 = up1 (ρ 40) (ρ 60 43) tk := rfl
      rw [e38, e39, e40, up1_n _ _ (by omega), up1_n _ _ (by omega), up1_n _ _ (by omega)]
      exact z
  · have b := ha 65 (by decide) (by decide) (by omega) (by decide)
    exact d5.tr (hg 30 (by decide) (by decide) (by omega) (by decide) (by decide)) b.1 b.2.1 b.2.2.1 a0.2.1 (fun i i0 i1 => (hg _ (by omega) (by omega) (by omega) (by omega) (by omega)).2.1)
  · have hu : (u : Int) < ρ 60 48 := hu
    refine (d6 u hu).tr (hg _ (by omega) (by omega) (by omega) (by omega) (by omega)) ?_ gc
    by_cases q0 : u = 0
    · exact Or.inl q0
    · exact Or.inr (d7 _ (by omega) (by omega))
  · have ht : (1000 ≤ t ∧ t < 2000 ∧ 1000 + 4 * ρ 60 41 ≤ (t : Int)) ∨ (2000 ≤ t ∧ t < 3000 ∧ 2000 + (ρ 60 43 + 1) ≤ (t : Int)) ∨ (3000 ≤ t ∧ t < 4000 ∧ 3000 + ρ 60 48 ≤ (t : Int)) ∨ 10000 ≤ t := ht
    rw [(ha t (by omega) (by omega) (by omega) (by omega)).1]
    exact d8 t (by omega)
/-- a memory by other tags -/
def rtG (π : Nat → Nat) (G : y_G) : y_G := (fun t => G.1 (π t), fun t => G.2.1 (π t), fun t => G.2.2 (π t))
def rtS (π : Nat → Nat) (σ : y_S) : y_S := fun t => σ (π t)
theorem rt_ag {π : Nat → Nat} {G : y_G} {σ : y_S} {t : Nat} (h : π t = t) : gAg G σ (rtG π G) (rtS π σ) t := ⟨by show G.1 (π t) = _; rw [h], by show G.2.2 (π t) = _; rw [h], by show G.2.1 (π t) = _; rw [h], by show σ (π t) = _; rw [h]⟩
theorem gM.rt {E : y_E} {A : Nat → Prop} {G : y_G} {σ : y_S} {H0 H : Heap} {locs : List Loc} (h : gM E A G σ H0 H locs) {π : Nat → Nat} (hi : ∀ t u, π t = π u → t = u) (h0 : π 0 = 0) : gM E A (rtG π G) (rtS π σ) H0 H locs := h.tag hi h0
theorem lgR_ent {E : y_E} {ρ τ : y_S} {G : y_G} (h : lgR E ρ G τ) {v : Int} (hk : mOk (up2 ρ 60 42 v)) : lgR E (up2 ρ 60 42 v) G (up2 τ 60 29 v) := by
  obtain ⟨o, h2, h3, h4, h5, h6⟩ := h
  have hn := o.n.2
  have hX : lgX ρ (up2 τ 60 29 v) := h4.s hn (by decide)
  have hD : lgD ρ G (up2 τ 60 29 v) := h5.s o
  obtain ⟨m1, m2, m3, m4, m5⟩ := h3
  exact ⟨hk, h2, ⟨m1, m2, rfl, m4, fun l i hc => by rw [up2_n _ _ _ (cT_ne (by decide))]; exact m5 l i hc⟩, hX, hD, h6⟩
theorem ok_ent1 {ρ : y_S} (h : mOk ρ) (h1 : ρ 60 42 ≠ 60) : mOk (up2 ρ 60 42 (ρ 60 42 + 1)) := by
  have hf := h.fe
  obtain ⟨a1, a2, a3, a4, a5, a6, a7, a8⟩ := h.2.1
  exact ok_60 h (k := 42) (v := ρ 60 42 + 1) (by decide) ⟨a1, a2, a3, a4, a5, a6, ⟨show 0 ≤ ρ 60 43 by omega, show ρ 60 43 ≤ ρ 60 42 + 1 by omega, show ρ 60 42 + 1 ≤ 60 by omega⟩, a8⟩
theorem lgR_found2 {E : y_E} {ρ σ τ2 : y_S} {G G2 : y_G} {a : Nat} (h : lgR E ρ G σ) {l i n tk : Int} (hc : mCell (ρ 60 0) l i) (hk : mOk (up2 (up2 (up2 (up2 (up2 ρ 38 (ρ 60 43) (6 * l + i)) 39 (ρ 60 43) n) 40 (ρ 60 43) tk) 60 43 (ρ 60 43 + 1)) 60 42 (ρ 60 42 + 1)))
    (hp : lAd 28 64 99 (ρ 60 43) (fun i => upT G.2.2 90 a (2000 + i.toNat)) a (upT G.1 90 (some (.inl 14)), up2 (upT G.2.1 90 (fun _ => none)) 90 0 (some (G.2.2 (cT l i))), upT G.2.2 90 a) (up2 (up2 (upT (up2 σ 60 29 (ρ 60 42 + 1)) 90 (fun _ => 0)) 90 1 n) 90 2 tk) G2 τ2) :
    lgR E (up2 (up2 (up2 (up2 (up2 ρ 38 (ρ 60 43) (6 * l + i)) 39 (ρ 60 43) n) 40 (ρ 60 43) tk) 60 43 (ρ 60 43 + 1)) 60 42 (ρ 60 42 + 1)) (rtG (sw 90 (2000 + (ρ 60 43).toNat)) G2) (rtS (sw 90 (2000 + (ρ 60 43).toNat)) τ2) := by
  have hf := h.1.fe
  obtain ⟨q, hq⟩ : ∃ q : Nat, (q : Int) = ρ 60 43 := ⟨(ρ 60 43).toNat, by omega⟩
  have hqn : (ρ 60 43).toNat = q := by omega
  rw [hqn]
  have r6 : ∀ (k : Int), k ≠ 29 → up2 (up2 (upT (up2 σ 60 29 (ρ 60 42 + 1)) 90 (fun _ => 0)) 90 1 n) 90 2 tk 60 k = σ 60 k := fun k z => by rw [up2_n _ _ _ (by decide), up2_n _ _ _ (by decide), upT_n _ _ (by decide), up2_s, up1_n _ _ z]
  obtain ⟨p1, p2, p3⟩ := hp
  have sn : ∀ t : Nat, t ≠ 90 → t ≠ 2000 + q → sw 90 (2000 + q) t = t := fun t a b => sw_n a b
  refine lgR_found h hc hk hq (fun t t28 t64 tq t9 => ?_) ?_ (fun k z => ?_) ?_ ?_ ?_
  · have e := sn t (by omega) tq
    have b := p2 t t64 (by omega)
    refine ⟨?_, ?_, ?_, fun t60 => ?_⟩
    · show G2.1 (sw 90 (2000 + q) t) = _
      rw [e, p1 t t64]
      exact upT_n _ _ (by omega)
    · show G2.2.2 (sw 90 (2000 + q) t) = _
      rw [e, b.1]
      exact upT_n _ _ (by omega)
    · funext k
      show G2.2.1 (sw 90 (2000 + q) t) k = _
      rw [e, b.2.1 k (by omega)]
      show up2 (upT G.2.1 90 _) 90 0 _ t k = _
      rw [up2_n _ _ _ (by omega), upT_n _ _ (by omega)]
    · show τ2 (sw 90 (2000 + q) t) = _
      rw [e, b.2.2 t28, up2_n _ _ _ (by omega), up2_n _ _ _ (by omega), upT_n _ _ (by omega), up2_n _ _ _ t60]
  · have e := sn 28 (by decide) (by omega)
    refine ⟨?_, ?_⟩
    · show G2.1 (sw 90 (2000 + q) 28) = _
      rw [e, p1 28 (by decide)]
      rfl
    · show G2.2.2 (sw 90 (2000 + q) 28) = _
      rw [e, (p2 28 (by decide) (by decide)).1]
      rfl
  · show τ2 (sw 90 (2000 + q) 60) k = _
    rw [sn 60 (by decide) (by omega), (p2 60 (by decide) (by decide)).2.2 (by decide)]
    exact r6 k z
  · show τ2 (sw 90 (2000 + q) 60) 29 = _
    rw [sn 60 (by decide) (by omega), (p2 60 (by decide) (by decide)).2.2 (by decide)]
    rfl
  · have b := p2 90 (by decide) (by decide)
    refine ⟨?_, ?_, ?_, ?_⟩
    · show G2.1 (sw 90 (2000 + q) (2000 + q)) = _
      rw [sw_b, p1 90 (by decide)]
      rfl
    · show G2.2.1 (sw 90 (2000 + q) (2000 + q)) 0 = _
      rw [sw_b, b.2.1 0 (by decide)]
      rfl
    · show τ2 (sw 90 (2000 + q) (2000 + q)) 1 = _
      rw [sw_b, b.2.2 (by decide)]
      rfl
    · show τ2 (sw 90 (2000 + q) (2000 + q)) 2 = _
      rw [sw_b, b.2.2 (by decide)]
      rfl
  · have e28 := rt_ag (G := G2) (σ := τ2) (sn 28 (by decide) (by omega))
    have e64 := rt_ag (G := G2) (σ := τ2) (sn 64 (by decide) (by omega))
    have e0 := rt_ag (G := G2) (σ := τ2) (sn 0 (by decide) (by omega))
    refine p3.tr e28 e64.1 e64.2.1 e64.2.2.1 e0.2.1 (fun i i0 i1 => ?_)
    show G2.2.2 (sw 90 (2000 + q) (2000 + i.toNat)) = if i = ρ 60 43 then a else upT G.2.2 90 a (2000 + i.toNat)
    by_cases e : i = ρ 60 43
    · rw [if_pos e, show 2000 + i.toNat = 2000 + q by omega, sw_b, (p2 90 (by decide) (by decide)).1]
      rfl
    · rw [if_neg e, sn _ (by omega) (by omega), (p2 _ (by omega) (by omega)).1]
