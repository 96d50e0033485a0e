/-! HYPOTHESES: what comes, who is held, the best probe (the class's side) -/
theorem mHe_cg {a b : y_S} (e0 : a 60 0 = b 60 0) (e4 : a 4 = b 4) (hn : b 60 0 ≤ 6) (e8 : ∀ k : Int, lCk (b 60 0) k → a 8 k = b 8 k) (l i : Int) : mHe a l i = mHe b l i := by
  unfold mHe
  rw [e0]
  by_cases h : mCell (b 60 0) l i
  · rw [if_pos h, if_pos h]
    have e : mTo a (6 * l + i) = mTo b (6 * l + i) := by unfold mTo; rw [e4, e8 _ (lCk_c hn h)]
    rw [e]
  · rw [if_neg h, if_neg h]
theorem mTf_cg {a b : y_S} (e0 : a 60 0 = b 60 0) (e7 : a 60 7 = b 60 7) (e4 : a 4 = b 4) (hn : b 60 0 ≤ 6) (e8 : ∀ k : Int, lCk (b 60 0) k → a 8 k = b 8 k ∧ a 9 k = b 9 k) {l i : Int} (hc : mCell (b 60 0) l i) : mTf a 1 l i = mTf b 1 l i := by
  have q := e8 _ (lCk_c hn hc)
  unfold mTf
  rw [if_neg (by decide), if_neg (by decide)]
  unfold mTt
  rw [e4, e7, q.1, q.2, mHe_cg e0 e4 hn (fun k hk => (e8 k hk).1), mHe_cg e0 e4 hn (fun k hk => (e8 k hk).1)]
/-- what a hypothesis asks of the memory -/
def cmE (a b : y_S) : Prop := (a 60 0 = b 60 0 ∧ a 60 7 = b 60 7 ∧ a 60 41 = b 60 41 ∧ a 60 43 = b 60 43) ∧ a 1 = b 1 ∧ a 2 = b 2 ∧ a 3 = b 3 ∧ a 4 = b 4 ∧ a 38 = b 38 ∧ a 39 = b 39 ∧ a 40 = b 40 ∧ a 44 = b 44
theorem cmE.of {a b : y_S} (h : mSame [8, 9, 10, 46, 51] b a) : cmE a b := by
  unfold cmE
  rw [h 60 (by decide), h 1 (by decide), h 2 (by decide), h 3 (by decide), h 4 (by decide), h 38 (by decide), h 39 (by decide), h 40 (by decide), h 44 (by decide)]
  exact ⟨⟨rfl, rfl, rfl, rfl⟩, rfl, rfl, rfl, rfl, rfl, rfl, rfl, rfl⟩
theorem mKn_cg {a b : y_S} (h : cmE a b) (k t : Int) : mKn a k t = mKn b k t := by
  obtain ⟨⟨e0, e7, e41, e43⟩, -, -, -, -, e38, e39, e40, -⟩ := h
  unfold mKn
  rw [e43, e38, e39, e40]
theorem mCm1_9 {ρ : y_S} {x k : Int} (h0 : 0 ≤ k) (h1 : k < 72) (h2 : 0 < x → 0 ≤ ρ 44 ((x - 1) / 4) ∧ ρ 44 ((x - 1) / 4) < 72) : mCm1 ρ x 9 k = mKn ρ k (ρ 60 41) + if 0 < x ∧ k = ρ 44 ((x - 1) / 4) then moF ((x - 1) % 4) else 0 := by
  unfold mCm1
  by_cases hx : x ≤ 0
  · rw [if_pos hx, if_neg (by omega), mCm0_9 h0 h1, Int.add_zero]
  · have h3 := h2 (by omega)
    rw [if_neg hx, up2_s]
    by_cases hk : k = ρ 44 ((x - 1) / 4)
    · rw [if_pos ⟨by omega, hk⟩, ← hk, up1_s, mCm0_9 h0 h1]
    · rw [if_neg (fun q => hk q.2), up1_n _ _ hk, mCm0_9 h0 h1, Int.add_zero]
theorem mCom_cg {a b : y_S} (hn : mN b) (h : cmE a b) {x j : Int} (h2 : 0 < x → 0 ≤ b 44 ((x - 1) / 4) ∧ b 44 ((x - 1) / 4) < 72) : ∀ i : Int, 0 ≤ i → i < b 60 0 → mCom a x j 10 i = mCom b x j 10 i := by
  have hk := h
  obtain ⟨⟨e0, e7, e41, e43⟩, e1, e2, e3, e4, e38, e39, e40, e44⟩ := h
  have r : ∀ (c : y_S) (t : Nat), t ≠ 8 → t ≠ 9 → t ≠ 10 → mEnt (mCm1 c x) j t = c t := fun c t q8 q9 q10 => by
    unfold mEnt
    rw [upT_n _ _ q10, mCm1_t x q8 q9]
  have s : ∀ c : y_S, mEnt (mCm1 c x) j 8 = mCm0 c 8 := fun c => by unfold mEnt; rw [upT_n _ _ (by decide), mCm1_8]
  have t9 : ∀ c : y_S, mEnt (mCm1 c x) j 9 = mCm1 c x 9 := fun c => by unfold mEnt; rw [upT_n _ _ (by decide)]
  have e10 : ∀ c : y_S, mEnt (mCm1 c x) j 10 = fillN (c 10) (eNT j) (c 60 0) := fun c => by
    unfold mEnt
    rw [upT_s, mCm1_t x (by decide) (by decide), mCm1_t x (by decide) (by decide)]
  intro i a0 b0
  show goR (mEnt (mCm1 a x) j 60 0) (mEnt (mCm1 a x) j 1) (mEnt (mCm1 a x) j 2) (mTf (mEnt (mCm1 a x) j) 1) (mEnt (mCm1 a x) j 10) i = goR (mEnt (mCm1 b x) j 60 0) (mEnt (mCm1 b x) j 1) (mEnt (mCm1 b x) j 2) (mTf (mEnt (mCm1 b x) j) 1) (mEnt (mCm1 b x) j 10) i
  rw [r a 60 (by decide) (by decide) (by decide), r b 60 (by decide) (by decide) (by decide), r a 1 (by decide) (by decide) (by decide), r b 1 (by decide) (by decide) (by decide), r a 2 (by decide) (by decide) (by decide), r b 2 (by decide) (by decide) (by decide), e0, e1, e2, e10, e10, e0]
  refine goR_cg hn.1 hn.2 (fun l i hc => ?_) (fun q c d => by rw [fillN_in c d, fillN_in c d]) i a0 b0
  have eb : mEnt (mCm1 b x) j 60 0 = b 60 0 := by rw [r b 60 (by decide) (by decide) (by decide)]
  refine mTf_cg (by rw [eb, r a 60 (by decide) (by decide) (by decide), e0]) (by rw [r b 60 (by decide) (by decide) (by decide), r a 60 (by decide) (by decide) (by decide), e7]) (by rw [r a 4 (by decide) (by decide) (by decide), r b 4 (by decide) (by decide) (by decide), e4]) (by rw [eb]; exact hn.2) (fun k hk2 => ?_) (by rw [eb]; exact hc)
  rw [s, s, t9, t9, mCm0_8 hk2.1 hk2.2.1, mCm0_8 hk2.1 hk2.2.1, mCm1_9 hk2.1 hk2.2.1 h2, mCm1_9 hk2.1 hk2.2.1 (by rw [e44]; exact h2), e3, e44, e41, mKn_cg hk]
  exact ⟨rfl, rfl⟩
theorem lHy_44 {E : y_E} {ρ τ : y_S} {G : y_G} (h : lgR E ρ G τ) {q : Nat} (hq : (q : Int) < ρ 60 48) (h0 : 0 < (q : Int)) : lCk (ρ 60 0) (ρ 44 (((q : Int) - 1) / 4)) := by
  have hh := h.1.hy
  exact h.2.2.2.2.1.2.2.1.2.2 _ (by omega) (by omega)
theorem lk7_cm {E : y_E} {A : Nat → Prop} {ρ τ σ τ' : y_S} {G G' : y_G} {H0 H : Heap} {locs : List Loc} (h : lgR E ρ G τ) (hM : gM E A G σ H0 H locs) {q : Nat} {j : Int} (hq : (q : Int) < ρ 60 48) (hg : G'.2.1 7 3 = G.2.1 (3000 + q) 0) (ha : G'.2.2 = G.2.2) (hv : τ' 7 4 = τ (3000 + q) 1) : lkK 7 ρ G' τ' (mEnt (mCm1 ρ (q : Int)) j) := by
  have hn := h.1.n.2
  have hy := h.2.2.2.2.1.2.2.1.2.1 q hq
  have t9 : mEnt (mCm1 ρ (q : Int)) j 9 = mCm1 ρ (q : Int) 9 := by unfold mEnt; rw [upT_n _ _ (by decide)]
  have t8 : mEnt (mCm1 ρ (q : Int)) j 8 = mCm0 ρ 8 := by unfold mEnt; rw [upT_n _ _ (by decide), mCm1_8]
  refine ⟨?_, fun k hk => ?_⟩
  · rw [hv, hy.2.2.1]
    split
    · omega
    · exact moF_r (by omega) (by omega)
  · rw [t8, t9, mCm0_8 hk.1 hk.2.1, mCm1_9 hk.1 hk.2.1 (fun z => by have := lHy_44 h hq z; exact ⟨this.1, this.2.1⟩), hg, ha, hv, hy.2.2.1, hy.2.1]
    refine ⟨rfl, ?_⟩
    congr 1
    by_cases hz : q = 0
    · rw [if_pos hz, if_pos hz, if_neg (by omega), if_neg (fun z => by cases z)]
    · rw [if_neg hz, if_neg hz]
      have hc := lHy_44 h hq (by omega)
      have e := lg_ceq h.2.1 hM hn hk hc.2.2
      have e2 : cT (ρ 44 (((q : Int) - 1) / 4) / 6) (ρ 44 (((q : Int) - 1) / 4) % 6) = 100 + (ρ 44 (((q : Int) - 1) / 4)).toNat := by
        have := hc.1
        unfold cT
        omega
      rw [e2, show 6 * (ρ 44 (((q : Int) - 1) / 4) / 6) + ρ 44 (((q : Int) - 1) / 4) % 6 = ρ 44 (((q : Int) - 1) / 4) by omega] at e
      by_cases hk2 : k = ρ 44 (((q : Int) - 1) / 4)
      · rw [if_pos ⟨by omega, hk2⟩, if_pos (e.mp hk2)]
      · rw [if_neg (fun z => hk2 z.2), if_neg (fun z => hk2 (e.mpr z))]
theorem cm_same (ρ : y_S) (x j : Int) : mSame [8, 9, 10] ρ (mEnt (mCm1 ρ x) j) := fun t ht => by
  have q8 : t ≠ 8 := fun q => ht (by rw [q]; decide)
  have q9 : t ≠ 9 := fun q => ht (by rw [q]; decide)
  have q10 : t ≠ 10 := fun q => ht (by rw [q]; decide)
  unfold mEnt
  rw [upT_n _ _ q10, mCm1_t x q8 q9]
theorem cm_by {ρ : y_S} (h : mOk ρ) {x j : Int} (h0 : 0 ≤ x) (h1 : x < ρ 60 48) : mBy (mEnt (mCm1 ρ x) j) := by
  have := mBy_cm1 h.cm h0 h1
  intro k a b
  have := this k a b
  unfold mEnt
  rw [upT_n _ _ (by decide), upT_n _ _ (by decide)]
  exact this
theorem cm_lanes {ρ : y_S} (hn : mN ρ) (x j : Int) {f : Int → Int} : ∀ i : Int, 0 ≤ i → i < ρ 60 0 → goR (ρ 60 0) (ρ 1) (ρ 2) (mTf (mEnt (mCm1 ρ x) j) 1) (fillN f (eNT j) (ρ 60 0)) i = mCom ρ x j 10 i :=
  lSend hn (by rw [mCm1_t x (by decide) (by decide)]) (mCm1_t x (by decide) (by decide)) (mCm1_t x (by decide) (by decide))
/-- one hypothesis is held, or no more -/
theorem lgR_held {E : y_E} {ρ τ : y_S} {G : y_G} (h : lgR E ρ G τ) {q : Nat} {v : Int} (hq : (q : Int) < ρ 60 48) (h0 : 0 ≤ v) (h1 : v ≤ 1) : lgR E (up2 ρ 46 (q : Int) v) G (up2 τ (3000 + q) 2 v) := by
  obtain ⟨o, h2, h3, h4, h5, h6⟩ := h
  have hn := o.n.2
  have hr := o.rn
  have hf := o.fe
  have hh := o.h48
  have e : ∀ t : Nat, t ≠ 3000 + q → up2 τ (3000 + q) 2 v t = τ t := fun t a => up2_n _ _ _ a
  have hM : lgM ρ (up2 τ (3000 + q) 2 v) := h3.fr hn lgE.rf (fun t ht => e t (by omega)) (fun k _ => by rw [e 60 (by omega)])
  have hX : lgX ρ (up2 τ (3000 + q) 2 v) := h4.fr hn lgE.rf (fun t ht => e t (by omega)) (fun k _ => by rw [e 60 (by omega)])
  have hk : mOk (up2 ρ 46 (q : Int) v) := ok_u2 o (t := 46) rfl (by decide) (by decide) h0 h1
  obtain ⟨⟨d1, d2⟩, ⟨d3, d4⟩, ⟨d5, d6, d7⟩, d8⟩ := h5
  have hD : lgD (up2 ρ 46 (q : Int) v) G (up2 τ (3000 + q) 2 v) := by
    refine ⟨⟨?_, fun u hu => ?_⟩, ⟨?_, fun u hu => ?_⟩, ⟨?_, fun u hu => ?_, d7⟩, d8⟩
    · show lLs 27 63 (ρ 60 41) _ _ _
      unfold lLs at d1 ⊢
      rw [e 27 (by omega)]; exact d1
    · have hu : (u : Int) < ρ 60 41 := hu
      have z := d2 u hu
      show lRu ρ G _ u
      unfold lRu at z ⊢
      rw [e (1000 + 4 * u) (by omega), e (1001 + 4 * u) (by omega), e (1002 + 4 * u) (by omega), e (1003 + 4 * u) (by omega)]; exact z
    · show lLs 28 64 (ρ 60 43) _ _ _
      unfold lLs at d3 ⊢
      rw [e 28 (by omega)]; exact d3
    · have hu : (u : Int) < ρ 60 43 := hu
      have z := d4 u hu
      show lFi ρ G _ u
      unfold lFi at z ⊢
      rw [e (2000 + u) (by omega)]; exact z
    · show lLs 30 65 (ρ 60 48) _ _ _
      unfold lLs at d5 ⊢
      rw [e 30 (by omega)]; exact d5
    · have hu : (u : Int) < ρ 60 48 := hu
      have z := d6 u hu
      unfold lHy at z ⊢
      by_cases hz : u = q
      · subst hz
        refine ⟨z.1, z.2.1, ?_, ?_⟩
        · rw [up2_s, up1_n _ _ (by decide)]; exact z.2.2.1
        · rw [up2_ss, up2_ss]
      · rw [e (3000 + u) (by omega)]
        refine ⟨z.1, z.2.1, z.2.2.1, ?_⟩
        rw [up2_s, up1_n _ _ (by omega)]; exact z.2.2.2
  exact ⟨hk, h2, hM, hX, hD, h6⟩
theorem up2_self (σ : y_S) {t : Nat} {i v : Int} (h : σ t i = v) : up2 σ t i v = σ := by
  funext u k
  by_cases e : u = t
  · subst e
    rw [up2_s]
    by_cases e2 : k = i
    · subst e2; rw [up1_s]; exact h.symm
    · rw [up1_n _ _ e2]
  · rw [up2_n _ _ _ e]
theorem lgR_probes {E : y_E} {ρ τ : y_S} {G : y_G} (h : lgR E ρ G τ) {v : Int} (hk : mOk (up2 ρ 60 49 v)) : lgR E (up2 ρ 60 49 v) G (up2 τ 60 31 v) := by
  obtain ⟨o, h2, h3, h4, h5, h6⟩ := h
  have hn := o.n.2
  have hM : lgM ρ (up2 τ 60 31 v) := h3.s hn (by decide)
  have hD : lgD ρ G (up2 τ 60 31 v) := h5.s o
  have hX : lgX (up2 ρ 60 49 v) (up2 τ 60 31 v) := by
    have x1 := lgX_1 (τ' := up2 τ 60 31 v) h4 (fun c hc => up2_n _ _ _ (by omega)) hn
    obtain ⟨-, x2, x3, x4, x5, x6, x7⟩ := h4
    exact ⟨x1, x2, x3, x4, x5, x6, rfl⟩
  exact ⟨hk, h2, hM, hX, hD, h6⟩
theorem hlF_neg {f : Int → Int} {i N : Int} (hi : i < -1) : ∀ (q : Nat) (h n : Int), 0 ≤ n → hlF f i N q h n = -1
  | 0, _, _, _ => by rw [hlF, if_neg (by omega)]
  | q + 1, h, n, hn => by
    rw [hlF]
    split
    · split
      · exact hlF_neg hi q _ _ hn
      · rw [if_neg (by omega)]; exact hlF_neg hi q _ _ (by omega)
    · rw [if_neg (by omega)]
/-- how many of the first held ones come out as v -/
def cB (ρ : y_S) (j i : Int) : Nat → Int → Int
  | 0, _ => 0
  | h + 1, v => cB ρ j i h v + (if ρ 46 (h : Int) ≠ 0 ∧ mCom ρ (h : Int) j 10 i = v then 1 else 0)
theorem cB_r (ρ : y_S) (j i : Int) : ∀ (h : Nat) (v : Int), 0 ≤ cB ρ j i h v ∧ cB ρ j i h v ≤ (h : Int)
  | 0, _ => ⟨Int.le_refl _, Int.le_refl _⟩
  | h + 1, v => by
    have := cB_r ρ j i h v
    rw [cB]
    split <;> omega
theorem cB_0 {ρ : y_S} {j i : Int} {h : Nat} {v : Int} (e : ¬ (ρ 46 (h : Int) ≠ 0 ∧ mCom ρ (h : Int) j 10 i = v)) : cB ρ j i (h + 1) v = cB ρ j i h v := by rw [cB, if_neg e, Int.add_zero]
theorem cB_1 {ρ : y_S} {j i : Int} {h : Nat} {v : Int} (e : ρ 46 (h : Int) ≠ 0) (e2 : mCom ρ (h : Int) j 10 i = v) : cB ρ j i (h + 1) v = cB ρ j i h v + 1 := by rw [cB, if_pos ⟨e, e2⟩]
/-- the most of the first V places -/
def isMx (f : Int → Int) (V m : Int) : Prop := 0 ≤ m ∧ (∀ v : Int, 0 ≤ v → v < V → f v ≤ m) ∧ (m = 0 ∨ ∃ v : Int, 0 ≤ v ∧ v < V ∧ f v = m)
theorem isMx_u {f : Int → Int} {V m m' : Int} (h : isMx f V m) (h' : isMx f V m') : m = m' := by
  obtain ⟨a, b, c⟩ := h
  obtain ⟨a', b', c'⟩ := h'
  have x : m ≤ m' := by
    rcases c with c | ⟨v, v0, v1, e⟩
    · omega
    · have := b' v v0 v1; omega
  have y : m' ≤ m := by
    rcases c' with c | ⟨v, v0, v1, e⟩
    · omega
    · have := b v v0 v1; omega
  omega
theorem isMx_s {f : Int → Int} {V m m' : Int} (h : isMx f V m) (hV : 0 ≤ V) (e : m' = if m < f V then f V else m) : isMx f (V + 1) m' := by
  obtain ⟨a, b, c⟩ := h
  have hm : m ≤ m' ∧ f V ≤ m' := by rw [e]; split <;> omega
  refine ⟨by omega, fun v v0 v1 => ?_, ?_⟩
  · by_cases q : v = V
    · subst q; exact hm.2
    · have := b v v0 (by omega); omega
  · rw [e]
    split
    · exact Or.inr ⟨V, hV, by omega, rfl⟩
    · rcases c with c | ⟨v, v0, v1, e⟩
      · exact Or.inl c
      · exact Or.inr ⟨v, v0, by omega, e⟩
/-- the reference's count of one lane -/
theorem nxH_mx {ρ : y_S} (hO : mOk ρ) {j i : Int} (hi0 : 0 ≤ i) (hi1 : i < ρ 60 0) : ∀ (f h : Nat) (mo : Int) (σ : y_S), ρ 60 48 ≤ (f : Int) + (h : Int) → (h : Int) ≤ ρ 60 48 → mSame [8, 9, 10, 51] ρ σ → (∀ v : Int, 0 ≤ v → v < 97 → σ 51 v = cB ρ j i h v) → isMx (σ 51) 97 mo → isMx (cB ρ j i (ρ 60 48).toNat) 97 (nxH j i f (h : Int) mo σ).1 ∧ mSame [8, 9, 10, 51] ρ (nxH j i f (h : Int) mo σ).2
  | 0, h, mo, σ, hf, hh, hs, hc, hm => by
    have e : (ρ 60 48).toNat = h := by omega
    rw [e]
    refine ⟨⟨hm.1, fun v a b => by rw [← hc v a b]; exact hm.2.1 v a b, ?_⟩, hs⟩
    rcases hm.2.2 with q | ⟨v, a, b, q⟩
    · exact Or.inl q
    · exact Or.inr ⟨v, a, b, by rw [← hc v a b]; exact q⟩
  | f + 1, h, mo, σ, hf, hh, hs, hc, hm => by
    have e6 : σ 60 = ρ 60 := hs 60 (by decide)
    have e46 : σ 46 = ρ 46 := hs 46 (by decide)
    by_cases h1 : (h : Int) < ρ 60 48
    · by_cases h2 : ρ 46 (h : Int) = 0
      · rw [nxH_0 (by rw [e6]; exact h1) (by rw [e46]; exact h2)]
        have := nxH_mx hO hi0 hi1 f (h + 1) mo σ (by omega) (by omega) hs (fun v a b => by rw [hc v a b, cB_0 (fun q => q.1 h2)]) hm
        exact this
      · have hcm : mCom σ (h : Int) j 10 i = mCom ρ (h : Int) j 10 i := mCom_cg hO.n (cmE.of (fun t ht => hs t (fun q => ht (by simp only [List.mem_cons, List.not_mem_nil, or_false] at q ⊢; omega)))) (fun z => by have a := hO.cm.2.2.2.2.2.2.2.1 (((h : Int) - 1) / 4) (by omega) (by have := hO.hy; omega); omega) i hi0 hi1
        have hcr := mCom_r (σ := ρ) (h : Int) j hi0 hi1
        have e51 : mCom σ (h : Int) j 51 = σ 51 := mCom_t _ _ (by decide) (by decide) (by decide)
        rw [nxH_1 (by rw [e6]; exact h1) (by rw [e46]; exact h2), hcm, e51]
        generalize hw : mCom ρ (h : Int) j 10 i = w at hcr
        have hcw := hc w hcr.1 (by omega)
        have hsame : mSame [8, 9, 10, 51] ρ (up2 (mCom σ (h : Int) j) 51 w (σ 51 w + 1)) := (mSame.com hs (by decide) (by decide) (by decide) (h : Int) j).u2 (by decide)
        refine nxH_mx hO hi0 hi1 f (h + 1) _ _ (by omega) (by omega) hsame (fun v a b => ?_) ?_
        · rw [up2_s, e51]
          by_cases q : v = w
          · subst q
            rw [up1_s, cB_1 h2 hw, hcw]
          · rw [up1_n _ _ q, cB_0 (fun z => q (z.2.symm.trans hw)), hc v a b]
        · rw [up2_s, e51]
          refine ⟨?_, fun v a b => ?_, ?_⟩
          · have := hm.1; split <;> omega
          · by_cases q : v = w
            · subst q; rw [up1_s]; split <;> omega
            · rw [up1_n _ _ q]
              have := hm.2.1 v a b
              split <;> omega
          · split
            · exact Or.inr ⟨w, hcr.1, by omega, up1_s _ _ _⟩
            · rename_i q
              rcases hm.2.2 with z | ⟨v, a, b, z⟩
              · exact Or.inl z
              · refine Or.inr ⟨v, a, b, ?_⟩
                by_cases q2 : v = w
                · subst q2; omega
                · rw [up1_n _ _ q2]; exact z
    · rw [nxH_e (by rw [e6]; exact h1)]
      exact nxH_mx hO hi0 hi1 0 h mo σ (by omega) hh hs hc hm
theorem nx0_mf {ρ σ : y_S} (hO : mOk ρ) (hs : mSame [8, 9, 10, 51] ρ σ) {j i : Int} (hi0 : 0 ≤ i) (hi1 : i < ρ 60 0) (f : Nat) (hf : 289 ≤ f) {z : Int} (hz : z = ((0 : Nat) : Int)) : ∃ (mo : Int) (τ : y_S), nxH j i f z 0 (nx0 σ) = (mo, τ) ∧ isMx (cB ρ j i (ρ 60 48).toNat) 97 mo ∧ mSame [8, 9, 10, 51] ρ τ := by
  have hh := hO.h48
  have e51 : ∀ v : Int, 0 ≤ v → v < 97 → nx0 σ 51 v = 0 := fun v a b => by unfold nx0; rw [upT_s, fillN_in a b]
  have := nxH_mx hO (j := j) hi0 hi1 f 0 0 (nx0 σ) (by omega) (by omega) (hs.uT (by decide)) (fun v a b => by rw [e51 v a b]; rfl) ⟨Int.le_refl _, fun v a b => by rw [e51 v a b]; exact Int.le_refl _, Or.inl rfl⟩
  rw [← hz] at this
  generalize nxH j i f z 0 (nx0 σ) = X at this ⊢
  exact ⟨X.1, X.2, rfl, this.1, this.2⟩
theorem nx0_mx {ρ σ : y_S} (hO : mOk ρ) (hs : mSame [8, 9, 10, 51] ρ σ) {j i : Int} (hi0 : 0 ≤ i) (hi1 : i < ρ 60 0) : ∃ (mo : Int) (τ : y_S), nxH j i 289 0 0 (nx0 σ) = (mo, τ) ∧ isMx (cB ρ j i (ρ 60 48).toNat) 97 mo ∧ mSame [8, 9, 10, 51] ρ τ := nx0_mf hO hs hi0 hi1 289 (Nat.le_refl _) rfl
theorem mSeen_cg {a b : y_S} (hn : mN b) (e0 : a 60 0 = b 60 0) (e7 : a 60 7 = b 60 7) (e1 : a 1 = b 1) (e2 : a 2 = b 2) (e3 : a 3 = b 3) (e4 : a 4 = b 4) (e6 : a 6 = b 6) {j : Int} : ∀ i : Int, 0 ≤ i → i < b 60 0 → mSeen a j 10 i = mSeen b j 10 i := by
  have r : ∀ (c : y_S) (t : Nat), t ≠ 8 → t ≠ 9 → t ≠ 10 → mEnt (mNow c) j t = c t := fun c t q8 q9 q10 => by
    unfold mEnt mNow
    rw [upT_n _ _ q10, upT_n _ _ q9, upT_n _ _ q8]
  have s : ∀ (c : y_S) (k : Int), 0 ≤ k → k < 72 → mEnt (mNow c) j 8 k = c 3 k ∧ mEnt (mNow c) j 9 k = c 6 k := fun c k h0 h1 => ⟨fillN_in (f := c 8) (g := c 3) h0 h1, fillN_in (f := c 9) (g := c 6) h0 h1⟩
  have e10 : ∀ c : y_S, mEnt (mNow c) j 10 = fillN (c 10) (eNT j) (c 60 0) := fun c => rfl
  intro i a0 b0
  show goR (mEnt (mNow a) j 60 0) (mEnt (mNow a) j 1) (mEnt (mNow a) j 2) (mTf (mEnt (mNow a) j) 1) (mEnt (mNow a) j 10) i = goR (mEnt (mNow b) j 60 0) (mEnt (mNow b) j 1) (mEnt (mNow b) j 2) (mTf (mEnt (mNow b) j) 1) (mEnt (mNow b) j 10) i
  rw [r a 60 (by decide) (by decide) (by decide), r b 60 (by decide) (by decide) (by decide), r a 1 (by decide) (by decide) (by decide), r b 1 (by decide) (by decide) (by decide), r a 2 (by decide) (by decide) (by decide), r b 2 (by decide) (by decide) (by decide), e0, e1, e2, e10, e10, e0]
  refine goR_cg hn.1 hn.2 (fun l i hc => ?_) (fun q c d => by rw [fillN_in c d, fillN_in c d]) i a0 b0
  have eb : mEnt (mNow b) j 60 0 = b 60 0 := rfl
  refine mTf_cg (a := mEnt (mNow a) j) (b := mEnt (mNow b) j) (by rw [eb]; exact e0) e7 (by rw [r a 4 (by decide) (by decide) (by decide), r b 4 (by decide) (by decide) (by decide), e4]) (by rw [eb]; exact hn.2) (fun k hk2 => ?_) (by rw [eb]; exact hc)
  rw [(s a k hk2.1 hk2.2.1).1, (s a k hk2.1 hk2.2.1).2, (s b k hk2.1 hk2.2.1).1, (s b k hk2.1 hk2.2.1).2, e3, e6]
  exact ⟨rfl, rfl⟩
/-- one hypothesis is probed -/
def psT (j i seen : Int) (κ : y_S) (h : Int) : y_S := if κ 46 h = 0 then κ else up2 (mCom κ h j) 46 h (if mCom κ h j 10 i = seen then 1 else 0)
theorem psT_s {j i seen : Int} {f : Nat} {h : Int} {κ : y_S} (h1 : h < κ 60 48) : prF j i seen (f + 1) h κ = prF j i seen f (h + 1) (psT j i seen κ h) := by
  unfold psT
  by_cases e : κ 46 h = 0
  · rw [if_pos e, prF_0 h1 e]
  · rw [if_neg e, prF_1 h1 e]
theorem psT_60 (j i seen : Int) (κ : y_S) (h : Int) : psT j i seen κ h 60 = κ 60 := by
  unfold psT
  split
  · rfl
  · rw [up2_n _ _ _ (by decide), mCom_t _ _ (by decide) (by decide) (by decide)]
theorem lgR_ps {E : y_E} {κ τ : y_S} {G : y_G} {P : Int} (h : lgR E (up2 κ 60 49 P) G τ) {q : Nat} {j i seen v : Int} (hq : (q : Int) < κ 60 48) (hi0 : 0 ≤ i) (hi1 : i < κ 60 0) (hv : v = if κ 46 (q : Int) ≠ 0 ∧ mCom (up2 κ 60 49 P) (q : Int) j 10 i = seen then 1 else 0) : lgR E (up2 (psT j i seen κ (q : Int)) 60 49 P) G (up2 τ (3000 + q) 2 v) := by
  have hv01 : 0 ≤ v ∧ v ≤ 1 := by rw [hv]; split <;> omega
  have h1 := lgR_held h (q := q) (v := v) hq hv01.1 hv01.2
  have hO := h.1
  by_cases e : κ 46 (q : Int) = 0
  · unfold psT
    rw [if_pos e]
    rw [up2_self (up2 κ 60 49 P) (show up2 κ 60 49 P 46 (q : Int) = v by rw [hv, if_neg (fun z => z.1 e)]; exact e)] at h1
    exact h1
  · have hcm : mCom (up2 κ 60 49 P) (q : Int) j 10 i = mCom κ (q : Int) j 10 i := (mCom_cg (a := κ) hO.n ⟨⟨rfl, rfl, rfl, rfl⟩, rfl, rfl, rfl, rfl, rfl, rfl, rfl, rfl⟩ (fun z => by have a := hO.cm.2.2.2.2.2.2.2.1 (((q : Int) - 1) / 4) (by omega) (by have := hO.hy; have hq : (q : Int) < up2 κ 60 49 P 60 48 := hq; omega); omega) i hi0 hi1).symm
    have hv2 : v = if mCom κ (q : Int) j 10 i = seen then 1 else 0 := by
      rw [hv, hcm]
      by_cases z : mCom κ (q : Int) j 10 i = seen
      · rw [if_pos ⟨e, z⟩, if_pos z]
      · rw [if_neg (fun y => z y.2), if_neg z]
    unfold psT
    rw [if_neg e, ← hv2]
    have hs : mSame [8, 9, 10] (up2 (up2 κ 60 49 P) 46 (q : Int) v) (up2 (up2 (mCom κ (q : Int) j) 46 (q : Int) v) 60 49 P) := fun t ht => by
      have q8 : t ≠ 8 := fun q => ht (by rw [q]; decide)
      have q9 : t ≠ 9 := fun q => ht (by rw [q]; decide)
      have q10 : t ≠ 10 := fun q => ht (by rw [q]; decide)
      have ec := mCom_t (σ := κ) (q : Int) j q8 q9 q10
      by_cases e1 : t = 60
      · subst e1
        rw [up2_s, up2_n _ _ _ (by decide), up2_n _ _ _ (by decide), up2_s, ec]
      · rw [up2_n _ _ _ e1]
        by_cases e2 : t = 46
        · subst e2
          rw [up2_s, up2_s, up2_n _ _ _ (by decide), ec]
        · rw [up2_n _ _ _ e2, up2_n _ _ _ e2, up2_n _ _ _ e1, ec]
    exact h1.rho (h1.1.same hs (by decide)) (lgE.s3 hs)
theorem seen_same (ρ : y_S) (j P : Int) : mSame [8, 9, 10] (up2 ρ 60 49 P) (up2 (mSeen ρ j) 60 49 P) := fun t ht => by
  have es := mSame.seen (ts := [8, 9, 10]) (σ := ρ) (by decide) (by decide) (by decide) j t ht
  by_cases e : t = 60
  · subst e; rw [up2_s, up2_s, es]
  · rw [up2_n _ _ _ e, up2_n _ _ _ e, es]
theorem ok_prs {ρ : y_S} (h : mOk ρ) (h1 : ρ 60 49 ≠ 20) : mOk (up2 ρ 60 49 (ρ 60 49 + 1)) := by
  have hp := h.pr
  obtain ⟨a1, a2, a3, a4, a5, a6, a7, a8, a9, a10⟩ := h.2.1
  exact ok_60 h (k := 49) (v := ρ 60 49 + 1) (by decide) ⟨a1, a2, a3, a4, a5, a6, a7, a8, ⟨show 0 ≤ ρ 60 49 + 1 by omega, show ρ 60 49 + 1 ≤ 20 by omega⟩, a10⟩
theorem seenL {ρ : y_S} (hn : mN ρ) (j : Int) {f : Int → Int} : ∀ i : Int, 0 ≤ i → i < ρ 60 0 → goR (ρ 60 0) (ρ 1) (ρ 2) (mTf (mEnt (mNow ρ) j) 1) (fillN f (eNT j) (ρ 60 0)) i = mSeen ρ j 10 i := by
  unfold mSeen
  exact lSend (κ := mNow ρ) hn rfl rfl rfl
