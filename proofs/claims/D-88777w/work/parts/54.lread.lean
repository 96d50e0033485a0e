/-! THE READER IN PURE WORDS: a descent by fuel; a fault's place, or where it ends, what is lacking, the names, the works -/
abbrev rM : Type := Int → Option (List Int)
abbrev rR : Type := Int ⊕ (Int × Int × rM × List Int)
def rdRep : Nat → List Int → List Int
  | 0, _ => []
  | k + 1, L => rdRep k L ++ L
def rdCat : Nat → (Nat → List Int) → List Int
  | 0, _ => []
  | n + 1, f => rdCat n f ++ f n
/-- where a number is wrong -/
def rNp (ρ : y_S) (a most : Int) : Int := if nxR ρ a ≠ 32 then a else if ¬ dgR ρ (a + 1) ∨ most < nxR ρ (a + 1) - 48 then a + 1 else a + 2
/-- a turn's statement, its sign c at a -/
def rLf (ρ : y_S) (c a : Int) : Int ⊕ (Int × List Int) :=
  match rNu ρ (a + 1) (ρ 60 0 - 2) with
  | none => .inl (rNp ρ (a + 1) (ρ 60 0 - 2))
  | some (i, a1) => if c = 115 then .inr (a1, [100 * i + 24]) else
    match rNu ρ a1 95 with
    | none => .inl (rNp ρ a1 95)
    | some (k, a2) => .inr (a2, [100 * i + (if c = 116 then k else (96 - k) % 96)])
def rSs (ρ : y_S) (S : Int → Int → rM → Option rR) : Nat → Int → Int → rM → List Int → Option rR
  | 0, _, _, _, _ => none
  | g + 1, a, lk, nm, acc => match S a lk nm with
    | none => none
    | some (.inl p) => some (.inl p)
    | some (.inr (a1, lk1, nm1, L)) => if nxR ρ a1 = 59 then rSs ρ S g (a1 + 1) lk1 nm1 (acc ++ L) else some (.inr (a1, lk1, nm1, acc ++ L))
def rBr (ρ : y_S) (S : Int → Int → rM → Option rR) (a lk : Int) (nm : rM) : Option rR :=
  if nxR ρ a ≠ 40 then some (.inl a) else
  match rSs ρ S 101 (a + 1) lk nm [] with
  | none => none
  | some (.inl p) => some (.inl p)
  | some (.inr (a1, lk1, nm1, L)) => if nxR ρ a1 ≠ 41 then some (.inl a1) else some (.inr (a1 + 1, lk1, nm1, L))
def rNa (ρ : y_S) (S : Int → Int → rM → Option rR) (k a lk : Int) (nm : rM) : Option rR :=
  if nxR ρ a = 61 then
    match rBr ρ S (a + 1) lk nm with
    | none => none
    | some (.inl p) => some (.inl p)
    | some (.inr (a1, lk1, nm1, L)) => some (.inr (a1, lk1, up1 nm1 k (some L), []))
  else match nm k with
    | some L => some (.inr (a, lk, nm, L))
    | none => some (.inr (a, (if lk = -1 then a - 1 else lk), nm, []))
def rSt (ρ : y_S) : Nat → Int → Int → rM → Option rR
  | 0, _, _, _ => none
  | f + 1, a, lk, nm =>
    if nxR ρ a = -1 then some (.inl a) else
    if 97 ≤ nxR ρ a ∧ nxR ρ a < 103 then rNa ρ (rSt ρ f) (nxR ρ a - 97) (a + 1) lk nm else
    if 48 ≤ nxR ρ a ∧ nxR ρ a ≤ 57 then
      match rBr ρ (rSt ρ f) (a + 1) lk nm with
      | none => none
      | some (.inl p) => some (.inl p)
      | some (.inr (a1, lk1, nm1, L)) => some (.inr (a1, lk1, nm1, rdRep (nxR ρ a - 48).toNat L))
    else if nxR ρ a ≠ 116 ∧ nxR ρ a ≠ 115 ∧ nxR ρ a ≠ 117 then some (.inl a) else
    match rLf ρ (nxR ρ a) a with
    | .inl p => some (.inl p)
    | .inr (a1, L) => some (.inr (a1, lk, nm, L))
/-! where they end -/
theorem nxR_lt {ρ : y_S} {a : Int} (h : nxR ρ a ≠ -1) : a < ρ 60 30 := by
  unfold nxR at h
  split at h
  · assumption
  · exact absurd rfl h
def rLo (lk : Int) : Prop := lk = -1 ∨ (0 ≤ lk ∧ lk ≤ 100)
/-- a result that lies in the text -/
def rPos (ρ : y_S) (a : Int) (R : rR) : Prop := match R with
  | .inl p => a ≤ p ∧ p ≤ ρ 60 30
  | .inr (a1, lk, _, _) => a < a1 ∧ a1 ≤ ρ 60 30 ∧ rLo lk
def rGd (ρ : y_S) (S : Int → Int → rM → Option rR) : Prop := ∀ (a lk : Int) (nm : rM) (R : rR), 0 ≤ a → a ≤ ρ 60 30 → rLo lk → S a lk nm = some R → rPos ρ a R
theorem rPos.mo {ρ : y_S} {a b : Int} {R : rR} (h : rPos ρ b R) (h1 : a ≤ b) : rPos ρ a R := by
  unfold rPos at h ⊢
  rcases R with p | ⟨a1, lk, nm, L⟩
  · exact ⟨Int.le_trans h1 h.1, h.2⟩
  · exact ⟨Int.lt_of_le_of_lt h1 h.1, h.2⟩
theorem rSs_pos {ρ : y_S} {S : Int → Int → rM → Option rR} (hS : rGd ρ S) : ∀ (g : Nat) (a lk : Int) (nm : rM) (acc : List Int) (R : rR), 0 ≤ a → a ≤ ρ 60 30 → rLo lk → rSs ρ S g a lk nm acc = some R → rPos ρ a R
  | 0, _, _, _, _, _, _, _, _, h => by cases h
  | g + 1, a, lk, nm, acc, R, h0, h1, hl, h => by
    rw [rSs] at h
    rcases hs : S a lk nm with _ | (p | ⟨a1, lk1, nm1, L⟩)
    · rw [hs] at h; cases h
    · rw [hs] at h; cases h; exact hS a lk nm _ h0 h1 hl hs
    · rw [hs] at h
      have q := hS a lk nm _ h0 h1 hl hs
      dsimp only [rPos] at q h
      by_cases c : nxR ρ a1 = 59
      · rw [if_pos c] at h
        have c2 := nxR_lt (ρ := ρ) (a := a1) (by omega)
        exact (rSs_pos hS g (a1 + 1) lk1 nm1 _ R (by omega) (by omega) q.2.2 h).mo (by omega)
      · rw [if_neg c] at h
        cases h
        exact q
theorem rBr_pos {ρ : y_S} {S : Int → Int → rM → Option rR} (hS : rGd ρ S) {a lk : Int} {nm : rM} {R : rR} (h0 : 0 ≤ a) (h1 : a ≤ ρ 60 30) (hl : rLo lk) (h : rBr ρ S a lk nm = some R) : rPos ρ a R := by
  unfold rBr at h
  by_cases c : nxR ρ a ≠ 40
  · rw [if_pos c] at h; cases h; exact ⟨Int.le_refl _, h1⟩
  · rw [if_neg c] at h
    have c2 := nxR_lt (ρ := ρ) (a := a) (by omega)
    rcases hs : rSs ρ S 101 (a + 1) lk nm [] with _ | (p | ⟨a1, lk1, nm1, L⟩)
    · rw [hs] at h; cases h
    · rw [hs] at h; cases h; exact (rSs_pos hS _ _ _ _ _ _ (by omega) (by omega) hl hs).mo (by omega)
    · rw [hs] at h
      have q := rSs_pos hS _ _ _ _ _ _ (by omega) (by omega) hl hs
      dsimp only [rPos] at q h
      by_cases c3 : nxR ρ a1 ≠ 41
      · rw [if_pos c3] at h; cases h; exact ⟨by omega, q.2.1⟩
      · rw [if_neg c3] at h
        have c4 := nxR_lt (ρ := ρ) (a := a1) (by omega)
        cases h
        exact ⟨by omega, by omega, q.2.2⟩
theorem rNu_pos {ρ : y_S} {a m v a2 : Int} (h : rNu ρ a m = some (v, a2)) : a < a2 ∧ a2 ≤ ρ 60 30 ∧ 0 ≤ v ∧ v ≤ m := by
  obtain ⟨c1, c2, c3, c4 | c4⟩ := rNu_c h
  · have q := nxR_lt (ρ := ρ) (a := a + 1) (by omega)
    omega
  · have q := nxR_lt (ρ := ρ) (a := a + 2) (by omega)
    omega
theorem rNp_pos {ρ : y_S} {a m : Int} (h : rNu ρ a m = none) (h1 : a ≤ ρ 60 30) : a ≤ rNp ρ a m ∧ rNp ρ a m ≤ ρ 60 30 := by
  unfold rNp
  unfold rNu at h
  by_cases c1 : nxR ρ a ≠ 32
  · rw [if_pos c1]; omega
  · rw [if_neg c1] at h ⊢
    have q := nxR_lt (ρ := ρ) (a := a) (by omega)
    by_cases c2 : ¬ dgR ρ (a + 1) ∨ m < nxR ρ (a + 1) - 48
    · rw [if_pos c2]; omega
    · rw [if_neg c2]
      have q2 := nxR_lt (ρ := ρ) (a := a + 1) (by omega)
      omega
theorem rLf_pos {ρ : y_S} {c a : Int} (h0 : nxR ρ a ≠ -1) : match rLf ρ c a with
    | .inl p => a ≤ p ∧ p ≤ ρ 60 30
    | .inr (a1, _) => a < a1 ∧ a1 ≤ ρ 60 30 := by
  have q := nxR_lt h0
  unfold rLf
  rcases h : rNu ρ (a + 1) (ρ 60 0 - 2) with _ | ⟨i, a1⟩
  · have := rNp_pos h (by omega)
    dsimp only
    omega
  · have q1 := rNu_pos h
    dsimp only
    by_cases c1 : c = 115
    · rw [if_pos c1]
      exact ⟨by omega, q1.2.1⟩
    · rw [if_neg c1]
      rcases h2 : rNu ρ a1 95 with _ | ⟨k, a2⟩
      · have := rNp_pos h2 (by omega)
        dsimp only
        omega
      · have q2 := rNu_pos h2
        exact ⟨by omega, q2.2.1⟩
theorem rNa_pos {ρ : y_S} {S : Int → Int → rM → Option rR} (hS : rGd ρ S) (hT : ρ 60 30 ≤ 100) {k a lk : Int} {nm : rM} {R : rR} (h0 : 0 ≤ a) (h1 : a + 1 ≤ ρ 60 30) (hl : rLo lk) (h : rNa ρ S k (a + 1) lk nm = some R) : rPos ρ a R := by
  unfold rNa at h
  by_cases c : nxR ρ (a + 1) = 61
  · rw [if_pos c] at h
    have c2 := nxR_lt (ρ := ρ) (a := a + 1) (by omega)
    rcases hs : rBr ρ S (a + 1 + 1) lk nm with _ | (p | ⟨a1, lk1, nm1, L⟩)
    · rw [hs] at h; cases h
    · rw [hs] at h; cases h; exact (rBr_pos hS (by omega) (by omega) hl hs).mo (by omega)
    · rw [hs] at h
      have q := rBr_pos hS (by omega) (by omega) hl hs
      cases h
      dsimp only [rPos] at q ⊢
      exact ⟨by omega, q.2.1, q.2.2⟩
  · rw [if_neg c] at h
    rcases hs : nm k with _ | L
    · rw [hs] at h
      cases h
      refine ⟨by omega, by omega, ?_⟩
      by_cases c3 : lk = -1
      · rw [if_pos c3]; exact Or.inr ⟨by omega, by omega⟩
      · rw [if_neg c3]; exact hl
    · rw [hs] at h
      cases h
      exact ⟨by omega, by omega, hl⟩
theorem rSt_pos {ρ : y_S} (hT : ρ 60 30 ≤ 100) : ∀ f : Nat, rGd ρ (rSt ρ f)
  | 0 => fun _ _ _ _ _ _ _ h => by cases h
  | f + 1 => fun a lk nm R h0 h1 hl h => by
    have hS := rSt_pos hT f
    rw [rSt] at h
    by_cases c1 : nxR ρ a = -1
    · rw [if_pos c1] at h; cases h; exact ⟨Int.le_refl _, h1⟩
    · rw [if_neg c1] at h
      have q := nxR_lt c1
      by_cases c2 : 97 ≤ nxR ρ a ∧ nxR ρ a < 103
      · rw [if_pos c2] at h
        exact rNa_pos hS hT h0 (by omega) hl h
      · rw [if_neg c2] at h
        by_cases c3 : 48 ≤ nxR ρ a ∧ nxR ρ a ≤ 57
        · rw [if_pos c3] at h
          rcases hs : rBr ρ (rSt ρ f) (a + 1) lk nm with _ | (p | ⟨a1, lk1, nm1, L⟩)
          · rw [hs] at h; cases h
          · rw [hs] at h; cases h; exact (rBr_pos hS (by omega) (by omega) hl hs).mo (by omega)
          · rw [hs] at h
            have q := rBr_pos hS (by omega) (by omega) hl hs
            cases h
            dsimp only [rPos] at q ⊢
            exact ⟨by omega, q.2⟩
        · rw [if_neg c3] at h
          by_cases c4 : nxR ρ a ≠ 116 ∧ nxR ρ a ≠ 115 ∧ nxR ρ a ≠ 117
          · rw [if_pos c4] at h; cases h; exact ⟨Int.le_refl _, h1⟩
          · rw [if_neg c4] at h
            have q2 := rLf_pos (ρ := ρ) (c := nxR ρ a) c1
            rcases hs : rLf ρ (nxR ρ a) a with p | ⟨a1, L⟩
            · rw [hs] at h q2; cases h; exact q2
            · rw [hs] at h q2; cases h; exact ⟨q2.1, q2.2, hl⟩
/-! the fuel is enough -/
def rEn (ρ : y_S) (S : Int → Int → rM → Option rR) (b : Int) : Prop := ∀ (a lk : Int) (nm : rM), b ≤ a → 0 ≤ a → a ≤ ρ 60 30 → rLo lk → ∃ R, S a lk nm = some R
theorem rSs_en {ρ : y_S} {S : Int → Int → rM → Option rR} {b : Int} (hS : rGd ρ S) (hE : rEn ρ S b) (hT : ρ 60 30 ≤ 100) : ∀ (g : Nat) (a lk : Int) (nm : rM) (acc : List Int), 101 ≤ a + (g : Int) → b ≤ a → 0 ≤ a → a ≤ ρ 60 30 → rLo lk → ∃ R, rSs ρ S g a lk nm acc = some R
  | 0, a, _, _, _, hg, _, _, h1, _ => absurd hg (by omega)
  | g + 1, a, lk, nm, acc, hg, hb, h0, h1, hl => by
    obtain ⟨R, hR⟩ := hE a lk nm hb h0 h1 hl
    have q := hS a lk nm R h0 h1 hl hR
    rw [rSs, hR]
    rcases R with p | ⟨a1, lk1, nm1, L⟩
    · exact ⟨_, rfl⟩
    · dsimp only [rPos] at q ⊢
      by_cases c : nxR ρ a1 = 59
      · rw [if_pos c]
        have c2 := nxR_lt (ρ := ρ) (a := a1) (by omega)
        exact rSs_en hS hE hT g (a1 + 1) lk1 nm1 _ (by omega) (by omega) (by omega) (by omega) q.2.2
      · rw [if_neg c]; exact ⟨_, rfl⟩
theorem rBr_en {ρ : y_S} {S : Int → Int → rM → Option rR} {b : Int} (hS : rGd ρ S) (hE : rEn ρ S b) (hT : ρ 60 30 ≤ 100) {a lk : Int} {nm : rM} (hb : b ≤ a + 1) (h0 : 0 ≤ a) (hl : rLo lk) : ∃ R, rBr ρ S a lk nm = some R := by
  unfold rBr
  by_cases c : nxR ρ a ≠ 40
  · rw [if_pos c]; exact ⟨_, rfl⟩
  · rw [if_neg c]
    have c2 := nxR_lt (ρ := ρ) (a := a) (by omega)
    obtain ⟨R, hR⟩ := rSs_en hS hE hT 101 (a + 1) lk nm [] (by omega) hb (by omega) (by omega) hl
    rw [hR]
    rcases R with p | ⟨a1, lk1, nm1, L⟩
    · exact ⟨_, rfl⟩
    · dsimp only
      split <;> exact ⟨_, rfl⟩
theorem rSt_en {ρ : y_S} (hT : ρ 60 30 ≤ 100) : ∀ f : Nat, rEn ρ (rSt ρ f) (101 - (f : Int))
  | 0 => fun a _ _ hb _ h1 _ => absurd hb (by omega)
  | f + 1 => fun a lk nm hb h0 h1 hl => by
    have hS := rSt_pos hT f
    have hE := rSt_en hT f
    rw [rSt]
    by_cases c1 : nxR ρ a = -1
    · rw [if_pos c1]; exact ⟨_, rfl⟩
    · rw [if_neg c1]
      have q := nxR_lt c1
      by_cases c2 : 97 ≤ nxR ρ a ∧ nxR ρ a < 103
      · rw [if_pos c2]
        unfold rNa
        by_cases c3 : nxR ρ (a + 1) = 61
        · rw [if_pos c3]
          have c4 := nxR_lt (ρ := ρ) (a := a + 1) (by omega)
          obtain ⟨R, hR⟩ := rBr_en (nm := nm) (a := a + 1 + 1) hS hE hT (by omega) (by omega) hl
          rw [hR]
          rcases R with p | ⟨a1, lk1, nm1, L⟩
          · exact ⟨_, rfl⟩
          · exact ⟨_, rfl⟩
        · rw [if_neg c3]
          cases nm (nxR ρ a - 97)
          · exact ⟨_, rfl⟩
          · exact ⟨_, rfl⟩
      · rw [if_neg c2]
        by_cases c3 : 48 ≤ nxR ρ a ∧ nxR ρ a ≤ 57
        · rw [if_pos c3]
          obtain ⟨R, hR⟩ := rBr_en (nm := nm) (a := a + 1) hS hE hT (by omega) (by omega) hl
          rw [hR]
          rcases R with p | ⟨a1, lk1, nm1, L⟩
          · exact ⟨_, rfl⟩
          · exact ⟨_, rfl⟩
        · rw [if_neg c3]
          by_cases c4 : nxR ρ a ≠ 116 ∧ nxR ρ a ≠ 115 ∧ nxR ρ a ≠ 117
          · rw [if_pos c4]; exact ⟨_, rfl⟩
          · rw [if_neg c4]
            rcases rLf ρ (nxR ρ a) a with p | ⟨a1, L⟩
            · exact ⟨_, rfl⟩
            · exact ⟨_, rfl⟩
