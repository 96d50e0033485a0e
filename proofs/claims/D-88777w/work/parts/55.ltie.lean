/-! THE REFERENCE'S READING, step by step -/
def mach : Nat → Bool → y_S → Option (Int × y_S)
  | 0, _, _ => none
  | f + 1, true, σ =>
    if isTu (mSig σ) then (if (stT σ).1 = 0 then some (0, (stT σ).2) else mach f false (stT σ).2) else
    if ¬ isDg (mSig σ) ∧ ¬ isNm (mSig σ) then some (0, σ) else
    if isNm (mSig σ) ∧ mSig (aOn σ) ≠ 61 then mach f false (aUse (aOn σ) (mSig σ - 97)) else
    if mSig (stE σ) ≠ 40 then some (0, stE σ) else mach f true (aOpen (aOn (stE σ)) (stH (mSig σ)))
  | f + 1, false, σ =>
    if mSig σ = 41 ∧ 0 < σ 60 32 then mach f false (aClose (aOn σ)) else
    if mSig σ = -1 ∧ σ 60 32 = 0 then some (1, σ) else
    if mSig σ ≠ 59 then some (0, σ) else mach f true (aOn σ)
def Mach (b : Bool) (σ : y_S) (r : Int × y_S) : Prop := ∃ f, mach f b σ = some r
theorem mach_mo : ∀ (f : Nat) (b : Bool) (σ : y_S) (r : Int × y_S), mach f b σ = some r → mach (f + 1) b σ = some r
  | 0, _, _, _, h => by cases h
  | f + 1, true, σ, r, h => by
    rw [mach] at h ⊢
    by_cases c1 : isTu (mSig σ)
    · rw [if_pos c1] at h ⊢
      by_cases c2 : (stT σ).1 = 0
      · rw [if_pos c2] at h ⊢; exact h
      · rw [if_neg c2] at h ⊢; exact mach_mo f _ _ _ h
    · rw [if_neg c1] at h ⊢
      by_cases c2 : ¬ isDg (mSig σ) ∧ ¬ isNm (mSig σ)
      · rw [if_pos c2] at h ⊢; exact h
      · rw [if_neg c2] at h ⊢
        by_cases c3 : isNm (mSig σ) ∧ mSig (aOn σ) ≠ 61
        · rw [if_pos c3] at h ⊢; exact mach_mo f _ _ _ h
        · rw [if_neg c3] at h ⊢
          by_cases c4 : mSig (stE σ) ≠ 40
          · rw [if_pos c4] at h ⊢; exact h
          · rw [if_neg c4] at h ⊢; exact mach_mo f _ _ _ h
  | f + 1, false, σ, r, h => by
    rw [mach] at h ⊢
    by_cases c1 : mSig σ = 41 ∧ 0 < σ 60 32
    · rw [if_pos c1] at h ⊢; exact mach_mo f _ _ _ h
    · rw [if_neg c1] at h ⊢
      by_cases c2 : mSig σ = -1 ∧ σ 60 32 = 0
      · rw [if_pos c2] at h ⊢; exact h
      · rw [if_neg c2] at h ⊢
        by_cases c3 : mSig σ ≠ 59
        · rw [if_pos c3] at h ⊢; exact h
        · rw [if_neg c3] at h ⊢; exact mach_mo f _ _ _ h
theorem mach_ad {f : Nat} {b : Bool} {σ : y_S} {r : Int × y_S} (h : mach f b σ = some r) : ∀ k : Nat, mach (f + k) b σ = some r
  | 0 => h
  | k + 1 => mach_mo _ _ _ _ (mach_ad h k)
theorem Mach.det {b : Bool} {σ : y_S} {r r' : Int × y_S} (h : Mach b σ r) (h' : Mach b σ r') : r = r' := by
  obtain ⟨f, hf⟩ := h
  obtain ⟨g, hg⟩ := h'
  have h1 := mach_ad hf g
  have h2 := mach_ad hg f
  rw [Nat.add_comm] at h2
  exact Option.some.inj (h1.symm.trans h2)
section MS
variable {σ : y_S} {r : Int × y_S}
theorem M_t0 (h1 : isTu (mSig σ)) (h2 : (stT σ).1 = 0) : Mach true σ (0, (stT σ).2) := ⟨1, by rw [mach, if_pos h1, if_pos h2]⟩
theorem M_t1 (h1 : isTu (mSig σ)) (h2 : (stT σ).1 ≠ 0) (h : Mach false (stT σ).2 r) : Mach true σ r := by
  obtain ⟨f, hf⟩ := h
  exact ⟨f + 1, by rw [mach, if_pos h1, if_neg h2]; exact hf⟩
theorem M_x (h1 : ¬ isTu (mSig σ)) (h2 : ¬ isDg (mSig σ) ∧ ¬ isNm (mSig σ)) : Mach true σ (0, σ) := ⟨1, by rw [mach, if_neg h1, if_pos h2]⟩
theorem M_u (h2 : isNm (mSig σ)) (h3 : mSig (aOn σ) ≠ 61) (h : Mach false (aUse (aOn σ) (mSig σ - 97)) r) : Mach true σ r := by
  obtain ⟨f, hf⟩ := h
  exact ⟨f + 1, by rw [mach, if_neg (by omega), if_neg (by omega), if_pos ⟨h2, h3⟩]; exact hf⟩
theorem M_e (h1 : ¬ isTu (mSig σ)) (h2 : ¬ (¬ isDg (mSig σ) ∧ ¬ isNm (mSig σ))) (h3 : ¬ (isNm (mSig σ) ∧ mSig (aOn σ) ≠ 61)) (h4 : mSig (stE σ) ≠ 40) : Mach true σ (0, stE σ) := ⟨1, by rw [mach, if_neg h1, if_neg h2, if_neg h3, if_pos h4]⟩
theorem M_o (h1 : ¬ isTu (mSig σ)) (h2 : ¬ (¬ isDg (mSig σ) ∧ ¬ isNm (mSig σ))) (h3 : ¬ (isNm (mSig σ) ∧ mSig (aOn σ) ≠ 61)) (h4 : mSig (stE σ) = 40) (h : Mach true (aOpen (aOn (stE σ)) (stH (mSig σ))) r) : Mach true σ r := by
  obtain ⟨f, hf⟩ := h
  exact ⟨f + 1, by rw [mach, if_neg h1, if_neg h2, if_neg h3, if_neg (fun q => q h4)]; exact hf⟩
theorem M_c (h1 : mSig σ = 41) (h2 : 0 < σ 60 32) (h : Mach false (aClose (aOn σ)) r) : Mach false σ r := by
  obtain ⟨f, hf⟩ := h
  exact ⟨f + 1, by rw [mach, if_pos ⟨h1, h2⟩]; exact hf⟩
theorem M_d (h1 : mSig σ = -1) (h2 : σ 60 32 = 0) : Mach false σ (1, σ) := ⟨1, by rw [mach, if_neg (by omega), if_pos ⟨h1, h2⟩]⟩
theorem M_f (h1 : ¬ (mSig σ = 41 ∧ 0 < σ 60 32)) (h2 : ¬ (mSig σ = -1 ∧ σ 60 32 = 0)) (h3 : mSig σ ≠ 59) : Mach false σ (0, σ) := ⟨1, by rw [mach, if_neg h1, if_neg h2, if_pos h3]⟩
theorem M_s (h1 : mSig σ = 59) (h : Mach true (aOn σ) r) : Mach false σ r := by
  obtain ⟨f, hf⟩ := h
  exact ⟨f + 1, by rw [mach, if_neg (by omega), if_neg (by omega), if_neg (fun q => q h1)]; exact hf⟩
end MS
theorem M_st : ∀ (f : Nat) (σ : y_S), pOk σ → σ 60 30 - σ 60 31 < (f : Int) → ((stF f σ).1 = 0 → Mach true σ (0, (stF f σ).2)) ∧ ((stF f σ).1 ≠ 0 → ∀ r, Mach false (stF f σ).2 r → Mach true σ r)
  | 0, σ, h, hf => absurd hf (by have := h.2.1; omega)
  | f + 1, σ, h, hf => by
    rw [stF]
    by_cases c1 : isTu (mSig σ)
    · rw [if_pos c1]
      exact ⟨fun q => M_t0 c1 q, fun q r hr => M_t1 c1 q hr⟩
    · rw [if_neg c1]
      by_cases c2 : ¬ isDg (mSig σ) ∧ ¬ isNm (mSig σ)
      · rw [if_pos c2]
        exact ⟨fun _ => M_x c1 c2, fun q => absurd rfl q⟩
      · rw [if_neg c2]
        by_cases c3 : isNm (mSig σ) ∧ mSig (aOn σ) ≠ 61
        · rw [if_pos c3]
          exact ⟨fun q => absurd (show (1 : Int) = 0 from q) (by decide), fun _ r hr => M_u c3.1 c3.2 hr⟩
        · rw [if_neg c3]
          by_cases c4 : mSig (stE σ) ≠ 40
          · rw [if_pos c4]
            exact ⟨fun _ => M_e c1 c2 c3 c4, fun q => absurd rfl q⟩
          · rw [if_neg c4]
            have e4 : mSig (stE σ) = 40 := Classical.not_not.mp c4
            have a := stO_ok h (by omega) c3 e4
            have b := M_st f _ a.2.1 (by omega)
            exact ⟨fun q => M_o c1 c2 c3 e4 (b.1 q), fun q r hr => M_o c1 c2 c3 e4 (b.2 q r hr)⟩
theorem M_cl : ∀ (f : Nat) (σ : y_S), pOk σ → σ 60 30 - σ 60 31 < (f : Int) → (∀ r, Mach false (clF f σ) r → Mach false σ r) ∧ ¬ (mSig (clF f σ) = 41 ∧ 0 < clF f σ 60 32)
  | 0, σ, h, hf => absurd hf (by have := h.2.1; omega)
  | f + 1, σ, h, hf => by
    rw [clF]
    by_cases c : mSig σ = 41 ∧ 0 < σ 60 32
    · rw [if_pos c]
      have g1 := mSig_ne c.1 (by decide)
      have p1 := pOk_on h g1
      have a := aClose_at (aOn σ)
      have e : aOn σ 60 31 = σ 60 31 + 1 := rfl
      have e2 : aOn σ 60 30 = σ 60 30 := rfl
      have b := M_cl f _ (pOk_close p1 (by show 1 ≤ σ 60 32; omega)) (by omega)
      exact ⟨fun r hr => M_c c.1 c.2 (b.1 r hr), b.2⟩
    · rw [if_neg c]
      exact ⟨fun r hr => hr, c⟩
theorem M_pa : ∀ (f : Nat) (σ : y_S), pOk σ → σ 60 30 - σ 60 31 < (f : Int) → Mach true σ (paF f σ)
  | 0, σ, h, hf => absurd hf (by have := h.2.1; omega)
  | f + 1, σ, h, hf => by
    have h2 := h.2.1
    have a := stF_ok 101 σ h
    have b := clF_ok 101 _ a.1
    have a2 := M_st 101 σ h (by omega)
    have a3 := a.1.2.1
    have b2 := M_cl 101 _ a.1 (by omega)
    rw [paF]
    by_cases c1 : (stF 101 σ).1 = 0
    · rw [if_pos c1]; exact a2.1 c1
    · rw [if_neg c1]
      refine a2.2 c1 _ (b2.1 _ ?_)
      by_cases c2 : mSig (clF 101 (stF 101 σ).2) = -1 ∧ clF 101 (stF 101 σ).2 60 32 = 0
      · rw [if_pos c2]; exact M_d c2.1 c2.2
      · rw [if_neg c2]
        by_cases c3 : mSig (clF 101 (stF 101 σ).2) ≠ 59
        · rw [if_pos c3]; exact M_f b2.2 c2 c3
        · rw [if_neg c3]
          have e3 := Classical.not_not.mp c3
          have g := mSig_ne e3 (by decide)
          have z := a.2.2.1 c1
          refine M_s e3 (M_pa f _ (pOk_on b.1 g) ?_)
          show clF 101 (stF 101 σ).2 60 30 - (clF 101 (stF 101 σ).2 60 31 + 1) < _
          omega
