theorem goJ_r {n : Int} {c s : Int → Int} {tf : Int → Int → Int} : ∀ (ps : List (Int × Int)) (r : Int → Int), mLi n r → mLi n (goJ n c s tf r ps)
  | [], _, h => h
  | p :: ps, r, h => by
    show mLi n (goJ n c s tf (tRow c s r p.2 (tf p.1 p.2)) ps)
    exact goJ_r ps _ (tRow_r h _ _)
theorem mHe_k {κ ρ : y_S} (h6 : κ 60 = ρ 60) (h4 : κ 4 = ρ 4) {l i v : Int} (hc : mCell (ρ 60 0) l i) (hp : -1 ≤ ρ 4 (6 * l + i)) (hv : (ρ 4 (6 * l + i) ≠ -1 ∧ v = ρ 4 (6 * l + i)) ∨ (ρ 4 (6 * l + i) = -1 ∧ v = κ 8 (6 * l + i))) : mHe κ l i = if v < 96 - v then v else 96 - v := by
  have e : mTo κ (6 * l + i) = v := by
    unfold mTo
    rw [h4]
    split <;> omega
  unfold mHe
  rw [h6, if_pos hc, e]
theorem mHe_0 {κ ρ : y_S} (h6 : κ 60 = ρ 60) {l i : Int} (hc : ¬ mCell (ρ 60 0) l i) : mHe κ l i = 0 := by
  unfold mHe
  rw [h6, if_neg hc]
