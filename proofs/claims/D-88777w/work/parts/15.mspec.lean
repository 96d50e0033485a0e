/-! THE REFERENCE IN PURE WORDS (1): cells, light -/
abbrev mCell (n l i : Int) : Prop := 0 ≤ l ∧ l ≤ 11 ∧ 0 ≤ i ∧ i ≤ n - 2 ∧ i % 2 = l % 2
abbrev mN (σ : y_S) : Prop := 2 ≤ σ 60 0 ∧ σ 60 0 ≤ 6
abbrev mCr (σ : y_S) : Prop := 1 ≤ σ 60 7 ∧ σ 60 7 ≤ 99
def mTr (c s : Int → Int) : Prop := ∀ k : Int, 0 ≤ k → k < 96 → (0 ≤ c k ∧ c k ≤ 96) ∧ (0 ≤ s k ∧ s k ≤ 96)
def mPl (σ : y_S) : Prop := ∀ k : Int, 0 ≤ k → k < 72 → -1 ≤ σ 4 k ∧ σ 4 k ≤ 95
def mBy (σ : y_S) : Prop := ∀ k : Int, 0 ≤ k → k < 72 → (0 ≤ σ 8 k ∧ σ 8 k ≤ 95) ∧ (-10 ≤ σ 9 k ∧ σ 9 k ≤ 10)
def mLi (n : Int) (r : Int → Int) : Prop := ∀ i : Int, 0 ≤ i → i < n → 0 ≤ r i ∧ r i ≤ 96
theorem mul96 {a b : Int} (ha : 0 ≤ a ∧ a ≤ 96) (hb : 0 ≤ b ∧ b ≤ 96) : 0 ≤ a * b ∧ a * b ≤ 9216 := by
  obtain ⟨a0, a1⟩ := ha
  obtain ⟨b0, b1⟩ := hb
  refine ⟨Int.mul_nonneg a0 b0, ?_⟩
  have h1 : a * b ≤ 96 * b := Int.mul_le_mul_of_nonneg_right a1 b0
  omega
theorem up2_upT {α : Type} (σ : Nat → Int → α) (t : Nat) (i : Int) (v : α) : up2 σ t i v = upT σ t (up1 (σ t) i v) := by
  funext u
  by_cases h : u = t
  · subst h; rw [up2_s, upT_s]
  · rw [up2_n _ _ _ h, upT_n _ _ h]
theorem upT_upT {α : Type} (σ : Nat → α) (t : Nat) (f g : α) : upT (upT σ t f) t g = upT σ t g := by
  funext u
  by_cases h : u = t
  · subst h; rw [upT_s, upT_s]
  · rw [upT_n _ _ h, upT_n _ _ h, upT_n _ _ h]
theorem upT_self {α : Type} (σ : Nat → α) (t : Nat) : upT σ t (σ t) = σ := by
  funext u
  by_cases h : u = t
  · subst h; rw [upT_s]
  · rw [upT_n _ _ h]
theorem upT_comm {α : Type} (σ : Nat → α) {t u : Nat} (h : t ≠ u) (f g : α) : upT (upT σ t f) u g = upT (upT σ u g) t f := by
  funext w
  by_cases h1 : w = u
  · subst h1; rw [upT_s, upT_n _ _ (Ne.symm h), upT_s]
  · by_cases h2 : w = t
    · subst h2; rw [upT_n _ _ h, upT_s, upT_s]
    · rw [upT_n _ _ h1, upT_n _ _ h2, upT_n _ _ h2, upT_n _ _ h1]
/-- the first places of a row are g's, the others f's -/
def fillN (f g : Int → Int) (n : Int) : Int → Int := fun i => if 0 ≤ i ∧ i < n then g i else f i
theorem fillN_0 (f g : Int → Int) : fillN f g 0 = f := by
  funext i; unfold fillN; rw [if_neg (by omega)]
theorem fillN_s {f g : Int → Int} {n v : Int} (h : 0 ≤ n) (hv : v = g n) : up1 (fillN f g n) n v = fillN f g (n + 1) := by
  funext i
  unfold up1 fillN
  by_cases h1 : i = n
  · subst h1; rw [if_pos rfl, if_pos (by omega), hv]
  · rw [if_neg h1]
    by_cases h2 : 0 ≤ i ∧ i < n
    · rw [if_pos h2, if_pos (by omega)]
    · rw [if_neg h2, if_neg (by omega)]
theorem fillN_in {f g : Int → Int} {n i : Int} (h0 : 0 ≤ i) (h1 : i < n) : fillN f g n i = g i := by unfold fillN; rw [if_pos ⟨h0, h1⟩]
theorem fillN_out {f g : Int → Int} {n i : Int} (h : ¬ (0 ≤ i ∧ i < n)) : fillN f g n i = f i := by unfold fillN; rw [if_neg h]
def mTo (σ : y_S) (k : Int) : Int := if 0 ≤ σ 4 k then σ 4 k else σ 8 k
theorem mTo_r {σ : y_S} (hP : mPl σ) (hB : mBy σ) {k : Int} (h0 : 0 ≤ k) (h1 : k < 72) : 0 ≤ mTo σ k ∧ mTo σ k ≤ 95 := by
  have a := hP k h0 h1
  have b := hB k h0 h1
  unfold mTo
  split <;> omega
def mHe (σ : y_S) (l i : Int) : Int := if mCell (σ 60 0) l i then (if mTo σ (6 * l + i) < 96 - mTo σ (6 * l + i) then mTo σ (6 * l + i) else 96 - mTo σ (6 * l + i)) else 0
theorem mHe_r {σ : y_S} (hN : mN σ) (hP : mPl σ) (hB : mBy σ) (l i : Int) : 0 ≤ mHe σ l i ∧ mHe σ l i ≤ 48 := by
  unfold mHe
  by_cases h : mCell (σ 60 0) l i
  · rw [if_pos h]
    have a := mTo_r hP hB (k := 6 * l + i) (by omega) (by omega)
    split <;> omega
  · rw [if_neg h]; omega
def mTt (σ : y_S) (l i : Int) : Int := if 0 ≤ σ 4 (6 * l + i) then σ 4 (6 * l + i) else (σ 8 (6 * l + i) + Int.tdiv (mHe σ l (i - 2) + mHe σ l (i + 2)) (σ 60 7) + σ 9 (6 * l + i)) % 96
theorem tdiv_b {a d : Int} (h0 : 0 ≤ a) (hd : 1 ≤ d) : 0 ≤ a.tdiv d ∧ a.tdiv d ≤ a := by
  rw [Int.tdiv_eq_ediv_of_nonneg h0]
  exact ⟨Int.ediv_nonneg h0 (by omega), Int.ediv_le_self d h0⟩
theorem mTt_r {σ : y_S} (hP : mPl σ) {l i : Int} (h0 : 0 ≤ 6 * l + i) (h1 : 6 * l + i < 72) : 0 ≤ mTt σ l i ∧ mTt σ l i < 96 := by
  have a := hP _ h0 h1
  unfold mTt
  split <;> omega
/-- two places of a row are turned -/
def tRow (c s r : Int → Int) (i k : Int) : Int → Int := up1 (up1 r i ((c k * r i - s k * r (i + 1)) % 97)) (i + 1) ((s k * r i + c k * r (i + 1)) % 97)
theorem tRow_r {n : Int} {c s r : Int → Int} (h : mLi n r) (i k : Int) : mLi n (tRow c s r i k) := by
  intro j h0 h1
  unfold tRow up1
  have := h j h0 h1
  split
  · omega
  · split <;> omega
def goI (n : Int) (c s : Int → Int) (tf : Int → Int) : Nat → Int → (Int → Int) → (Int → Int)
  | 0, _, r => r
  | f + 1, i, r => if i < n - 1 then goI n c s tf f (i + 2) (tRow c s r i (tf i)) else r
def goL (n : Int) (c s : Int → Int) (tf : Int → Int → Int) : Nat → Int → (Int → Int) → (Int → Int)
  | 0, _, r => r
  | f + 1, l, r => if l < 12 then goL n c s tf f (l + 1) (goI n c s (tf l) 3 (l % 2) r) else r
theorem goI_s {n : Int} {c s tf r : Int → Int} {f : Nat} {i : Int} (h : i < n - 1) : goI n c s tf (f + 1) i r = goI n c s tf f (i + 2) (tRow c s r i (tf i)) := by
  rw [goI, if_pos h]
theorem goI_e {n : Int} {c s tf r : Int → Int} {f : Nat} {i : Int} (h : ¬ i < n - 1) : goI n c s tf f i r = r := by
  cases f with
  | zero => rfl
  | succ f => rw [goI, if_neg h]
theorem goL_s {n : Int} {c s r : Int → Int} {tf : Int → Int → Int} {f : Nat} {l : Int} (h : l < 12) : goL n c s tf (f + 1) l r = goL n c s tf f (l + 1) (goI n c s (tf l) 3 (l % 2) r) := by
  rw [goL, if_pos h]
theorem goL_e {n : Int} {c s r : Int → Int} {tf : Int → Int → Int} {f : Nat} {l : Int} (h : ¬ l < 12) : goL n c s tf f l r = r := by
  cases f with
  | zero => rfl
  | succ f => rw [goL, if_neg h]
def goR (n : Int) (c s : Int → Int) (tf : Int → Int → Int) (r : Int → Int) : Int → Int := goL n c s tf 12 0 r
theorem goI_r {n : Int} {c s tf : Int → Int} : ∀ (f : Nat) (i : Int) (r : Int → Int), mLi n r → mLi n (goI n c s tf f i r)
  | 0, _, _, h => h
  | f + 1, i, r, h => by
    rw [goI]
    split
    · exact goI_r f _ _ (tRow_r h i _)
    · exact h
theorem goL_r {n : Int} {c s : Int → Int} {tf : Int → Int → Int} : ∀ (f : Nat) (l : Int) (r : Int → Int), mLi n r → mLi n (goL n c s tf f l r)
  | 0, _, _, h => h
  | f + 1, l, r, h => by
    rw [goL]
    split
    · exact goL_r f _ _ (goI_r _ _ _ h)
    · exact h
/-- by which turn a cell turns light: truly, or by its setting -/
def mTf (σ : y_S) (tr : Int) (l i : Int) : Int := if tr = 0 then mTo σ (6 * l + i) else mTt σ l i
theorem mTf_r {σ : y_S} (hP : mPl σ) (hB : mBy σ) {tr l i : Int} (h0 : 0 ≤ 6 * l + i) (h1 : 6 * l + i < 72) : 0 ≤ mTf σ tr l i ∧ mTf σ tr l i < 96 := by
  unfold mTf
  split
  · have := mTo_r hP hB h0 h1; omega
  · exact mTt_r hP h0 h1
/-- nothing of the light is read for a turn -/
theorem mTo_l (σ : y_S) (r : Int → Int) (k : Int) : mTo (upT σ 10 r) k = mTo σ k := rfl
theorem mHe_l (σ : y_S) (r : Int → Int) (l i : Int) : mHe (upT σ 10 r) l i = mHe σ l i := rfl
theorem mTt_l (σ : y_S) (r : Int → Int) (l i : Int) : mTt (upT σ 10 r) l i = mTt σ l i := rfl
theorem mTf_l (σ : y_S) (r : Int → Int) (tr l i : Int) : mTf (upT σ 10 r) tr l i = mTf σ tr l i := rfl
def mGo (σ : y_S) (tr : Int) : y_S := upT σ 10 (goR (σ 60 0) (σ 1) (σ 2) (mTf σ tr) (σ 10))
def mEnt (σ : y_S) (lane : Int) : y_S := upT σ 10 (fillN (σ 10) (fun i => if i = lane then 1 else 0) (σ 60 0))
def mNow (σ : y_S) : y_S := upT (upT σ 8 (fillN (σ 8) (σ 3) 72)) 9 (fillN (σ 9) (σ 6) 72)
/-! an op in pure words: its answer, the memory behind it -/
theorem g_pr {o : Int × y_S} {r : Int} {σ' : y_S} {G : y_G} (e : o = (r, σ')) : gR (some (.int (jI o.1))) G o.2 (some (.int (jI r))) G σ' := by subst e; exact ⟨rfl, rfl, rfl⟩
theorem g_pv {τ σ' : y_S} {G : y_G} (e : τ = σ') : gR none G τ none G σ' := by subst e; exact ⟨rfl, rfl, rfl⟩
theorem g_pi {z r : Int} {σ : y_S} {G : y_G} (e : z = r) : gR (some (.int (jI z))) G σ (some (.int (jI r))) G σ := by subst e; exact ⟨rfl, rfl, rfl⟩
section XT
variable {p : Program} {l : Launch} {e : Env} {R : Room} {s : State} {m : MethodId} {args : Array Value} {below : List Frame} {meth : Method} {c : Code} {H : Heap} {locs : List Loc} {cells slots : Nat} {Q : State → Prop} {cc : ByteArray} {pc : Nat} {ls : Array Slot} {rest : List Value}
theorem x_tabIn (hx : p.tables.exec = Jvm.exec) (hb : c.code = cc) {a v : Int} {dflt lo hi : Int} {offs : Array Int} {len : Nat} {off : Int} {tgt : Nat} (hdg : decode cc pc = .ok (.tableswitch dflt lo hi offs, len)) (ea : a = v) (hv : R32 v) (h1 : ¬ v < lo) (h2 : ¬ hi < v) (ho : offs[(v - lo).toNat]? = some off) (ht : (pc : Int) + off = (tgt : Int))
    (k : W p l e R s m args below meth c H locs cells slots Q (F0 m tgt ls rest)) : W p l e R s m args below meth c H locs cells slots Q (F0 m pc ls (.int (jI a) :: rest)) := by
  subst ea
  exact lv_tableIn hx hb hdg (by rw [jI_toInt hv]; exact h1) (by rw [jI_toInt hv]; exact h2) (by rw [jI_toInt hv]; exact ho) ht k
theorem x_tabOut (hx : p.tables.exec = Jvm.exec) (hb : c.code = cc) {a : Int} {dflt lo hi : Int} {offs : Array Int} {len : Nat} {tgt : Nat} (hdg : decode cc pc = .ok (.tableswitch dflt lo hi offs, len)) (ha : R32 a) (h : a < lo ∨ hi < a) (ht : (pc : Int) + dflt = (tgt : Int))
    (k : W p l e R s m args below meth c H locs cells slots Q (F0 m tgt ls rest)) : W p l e R s m args below meth c H locs cells slots Q (F0 m pc ls (.int (jI a) :: rest)) :=
  lv_tableOut hx hb hdg (by rw [jI_toInt ha]; exact h) ht k
end XT
theorem gM_eq {E : y_E} {A : Nat → Prop} {G : y_G} {σ σ' : y_S} {H0 H : Heap} {locs : List Loc} (h : σ = σ') (hM : gM E A G σ H0 H locs) : gM E A G σ' H0 H locs := h ▸ hM
theorem up2_2 (σ : y_S) (t : Nat) (i v j w : Int) : up2 (up2 σ t i v) t j w = upT σ t (up1 (up1 (σ t) i v) j w) := by
  rw [up2_upT, up2_upT, upT_upT, upT_s]
theorem up2_T (σ : y_S) (t : Nat) (r : Int → Int) (i v : Int) : up2 (upT σ t r) t i v = upT σ t (up1 r i v) := by
  rw [up2_upT, upT_upT, upT_s]
theorem up2_cT (σ : y_S) {t u : Nat} (h : t ≠ u) (r : Int → Int) (i v : Int) : up2 (upT σ u r) t i v = upT (up2 σ t i v) u r := by
  rw [up2_upT, up2_upT, upT_n _ _ h, upT_comm _ (Ne.symm h)]
theorem up2_fill {σ : y_S} {t : Nat} {f g : Int → Int} {i v : Int} (h : 0 ≤ i) (hv : v = g i) : up2 (upT σ t (fillN f g i)) t i v = upT σ t (fillN f g (i + 1)) := by
  rw [up2_T, fillN_s h hv]
theorem fill_0 {σ : y_S} {t : Nat} {g : Int → Int} : σ = upT σ t (fillN (σ t) g 0) := by rw [fillN_0, upT_self]
theorem lv_cast {ls : Array Slot} {n : Nat} {a b : List (Nat × Value)} (h : lv_has ls n a) (e : a = b) : lv_has ls n b := e ▸ h
