/-! ===== mends, plainly: the ways by which a log comes to a score, by how many mends ===== -/
set_option maxRecDepth 100000
def sumN : Nat → (Nat → Int) → Int
  | 0, _ => 0
  | n + 1, f => sumN n f + f n
theorem sumN_c : ∀ {n : Nat} {f g : Nat → Int}, (∀ i, i < n → f i = g i) → sumN n f = sumN n g
  | 0, _, _, _ => rfl
  | n + 1, f, g, h => by
    unfold sumN
    rw [sumN_c (fun i hi => h i (by omega)), h n (by omega)]
theorem sumN_0 : ∀ {n : Nat} {f : Nat → Int}, (∀ i, i < n → f i = 0) → sumN n f = 0
  | 0, _, _ => rfl
  | n + 1, f, h => by
    unfold sumN
    rw [sumN_0 (fun i hi => h i (by omega)), h n (by omega)]
    rfl
theorem sumN_add : ∀ (n : Nat) (f g : Nat → Int), sumN n (fun i => f i + g i) = sumN n f + sumN n g
  | 0, _, _ => rfl
  | n + 1, f, g => by
    show sumN n (fun i => f i + g i) + (f n + g n) = sumN n f + f n + (sumN n g + g n)
    rw [sumN_add n f g]
    omega
theorem sumN_le : ∀ {n : Nat} {f g : Nat → Int}, (∀ i, i < n → f i ≤ g i) → sumN n f ≤ sumN n g
  | 0, _, _, _ => Int.le_refl _
  | n + 1, f, g, h => by
    have h1 := sumN_le (n := n) (fun i hi => h i (by omega))
    have h2 := h n (by omega)
    unfold sumN
    omega
theorem sumN_nn {n : Nat} {f : Nat → Int} (h : ∀ i, i < n → 0 ≤ f i) : 0 ≤ sumN n f := by
  have := sumN_le (n := n) (f := fun _ => 0) (g := f) h
  rw [sumN_0 (fun _ _ => rfl)] at this
  exact this
theorem sumN_swap : ∀ (n m : Nat) (f : Nat → Nat → Int), sumN n (fun i => sumN m (fun j => f i j)) = sumN m (fun j => sumN n (fun i => f i j))
  | 0, m, f => (sumN_0 (fun _ _ => rfl)).symm
  | n + 1, m, f => by
    have ih := sumN_swap n m f
    show sumN n (fun i => sumN m (fun j => f i j)) + sumN m (fun j => f n j) = sumN m (fun j => sumN n (fun i => f i j) + f n j)
    rw [sumN_add, ih]
theorem sumN_mul (c : Int) : ∀ (n : Nat) (f : Nat → Int), sumN n (fun i => c * f i) = c * sumN n f
  | 0, _ => by show (0 : Int) = c * 0; omega
  | n + 1, f => by
    unfold sumN
    rw [sumN_mul c n f, Int.mul_add]
/-- one place of a sum taken out -/
theorem sumN_at : ∀ {n k : Nat} {f : Nat → Int}, k < n → sumN n f = sumN n (fun i => if i = k then 0 else f i) + f k
  | 0, k, f, h => absurd h (Nat.not_lt_zero _)
  | n + 1, k, f, h => by
    show sumN n f + f n = sumN n (fun i => if i = k then 0 else f i) + (if n = k then 0 else f n) + f k
    by_cases e : k = n
    · subst e
      rw [if_pos rfl, sumN_c (f := fun i => if i = k then 0 else f i) (g := f) (fun i hi => if_neg (by omega))]
      omega
    · rw [if_neg (by omega), sumN_at (k := k) (by omega)]
      omega
/-- a sum over a row of places, each once, outside of which nothing is -/
theorem sum_ss : ∀ (m n : Nat) (ss : Nat → Nat) (g : Nat → Int), (∀ i, i < m → ss i < n) → (∀ i j, i < m → j < m → ss i = ss j → i = j) → (∀ c, c < n → (∀ i, i < m → ss i ≠ c) → g c = 0) → sumN n g = sumN m (fun i => g (ss i))
  | 0, n, ss, g, _, _, h0 => sumN_0 (fun c hc => h0 c hc (fun i hi => absurd hi (Nat.not_lt_zero _)))
  | m + 1, n, ss, g, hl, hi, h0 => by
    have ih := sum_ss m n ss (fun c => if c = ss m then 0 else g c) (fun i hi' => hl i (by omega)) (fun i j h1 h2 => hi i j (by omega) (by omega)) (fun c hc hn => by
      by_cases e : c = ss m
      · exact if_pos e
      · rw [if_neg e]
        refine h0 c hc (fun i hi' => ?_)
        by_cases e2 : i = m
        · rw [e2]; exact fun q => e q.symm
        · exact hn i (by omega))
    rw [sumN_at (hl m (by omega)), ih]
    show _ = sumN m (fun i => g (ss i)) + g (ss m)
    congr 1
    refine sumN_c (fun i hi' => ?_)
    refine if_neg (fun q => ?_)
    have := hi i m (by omega) (by omega) q
    omega
/-- the score of a whole number -/
def wcX (w : Nat → Int) (c : Int) : Nat → Int := uwR w (fun _ => 0) c
theorem wcX_eq {w x : Nat → Int} {c : Int} (h : xG x) : uwR w x c = wcX w c := by
  funext j
  unfold wcX uwR
  by_cases h7 : j = 7
  · rw [if_pos h7, if_pos h7]
  · rw [if_neg h7, if_neg h7]
    by_cases h8 : j = 8
    · rw [if_pos h8, if_pos h8]
    · rw [if_neg h8, if_neg h8]
      exact congrFun (scX_eq (w := w) (k := c / 64) h) j
def mnN : Nat := 991232
/-- numbers of scores with games -/
def cV (c : Int) : Prop := (0 ≤ c ∧ c < 991232) ∧ cbR (c / 64) = true ∧ c / 8 % 8 ≤ 6 ∧ c % 8 ≤ 6
theorem wcX_V {w : Nat → Int} {c : Int} (h : cV c) : scV (wcX w c) ∧ xB 6 (wcX w c) := by
  obtain ⟨h1, h2, h3, h4⟩ := h
  have hu : scV (unR w (fun _ => 0) (c / 64)) := unR_V (by omega) (by omega) h2
  have e : ∀ j, j ≠ 7 → j ≠ 8 → wcX w c j = unR w (fun _ => 0) (c / 64) j := by
    intro j j7 j8
    unfold wcX uwR
    rw [if_neg j7, if_neg j8]
  have e7 : wcX w c 7 = c / 8 % 8 := rfl
  have e8 : wcX w c 8 = c % 8 := rfl
  constructor
  · unfold scV pV hV at hu ⊢
    rw [e 0 (by decide) (by decide), e 1 (by decide) (by decide), e 2 (by decide) (by decide), e 3 (by decide) (by decide), e 4 (by decide) (by decide), e 5 (by decide) (by decide), e 6 (by decide) (by decide)]
    exact hu
  · have e4 := unR_at w (fun _ => 0) (c / 64) 4
    have e5 := unR_at w (fun _ => 0) (c / 64) 5
    simp at e4 e5
    unfold xB
    rw [e 4 (by decide) (by decide), e 5 (by decide) (by decide), e7, e8, e4, e5]
    refine ⟨?_, ?_, by omega, by omega, fun j hj => ?_⟩
    · split
      · omega
      · split
        · omega
        · split <;> omega
    · split <;> omega
    · rw [e j (by omega) (by omega), unR_at]
      simp [show j ≠ 0 by omega, show j ≠ 1 by omega, show j ≠ 2 by omega, show j ≠ 3 by omega, show j ≠ 4 by omega, show j ≠ 5 by omega, show j ≠ 6 by omega, show j ≠ 7 by omega, show j ≠ 8 by omega]
theorem whR_V {y : Nat → Int} (h : scV y) (hb : xB 6 y) : cV (whR y) := by
  have hn := nuR_in h
  have hc := nuR_cb h
  obtain ⟨-, -, h7, h8, -⟩ := hb
  have e1 : whR y / 64 = nuR y := by unfold whR; omega
  have e2 : whR y / 8 % 8 = y 7 := by unfold whR; omega
  have e3 : whR y % 8 = y 8 := by unfold whR; omega
  refine ⟨?_, by rw [e1]; exact hc, by omega, by omega⟩
  unfold whR
  omega
/-- ways K of a state come to the state of y by m mends more: those of c with j -/
def mnT (c : Int) (K : Nat → Int) (y : Nat → Int) (m j : Nat) : Int := if whR y = c ∧ m ≤ j then K (j - m) else 0
def mnAs (x : Nat → Int) (how : Int) : Int := if how - 2 < x 4 then 12 else if x 4 < how - 2 then 13 else 14
def mnE (w x : Nat → Int) (how o : Int) (K : Nat → Int) (c : Int) (j : Nat) : Int := if o = mnAs x how then 0 else mnT c K (rlR w x o) 1 j
/-- what a state s with ways K brings to c with j by a rally -/
def mnC (w : Nat → Int) (how s : Int) (K : Nat → Int) (c : Int) (j : Nat) : Int :=
  if ovR (w 194) (wcX w s) = true then 0 else mnT c K (rlR w (wcX w s) how) 0 j + (if 2 ≤ how ∧ wcX w s 6 = 1 then mnE w (wcX w s) how 12 K c j + mnE w (wcX w s) how 13 K c j + mnE w (wcX w s) how 14 K c j else 0)
/-- the ways behind so many rallies -/
def mnK (w t x0 : Nat → Int) : Nat → Int → Nat → Int
  | 0, c, j => if c = whR x0 ∧ j = 0 then 1 else 0
  | n + 1, c, j => sumN mnN (fun s => mnC w (hwO t n) (s : Int) (mnK w t x0 n (s : Int)) c j)
/-- the states that are come to -/
def mnV (w t x0 : Nat → Int) : Nat → Int → Prop
  | 0, c => c = whR x0
  | n + 1, c => ∃ s, mnV w t x0 n s ∧ ovR (w 194) (wcX w s) = false ∧ (c = whR (rlR w (wcX w s) (hwO t n)) ∨ (2 ≤ hwO t n ∧ wcX w s 6 = 1 ∧ ∃ o, (o = 12 ∨ o = 13 ∨ o = 14) ∧ c = whR (rlR w (wcX w s) o)))
/-- at most 4000 states -/
def mnB (w t x0 : Nat → Int) (n : Nat) : Prop := ∀ (f : Nat → Int) (m : Nat), (∀ i, i < m → mnV w t x0 n (f i)) → (∀ i j, i < m → j < m → f i = f j → i = j) → m ≤ 4000
theorem mnT_0 {c : Int} {K : Nat → Int} {y : Nat → Int} {m j : Nat} (h : ∀ i, i ≤ j → K i = 0) : mnT c K y m j = 0 := by
  unfold mnT
  split
  · exact h _ (by omega)
  · rfl
theorem mnC_0 {w : Nat → Int} {how s c : Int} {K : Nat → Int} {j : Nat} (h : ∀ i, i ≤ j → K i = 0) : mnC w how s K c j = 0 := by
  unfold mnC mnE
  split
  · rfl
  · rw [mnT_0 h, mnT_0 h, mnT_0 h, mnT_0 h]
    simp
theorem mnT_nn {c : Int} {K : Nat → Int} {y : Nat → Int} {m j : Nat} (h : ∀ i, 0 ≤ K i) : 0 ≤ mnT c K y m j := by
  unfold mnT
  split
  · exact h _
  · exact Int.le_refl _
theorem mnE_nn {w x : Nat → Int} {how o c : Int} {K : Nat → Int} {j : Nat} (h : ∀ i, 0 ≤ K i) : 0 ≤ mnE w x how o K c j := by
  unfold mnE
  split
  · exact Int.le_refl _
  · exact mnT_nn h
theorem mnC_nn {w : Nat → Int} {how s c : Int} {K : Nat → Int} {j : Nat} (h : ∀ i, 0 ≤ K i) : 0 ≤ mnC w how s K c j := by
  have h1 := mnT_nn (c := c) (y := rlR w (wcX w s) how) (m := 0) (j := j) h
  have h2 := mnE_nn (w := w) (x := wcX w s) (how := how) (o := 12) (c := c) (j := j) h
  have h3 := mnE_nn (w := w) (x := wcX w s) (how := how) (o := 13) (c := c) (j := j) h
  have h4 := mnE_nn (w := w) (x := wcX w s) (how := how) (o := 14) (c := c) (j := j) h
  unfold mnC
  split
  · exact Int.le_refl _
  · split <;> omega
theorem mnK_nn (w t x0 : Nat → Int) : ∀ n c j, 0 ≤ mnK w t x0 n c j
  | 0, c, j => by
    unfold mnK
    split <;> omega
  | n + 1, c, j => by
    unfold mnK
    exact sumN_nn (fun s _ => mnC_nn (fun i => mnK_nn w t x0 n s i))
/-- the ways of a row of states by j mends -/
theorem mnT_sum {K : Nat → Int} {y : Nat → Int} {m j : Nat} (h : ∀ i, 0 ≤ K i) : ∀ n : Nat, sumN n (fun c => mnT (c : Int) K y m j) ≤ (if m ≤ j then K (j - m) else 0)
  | n => by
    by_cases hn : 0 ≤ whR y ∧ whR y < n
    · have e : sumN n (fun c => mnT (c : Int) K y m j) = sumN n (fun c => if c = (whR y).toNat then 0 else mnT (c : Int) K y m j) + mnT (((whR y).toNat : Nat) : Int) K y m j := sumN_at (by omega)
      rw [e, sumN_0 (fun i _ => ?_)]
      · unfold mnT
        split
        · next q => rw [if_pos q.2]; omega
        · split
          · have := h (j - m); omega
          · omega
      · split
        · rfl
        · unfold mnT
          exact if_neg (by omega)
    · rw [sumN_0 (fun i hi => ?_)]
      · split
        · exact h _
        · exact Int.le_refl _
      · unfold mnT
        exact if_neg (by omega)
theorem mnE_sum {w x : Nat → Int} {how o : Int} {K : Nat → Int} {j : Nat} (h : ∀ i, 0 ≤ K i) (n : Nat) : sumN n (fun c => mnE w x how o K (c : Int) j) ≤ (if o = mnAs x how then 0 else if 1 ≤ j then K (j - 1) else 0) := by
  by_cases e : o = mnAs x how
  · rw [if_pos e, sumN_0 (fun i _ => by unfold mnE; exact if_pos e)]
    exact Int.le_refl _
  · rw [if_neg e, sumN_c (g := fun c => mnT (c : Int) K (rlR w x o) 1 j) (fun i _ => by unfold mnE; exact if_neg e)]
    exact mnT_sum h n
theorem mnC_sum {w : Nat → Int} {how s : Int} {K : Nat → Int} {j : Nat} (h : ∀ i, 0 ≤ K i) (n : Nat) : sumN n (fun c => mnC w how s K (c : Int) j) ≤ K j + 2 * (if 1 ≤ j then K (j - 1) else 0) := by
  have hj : 0 ≤ (if 1 ≤ j then K (j - 1) else 0) := by
    split
    · exact h _
    · exact Int.le_refl _
  have hk := h j
  by_cases ho : ovR (w 194) (wcX w s) = true
  · rw [sumN_0 (fun i _ => by unfold mnC; exact if_pos ho)]
    omega
  · have e0 := mnT_sum (y := rlR w (wcX w s) how) (m := 0) (j := j) h n
    rw [if_pos (Nat.zero_le _), Nat.sub_zero] at e0
    have e1 := mnE_sum (w := w) (x := wcX w s) (how := how) (o := 12) (j := j) h n
    have e2 := mnE_sum (w := w) (x := wcX w s) (how := how) (o := 13) (j := j) h n
    have e3 := mnE_sum (w := w) (x := wcX w s) (how := how) (o := 14) (j := j) h n
    by_cases hd : 2 ≤ how ∧ wcX w s 6 = 1
    · have ec : sumN n (fun c => mnC w how s K (c : Int) j) = sumN n (fun c => mnT (c : Int) K (rlR w (wcX w s) how) 0 j) + ((sumN n (fun c => mnE w (wcX w s) how 12 K (c : Int) j) + sumN n (fun c => mnE w (wcX w s) how 13 K (c : Int) j)) + sumN n (fun c => mnE w (wcX w s) how 14 K (c : Int) j)) := by
        rw [← sumN_add, ← sumN_add, ← sumN_add]
        refine sumN_c (fun i _ => ?_)
        unfold mnC
        rw [if_neg ho, if_pos hd]
      rw [ec]
      have hs : mnAs (wcX w s) how = 12 ∨ mnAs (wcX w s) how = 13 ∨ mnAs (wcX w s) how = 14 := by
        unfold mnAs
        split
        · exact Or.inl rfl
        · split
          · exact Or.inr (Or.inl rfl)
          · exact Or.inr (Or.inr rfl)
      rcases hs with q | q | q <;> rw [q] at e1 e2 e3 <;> simp only [if_true, if_false] at e1 e2 e3 <;> simp at e1 e2 e3 <;> omega
    · have ec : sumN n (fun c => mnC w how s K (c : Int) j) = sumN n (fun c => mnT (c : Int) K (rlR w (wcX w s) how) 0 j) := by
        refine sumN_c (fun i _ => ?_)
        unfold mnC
        rw [if_neg ho, if_neg hd]
        omega
      rw [ec]
      omega
theorem mnK_sum (w t x0 : Nat → Int) : ∀ (n j : Nat), sumN mnN (fun c => mnK w t x0 n (c : Int) j) ≤ 3 ^ n
  | 0, j => by
    have h : ∀ N : Nat, sumN N (fun c => mnK w t x0 0 (c : Int) j) ≤ 1 := by
      intro N
      have := mnT_sum (K := fun i => if i = 0 then 1 else 0) (y := x0) (m := 0) (j := j) (fun i => by split <;> omega) N
      have e : sumN N (fun c => mnK w t x0 0 (c : Int) j) = sumN N (fun c => mnT (c : Int) (fun i => if i = 0 then 1 else 0) x0 0 j) := by
        refine sumN_c (fun i _ => ?_)
        unfold mnK mnT
        grind
      rw [e]
      refine Int.le_trans this ?_
      rw [if_pos (Nat.zero_le _)]
      split <;> omega
    exact h mnN
  | n + 1, j => by
    have h1 : sumN mnN (fun c => mnK w t x0 (n + 1) (c : Int) j) = sumN mnN (fun s => sumN mnN (fun c => mnC w (hwO t n) (s : Int) (mnK w t x0 n (s : Int)) (c : Int) j)) := by
      rw [sumN_swap]
      exact sumN_c (fun i _ => rfl)
    rw [h1]
    have h2 : sumN mnN (fun s => sumN mnN (fun c => mnC w (hwO t n) (s : Int) (mnK w t x0 n (s : Int)) (c : Int) j)) ≤ sumN mnN (fun s => mnK w t x0 n (s : Int) j + 2 * (if 1 ≤ j then mnK w t x0 n (s : Int) (j - 1) else 0)) := sumN_le (fun s _ => mnC_sum (fun i => mnK_nn w t x0 n s i) mnN)
    rw [sumN_add, sumN_mul] at h2
    have i1 := mnK_sum w t x0 n j
    have i2 := mnK_sum w t x0 n (j - 1)
    have h3 : sumN mnN (fun s => if 1 ≤ j then mnK w t x0 n (s : Int) (j - 1) else 0) ≤ 3 ^ n := by
      by_cases hj : 1 ≤ j
      · rw [sumN_c (g := fun s => mnK w t x0 n (s : Int) (j - 1)) (fun i _ => if_pos hj)]
        exact i2
      · rw [sumN_0 (fun i _ => if_neg hj)]
        exact Int.le_of_lt (Int.pow_pos (by decide))
    have e3 : (3 : Int) ^ (n + 1) = 3 * 3 ^ n := by rw [Int.pow_succ]; omega
    omega
