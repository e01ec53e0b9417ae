/-! ===== plain parsers: from a place to the first wrong place, or to a place and a value ===== -/
set_option maxRecDepth 100000
abbrev Pr (α : Type) : Type := Sum Nat (Nat × α)
/-- facts: 0 to 4 as of the row, 5 serving, 6 off -/
abbrev Fc : Type := Nat → Int
theorem rn_rn {q : Nat → Bool} {n a : Nat} (h : a ≤ n) : rn q n (rn q n a) = rn q n a := rn_f (rn_in _ a rfl h).2.2.1
def ptP (tx : Nat → Int) (n a : Nat) : Pr (Fc → Int) :=
  if rn (qB tx) n a < n ∧ qD tx (rn (qB tx) n a) = true then (if fgB tx n (rn (qB tx) n a) 0 999 = true then .inl (rn (qB tx) n a) else .inr (rn (qD tx) n (rn (qB tx) n a), fun _ => fgV tx (rn (qB tx) n a) (rn (qD tx) n (rn (qB tx) n a) - rn (qB tx) n a)))
  else if hsW tx n (rn (qB tx) n a) (wo 14) = true then .inr (rn (qB tx) n a + 4, fun F => F 0)
  else if hsW tx n (rn (qB tx) n a) (wo 15) = true then .inr (rn (qB tx) n a + 3, fun F => F 1)
  else if hsW tx n (rn (qB tx) n a) (wo 16) = true then .inr (rn (qB tx) n a + 4, fun F => F 2)
  else if hsW tx n (rn (qB tx) n a) (wo 17) = true then .inr (rn (qB tx) n a + 6, fun F => F 3)
  else if hsW tx n (rn (qB tx) n a) (wo 1) = true then .inr (rn (qB tx) n a + 5, fun F => F 4)
  else .inl (rn (qB tx) n a)
/-- p, as long as sep goes on -/
def lpF {α : Type} (sk : Nat → Nat) (sep : Nat → Option Nat) (p : Nat → Pr α) (cb : α → α → α) : Nat → Nat → α → Pr α
  | 0, a, g => .inr (a, g)
  | f + 1, a, g => match sep a with
    | none => .inr (sk a, g)
    | some b => match p b with
      | .inl w => .inl w
      | .inr c => lpF sk sep p cb f c.1 (cb g c.2)
def lpP {α : Type} (n : Nat) (sk : Nat → Nat) (sep : Nat → Option Nat) (p : Nat → Pr α) (cb : α → α → α) (a : Nat) (g : α) : Pr α := lpF sk sep p cb (n + 1 - a) a g
theorem lpF_eq {α : Type} {n : Nat} {sk : Nat → Nat} {sep : Nat → Option Nat} {p : Nat → Pr α} {cb : α → α → α} (h1 : ∀ a b, a ≤ n → sep a = some b → a < b ∧ b ≤ n) (h2 : ∀ a c, a ≤ n → p a = .inr c → a ≤ c.1 ∧ c.1 ≤ n) : ∀ (f f' a : Nat) (g : α), a ≤ n → n + 1 - a ≤ f → n + 1 - a ≤ f' → lpF sk sep p cb f a g = lpF sk sep p cb f' a g
  | 0, _, a, _, ha, hf, _ => by omega
  | _ + 1, 0, a, _, ha, _, hf => by omega
  | f + 1, f' + 1, a, g, ha, hf, hf' => by
    unfold lpF
    cases hs : sep a with
    | none => rfl
    | some b =>
      have hb := h1 a b ha hs
      cases hp : p b with
      | inl w => simp only [hp]
      | inr c =>
        have hc := h2 b c hb.2 hp
        simp only [hp]
        exact lpF_eq h1 h2 f f' c.1 (cb g c.2) hc.2 (by omega) (by omega)
theorem lpP_n {α : Type} {n : Nat} {sk : Nat → Nat} {sep : Nat → Option Nat} {p : Nat → Pr α} {cb : α → α → α} {a : Nat} {g : α} (ha : a ≤ n) (hs : sep a = none) : lpP n sk sep p cb a g = .inr (sk a, g) := by
  unfold lpP
  rw [show n + 1 - a = n - a + 1 by omega]
  unfold lpF
  rw [hs]
theorem lpP_l {α : Type} {n : Nat} {sk : Nat → Nat} {sep : Nat → Option Nat} {p : Nat → Pr α} {cb : α → α → α} {a b w : Nat} {g : α} (ha : a ≤ n) (hs : sep a = some b) (hp : p b = .inl w) : lpP n sk sep p cb a g = .inl w := by
  unfold lpP
  rw [show n + 1 - a = n - a + 1 by omega]
  unfold lpF
  rw [hs]
  simp only [hp]
theorem lpP_r {α : Type} {n : Nat} {sk : Nat → Nat} {sep : Nat → Option Nat} {p : Nat → Pr α} {cb : α → α → α} (h1 : ∀ a b, a ≤ n → sep a = some b → a < b ∧ b ≤ n) (h2 : ∀ a c, a ≤ n → p a = .inr c → a ≤ c.1 ∧ c.1 ≤ n) {a b : Nat} {c : Nat × α} {g : α} (ha : a ≤ n) (hs : sep a = some b) (hp : p b = .inr c) : lpP n sk sep p cb a g = lpP n sk sep p cb c.1 (cb g c.2) := by
  have hb := h1 a b ha hs
  have hc := h2 b c hb.2 hp
  unfold lpP
  rw [show n + 1 - a = n - a + 1 by omega]
  rw [lpF]
  rw [hs]
  simp only [hp]
  exact lpF_eq h1 h2 _ _ _ _ hc.2 (by omega) (by omega)
def spS (tx : Nat → Int) (n : Nat) (c : Int) (a : Nat) : Option Nat := if isSg tx n (rn (qB tx) n a) c = true then some (rn (qB tx) n a + 1) else none
def spW (tx : Nat → Int) (n : Nat) (j : Nat) (a : Nat) : Option Nat := if hsW tx n (rn (qB tx) n a) (wo j) = true then some (rn (qB tx) n a + (wo j).length) else none
theorem spS_in {tx : Nat → Int} {n : Nat} {c : Int} (a b : Nat) (ha : a ≤ n) (h : spS tx n c a = some b) : a < b ∧ b ≤ n := by
  unfold spS at h
  split at h
  · next e =>
    have h1 := isSg_t.mp e
    have h2 := rn_ge (q := qB tx) ha
    cases h
    omega
  · cases h
theorem hsW_le {tx : Nat → Int} {n b : Nat} {w : List Nat} (hb : b ≤ n) (h : hsW tx n b w = true) : b + w.length ≤ n := by
  have h1 := (hsW_t.mp h).1
  have h2 := rn_le (q := qL tx) hb
  omega
theorem spW_in {tx : Nat → Int} {n j : Nat} (hj : j < 18) (a b : Nat) (ha : a ≤ n) (h : spW tx n j a = some b) : a < b ∧ b ≤ n := by
  unfold spW at h
  split at h
  · next e =>
    have h1 := hsW_le (rn_le ha) e
    have h2 := rn_ge (q := qB tx) ha
    have h3 := (wo_len j hj).2
    cases h
    omega
  · cases h
def suP (tx : Nat → Int) (n a : Nat) : Pr (Fc → Int) := match ptP tx n a with
  | .inl w => .inl w
  | .inr c => lpP n (rn (qB tx) n) (spS tx n 43) (ptP tx n) (fun g h F => g F + h F) c.1 c.2
/-- facts are small -/
def bF (F : Fc) : Prop := ∀ k, -100 ≤ F k ∧ F k ≤ 100
theorem ptP_in {tx : Nat → Int} {n : Nat} (hx : ∀ k, k < n → 0 ≤ tx k ∧ tx k ≤ 255) (a : Nat) (c : Nat × (Fc → Int)) (ha : a ≤ n) (h : ptP tx n a = .inr c) : a < c.1 ∧ c.1 ≤ n ∧ ∀ F, bF F → -1000 ≤ c.2 F ∧ c.2 F ≤ 1000 := by
  have h2 := rn_ge (q := qB tx) ha
  have h3 := rn_le (q := qB tx) ha
  have hw : ∀ j, j < 18 → hsW tx n (rn (qB tx) n a) (wo j) = true → rn (qB tx) n a + (wo j).length ≤ n := fun j _ e => hsW_le h3 e
  unfold ptP at h
  generalize rn (qB tx) n a = b at h h2 h3 hw
  split at h
  · next e =>
    have hk := rn_in (q := qD tx) _ b rfl h3
    split at h
    · cases h
    · next e2 =>
      have e2 : fgB tx n b 0 999 = false := by simpa using e2
      unfold fgB at e2
      simp only [Bool.or_eq_false_iff, decide_eq_false_iff_not] at e2
      cases h
      refine ⟨?_, hk.2.1, fun F _ => ?_⟩
      · show a < rn (qD tx) n b
        omega
      · show -1000 ≤ fgV tx b (rn (qD tx) n b - b) ∧ fgV tx b (rn (qD tx) n b - b) ≤ 1000
        omega
  · have fin : ∀ (j k : Nat), j < 18 → k < 10 → hsW tx n b (wo j) = true → k = (wo j).length → ∀ i : Nat, a < b + k ∧ b + k ≤ n ∧ ∀ F : Fc, bF F → -1000 ≤ F i ∧ F i ≤ 1000 := by
      intro j k hj hk e ek i
      have h5 := hw j hj e
      have h6 := (wo_len j hj).2
      refine ⟨by omega, by omega, fun F hF => ?_⟩
      have := hF i
      omega
    split at h
    · next e => cases h; exact fin 14 4 (by decide) (by decide) e rfl 0
    · split at h
      · next e => cases h; exact fin 15 3 (by decide) (by decide) e rfl 1
      · split at h
        · next e => cases h; exact fin 16 4 (by decide) (by decide) e rfl 2
        · split at h
          · next e => cases h; exact fin 17 6 (by decide) (by decide) e rfl 3
          · split at h
            · next e => cases h; exact fin 1 5 (by decide) (by decide) e rfl 4
            · cases h
theorem suL_in {tx : Nat → Int} {n : Nat} (hx : ∀ k, k < n → 0 ≤ tx k ∧ tx k ≤ 255) : ∀ (f a : Nat) (g : Fc → Int) (c : Nat × (Fc → Int)), a ≤ n → (∀ F, bF F → -1000 * (a : Int) ≤ g F ∧ g F ≤ 1000 * (a : Int)) → lpF (rn (qB tx) n) (spS tx n 43) (ptP tx n) (fun g h F => g F + h F) f a g = .inr c → a ≤ c.1 ∧ c.1 ≤ n ∧ ∀ F, bF F → -1000 * (c.1 : Int) ≤ c.2 F ∧ c.2 F ≤ 1000 * (c.1 : Int)
  | 0, a, g, c, ha, hg, h => by
    unfold lpF at h
    cases h
    exact ⟨Nat.le_refl _, ha, hg⟩
  | f + 1, a, g, c, ha, hg, h => by
    unfold lpF at h
    cases hs : spS tx n 43 a with
    | none =>
      rw [hs] at h
      cases h
      have h2 := rn_ge (q := qB tx) ha
      refine ⟨h2, rn_le ha, fun F hF => ?_⟩
      have := hg F hF
      show -1000 * ((rn (qB tx) n a : Nat) : Int) ≤ g F ∧ g F ≤ 1000 * ((rn (qB tx) n a : Nat) : Int)
      omega
    | some b =>
      have hb := spS_in a b ha hs
      rw [hs] at h
      cases hp : ptP tx n b with
      | inl w => simp only [hp] at h; cases h
      | inr e =>
        have he := ptP_in hx b e hb.2 hp
        simp only [hp] at h
        have := suL_in hx f e.1 _ c he.2.1 (fun F hF => by
          have h1 := hg F hF
          have h2 := he.2.2 F hF
          show -1000 * (e.1 : Int) ≤ g F + e.2 F ∧ g F + e.2 F ≤ 1000 * (e.1 : Int)
          omega) h
        exact ⟨by omega, this.2⟩
theorem suP_in {tx : Nat → Int} {n : Nat} (hx : ∀ k, k < n → 0 ≤ tx k ∧ tx k ≤ 255) (a : Nat) (c : Nat × (Fc → Int)) (ha : a ≤ n) (h : suP tx n a = .inr c) : a < c.1 ∧ c.1 ≤ n ∧ ∀ F, bF F → -1000 * (c.1 : Int) ≤ c.2 F ∧ c.2 F ≤ 1000 * (c.1 : Int) := by
  unfold suP at h
  cases hp : ptP tx n a with
  | inl w => rw [hp] at h; cases h
  | inr e =>
    have he := ptP_in hx a e ha hp
    rw [hp] at h
    have := suL_in hx _ e.1 e.2 c he.2.1 (fun F hF => by have := he.2.2 F hF; omega) h
    exact ⟨by omega, this.2⟩
theorem suP_w {tx : Nat → Int} {n : Nat} (hx : ∀ k, k < n → 0 ≤ tx k ∧ tx k ≤ 255) (hpw : ∀ a w, a ≤ n → ptP tx n a = .inl w → w ≤ n) (a w : Nat) (ha : a ≤ n) (h : suP tx n a = .inl w) : w ≤ n := by
  have key : ∀ (f a : Nat) (g : Fc → Int), a ≤ n → lpF (rn (qB tx) n) (spS tx n 43) (ptP tx n) (fun g h F => g F + h F) f a g = .inl w → w ≤ n := by
    intro f
    induction f with
    | zero => intro a g _ h; unfold lpF at h; cases h
    | succ f ih =>
      intro a g ha h
      unfold lpF at h
      cases hs : spS tx n 43 a with
      | none => rw [hs] at h; cases h
      | some b =>
        have hb := spS_in a b ha hs
        rw [hs] at h
        cases hp : ptP tx n b with
        | inl w' => simp only [hp] at h; cases h; exact hpw b _ hb.2 hp
        | inr e =>
          simp only [hp] at h
          exact ih e.1 _ (ptP_in hx b e hb.2 hp).2.1 h
  unfold suP at h
  cases hp : ptP tx n a with
  | inl w' => rw [hp] at h; cases h; exact hpw a _ ha hp
  | inr e =>
    rw [hp] at h
    exact key _ e.1 _ (ptP_in hx a e ha hp).2.1 h
/-- a condition without and, or, not, brackets -/
def plP (tx : Nat → Int) (n a : Nat) : Pr (Fc → Bool) :=
  if hsW tx n (rn (qB tx) n a) (wo 10) = true then .inr (rn (qB tx) n a + 7, fun F => decide (F 5 = 1))
  else if hsW tx n (rn (qB tx) n a) (wo 11) = true then .inr (rn (qB tx) n a + 3, fun F => decide (F 6 = 1))
  else match suP tx n (rn (qB tx) n a) with
    | .inl w => .inl w
    | .inr c => if isSg tx n (rn (qB tx) n c.1) 60 = true then (match suP tx n (rn (qB tx) n c.1 + 1) with
        | .inl w => .inl w
        | .inr e => .inr (e.1, fun F => decide (c.2 F < e.2 F)))
      else if isSg tx n (rn (qB tx) n c.1) 62 = true then (match suP tx n (rn (qB tx) n c.1 + 1) with
        | .inl w => .inl w
        | .inr e => .inr (e.1, fun F => decide (e.2 F < c.2 F)))
      else .inl (rn (qB tx) n c.1)
def pOK {α : Type} (n : Nat) (p : Nat → Pr α) : Prop := ∀ a, a ≤ n → (∀ c, p a = .inr c → a ≤ c.1 ∧ c.1 ≤ n) ∧ ∀ w, p a = .inl w → w ≤ n
/-- all that follow one another, parted by the word j -/
def seqP {α : Type} (tx : Nat → Int) (n j : Nat) (cb : α → α → α) (p : Nat → Pr α) (a : Nat) : Pr α := match p a with
  | .inl w => .inl w
  | .inr c => lpP n (rn (qB tx) n) (spW tx n j) p cb c.1 c.2
theorem seqP_ok {α : Type} {tx : Nat → Int} {n j : Nat} {cb : α → α → α} {p : Nat → Pr α} (hj : j < 18) (hp : pOK n p) : pOK n (seqP tx n j cb p) := by
  have key : ∀ (f a : Nat) (g : α), a ≤ n → (∀ c, lpF (rn (qB tx) n) (spW tx n j) p cb f a g = .inr c → a ≤ c.1 ∧ c.1 ≤ n) ∧ ∀ w, lpF (rn (qB tx) n) (spW tx n j) p cb f a g = .inl w → w ≤ n := by
    intro f
    induction f with
    | zero =>
      intro a g ha
      exact ⟨fun c h => by unfold lpF at h; cases h; exact ⟨Nat.le_refl _, ha⟩, fun w h => by unfold lpF at h; cases h⟩
    | succ f ih =>
      intro a g ha
      have h1 := rn_ge (q := qB tx) ha
      have h2 := rn_le (q := qB tx) ha
      unfold lpF
      cases hs : spW tx n j a with
      | none => exact ⟨fun c h => by cases h; exact ⟨h1, h2⟩, fun w h => by cases h⟩
      | some b =>
        have hb := spW_in hj a b ha hs
        cases hq : p b with
        | inl w' =>
          simp only [hq]
          exact ⟨fun c h => (by cases h), fun w h => by cases h; exact (hp b hb.2).2 _ hq⟩
        | inr e =>
          simp only [hq]
          have he := (hp b hb.2).1 _ hq
          have := ih e.1 (cb g e.2) he.2
          exact ⟨fun c h => ⟨by have := (this.1 c h).1; omega, (this.1 c h).2⟩, this.2⟩
  intro a ha
  unfold seqP
  cases hq : p a with
  | inl w' => exact ⟨fun c h => (by cases h), fun w h => by cases h; exact (hp a ha).2 _ hq⟩
  | inr e =>
    have he := (hp a ha).1 _ hq
    have := key (n + 1 - e.1) e.1 e.2 he.2
    exact ⟨fun c h => ⟨by have := (this.1 c h).1; omega, (this.1 c h).2⟩, this.2⟩
def evP (tx : Nat → Int) (n : Nat) (p : Nat → Pr (Fc → Bool)) : Nat → Pr (Fc → Bool) := seqP tx n 12 (fun g h F => g F && h F) p
def soP (tx : Nat → Int) (n : Nat) (p : Nat → Pr (Fc → Bool)) : Nat → Pr (Fc → Bool) := seqP tx n 13 (fun g h F => g F || h F) (evP tx n p)
/-- an atom, with so much depth left -/
def atP (tx : Nat → Int) (n : Nat) : Nat → Nat → Pr (Fc → Bool)
  | 0, a => if hsW tx n (rn (qB tx) n a) (wo 9) = true ∨ isSg tx n (rn (qB tx) n a) 40 = true then .inl (rn (qB tx) n a) else plP tx n a
  | r + 1, a => if hsW tx n (rn (qB tx) n a) (wo 9) = true then (match atP tx n r (rn (qB tx) n a + 3) with
      | .inl w => .inl w
      | .inr c => .inr (c.1, fun F => !c.2 F))
    else if isSg tx n (rn (qB tx) n a) 40 = true then (match soP tx n (atP tx n r) (rn (qB tx) n a + 1) with
      | .inl w => .inl w
      | .inr c => if isSg tx n (rn (qB tx) n c.1) 41 = true then .inr (rn (qB tx) n c.1 + 1, c.2) else .inl (rn (qB tx) n c.1))
    else plP tx n a
theorem plP_ok {tx : Nat → Int} {n : Nat} (hx : ∀ k, k < n → 0 ≤ tx k ∧ tx k ≤ 255) (hpw : ∀ a w, a ≤ n → ptP tx n a = .inl w → w ≤ n) : pOK n (plP tx n) := by
  intro a ha
  have h1 := rn_ge (q := qB tx) ha
  have h2 := rn_le (q := qB tx) ha
  have w10 : ∀ h : hsW tx n (rn (qB tx) n a) (wo 10) = true, rn (qB tx) n a + 7 ≤ n := fun h => hsW_le h2 h
  have w11 : ∀ h : hsW tx n (rn (qB tx) n a) (wo 11) = true, rn (qB tx) n a + 3 ≤ n := fun h => hsW_le h2 h
  unfold plP
  generalize rn (qB tx) n a = b at h1 h2 w10 w11
  split
  · next h => exact ⟨fun c hc => by cases hc; have := w10 h; show a ≤ b + 7 ∧ b + 7 ≤ n; omega, fun w hw => by cases hw⟩
  · split
    · next h => exact ⟨fun c hc => by cases hc; have := w11 h; show a ≤ b + 3 ∧ b + 3 ≤ n; omega, fun w hw => by cases hw⟩
    · cases hs : suP tx n b with
      | inl w' => exact ⟨fun c hc => (by cases hc), fun w hw => by cases hw; exact suP_w hx hpw b w' h2 hs⟩
      | inr e =>
        have he := suP_in hx b e h2 hs
        have g1 := rn_ge (q := qB tx) he.2.1
        have g2 := rn_le (q := qB tx) he.2.1
        show ((∀ c, (if isSg tx n (rn (qB tx) n e.1) 60 = true then _ else _) = Sum.inr c → _) ∧ ∀ w, (if isSg tx n (rn (qB tx) n e.1) 60 = true then _ else _) = Sum.inl w → _)
        generalize rn (qB tx) n e.1 = k at g1 g2
        have two : ∀ (F : (Fc → Int) → Fc → Bool), isSg tx n k 60 = true ∨ isSg tx n k 62 = true → (∀ c, (match suP tx n (k + 1) with | .inl w => Sum.inl w | .inr e' => Sum.inr (e'.1, F e'.2)) = (Sum.inr c : Pr (Fc → Bool)) → a ≤ c.1 ∧ c.1 ≤ n) ∧ ∀ w, (match suP tx n (k + 1) with | .inl w => Sum.inl w | .inr e' => Sum.inr (e'.1, F e'.2)) = (Sum.inl w : Pr (Fc → Bool)) → w ≤ n := by
          intro F hk
          have hk : k < n := by
            rcases hk with h | h
            · exact (isSg_t.mp h).1
            · exact (isSg_t.mp h).1
          cases hs2 : suP tx n (k + 1) with
          | inl w' => exact ⟨fun c hc => (by cases hc), fun w hw => by cases hw; exact suP_w hx hpw (k + 1) w' (by omega) hs2⟩
          | inr e2 =>
            have he2 := suP_in hx (k + 1) e2 (by omega) hs2
            exact ⟨fun c hc => by cases hc; show a ≤ e2.1 ∧ e2.1 ≤ n; omega, fun w hw => by cases hw⟩
        split
        · next h => exact two (fun e' F => decide (e.2 F < e' F)) (Or.inl h)
        · split
          · next h => exact two (fun e' F => decide (e' F < e.2 F)) (Or.inr h)
          · exact ⟨fun c hc => (by cases hc), fun w hw => by cases hw; exact g2⟩
theorem evP_ok {tx : Nat → Int} {n : Nat} {p : Nat → Pr (Fc → Bool)} (h : pOK n p) : pOK n (evP tx n p) := seqP_ok (by decide) h
theorem soP_ok {tx : Nat → Int} {n : Nat} {p : Nat → Pr (Fc → Bool)} (h : pOK n p) : pOK n (soP tx n p) := seqP_ok (by decide) (evP_ok h)
theorem atP_ok {tx : Nat → Int} {n : Nat} (hx : ∀ k, k < n → 0 ≤ tx k ∧ tx k ≤ 255) (hpw : ∀ a w, a ≤ n → ptP tx n a = .inl w → w ≤ n) : ∀ r, pOK n (atP tx n r)
  | 0 => by
    intro a ha
    unfold atP
    split
    · exact ⟨fun c hc => (by cases hc), fun w hw => by cases hw; exact rn_le ha⟩
    · exact plP_ok hx hpw a ha
  | r + 1 => by
    intro a ha
    have ih := atP_ok hx hpw r
    have h1 := rn_ge (q := qB tx) ha
    have h2 := rn_le (q := qB tx) ha
    unfold atP
    split
    · next h =>
      have h3 : rn (qB tx) n a + 3 ≤ n := hsW_le h2 h
      have := ih (rn (qB tx) n a + 3) h3
      cases hp : atP tx n r (rn (qB tx) n a + 3) with
      | inl w' => exact ⟨fun c hc => (by cases hc), fun w hw => by cases hw; exact this.2 _ hp⟩
      | inr e =>
        have he := this.1 _ hp
        exact ⟨fun c hc => by cases hc; show a ≤ e.1 ∧ e.1 ≤ n; omega, fun w hw => by cases hw⟩
    · split
      · next h =>
        have h3 := (isSg_t.mp h).1
        have := soP_ok (tx := tx) ih (rn (qB tx) n a + 1) (by omega)
        cases hp : soP tx n (atP tx n r) (rn (qB tx) n a + 1) with
        | inl w' => exact ⟨fun c hc => (by cases hc), fun w hw => by cases hw; exact this.2 _ hp⟩
        | inr e =>
          have he := this.1 _ hp
          have g1 := rn_ge (q := qB tx) he.2
          have g2 := rn_le (q := qB tx) he.2
          show ((∀ c, (if isSg tx n (rn (qB tx) n e.1) 41 = true then _ else _) = Sum.inr c → _) ∧ ∀ w, (if isSg tx n (rn (qB tx) n e.1) 41 = true then _ else _) = Sum.inl w → _)
          split
          · next h4 =>
            have := (isSg_t.mp h4).1
            exact ⟨fun c hc => by cases hc; show a ≤ rn (qB tx) n e.1 + 1 ∧ rn (qB tx) n e.1 + 1 ≤ n; omega, fun w hw => by cases hw⟩
          · exact ⟨fun c hc => (by cases hc), fun w hw => by cases hw; exact g2⟩
      · exact plP_ok hx hpw a ha
