/-! ===== calls otherwise, plainly: of each score the fewest and in how many ways ===== -/
set_option maxRecDepth 100000
/-- the first number of a row that is not 0 -/
def LD (A : Nat → Int) (f : Nat) (v : Int) : Prop := (∀ j, j < f → A j = 0) ∧ A f = v ∧ 0 < v
theorem LD.lt {A B : Nat → Int} {f : Nat} {v : Int} (h : LD A f v) (hB : ∀ j, j ≤ f → B j = 0) : LD (fun j => A j + B j) f v :=
  ⟨fun j hj => by show A j + B j = 0; rw [h.1 j hj, hB j (by omega)]; rfl, by show A f + B f = v; rw [h.2.1, hB f (Nat.le_refl _), Int.add_zero], h.2.2⟩
theorem LD.gt {A B : Nat → Int} {f : Nat} {v : Int} (hA : ∀ j, j ≤ f → A j = 0) (h : LD B f v) : LD (fun j => A j + B j) f v :=
  ⟨fun j hj => by show A j + B j = 0; rw [h.1 j hj, hA j (by omega)]; rfl, by show A f + B f = v; rw [h.2.1, hA f (Nat.le_refl _), Int.zero_add], h.2.2⟩
theorem LD.eq {A B : Nat → Int} {f : Nat} {v u : Int} (hA : LD A f v) (hB : LD B f u) : LD (fun j => A j + B j) f (v + u) :=
  ⟨fun j hj => by show A j + B j = 0; rw [hA.1 j hj, hB.1 j hj]; rfl, by show A f + B f = v + u; rw [hA.2.1, hB.2.1], by have := hA.2.2; have := hB.2.2; omega⟩
theorem LD.sh {K : Nat → Int} {f m : Nat} {v : Int} {y : Nat → Int} (h : LD K f v) : LD (fun j => mnT (whR y) K y m j) (f + m) v := by
  refine ⟨fun j hj => ?_, ?_, h.2.2⟩
  · show (if whR y = whR y ∧ m ≤ j then K (j - m) else 0) = 0
    split
    · exact h.1 _ (by omega)
    · rfl
  · show (if whR y = whR y ∧ m ≤ f + m then K (f + m - m) else 0) = v
    rw [if_pos ⟨rfl, by omega⟩, Nat.add_sub_cancel]
    exact h.2.1
/-- rows of scores, each once, by the component's keys: the fewest (at most b), in how many ways -/
def clI (V : Int → Prop) (b : Nat) (r fw wy : Nat → Int) (N : Nat) (A : Int → Nat → Int) : Prop := N ≤ 4000 ∧ ∃ c : Nat → Int, (∀ i, i < N → r i = kC (c i)) ∧ (∀ i j, i < N → j < N → c i = c j → i = j) ∧ (∀ i, i < N → V (c i) ∧ cV (c i)) ∧ (∀ i, i < N → ∃ f : Nat, fw i = (f : Int) ∧ f ≤ b ∧ LD (A (c i)) f (wy i)) ∧ ∀ x j, (∀ i, i < N → c i ≠ x) → A x j = 0
theorem clI.c {V : Int → Prop} {b : Nat} {r fw wy : Nat → Int} {N : Nat} {A B : Int → Nat → Int} (h : clI V b r fw wy N A) (e : ∀ c j, A c j = B c j) : clI V b r fw wy N B := by
  have : A = B := by
    funext c j
    exact e c j
  rw [← this]
  exact h
theorem clI.mo {V : Int → Prop} {b b' : Nat} {r fw wy : Nat → Int} {N : Nat} {A : Int → Nat → Int} (h : clI V b r fw wy N A) (e : b ≤ b') : clI V b' r fw wy N A := by
  obtain ⟨h1, c, h2, h3, h4, h5, h6⟩ := h
  refine ⟨h1, c, h2, h3, h4, fun i hi => ?_, h6⟩
  obtain ⟨f, a1, a2, a3⟩ := h5 i hi
  exact ⟨f, a1, by omega, a3⟩
theorem clI.cp {V : Int → Prop} {b : Nat} {r fw wy r' fw' wy' : Nat → Int} {N : Nat} {A : Int → Nat → Int} (h : clI V b r fw wy N A) (e1 : ∀ i, i < N → r' i = r i) (e2 : ∀ i, i < N → fw' i = fw i) (e3 : ∀ i, i < N → wy' i = wy i) : clI V b r' fw' wy' N A := by
  obtain ⟨h1, c, h2, h3, h4, h5, h6⟩ := h
  refine ⟨h1, c, fun i hi => (e1 i hi).trans (h2 i hi), h3, h4, fun i hi => ?_, h6⟩
  obtain ⟨f, a1, a2, a3⟩ := h5 i hi
  exact ⟨f, (e2 i hi).trans a1, a2, by rw [e3 i hi]; exact a3⟩
theorem clI.r {V : Int → Prop} {b : Nat} {r fw wy : Nat → Int} {N : Nat} {A : Int → Nat → Int} (h : clI V b r fw wy N A) {i : Nat} (hi : i < N) : 0 ≤ r i ∧ r i < 3965000 ∧ 0 ≤ fw i ∧ fw i ≤ b := by
  obtain ⟨h1, c, h2, h3, h4, h5, h6⟩ := h
  obtain ⟨f, a1, a2, a3⟩ := h5 i hi
  have hc := (h4 i hi).2.1
  have := kC_r hc.1 hc.2
  rw [h2 i hi]
  omega
theorem clI.room {V : Int → Prop} {b : Nat} {r fw wy : Nat → Int} {N : Nat} {A : Int → Nat → Int} {x : Int} (h : clI V b r fw wy N A) (hV : V x) (hB : ∀ (f : Nat → Int) (m : Nat), (∀ i, i < m → V (f i)) → (∀ i j, i < m → j < m → f i = f j → i = j) → m ≤ 4000) (hn : ∀ s, s < N → r s ≠ kC x) : N < 4000 := by
  obtain ⟨h1, c, h2, h3, h4, h5, h6⟩ := h
  have hx : ∀ s, s < N → c s ≠ x := fun s hs e => hn s hs (by rw [h2 s hs, e])
  have := hB (fun i => if i = N then x else c i) (N + 1) (fun i hi => ?_) (fun i j hi hj q => ?_)
  · omega
  · by_cases e : i = N
    · simp only [if_pos e]
      exact hV
    · simp only [if_neg e]
      exact (h4 i (by omega)).1
  · by_cases e : i = N
    · by_cases e2 : j = N
      · omega
      · simp only [if_pos e, if_neg e2] at q
        exact absurd q.symm (hx j (by omega))
    · by_cases e2 : j = N
      · simp only [if_neg e, if_pos e2] at q
        exact absurd q (hx i (by omega))
      · simp only [if_neg e, if_neg e2] at q
        exact h3 i j (by omega) (by omega) q
theorem mnT_ne {c : Int} {K y : Nat → Int} {m j : Nat} (h : c ≠ whR y) : mnT c K y m j = 0 := if_neg (fun q => h q.1.symm)
/-- ways come to a score that is there -/
theorem clI.set {V : Int → Prop} {b b' : Nat} {r fw wy fw' wy' : Nat → Int} {N k f m : Nat} {A : Int → Nat → Int} {K y : Nat → Int} {v : Int} (h : clI V b r fw wy N A) (hb : b ≤ b') (hk : k < N) (hc : cV (whR y)) (e : r k = kC (whR y)) (hK : LD K f v) (hf : f + m ≤ b') (eo : ∀ i, i ≠ k → fw' i = fw i ∧ wy' i = wy i) (q1 : fw k < ((f + m : Nat) : Int) → fw' k = fw k ∧ wy' k = wy k) (q2 : ((f + m : Nat) : Int) < fw k → fw' k = ((f + m : Nat) : Int) ∧ wy' k = v) (q3 : ((f + m : Nat) : Int) = fw k → fw' k = ((f + m : Nat) : Int) ∧ wy' k = wy k + v) : clI V b' r fw' wy' N (fun c j => A c j + mnT c K y m j) := by
  obtain ⟨h1, c, h2, h3, h4, h5, h6⟩ := h
  have ck : c k = whR y := kC_i (h4 k hk).2.1.1 hc.1.1 (by rw [← h2 k hk, e])
  refine ⟨h1, c, h2, h3, h4, fun i hi => ?_, fun x j hx => ?_⟩
  · by_cases ei : i = k
    · subst ei
      obtain ⟨g, a1, a2, a3⟩ := h5 i hi
      rw [ck] at a3 ⊢
      have hS := LD.sh (y := y) (m := m) hK
      by_cases c1 : g < f + m
      · obtain ⟨b1, b2⟩ := q1 (by rw [a1]; omega)
        refine ⟨g, b1.trans a1, by omega, ?_⟩
        rw [b2]
        exact a3.lt (fun j hj => hS.1 j (by omega))
      · by_cases c2 : g = f + m
        · obtain ⟨b1, b2⟩ := q3 (by rw [a1]; omega)
          refine ⟨f + m, b1, hf, ?_⟩
          rw [b2]
          rw [c2] at a3
          exact a3.eq hS
        · obtain ⟨b1, b2⟩ := q2 (by rw [a1]; omega)
          refine ⟨f + m, b1, hf, ?_⟩
          rw [b2]
          exact LD.gt (fun j hj => a3.1 j (by omega)) hS
    · obtain ⟨g, a1, a2, a3⟩ := h5 i hi
      obtain ⟨b1, b2⟩ := eo i ei
      have ne : c i ≠ whR y := fun q => ei (h3 i k hi hk (q.trans ck.symm))
      refine ⟨g, b1.trans a1, by omega, ?_⟩
      rw [b2]
      exact a3.lt (fun j _ => mnT_ne ne)
  · show A x j + mnT x K y m j = 0
    rw [h6 x j hx, mnT_ne (fun q => hx k hk (ck.trans q.symm))]
    rfl
/-- a new score -/
theorem clI.new {V : Int → Prop} {b b' : Nat} {r fw wy r' fw' wy' : Nat → Int} {N f m : Nat} {A : Int → Nat → Int} {K y : Nat → Int} {v : Int} (h : clI V b r fw wy N A) (hb : b ≤ b') (hN : N < 4000) (hV : V (whR y)) (hc : cV (whR y)) (hn : ∀ s, s < N → r s ≠ kC (whR y)) (hK : LD K f v) (hf : f + m ≤ b') (eo : ∀ i, i ≠ N → r' i = r i ∧ fw' i = fw i ∧ wy' i = wy i) (e1 : r' N = kC (whR y)) (e2 : fw' N = ((f + m : Nat) : Int)) (e3 : wy' N = v) : clI V b' r' fw' wy' (N + 1) (fun c j => A c j + mnT c K y m j) := by
  obtain ⟨h1, c, h2, h3, h4, h5, h6⟩ := h
  have hx : ∀ s, s < N → c s ≠ whR y := fun s hs e => hn s hs (by rw [h2 s hs, e])
  refine ⟨by omega, fun i => if i = N then whR y else c i, fun i hi => ?_, fun i j hi hj q => ?_, fun i hi => ?_, fun i hi => ?_, fun x j hq => ?_⟩
  · by_cases e : i = N
    · simp only [if_pos e]
      rw [e]; exact e1
    · simp only [if_neg e]
      exact (eo i e).1.trans (h2 i (by omega))
  · by_cases e : i = N
    · by_cases e2 : j = N
      · omega
      · simp only [if_pos e, if_neg e2] at q
        exact absurd q.symm (hx j (by omega))
    · by_cases e2 : j = N
      · simp only [if_neg e, if_pos e2] at q
        exact absurd q (hx i (by omega))
      · simp only [if_neg e, if_neg e2] at q
        exact h3 i j (by omega) (by omega) q
  · by_cases e : i = N
    · simp only [if_pos e]
      exact ⟨hV, hc⟩
    · simp only [if_neg e]
      exact h4 i (by omega)
  · by_cases e : i = N
    · subst e
      simp only [if_true]
      refine ⟨f + m, e2, hf, ?_⟩
      rw [e3]
      exact LD.gt (fun j _ => h6 _ j hx) (LD.sh (y := y) (m := m) hK)
    · simp only [if_neg e]
      obtain ⟨g, a1, a2, a3⟩ := h5 i (by omega)
      refine ⟨g, (eo i e).2.1.trans a1, by omega, ?_⟩
      rw [(eo i e).2.2]
      exact a3.lt (fun j _ => mnT_ne (hx i (by omega)))
  · have hN' := hq N (by omega)
    simp only [if_true] at hN'
    show A x j + mnT x K y m j = 0
    rw [h6 x j (fun i hi => ?_), mnT_ne (fun q => hN' q.symm)]
    · rfl
    · have := hq i (by omega)
      simp only [if_neg (show ¬ i = N by omega)] at this
      exact this
theorem clI.nil {V : Int → Prop} {b : Nat} {r fw wy : Nat → Int} : clI V b r fw wy 0 (fun _ _ => 0) := ⟨by decide, fun _ => 0, fun i hi => absurd hi (Nat.not_lt_zero _), fun i j hi => absurd hi (Nat.not_lt_zero _), fun i hi => absurd hi (Nat.not_lt_zero _), fun i hi => absurd hi (Nat.not_lt_zero _), fun _ _ _ => rfl⟩
/-- a sum over all scores is one over those that are there -/
theorem clI.sum {V : Int → Prop} {b : Nat} {r fw wy : Nat → Int} {N : Nat} {A : Int → Nat → Int} (h : clI V b r fw wy N A) : ∃ c : Nat → Int, (∀ i, i < N → r i = kC (c i) ∧ V (c i) ∧ cV (c i) ∧ ∃ f : Nat, fw i = (f : Int) ∧ f ≤ b ∧ LD (A (c i)) f (wy i)) ∧ (∀ x j, (∀ i, i < N → c i ≠ x) → A x j = 0) ∧ ∀ g : Int → Int, (∀ x, (∀ i, i < N → c i ≠ x) → g x = 0) → sumN mnN (fun s => g (s : Int)) = sumN N (fun i => g (c i)) := by
  obtain ⟨h1, c, h2, h3, h4, h5, h6⟩ := h
  refine ⟨c, fun i hi => ⟨h2 i hi, (h4 i hi).1, (h4 i hi).2, h5 i hi⟩, h6, fun g h0 => ?_⟩
  refine (sum_ss N mnN (fun i => (c i).toNat) (fun s => g (s : Int)) (fun i hi => ?_) (fun i j hi hj e => ?_) (fun x hx hn => ?_)).trans (sumN_c (fun i hi => ?_))
  · have := (h4 i hi).2.1
    show (c i).toNat < 991232
    omega
  · have a := (h4 i hi).2.1
    have b := (h4 j hj).2.1
    have e' : (c i).toNat = (c j).toNat := e
    exact h3 i j hi hj (by omega)
  · refine h0 x (fun i hi q => hn i hi ?_)
    show (c i).toNat = x
    omega
  · have a := (h4 i hi).2.1
    show g (((c i).toNat : Nat) : Int) = g (c i)
    rw [Int.toNat_of_nonneg a.1]
/-- what of the memory the calls change -/
def clF (S S' : Nat → Nat → Int) : Prop := ∀ h k, h ≠ 137 → h ≠ 138 → ¬ (108 ≤ h ∧ h ≤ 111) → ¬ (h = 134 ∧ k = 7) → S' h k = S h k
theorem clF.tr {S T U : Nat → Nat → Int} (a : clF S T) (b : clF T U) : clF S U := fun h k h1 h2 h3 h4 => (b h k h1 h2 h3 h4).trans (a h k h1 h2 h3 h4)
theorem clF.cxW {S T : Nat → Nat → Int} {x : Nat → Int} (a : clF S T) : clF S (cxW T 108 x) := fun h k h1 h2 h3 h4 => by
  rw [cxW_o T 108 x (by omega) (by omega) (by omega) (by omega)]
  exact a h k h1 h2 h3 h4
/-- a source of ways: score u of the row -/
def clS (S L : Nat → Nat → Int) (b u : Nat) (c : Int) (K : Nat → Int) : Prop := S 135 u = kC c ∧ cV c ∧ ∃ f : Nat, S 136 u = (f : Int) ∧ f ≤ b ∧ LD K f (L 139 u)
theorem clS.fr {S S' L L' : Nat → Nat → Int} {b u : Nat} {c : Int} {K : Nat → Int} (h : clS S L b u c K) (e1 : S' 135 u = S 135 u) (e2 : S' 136 u = S 136 u) (e3 : L' 139 u = L 139 u) : clS S' L' b u c K := by
  obtain ⟨h1, h2, f, h3, h4, h5⟩ := h
  exact ⟨e1.trans h1, h2, f, e2.trans h3, h4, by rw [e3]; exact h5⟩
/-- the log's rally as the component has it -/
theorem lgO_d {t : Nat → Int} {k : Nat} (hO : lgO t k = true) (ht : 0 ≤ t (2 * k + 1) ∧ t (2 * k + 1) ≤ 255) : (0 ≤ hwD t k ∧ hwD t k ≤ 2) ∧ (hwD t k = 2 → (0 ≤ t (2 * k + 1) - 48 ∧ t (2 * k + 1) - 48 ≤ 9) ∧ hwO t k = 2 + (t (2 * k + 1) - 48)) ∧ (hwD t k < 2 → hwO t k = hwD t k) ∧ (0 ≤ hwO t k ∧ hwO t k ≤ 11) := by
  have hO2 : (t (2 * k) = 100 ∧ 48 ≤ t (2 * k + 1) ∧ t (2 * k + 1) ≤ 57) ∨ ((t (2 * k) = 119 ∨ t (2 * k) = 108) ∧ t (2 * k + 1) = 48) := by
    unfold lgO at hO
    simpa [Bool.or_eq_true, Bool.and_eq_true, decide_eq_true_eq] using hO
  rcases hO2 with ⟨a, b, c⟩ | ⟨a | a, b⟩
  · have e1 : hwD t k = 2 := by
      unfold hwD
      rw [if_neg (by omega), if_neg (by omega)]
    have e2 : hwO t k = 2 + (t (2 * k + 1) - 48) := by
      unfold hwO
      rw [if_neg (by omega), if_neg (by omega)]
      omega
    rw [e1, e2]
    exact ⟨by decide, fun _ => ⟨by omega, rfl⟩, fun c => absurd c (by decide), by omega⟩
  · have e1 : hwD t k = 0 := by
      unfold hwD
      rw [if_pos a]
    have e2 : hwO t k = 0 := by
      unfold hwO
      rw [if_pos a]
    rw [e1, e2]
    exact ⟨by decide, fun c => absurd c (by decide), fun _ => rfl, by decide⟩
  · have e1 : hwD t k = 1 := by
      unfold hwD
      rw [if_neg (by omega), if_pos a]
    have e2 : hwO t k = 1 := by
      unfold hwO
      rw [if_neg (by omega), if_pos a]
    rw [e1, e2]
    exact ⟨by decide, fun c => absurd c (by decide), fun _ => rfl, by decide⟩
