/-! ===== scores that can be: points, ends, chases; what a rally leaves ===== -/
set_option maxRecDepth 100000
def pV (x : Nat → Int) : Prop := (-3 ≤ x 0 ∧ x 0 ≤ 3 ∧ -3 ≤ x 1 ∧ x 1 ≤ 3) ∨ (x 0 = 4 ∧ x 1 = 3) ∨ (x 0 = 3 ∧ x 1 = 4)
/-- chases: at most so many stand -/
def hV (x : Nat → Int) : Prop := (x 3 = 0 ∧ x 6 = 0) ∨ (x 3 = 1 ∧ (x 6 = 0 ∨ x 6 = 1) ∧ 0 ≤ x 4 ∧ x 4 ≤ 9) ∨ (x 3 = 2 ∧ x 6 = 1 ∧ 0 ≤ x 4 ∧ x 4 ≤ 9 ∧ 0 ≤ x 5 ∧ x 5 ≤ 9)
def scV (x : Nat → Int) : Prop := pV x ∧ (x 2 = 0 ∨ x 2 = 1) ∧ hV x
/-- the numbers that a score's way rests on -/
def wV (w : Nat → Int) : Prop := (1 ≤ w 194 ∧ w 194 ≤ 6) ∧ (0 ≤ w 195 ∧ w 195 ≤ 2) ∧ (0 ≤ w 196 ∧ w 196 ≤ 1) ∧ (0 ≤ w 197 ∧ w 197 ≤ 3) ∧ (0 ≤ w 198 ∧ w 198 ≤ 3)
theorem wV.bw {w : Nat → Int} (h : wV w) : bw w := by
  obtain ⟨h1, h2, h3, h4, h5⟩ := h
  intro j hj1 hj2
  have : j = 194 ∨ j = 195 ∨ j = 196 ∨ j = 197 ∨ j = 198 := by omega
  rcases this with e | e | e | e | e <;> subst e <;> omega
theorem pnt_V {w x : Nat → Int} {p : Nat} (hw : wV w) (hp : p < 2) (h : pV x) : pV (pnt w x p) ∧ pnt w x p 2 = x 2 ∧ pnt w x p 4 = x 4 ∧ pnt w x p 5 = x 5 ∧ (ptw x p = true → pnt w x p 3 = 0 ∧ pnt w x p 6 = 0) ∧ (ptw x p = false → pnt w x p 3 = x 3 ∧ pnt w x p 6 = x 6) := by
  obtain ⟨-, -, -, h4, h5⟩ := hw
  have hpp : p = 0 ∨ p = 1 := by omega
  have e0 := pnt_at w x p 0
  have e1 := pnt_at w x p 1
  have e2 := pnt_at w x p 2
  have e3 := pnt_at w x p 3
  have e4 := pnt_at w x p 4
  have e5 := pnt_at w x p 5
  have e6 := pnt_at w x p 6
  have hw := @ptw_t x p
  unfold ptW at hw
  unfold pV at h ⊢
  rcases hpp with rfl | rfl
  · simp only [ptA_at, ptB_at, ptC_at] at *
    cases hb : ptw x 0 with
    | true =>
      rw [hb] at e0 e1 e2 e3 e4 e5 e6 hw
      simp at e0 e1 e2 e3 e4 e5 e6 hw
      refine ⟨by omega, e2, e4, e5, fun _ => ⟨e3, e6⟩, fun h => by cases h⟩
    | false =>
      rw [hb] at e0 e1 e2 e3 e4 e5 e6 hw
      simp at e0 e1 e2 e3 e4 e5 e6 hw
      refine ⟨by grind, e2, e4, e5, fun h => (by cases h), fun _ => ⟨e3, e6⟩⟩
  · simp only [ptA_at, ptB_at, ptC_at] at *
    cases hb : ptw x 1 with
    | true =>
      rw [hb] at e0 e1 e2 e3 e4 e5 e6 hw
      simp at e0 e1 e2 e3 e4 e5 e6 hw
      refine ⟨by omega, e2, e4, e5, fun _ => ⟨e3, e6⟩, fun h => by cases h⟩
    | false =>
      rw [hb] at e0 e1 e2 e3 e4 e5 e6 hw
      simp at e0 e1 e2 e3 e4 e5 e6 hw
      refine ⟨by grind, e2, e4, e5, fun h => (by cases h), fun _ => ⟨e3, e6⟩⟩
/-- ahead of a change of ends two chases may stand -/
def gV (x : Nat → Int) : Prop := x 6 = 0 ∧ (x 3 = 0 ∨ (x 3 = 1 ∧ 0 ≤ x 4 ∧ x 4 ≤ 9) ∨ (x 3 = 2 ∧ 0 ≤ x 4 ∧ x 4 ≤ 9 ∧ 0 ≤ x 5 ∧ x 5 ≤ 9))
theorem chR_V {w x : Nat → Int} (hp : pV x) (h2 : x 2 = 0 ∨ x 2 = 1) (hg : gV x) : scV (chR w x) := by
  have e0 := chR_at w x 0
  have e1 := chR_at w x 1
  have e2 := chR_at w x 2
  have e3 := chR_at w x 3
  have e4 := chR_at w x 4
  have e5 := chR_at w x 5
  have e6 := chR_at w x 6
  have hc : x 3 = 2 → chD w x = true := by
    intro h
    unfold chD
    rw [h]
    simp
  have hc0 : x 3 = 0 → chD w x = false := by
    intro h
    unfold chD
    rw [h]
    simp
  unfold scV pV hV
  unfold pV at hp
  unfold gV at hg
  cases hb : chD w x with
  | true =>
    rw [hb] at e0 e1 e2 e3 e4 e5 e6 hc0
    simp at e0 e1 e2 e3 e4 e5 e6 hc0
    rw [e0, e1, e2, e3, e4, e5, e6]
    omega
  | false =>
    rw [hb] at e0 e1 e2 e3 e4 e5 e6 hc
    simp at e0 e1 e2 e3 e4 e5 e6 hc
    rw [e0, e1, e2, e3, e4, e5, e6]
    omega
theorem gnR_V {x : Nat → Int} (hp : pV x) (h2 : x 2 = 0 ∨ x 2 = 1) (hh : hV x) : scV (gnR x) := by
  have e0 := gnR_at x 0
  have e1 := gnR_at x 1
  have e2 := gnR_at x 2
  have e3 := gnR_at x 3
  have e4 := gnR_at x 4
  have e5 := gnR_at x 5
  have e6 := gnR_at x 6
  unfold scV pV hV
  unfold pV at hp
  unfold hV at hh
  by_cases h6 : x 6 = 0
  · simp only [h6, if_true] at e0 e1 e2 e3 e4 e5 e6
    rw [e0, e1, e2, e3, e4, e5, e6]
    omega
  · simp only [h6, if_false] at e0 e1 e2 e3 e4 e5 e6
    simp at e0 e1 e2 e3 e4 e5 e6
    rw [e0, e1, e2, e3, e4, e5, e6]
    by_cases h7 : 0 < x 3 - 1
    · rw [if_pos (by omega)]
      omega
    · rw [if_neg (by omega)]
      omega
/-- who has the point -/
theorem rlW_in (w x : Nat → Int) (how : Int) (h2 : x 2 = 0 ∨ x 2 = 1) : rlW w x how = -1 ∨ rlW w x how = 0 ∨ rlW w x how = 1 := by
  unfold rlW
  grind
theorem rlR_V {w x : Nat → Int} {how : Int} (hw : wV w) (h : scV x) (h0 : 0 ≤ how) (h1 : how ≤ 14) (hk : x 6 = 0 → how ≤ 11) : scV (rlR w x how) := by
  obtain ⟨hp, h2, hh⟩ := h
  have hW := rlW_in w x how h2
  -- who has the point, and the row behind it
  have hY : ∀ p : Nat, p < 2 → rlW w x how = p → scV (rlR w x how) := by
    intro p hp2 e
    obtain ⟨v1, v2, v4, v5, vt, vf⟩ := pnt_V (w := w) hw hp2 hp
    by_cases h6 : x 6 = 0
    · rw [rlR_0 h6, rlY_p e]
      refine chR_V v1 (by rw [v2]; exact h2) ?_
      unfold gV
      unfold hV at hh
      cases hb : ptw x p with
      | true => have := vt hb; omega
      | false => have := vf hb; rw [v4, v5, this.1, this.2]; omega
    · rw [rlR_1 h6, rlY_p e]
      refine gnR_V v1 (by rw [v2]; exact h2) ?_
      unfold hV at hh ⊢
      cases hb : ptw x p with
      | true => have := vt hb; omega
      | false => have := vf hb; rw [v4, v5, this.1, this.2]; omega
  rcases hW with e | e | e
  · by_cases h6 : x 6 = 0
    · rw [rlR_0 h6, rlY_c e h6]
      have hk := hk h6
      have c2 : 2 ≤ how := by
        unfold rlW at e
        grind
      have e0 := rlC_at x how 0
      have e1 := rlC_at x how 1
      have e2 := rlC_at x how 2
      have e3 := rlC_at x how 3
      have e4 := rlC_at x how 4
      have e5 := rlC_at x how 5
      have e6 := rlC_at x how 6
      simp at e0 e1 e2 e3 e4 e5 e6
      refine chR_V ?_ (by rw [e2]; exact h2) ?_
      · unfold pV at hp ⊢
        rw [e0, e1]
        exact hp
      · unfold gV
        unfold hV at hh
        rw [e3, e4, e5, e6]
        grind
    · rw [rlR_1 h6, rlY_n e h6]
      exact gnR_V hp h2 hh
  · exact hY 0 (by decide) e
  · exact hY 1 (by decide) e
theorem nuR_in {x : Nat → Int} (h : scV x) : 0 ≤ nuR x ∧ nuR x < 15488 := by
  obtain ⟨hp, h2, hh⟩ := h
  unfold nuR nuC
  unfold pV at hp
  unfold hV at hh
  grind
theorem unR_V {w x : Nat → Int} {k : Int} (h0 : 0 ≤ k) (h1 : k < 15488) (hc : cbR k = true) : scV (unR w x k) := by
  have e0 := unR_at w x k 0
  have e1 := unR_at w x k 1
  have e2 := unR_at w x k 2
  have e3 := unR_at w x k 3
  have e4 := unR_at w x k 4
  have e5 := unR_at w x k 5
  have e6 := unR_at w x k 6
  simp at e0 e1 e2 e3 e4 e5 e6
  unfold cbR at hc
  simp at hc
  have c0 : 0 ≤ k % 121 := by omega
  have c1 : k % 121 < 121 := by omega
  unfold scV pV hV
  rw [e0, e1, e2, e3, e4, e5, e6]
  refine ⟨by omega, by omega, ?_⟩
  by_cases q0 : k % 121 = 0
  · rw [if_pos q0, if_pos q0]
    omega
  · rw [if_neg q0, if_neg q0]
    by_cases q1 : k % 121 < 11
    · have q2 : k % 121 < 21 := by omega
      rw [if_pos q2, if_pos q1]
      omega
    · rw [if_neg q1]
      by_cases q2 : k % 121 < 21
      · rw [if_pos q2, if_pos q2]
        omega
      · rw [if_neg q2, if_neg q2, if_neg q2]
        omega
/-- lines and games are within, and nothing lies behind them -/
def xB (g : Int) (x : Nat → Int) : Prop := (-12 ≤ x 4 ∧ x 4 ≤ 12) ∧ (-12 ≤ x 5 ∧ x 5 ≤ 12) ∧ (0 ≤ x 7 ∧ x 7 ≤ g) ∧ (0 ≤ x 8 ∧ x 8 ≤ g) ∧ ∀ j, 9 ≤ j → x j = 0
def xG (x : Nat → Int) : Prop := by5 x ∧ ∀ j, 9 ≤ j → x j = 0
theorem scV.xG {x : Nat → Int} {g : Int} (h : scV x) (hb : xB g x) (hg : g ≤ 50) : xG x := by
  obtain ⟨hp, h2, hh⟩ := h
  obtain ⟨h4, h5, h7, h8, h9⟩ := hb
  refine ⟨fun j => ?_, h9⟩
  unfold pV at hp
  unfold hV at hh
  by_cases hj : 9 ≤ j
  · rw [h9 j hj]; omega
  · have : j = 0 ∨ j = 1 ∨ j = 2 ∨ j = 3 ∨ j = 4 ∨ j = 5 ∨ j = 6 ∨ j = 7 ∨ j = 8 := by omega
    rcases this with e | e | e | e | e | e | e | e | e <;> subst e <;> omega
theorem pnt_78 {w x : Nat → Int} {p : Nat} (hp : p < 2) : (x 7 ≤ pnt w x p 7 ∧ pnt w x p 7 ≤ x 7 + 1) ∧ (x 8 ≤ pnt w x p 8 ∧ pnt w x p 8 ≤ x 8 + 1) ∧ ∀ j, 9 ≤ j → pnt w x p j = x j := by
  have hpp : p = 0 ∨ p = 1 := by omega
  refine ⟨?_, ?_, fun j hj => ?_⟩
  · rw [pnt_at]
    rcases hpp with rfl | rfl <;> simp [ptA_at, ptB_at, ptC_at] <;> first | omega | (split <;> omega)
  · rw [pnt_at]
    rcases hpp with rfl | rfl <;> simp [ptA_at, ptB_at, ptC_at] <;> first | omega | (split <;> omega)
  · rw [pnt_at]
    have q : j ≠ 0 ∧ j ≠ 1 ∧ j ≠ 3 ∧ j ≠ 6 ∧ j ≠ 7 + p ∧ j ≠ p := by omega
    simp [ptA_at, ptB_at, ptC_at, q.1, q.2.1, q.2.2.1, q.2.2.2.1, q.2.2.2.2.1, q.2.2.2.2.2]
theorem rlR_B {w x : Nat → Int} {how g : Int} (h : scV x) (hb : xB g x) (h0 : 0 ≤ how) (h1 : how ≤ 14) : xB (g + 1) (rlR w x how) := by
  obtain ⟨hp, h2, hh⟩ := h
  obtain ⟨h4, h5, h7, h8, h9⟩ := hb
  have hW := rlW_in w x how h2
  have step : ∀ y : Nat → Int, (-12 ≤ y 4 ∧ y 4 ≤ 12) → (-12 ≤ y 5 ∧ y 5 ≤ 12) → (x 7 ≤ y 7 ∧ y 7 ≤ x 7 + 1) → (x 8 ≤ y 8 ∧ y 8 ≤ x 8 + 1) → (∀ j, 9 ≤ j → y j = x j) → rlY w x how = y → xB (g + 1) (rlR w x how) := by
    intro y y4 y5 y7 y8 y9 e
    unfold xB
    by_cases h6 : x 6 = 0
    · rw [rlR_0 h6, e]
      have c4 := chR_at w y 4
      have c5 := chR_at w y 5
      have c7 := chR_at w y 7
      have c8 := chR_at w y 8
      simp at c4 c5 c7 c8
      rw [c4, c5, c7, c8]
      refine ⟨y4, y5, by omega, by omega, fun j hj => ?_⟩
      have cj := chR_at w y j
      rw [if_neg (show ¬ j = 2 by omega), if_neg (show ¬ j = 6 by omega)] at cj
      simp at cj
      rw [cj, y9 j hj, h9 j hj]
    · rw [rlR_1 h6, e]
      refine ⟨?_, ?_, ?_, ?_, fun j hj => ?_⟩
      · rw [gnR_at]; simp; split <;> omega
      · rw [gnR_at]; simp; omega
      · rw [gnR_at]; simp; omega
      · rw [gnR_at]; simp; omega
      · rw [gnR_at, if_neg (show ¬ j = 3 by omega), if_neg (show ¬ j = 4 by omega), if_neg (show ¬ j = 6 by omega)]
        simp
        rw [y9 j hj, h9 j hj]
  have hP : ∀ p : Nat, p < 2 → rlW w x how = p → xB (g + 1) (rlR w x how) := by
    intro p hp2 e
    obtain ⟨q7, q8, q9⟩ := pnt_78 (w := w) (x := x) hp2
    have q4 : pnt w x p 4 = x 4 := by
      have hpp : p = 0 ∨ p = 1 := by omega
      rw [pnt_at]
      rcases hpp with rfl | rfl <;> simp [ptA_at, ptB_at, ptC_at]
    have q5 : pnt w x p 5 = x 5 := by
      have hpp : p = 0 ∨ p = 1 := by omega
      rw [pnt_at]
      rcases hpp with rfl | rfl <;> simp [ptA_at, ptB_at, ptC_at]
    exact step _ (by rw [q4]; exact h4) (by rw [q5]; exact h5) q7 q8 q9 (rlY_p e)
  rcases hW with e | e | e
  · by_cases h6 : x 6 = 0
    · have e4 := rlC_at x how 4
      have e5 := rlC_at x how 5
      have e7 := rlC_at x how 7
      have e8 := rlC_at x how 8
      simp at e4 e5 e7 e8
      refine step (rlC x how) ?_ ?_ (by omega) (by omega) (fun j hj => ?_) (rlY_c e h6)
      · rw [e4]; split <;> omega
      · rw [e5]; split <;> omega
      · rw [rlC_at, if_neg (by omega), if_neg (by omega)]
    · exact step x h4 h5 (by omega) (by omega) (fun _ _ => rfl) (rlY_n e h6)
  · exact hP 0 (by decide) e
  · exact hP 1 (by decide) e
/-- the score of a number, alone -/
def scX (w : Nat → Int) (k : Int) : Nat → Int := unR w (fun _ => 0) k
theorem scX_eq {w x : Nat → Int} {k : Int} (h : xG x) : unR w x k = scX w k := by
  funext j
  unfold scX
  rw [unR_at, unR_at]
  by_cases hj : 9 ≤ j
  · have := h.2 j hj
    simp [show j ≠ 0 by omega, show j ≠ 1 by omega, show j ≠ 2 by omega, show j ≠ 3 by omega, show j ≠ 4 by omega, show j ≠ 5 by omega, show j ≠ 6 by omega, show j ≠ 7 by omega, show j ≠ 8 by omega, this]
  · have : j = 0 ∨ j = 1 ∨ j = 2 ∨ j = 3 ∨ j = 4 ∨ j = 5 ∨ j = 6 ∨ j = 7 ∨ j = 8 := by omega
    rcases this with e | e | e | e | e | e | e | e | e <;> subst e <;> simp
theorem scX_B {w : Nat → Int} {k : Int} (h0 : 0 ≤ k) (hw : (0 ≤ w 208 ∧ w 208 ≤ 6) ∧ (0 ≤ w 209 ∧ w 209 ≤ 6)) : xB 6 (scX w k) := by
  have e4 := unR_at w (fun _ => 0) k 4
  have e5 := unR_at w (fun _ => 0) k 5
  have e7 := unR_at w (fun _ => 0) k 7
  have e8 := unR_at w (fun _ => 0) k 8
  simp at e4 e5 e7 e8
  unfold xB scX
  rw [e4, e5, e7, e8]
  refine ⟨?_, ?_, hw.1, hw.2, fun j hj => ?_⟩
  · split
    · omega
    · split
      · omega
      · split <;> omega
  · split <;> omega
  · rw [unR_at]
    simp [show j ≠ 0 by omega, show j ≠ 1 by omega, show j ≠ 2 by omega, show j ≠ 3 by omega, show j ≠ 4 by omega, show j ≠ 5 by omega, show j ≠ 6 by omega, show j ≠ 7 by omega, show j ≠ 8 by omega]
theorem scX_G {w : Nat → Int} {k : Int} (h0 : 0 ≤ k) (h1 : k < 15488) (hw : (0 ≤ w 208 ∧ w 208 ≤ 6) ∧ (0 ≤ w 209 ∧ w 209 ≤ 6)) : xG (scX w k) := by
  obtain ⟨h4, h5, h7, h8, h9⟩ := scX_B h0 hw
  refine ⟨fun j => ?_, h9⟩
  by_cases hj : 9 ≤ j
  · rw [h9 j hj]; omega
  · have : j = 0 ∨ j = 1 ∨ j = 2 ∨ j = 3 ∨ j = 4 ∨ j = 5 ∨ j = 6 ∨ j = 7 ∨ j = 8 := by omega
    rcases this with e | e | e | e | e | e | e | e | e <;> subst e
    · show -50 ≤ unR w _ k 0 ∧ unR w _ k 0 ≤ 50; rw [unR_at]; simp; omega
    · show -50 ≤ unR w _ k 1 ∧ unR w _ k 1 ≤ 50; rw [unR_at]; simp; omega
    · show -50 ≤ unR w _ k 2 ∧ unR w _ k 2 ≤ 50; rw [unR_at]; simp; omega
    · show -50 ≤ unR w _ k 3 ∧ unR w _ k 3 ≤ 50
      rw [unR_at]; simp
      split
      · omega
      · split <;> omega
    · omega
    · omega
    · show -50 ≤ unR w _ k 6 ∧ unR w _ k 6 ≤ 50; rw [unR_at]; simp; split <;> omega
    · omega
    · omega
