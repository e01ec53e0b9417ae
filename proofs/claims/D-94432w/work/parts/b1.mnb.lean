/-! ===== a log never leads to more than 4000 states ===== -/
set_option maxRecDepth 100000
theorem pigN : ∀ (m : Nat) (f : Nat → Int) (l : List Int), (∀ i, i < m → f i ∈ l) → (∀ i j, i < m → j < m → f i = f j → i = j) → m ≤ l.length
  | 0, _, _, _, _ => Nat.zero_le _
  | m + 1, f, l, h, hi => by
    have ih := pigN m f (l.erase (f m)) (fun i hi' => (List.mem_erase_of_ne (fun e => by have := hi i m (by omega) (by omega) e; omega)).mpr (h i (by omega))) (fun i j a b => hi i j (by omega) (by omega))
    rw [List.length_erase_of_mem (h m (by omega))] at ih
    have : 0 < l.length := List.length_pos_of_mem (h m (by omega))
    omega
/-- the score of a score's number -/
theorem wc_xE {w y : Nat → Int} (h : scV y) (hb : xB 6 y) : xE (wcX w (whR y)) y := by
  obtain ⟨e0, e1, e2, e3, e4, e5, e6, -, -⟩ := sc_nu (w := fun j => if j = 208 then y 7 else if j = 209 then y 8 else 0) h rfl rfl
  obtain ⟨-, -, h7, h8, -⟩ := hb
  have q : whR y / 64 = nuR y := by unfold whR; omega
  have q7 : whR y / 8 % 8 = y 7 := by unfold whR; omega
  have q8 : whR y % 8 = y 8 := by unfold whR; omega
  have hh : ∀ j, j < 7 → wcX w (whR y) j = scX (fun j => if j = 208 then y 7 else if j = 209 then y 8 else 0) (nuR y) j := by
    intro j hj
    unfold wcX
    rw [uwR_at, if_neg (by omega), if_neg (by omega), q]
    unfold scX
    rw [unR_at, unR_at]
    simp only [show ¬ j = 7 by omega, show ¬ j = 8 by omega, if_false]
  refine ⟨(hh 0 (by decide)).trans e0, (hh 1 (by decide)).trans e1, (hh 2 (by decide)).trans e2, (hh 3 (by decide)).trans e3, fun c => (hh 4 (by decide)).trans (e4 c), fun c => (hh 5 (by decide)).trans (e5 c), (hh 6 (by decide)).trans e6, q7, q8⟩
/-- the end of a game is near: told by the points alone -/
def eE (w : Nat → Int) (a b : Int) : Bool := w 195 == 1 || (w 195 == 0 && ((decide (4 ≤ a + 1) && decide (2 ≤ a + 1 - b)) || (decide (4 ≤ b + 1) && decide (2 ≤ b + 1 - a))))
theorem chE_0 {w x : Nat → Int} (h : x 3 = 0) : chD w x = false := by
  unfold chD
  rw [h]
  rfl
theorem chE_1 {w x : Nat → Int} (h : x 3 = 1) : chD w x = eE w (x 0) (x 1) := by
  unfold chD eE wW
  rw [h]
  rfl
theorem chE_2 {w x : Nat → Int} (h : x 3 = 2) : chD w x = true := by
  unfold chD
  rw [h]
  rfl
/-- a point of 0 -/
theorem pn_0 (w : Nat → Int) {x : Nat → Int} (h : pV x) : pnt w x 0 4 = x 4 ∧ pnt w x 0 5 = x 5 ∧ ((((x 0 = 3 ∧ x 1 ≤ 2) ∨ x 0 = 4) ∧ pnt w x 0 0 = -w 197 ∧ pnt w x 0 1 = w 198 ∧ pnt w x 0 3 = 0 ∧ pnt w x 0 6 = 0 ∧ pnt w x 0 7 = x 7 + 1 ∧ pnt w x 0 8 = x 8) ∨ (((x 0 = 3 ∧ x 1 = 4 ∧ pnt w x 0 0 = 3 ∧ pnt w x 0 1 = 3) ∨ (x 0 ≤ 3 ∧ pnt w x 0 0 = x 0 + 1 ∧ pnt w x 0 1 = x 1)) ∧ pnt w x 0 3 = x 3 ∧ pnt w x 0 6 = x 6 ∧ pnt w x 0 7 = x 7 ∧ pnt w x 0 8 = x 8)) := by
  have e0 := pnt_at w x 0 0
  have e1 := pnt_at w x 0 1
  have e3 := pnt_at w x 0 3
  have e4 := pnt_at w x 0 4
  have e5 := pnt_at w x 0 5
  have e6 := pnt_at w x 0 6
  have e7 := pnt_at w x 0 7
  have e8 := pnt_at w x 0 8
  have hw := @ptw_t x 0
  unfold ptW at hw
  unfold pV at h
  simp only [ptA_at, ptB_at, ptC_at] at *
  cases hb : ptw x 0 with
  | true =>
    rw [hb] at e0 e1 e3 e4 e5 e6 e7 e8 hw
    simp at e0 e1 e3 e4 e5 e6 e7 e8 hw
    exact ⟨e4, e5, Or.inl ⟨by omega, e0, e1, e3, e6, e7, e8⟩⟩
  | false =>
    rw [hb] at e0 e1 e3 e4 e5 e6 e7 e8 hw
    simp at e0 e1 e3 e4 e5 e6 e7 e8 hw
    exact ⟨e4, e5, Or.inr ⟨by grind, e3, e6, e7, e8⟩⟩
/-- a point of 1 -/
theorem pn_1 (w : Nat → Int) {x : Nat → Int} (h : pV x) : pnt w x 1 4 = x 4 ∧ pnt w x 1 5 = x 5 ∧ ((((x 1 = 3 ∧ x 0 ≤ 2) ∨ x 1 = 4) ∧ pnt w x 1 0 = -w 197 ∧ pnt w x 1 1 = w 198 ∧ pnt w x 1 3 = 0 ∧ pnt w x 1 6 = 0 ∧ pnt w x 1 7 = x 7 ∧ pnt w x 1 8 = x 8 + 1) ∨ (((x 1 = 3 ∧ x 0 = 4 ∧ pnt w x 1 0 = 3 ∧ pnt w x 1 1 = 3) ∨ (x 1 ≤ 3 ∧ pnt w x 1 0 = x 0 ∧ pnt w x 1 1 = x 1 + 1)) ∧ pnt w x 1 3 = x 3 ∧ pnt w x 1 6 = x 6 ∧ pnt w x 1 7 = x 7 ∧ pnt w x 1 8 = x 8)) := by
  have e0 := pnt_at w x 1 0
  have e1 := pnt_at w x 1 1
  have e3 := pnt_at w x 1 3
  have e4 := pnt_at w x 1 4
  have e5 := pnt_at w x 1 5
  have e6 := pnt_at w x 1 6
  have e7 := pnt_at w x 1 7
  have e8 := pnt_at w x 1 8
  have hw := @ptw_t x 1
  unfold ptW at hw
  unfold pV at h
  simp only [ptA_at, ptB_at, ptC_at] at *
  cases hb : ptw x 1 with
  | true =>
    rw [hb] at e0 e1 e3 e4 e5 e6 e7 e8 hw
    simp at e0 e1 e3 e4 e5 e6 e7 e8 hw
    exact ⟨e4, e5, Or.inl ⟨by omega, e0, e1, e3, e6, e7, e8⟩⟩
  | false =>
    rw [hb] at e0 e1 e3 e4 e5 e6 e7 e8 hw
    simp at e0 e1 e3 e4 e5 e6 e7 e8 hw
    exact ⟨e4, e5, Or.inr ⟨by grind, e3, e6, e7, e8⟩⟩
/-- how the ends and chases are left: y behind the point, z behind the rally -/
theorem en_R (w : Nat → Int) {x y : Nat → Int} (hx : hV x) (h6 : y 6 = x 6 ∧ y 3 = x 3 ∧ y 4 = x 4 ∧ y 5 = x 5 ∨ y 6 = 0 ∧ y 3 = 0) (z : Nat → Int) (hz : z = if x 6 = 0 then chR w y else gnR y) : z 0 = y 0 ∧ z 1 = y 1 ∧ z 7 = y 7 ∧ z 8 = y 8 ∧ ((y 3 = 0 ∧ z 3 = 0 ∧ z 6 = 0) ∨ (y 3 = 1 ∧ x 3 = 1 ∧ x 6 = 0 ∧ z 3 = 1 ∧ z 4 = x 4 ∧ z 6 = if eE w (y 0) (y 1) = true then 1 else 0) ∨ (y 3 = 1 ∧ x 6 = 1 ∧ x 3 = 1 ∧ z 3 = 0 ∧ z 6 = 0) ∨ (y 3 = 2 ∧ x 6 = 1 ∧ x 3 = 2 ∧ z 3 = 1 ∧ z 4 = x 5 ∧ z 6 = 1)) := by
  unfold hV at hx
  by_cases c : x 6 = 0
  · rw [if_pos c] at hz
    have d0 := @chE_0 w y
    have d1 := @chE_1 w y
    subst hz
    rw [chR_at, chR_at, chR_at, chR_at, chR_at, chR_at, chR_at]
    refine ⟨by simp, by simp, by simp, by simp, ?_⟩
    by_cases c3 : y 3 = 0
    · rw [d0 c3]
      simp
      grind
    · have : y 3 = 1 := by omega
      rw [d1 this]
      simp
      grind
  · rw [if_neg c] at hz
    rcases h6 with ⟨u6, u3, u4, u5⟩ | ⟨u6, u3⟩
    · have y6 : ¬ y 6 = 0 := by omega
      have z0 : z 0 = y 0 := by rw [hz, gnR_at, if_neg y6]; simp
      have z1 : z 1 = y 1 := by rw [hz, gnR_at, if_neg y6]; simp
      have z7 : z 7 = y 7 := by rw [hz, gnR_at, if_neg y6]; simp
      have z8 : z 8 = y 8 := by rw [hz, gnR_at, if_neg y6]; simp
      have z3 : z 3 = y 3 - 1 := by rw [hz, gnR_at, if_neg y6]; simp
      have z4 : z 4 = y 5 := by rw [hz, gnR_at, if_neg y6]; simp
      have z6 : z 6 = if 0 < y 3 - 1 then 1 else 0 := by rw [hz, gnR_at, if_neg y6]; simp
      refine ⟨z0, z1, z7, z8, ?_⟩
      rcases (show x 3 = 1 ∨ x 3 = 2 by omega) with e | e
      · rw [if_neg (by omega)] at z6
        omega
      · rw [if_pos (by omega)] at z6
        omega
    · have ez : z = y := by
        rw [hz]
        funext j
        rw [gnR_at, if_pos u6]
      rw [ez]
      exact ⟨rfl, rfl, rfl, rfl, Or.inl ⟨u3, u3, u6⟩⟩
/-- a rally, plainly: a point of 0, a point of 1, a chase, or none -/
theorem rl_pl {w x : Nat → Int} {how : Int} (h : scV x) (h1 : how ≤ 14) (h0 : 0 ≤ how) (hk : x 6 = 0 → how ≤ 11) (z : Nat → Int) (hz : z = rlR w x how) : (((rlW w x how = 0 ∧ (((((x 0 = 3 ∧ x 1 ≤ 2) ∨ x 0 = 4) ∧ z 0 = -w 197 ∧ z 1 = w 198 ∧ z 3 = 0 ∧ z 6 = 0 ∧ z 7 = x 7 + 1 ∧ z 8 = x 8)) ∨ (((x 0 = 3 ∧ x 1 = 4 ∧ z 0 = 3 ∧ z 1 = 3) ∨ (x 0 ≤ 3 ∧ z 0 = x 0 + 1 ∧ z 1 = x 1)) ∧ z 7 = x 7 ∧ z 8 = x 8 ∧ ((x 3 = 0 ∧ z 3 = 0 ∧ z 6 = 0) ∨ (x 3 = 1 ∧ x 6 = 0 ∧ z 3 = 1 ∧ z 4 = x 4 ∧ z 6 = if eE w (z 0) (z 1) = true then 1 else 0) ∨ (x 6 = 1 ∧ x 3 = 1 ∧ z 3 = 0 ∧ z 6 = 0) ∨ (x 6 = 1 ∧ x 3 = 2 ∧ z 3 = 1 ∧ z 4 = x 5 ∧ z 6 = 1))))) ∨ (rlW w x how = 1 ∧ (((((x 1 = 3 ∧ x 0 ≤ 2) ∨ x 1 = 4) ∧ z 0 = -w 197 ∧ z 1 = w 198 ∧ z 3 = 0 ∧ z 6 = 0 ∧ z 7 = x 7 ∧ z 8 = x 8 + 1)) ∨ (((x 1 = 3 ∧ x 0 = 4 ∧ z 0 = 3 ∧ z 1 = 3) ∨ (x 1 ≤ 3 ∧ z 0 = x 0 ∧ z 1 = x 1 + 1)) ∧ z 7 = x 7 ∧ z 8 = x 8 ∧ ((x 3 = 0 ∧ z 3 = 0 ∧ z 6 = 0) ∨ (x 3 = 1 ∧ x 6 = 0 ∧ z 3 = 1 ∧ z 4 = x 4 ∧ z 6 = if eE w (z 0) (z 1) = true then 1 else 0) ∨ (x 6 = 1 ∧ x 3 = 1 ∧ z 3 = 0 ∧ z 6 = 0) ∨ (x 6 = 1 ∧ x 3 = 2 ∧ z 3 = 1 ∧ z 4 = x 5 ∧ z 6 = 1)))))) ∧ (2 ≤ how → x 6 = 1)) ∨ (rlW w x how = -1 ∧ 2 ≤ how ∧ z 0 = x 0 ∧ z 1 = x 1 ∧ z 7 = x 7 ∧ z 8 = x 8 ∧ ((x 3 = 0 ∧ x 6 = 0 ∧ z 3 = 1 ∧ z 4 = how - 2 ∧ z 6 = if eE w (z 0) (z 1) = true then 1 else 0) ∨ (x 3 = 1 ∧ x 6 = 0 ∧ z 3 = 2 ∧ z 4 = x 4 ∧ z 5 = how - 2 ∧ z 6 = 1) ∨ (x 6 = 1 ∧ x 3 = 1 ∧ z 3 = 0 ∧ z 6 = 0) ∨ (x 6 = 1 ∧ x 3 = 2 ∧ z 3 = 1 ∧ z 4 = x 5 ∧ z 6 = 1))) := by
  obtain ⟨hp, h2, hh⟩ := h
  have hW := rlW_in w x how h2
  have off : x 6 = 0 ∨ x 6 = 1 := by unfold hV at hh; omega
  have hzz : z = if x 6 = 0 then chR w (rlY w x how) else gnR (rlY w x how) := by
    rw [hz]
    by_cases c : x 6 = 0
    · rw [if_pos c, rlR_0 c]
    · rw [if_neg c, rlR_1 c]
  have d6 : x 6 = 0 → 2 ≤ how → rlW w x how = -1 := fun c d => by
    unfold rlW
    rw [if_neg (by omega), if_neg (by omega), if_pos c]
  rcases hW with e | e | e
  · right
    have how2 : 2 ≤ how := by
      unfold rlW at e
      grind
    by_cases c : x 6 = 0
    · rw [rlY_c e c, if_pos c] at hzz
      have r0 : rlC x how 0 = x 0 := by rw [rlC_at]; simp
      have r1 : rlC x how 1 = x 1 := by rw [rlC_at]; simp
      have r3 : rlC x how 3 = x 3 + 1 := by rw [rlC_at]; simp
      have r6 : rlC x how 6 = x 6 := by rw [rlC_at]; simp
      have r7 : rlC x how 7 = x 7 := by rw [rlC_at]; simp
      have r8 : rlC x how 8 = x 8 := by rw [rlC_at]; simp
      have q0 : z 0 = x 0 := by rw [hzz, chR_at, r0]; simp
      have q1 : z 1 = x 1 := by rw [hzz, chR_at, r1]; simp
      have q3 : z 3 = x 3 + 1 := by rw [hzz, chR_at, r3]; simp
      have q7 : z 7 = x 7 := by rw [hzz, chR_at, r7]; simp
      have q8 : z 8 = x 8 := by rw [hzz, chR_at, r8]; simp
      have q4 : z 4 = rlC x how 4 := by rw [hzz, chR_at]; simp
      have q5 : z 5 = rlC x how 5 := by rw [hzz, chR_at]; simp
      have q6 : z 6 = if chD w (rlC x how) = true then 1 else 0 := by rw [hzz, chR_at, r6, c]; simp
      refine ⟨e, how2, q0, q1, q7, q8, ?_⟩
      rw [q0, q1]
      rcases (show x 3 = 0 ∨ x 3 = 1 by unfold hV at hh; omega) with c3 | c3
      · have d1 := @chE_1 w (rlC x how) (by rw [r3, c3]; rfl)
        rw [r0, r1] at d1
        rw [d1] at q6
        exact Or.inl ⟨c3, c, by rw [q3, c3]; rfl, by rw [q4, rlC_at, if_neg (by decide), if_pos (Or.inl ⟨c3, rfl⟩)], q6⟩
      · have d2 := @chE_2 w (rlC x how) (by rw [r3, c3]; rfl)
        rw [d2, if_pos rfl] at q6
        exact Or.inr (Or.inl ⟨c3, c, by rw [q3, c3]; rfl, by rw [q4, rlC_at, if_neg (by decide), if_neg (by omega)], by rw [q5, rlC_at, if_neg (by decide), if_pos (Or.inr ⟨by omega, rfl⟩)], q6⟩)
    · rw [rlY_n e c, if_neg c] at hzz
      subst hzz
      unfold hV at hh
      rw [gnR_at, gnR_at, gnR_at, gnR_at, gnR_at, gnR_at, gnR_at]
      grind
  · left
    have e' : rlW w x how = ((0 : Nat) : Int) := e
    rw [rlY_p e'] at hzz
    obtain ⟨p4, p5, pp⟩ := pn_0 w hp
    have hE := en_R w hh (by omega) z hzz
    refine ⟨Or.inl ⟨e, ?_⟩, fun d => ?_⟩
    · obtain ⟨z0, z1, z7, z8, zz⟩ := hE
      rcases pp with q | q
      · left
        rw [z0, z1, z7, z8]
        omega
      · right
        rw [z0, z1, z7, z8]
        refine ⟨by omega, by omega, by omega, ?_⟩
        rcases zz with k | k | k | k
        · rcases (show x 3 = 0 by omega) with k3
          exact Or.inl ⟨k3, k.2⟩
        · exact Or.inr (Or.inl k.2)
        · exact Or.inr (Or.inr (Or.inl k.2))
        · exact Or.inr (Or.inr (Or.inr k.2))
    · rcases off with c | c
      · have := d6 c d
        omega
      · exact c
  · left
    have e' : rlW w x how = ((1 : Nat) : Int) := e
    rw [rlY_p e'] at hzz
    obtain ⟨p4, p5, pp⟩ := pn_1 w hp
    have hE := en_R w hh (by omega) z hzz
    refine ⟨Or.inr ⟨e, ?_⟩, fun d => ?_⟩
    · obtain ⟨z0, z1, z7, z8, zz⟩ := hE
      rcases pp with q | q
      · left
        rw [z0, z1, z7, z8]
        omega
      · right
        rw [z0, z1, z7, z8]
        refine ⟨by omega, by omega, by omega, ?_⟩
        rcases zz with k | k | k | k
        · rcases (show x 3 = 0 by omega) with k3
          exact Or.inl ⟨k3, k.2⟩
        · exact Or.inr (Or.inl k.2)
        · exact Or.inr (Or.inr (Or.inl k.2))
        · exact Or.inr (Or.inr (Or.inr k.2))
    · rcases off with c | c
      · have := d6 c d
        omega
      · exact c
/-- the classes of chases behind a log: L the last line told, L' the one told before -/
def bC (w : Nat → Int) (L' L : Int) (x : Nat → Int) : Prop := x 3 = 0 ∨ (x 3 = 1 ∧ x 6 = 0 ∧ x 4 = L) ∨ (x 3 = 1 ∧ x 6 = 1 ∧ x 4 = L') ∨ (x 3 = 1 ∧ x 6 = 1 ∧ x 4 = L ∧ eE w (x 0) (x 1) = true) ∨ (x 3 = 2 ∧ x 6 = 1 ∧ x 4 = L' ∧ x 5 = L)
def bE (w x : Nat → Int) : Prop := x 3 = 1 → x 6 = 0 → eE w (x 0) (x 1) = false
/-- points that a game of 0, of 1 takes -/
def bg0 (w : Nat → Int) : Int := 4 + w 197 + (if w 198 = 3 then 1 else 0)
def bg1 (w : Nat → Int) : Int := 4 - w 198
def bP (w x0 : Nat → Int) (N : Nat) (x : Nat → Int) : Prop := ∃ u0 u1 : Nat, x 7 = x0 7 + u0 ∧ x 8 = x0 8 + u1 ∧ ((u0 = 0 ∧ u1 = 0) ∨ ∃ M : Int, ((M = bg0 w ∧ 0 < u0) ∨ (M = bg1 w ∧ 0 < u1)) ∧ -(w 197) ≤ x 0 ∧ w 198 ≤ x 1 ∧ 1 + u0 * bg0 w + u1 * bg1 w + (x 0 + w 197) + (x 1 - w 198) ≤ N + M)
theorem rl_ch {w x : Nat → Int} {how : Int} (h : scV x) (h1 : how ≤ 14) (h0 : 0 ≤ how) (hk : x 6 = 0 → how ≤ 11) (z : Nat → Int) (hz : z = rlR w x how) : (z 3 = 0 ∨ (x 3 = 1 ∧ x 6 = 0 ∧ z 3 = 1 ∧ z 4 = x 4 ∧ (z 6 = if eE w (z 0) (z 1) = true then 1 else 0) ∧ how < 2) ∨ (x 6 = 1 ∧ x 3 = 2 ∧ z 3 = 1 ∧ z 4 = x 5 ∧ z 6 = 1) ∨ (x 3 = 0 ∧ x 6 = 0 ∧ z 3 = 1 ∧ z 4 = how - 2 ∧ (z 6 = if eE w (z 0) (z 1) = true then 1 else 0) ∧ 2 ≤ how) ∨ (x 3 = 1 ∧ x 6 = 0 ∧ z 3 = 2 ∧ z 4 = x 4 ∧ z 5 = how - 2 ∧ z 6 = 1 ∧ 2 ≤ how)) ∧ (rlW w x how ≠ -1 → z 3 ≤ x 3 ∧ (2 ≤ how → x 6 = 1 ∧ z 3 + 1 ≤ x 3)) ∧ (rlW w x how = -1 → 2 ≤ how ∧ z 3 ≤ x 3 + 1) := by
  have hh := h.2.2
  unfold hV at hh
  rcases rl_pl h h1 h0 hk z hz with ⟨⟨e, q⟩ | ⟨e, q⟩, hd⟩ | ⟨e, hd, q0, q1, q7, q8, q⟩
  · rw [e]
    refine ⟨?_, fun _ => ?_, fun c => absurd c (by decide)⟩
    · rcases q with q | ⟨-, -, -, q | q | q | q⟩
      · exact Or.inl q.2.2.2.1
      · exact Or.inl q.2.1
      · exact Or.inr (Or.inl ⟨q.1, q.2.1, q.2.2.1, q.2.2.2.1, q.2.2.2.2, by omega⟩)
      · exact Or.inl q.2.2.1
      · exact Or.inr (Or.inr (Or.inl q))
    · omega
  · rw [e]
    refine ⟨?_, fun _ => ?_, fun c => absurd c (by decide)⟩
    · rcases q with q | ⟨-, -, -, q | q | q | q⟩
      · exact Or.inl q.2.2.2.1
      · exact Or.inl q.2.1
      · exact Or.inr (Or.inl ⟨q.1, q.2.1, q.2.2.1, q.2.2.2.1, q.2.2.2.2, by omega⟩)
      · exact Or.inl q.2.2.1
      · exact Or.inr (Or.inr (Or.inl q))
    · omega
  · rw [e]
    refine ⟨?_, fun c => absurd rfl c, fun _ => ?_⟩
    · rcases q with q | q | q | q
      · exact Or.inr (Or.inr (Or.inr (Or.inl ⟨q.1, q.2.1, q.2.2.1, q.2.2.2.1, q.2.2.2.2, hd⟩)))
      · exact Or.inr (Or.inr (Or.inr (Or.inr ⟨q.1, q.2.1, q.2.2.1, q.2.2.2.1, q.2.2.2.2.1, q.2.2.2.2.2, hd⟩)))
      · exact Or.inl q.2.2.1
      · exact Or.inr (Or.inr (Or.inl q))
    · omega
/-- the classes behind a chase -/
theorem bC_d {w x : Nat → Int} {how L' L l : Int} (h : scV x) (h1 : how ≤ 14) (h2 : 2 ≤ how) (hk : x 6 = 0 → how = l + 2 ∧ how ≤ 11) (hc : bC w L' L x) : bC w L l (rlR w x how) ∧ bE w (rlR w x how) := by
  have hh := h.2.2
  unfold hV at hh
  obtain ⟨q, -, -⟩ := rl_ch (w := w) h h1 (by omega) (fun c => (hk c).2) _ rfl
  generalize rlR w x how = z at q ⊢
  unfold bC at hc ⊢
  unfold bE
  rcases q with q | q | q | q | q
  · exact ⟨Or.inl q, fun c => by omega⟩
  · omega
  · exact ⟨by omega, fun _ c => by omega⟩
  · obtain ⟨a1, a2, a3, a4, a5, a6⟩ := q
    have := hk a2
    cases e : eE w (z 0) (z 1) with
    | true =>
      rw [e, if_pos rfl] at a5
      exact ⟨Or.inr (Or.inr (Or.inr (Or.inl ⟨a3, a5, by omega, rfl⟩))), fun _ c => by omega⟩
    | false =>
      rw [e, if_neg (by decide)] at a5
      exact ⟨Or.inr (Or.inl ⟨a3, a5, by omega⟩), fun _ _ => rfl⟩
  · obtain ⟨a1, a2, a3, a4, a5, a6, a7⟩ := q
    have := hk a2
    exact ⟨by omega, fun c => by omega⟩
/-- the classes behind a point -/
theorem bC_w {w x : Nat → Int} {how L' L : Int} (h : scV x) (h0 : 0 ≤ how) (h1 : how < 2) (hc : bC w L' L x) : bC w L L (rlR w x how) ∧ bE w (rlR w x how) := by
  have hh := h.2.2
  unfold hV at hh
  obtain ⟨q, -, -⟩ := rl_ch (w := w) h (by omega) h0 (by omega) _ rfl
  generalize rlR w x how = z at q ⊢
  unfold bC at hc ⊢
  unfold bE
  rcases q with q | q | q | q | q
  · exact ⟨Or.inl q, fun c => by omega⟩
  · obtain ⟨a1, a2, a3, a4, a5, a6⟩ := q
    cases e : eE w (z 0) (z 1) with
    | true =>
      rw [e, if_pos rfl] at a5
      exact ⟨Or.inr (Or.inr (Or.inr (Or.inl ⟨a3, a5, by omega, rfl⟩))), fun _ c => by omega⟩
    | false =>
      rw [e, if_neg (by decide)] at a5
      exact ⟨Or.inr (Or.inl ⟨a3, a5, by omega⟩), fun _ _ => rfl⟩
  · exact ⟨by omega, fun _ c => by omega⟩
  · omega
  · omega
/-- the points behind a rally -/
theorem bP_R {w x0 x : Nat → Int} {how : Int} {N : Nat} (hw : wV w) (h : scV x) (h1 : how ≤ 14) (h0 : 0 ≤ how) (hk : x 6 = 0 → how ≤ 11) (hP : bP w x0 N x) : (rlW w x how = -1 → bP w x0 N (rlR w x how)) ∧ (rlW w x how ≠ -1 → bP w x0 (N + 1) (rlR w x how)) := by
  obtain ⟨-, -, -, w7, w8⟩ := hw
  obtain ⟨u0, u1, g0, g1, hu⟩ := hP
  have hp := h.1
  unfold pV at hp
  have m0 : ((u0 + 1 : Nat) : Int) * bg0 w = (u0 : Int) * bg0 w + bg0 w := by rw [Int.natCast_add, Int.add_mul]; omega
  have m1 : ((u1 + 1 : Nat) : Int) * bg1 w = (u1 : Int) * bg1 w + bg1 w := by rw [Int.natCast_add, Int.add_mul]; omega
  have v0 : bg0 w = 4 + w 197 + (if w 198 = 3 then 1 else 0) := rfl
  have v1 : bg1 w = 4 - w 198 := rfl
  rcases rl_pl (w := w) h h1 h0 hk _ rfl with ⟨⟨e, q⟩ | ⟨e, q⟩, hd⟩ | ⟨e, hd, q0, q1, q7, q8, q⟩
  · refine ⟨fun c => absurd (e.symm.trans c) (by decide), fun _ => ?_⟩
    generalize rlR w x how = z at q ⊢
    rcases q with ⟨a1, a2, a3, -, -, a6, a7⟩ | ⟨a1, a2, a3, -⟩
    · refine ⟨u0 + 1, u1, by omega, by omega, Or.inr ?_⟩
      rcases hu with ⟨c0, c1⟩ | ⟨M, hM, c1, c2, c3⟩
      · refine ⟨bg0 w, Or.inl ⟨rfl, by omega⟩, by omega, by omega, ?_⟩
        rw [m0, c0, c1]
        simp
        omega
      · refine ⟨M, by omega, by omega, by omega, ?_⟩
        rw [m0]
        generalize (u0 : Int) * bg0 w = A at *
        generalize (u1 : Int) * bg1 w = B at *
        split at v0 <;> omega
    · refine ⟨u0, u1, by omega, by omega, hu.imp id (fun ⟨M, hM, c1, c2, c3⟩ => ⟨M, hM, by omega, by omega, ?_⟩)⟩
      generalize (u0 : Int) * bg0 w = A at *
      generalize (u1 : Int) * bg1 w = B at *
      omega
  · refine ⟨fun c => absurd (e.symm.trans c) (by decide), fun _ => ?_⟩
    generalize rlR w x how = z at q ⊢
    rcases q with ⟨a1, a2, a3, -, -, a6, a7⟩ | ⟨a1, a2, a3, -⟩
    · refine ⟨u0, u1 + 1, by omega, by omega, Or.inr ?_⟩
      rcases hu with ⟨c0, c1⟩ | ⟨M, hM, c1, c2, c3⟩
      · refine ⟨bg1 w, Or.inr ⟨rfl, by omega⟩, by omega, by omega, ?_⟩
        rw [m1, c0, c1]
        simp
        omega
      · refine ⟨M, by omega, by omega, by omega, ?_⟩
        rw [m1]
        generalize (u0 : Int) * bg0 w = A at *
        generalize (u1 : Int) * bg1 w = B at *
        omega
    · refine ⟨u0, u1, by omega, by omega, hu.imp id (fun ⟨M, hM, c1, c2, c3⟩ => ⟨M, hM, by omega, by omega, ?_⟩)⟩
      generalize (u0 : Int) * bg0 w = A at *
      generalize (u1 : Int) * bg1 w = B at *
      omega
  · refine ⟨fun _ => ?_, fun c => absurd e c⟩
    generalize rlR w x how = z at q0 q1 q7 q8 ⊢
    unfold bP
    rw [q0, q1, q7, q8]
    exact ⟨u0, u1, g0, g1, hu⟩
theorem bC_xE {w y z : Nat → Int} {L' L : Int} (e : xE y z) (h : bC w L' L z) : bC w L' L y := by
  obtain ⟨e0, e1, -, e3, e4, e5, e6, -, -⟩ := e
  unfold bC at h ⊢
  rw [e0, e1, e3, e6]
  rcases h with a | a | a | a | a
  · exact Or.inl a
  · exact Or.inr (Or.inl ⟨a.1, a.2.1, (e4 (by omega)).trans a.2.2⟩)
  · exact Or.inr (Or.inr (Or.inl ⟨a.1, a.2.1, (e4 (by omega)).trans a.2.2⟩))
  · exact Or.inr (Or.inr (Or.inr (Or.inl ⟨a.1, a.2.1, (e4 (by omega)).trans a.2.2.1, a.2.2.2⟩)))
  · exact Or.inr (Or.inr (Or.inr (Or.inr ⟨a.1, a.2.1, (e4 (by omega)).trans a.2.2.1, (e5 (by omega)).trans a.2.2.2⟩)))
theorem bE_xE {w y z : Nat → Int} (e : xE y z) (h : bE w z) : bE w y := by
  obtain ⟨e0, e1, -, e3, -, -, e6, -, -⟩ := e
  unfold bE at h ⊢
  rw [e0, e1, e3, e6]
  exact h
theorem bP_xE {w x0 y z : Nat → Int} {N : Nat} (e : xE y z) (h : bP w x0 N z) : bP w x0 N y := by
  obtain ⟨e0, e1, -, -, -, -, -, e7, e8⟩ := e
  unfold bP at h ⊢
  rw [e0, e1, e7, e8]
  exact h
/-- chases told so far -/
def dN (t : Nat → Int) : Nat → Nat
  | 0 => 0
  | n + 1 => dN t n + if 2 ≤ hwO t n then 1 else 0
theorem dN_le (t : Nat → Int) : ∀ n, dN t n ≤ n
  | 0 => Nat.le_refl _
  | n + 1 => by
    have := dN_le t n
    show dN t n + (if 2 ≤ hwO t n then 1 else 0) ≤ n + 1
    split <;> omega
theorem hw_in {t : Nat → Int} {k : Nat} (h : lgO t k = true) : 0 ≤ hwO t k ∧ hwO t k ≤ 11 := by
  unfold lgO at h
  unfold hwO
  simp at h
  split
  · omega
  · split
    · omega
    · omega
/-- what holds of each state behind a log -/
def bI (w t x0 : Nat → Int) (n : Nat) (L' L : Int) (c : Int) : Prop := cV c ∧ bC w L' L (wcX w c) ∧ (0 < n → bE w (wcX w c)) ∧ ∃ N : Nat, 2 * (N : Int) + wcX w c 3 + dN t n ≤ 2 * n + x0 3 ∧ bP w x0 N (wcX w c)
theorem bI_st {w t x0 : Nat → Int} {n : Nat} {L' L : Int} {s how : Int} (hw : wV w) (hO : lgO t n = true) (h : bI w t x0 n L' L s) (ho : ovR (w 194) (wcX w s) = false) (hh : how = hwO t n ∨ (2 ≤ hwO t n ∧ wcX w s 6 = 1 ∧ (how = 12 ∨ how = 13 ∨ how = 14))) : bI w t x0 (n + 1) (if 2 ≤ hwO t n then L else L) (if 2 ≤ hwO t n then hwO t n - 2 else L) (whR (rlR w (wcX w s) how)) := by
  obtain ⟨hc, h1, h2, N, h3, h4⟩ := h
  obtain ⟨hV, hB⟩ := wcX_V (w := w) hc
  have hI := hw_in hO
  have hk : wcX w s 6 = 0 → how = hwO t n := fun c => by omega
  have i0 : 0 ≤ how := by omega
  have i1 : how ≤ 14 := by omega
  have i2 : wcX w s 6 = 0 → how ≤ 11 := fun c => by have := hk c; omega
  have RV := rlR_V hw hV i0 i1 i2
  have RB : xB 6 (rlR w (wcX w s) how) := by
    have w4 := hw.1
    unfold ovR at ho
    rw [Bool.or_eq_false_iff, decide_eq_false_iff_not, decide_eq_false_iff_not] at ho
    obtain ⟨b4, b5, b7, b8, b9⟩ := hB
    have hb : xB 5 (wcX w s) := ⟨b4, b5, by omega, by omega, b9⟩
    exact rlR_B hV hb i0 i1
  have eq := wc_xE (w := w) RV RB
  have d2 : 2 ≤ how ↔ 2 ≤ hwO t n := by omega
  obtain ⟨-, c1, c2⟩ := rl_ch (w := w) hV i1 i0 i2 _ rfl
  obtain ⟨p1, p2⟩ := bP_R (how := how) hw hV i1 i0 i2 h4
  have eD : dN t (n + 1) = dN t n + if 2 ≤ hwO t n then 1 else 0 := rfl
  have hcl : bC w (if 2 ≤ hwO t n then L else L) (if 2 ≤ hwO t n then hwO t n - 2 else L) (rlR w (wcX w s) how) ∧ bE w (rlR w (wcX w s) how) := by
    by_cases c : 2 ≤ hwO t n
    · rw [if_pos c, if_pos c]
      exact bC_d hV i1 (d2.mpr c) (fun z => ⟨by have := hk z; omega, i2 z⟩) h1
    · rw [if_neg c, if_neg c]
      exact bC_w hV i0 (by omega) h1
  refine ⟨whR_V RV RB, bC_xE eq hcl.1, fun _ => bE_xE eq hcl.2, ?_⟩
  have e3 : wcX w (whR (rlR w (wcX w s) how)) 3 = rlR w (wcX w s) how 3 := eq.2.2.2.1
  rw [e3]
  by_cases cw : rlW w (wcX w s) how = -1
  · obtain ⟨d1, d3⟩ := c2 cw
    refine ⟨N, ?_, bP_xE eq (p1 cw)⟩
    rw [eD, if_pos (d2.mp d1)]
    omega
  · obtain ⟨d1, d3⟩ := c1 cw
    refine ⟨N + 1, ?_, bP_xE eq (p2 cw)⟩
    rw [eD]
    by_cases c : 2 ≤ hwO t n
    · have := d3 (d2.mpr c)
      rw [if_pos c]
      omega
    · rw [if_neg c]
      omega
/-- the last two lines told -/
def lnN (t : Nat → Int) (a b : Int) : Nat → Int × Int
  | 0 => (a, b)
  | n + 1 => ((lnN t a b n).2, if 2 ≤ hwO t n then hwO t n - 2 else (lnN t a b n).2)
theorem bI_V {w t x0 : Nat → Int} (hw : wV w) (h0 : scV x0) (hB : xB 6 x0) : ∃ a b : Int, (0 ≤ a ∧ a ≤ 9) ∧ (0 ≤ b ∧ b ≤ 9) ∧ ∀ n, (∀ k, k < n → lgO t k = true) → ∀ c, mnV w t x0 n c → bI w t x0 n (lnN t a b n).1 (lnN t a b n).2 c := by
  obtain ⟨a, b, ha, hb, hab⟩ : ∃ a b : Int, (0 ≤ a ∧ a ≤ 9) ∧ (0 ≤ b ∧ b ≤ 9) ∧ bC w a b x0 := by
    have hh := h0.2.2
    unfold hV at hh
    unfold bC
    rcases hh with ⟨p, q⟩ | ⟨p, q | q, r⟩ | ⟨p, q, r⟩
    · exact ⟨0, 0, by decide, by decide, Or.inl p⟩
    · exact ⟨0, x0 4, by decide, r, Or.inr (Or.inl ⟨p, q, rfl⟩)⟩
    · exact ⟨x0 4, 0, r, by decide, Or.inr (Or.inr (Or.inl ⟨p, q, rfl⟩))⟩
    · exact ⟨x0 4, x0 5, by omega, by omega, Or.inr (Or.inr (Or.inr (Or.inr ⟨p, q, rfl, rfl⟩)))⟩
  refine ⟨a, b, ha, hb, fun n => ?_⟩
  induction n with
  | zero =>
    intro _ c hc
    have e : c = whR x0 := hc
    have eq := wc_xE (w := w) h0 hB
    rw [e]
    refine ⟨whR_V h0 hB, bC_xE eq hab, fun z => absurd z (by decide), 0, ?_, bP_xE eq ⟨0, 0, by omega, by omega, Or.inl ⟨rfl, rfl⟩⟩⟩
    rw [eq.2.2.2.1]
    show 2 * ((0 : Nat) : Int) + x0 3 + ((0 : Nat) : Int) ≤ 2 * ((0 : Nat) : Int) + x0 3
    omega
  | succ n ih =>
    intro hO c hc
    obtain ⟨s, hs, ho, hh⟩ := hc
    have := ih (fun k hk => hO k (by omega)) s hs
    have st := fun how q => bI_st (how := how) hw (hO n (by omega)) this ho q
    rw [show (if 2 ≤ hwO t n then (lnN t a b n).2 else (lnN t a b n).2) = (lnN t a b n).2 by split <;> rfl] at st
    rcases hh with rfl | ⟨q1, q2, o, q3, rfl⟩
    · exact st _ (Or.inl rfl)
    · exact st _ (Or.inr ⟨q1, q2, q3⟩)
theorem lnN_in {t : Nat → Int} {a b : Int} (ha : 0 ≤ a ∧ a ≤ 9) (hb : 0 ≤ b ∧ b ≤ 9) : ∀ n, (∀ k, k < n → lgO t k = true) → (0 ≤ (lnN t a b n).1 ∧ (lnN t a b n).1 ≤ 9) ∧ (0 ≤ (lnN t a b n).2 ∧ (lnN t a b n).2 ≤ 9)
  | 0, _ => ⟨ha, hb⟩
  | n + 1, h => by
    have ih := lnN_in (t := t) ha hb n (fun k hk => h k (by omega))
    have := hw_in (h n (by omega))
    refine ⟨ih.2, ?_⟩
    show 0 ≤ (if 2 ≤ hwO t n then hwO t n - 2 else (lnN t a b n).2) ∧ (if 2 ≤ hwO t n then hwO t n - 2 else (lnN t a b n).2) ≤ 9
    split
    · omega
    · exact ih.2
/-! paths: at most 3831 behind 13 chases -/
def stL (w : Nat → Int) (how s : Int) : List Int := if ovR (w 194) (wcX w s) = true then [] else if 2 ≤ how ∧ wcX w s 6 = 1 then [whR (rlR w (wcX w s) 12), whR (rlR w (wcX w s) 13), whR (rlR w (wcX w s) 14)] else [whR (rlR w (wcX w s) how)]
def ptL (w t x0 : Nat → Int) : Nat → List Int
  | 0 => [whR x0]
  | n + 1 => (ptL w t x0 n).flatMap (stL w (hwO t n))
def wtW (w : Nat → Int) (c : Int) : Nat := if wcX w c 3 = 0 then 225 else if wcX w c 3 = 1 then 390 else 676
def sW (w : Nat → Int) : List Int → Nat
  | [] => 0
  | a :: l => wtW w a + sW w l
theorem sW_ap (w : Nat → Int) : ∀ l m : List Int, sW w (l ++ m) = sW w l + sW w m
  | [], m => (Nat.zero_add _).symm
  | a :: l, m => by
    show wtW w a + sW w (l ++ m) = wtW w a + sW w l + sW w m
    rw [sW_ap w l m, Nat.add_assoc]
theorem sW_fm (w : Nat → Int) (g : Int → List Int) (p q : Nat) : ∀ l : List Int, (∀ s, s ∈ l → p * sW w (g s) ≤ q * wtW w s) → p * sW w (l.flatMap g) ≤ q * sW w l
  | [], _ => by
    show p * 0 ≤ q * 0
    omega
  | a :: l, h => by
    have ih := sW_fm w g p q l (fun s hs => h s (List.mem_cons_of_mem _ hs))
    have h1 := h a List.mem_cons_self
    rw [List.flatMap_cons, sW_ap]
    show p * (sW w (g a) + sW w (l.flatMap g)) ≤ q * (wtW w a + sW w l)
    rw [Nat.mul_add, Nat.mul_add]
    omega
theorem sW_ln (w : Nat → Int) : ∀ l : List Int, 225 * l.length ≤ sW w l
  | [] => Nat.le_refl _
  | a :: l => by
    have ih := sW_ln w l
    have : 225 ≤ wtW w a := by unfold wtW; split <;> (try split) <;> omega
    rw [List.length_cons]
    show 225 * (l.length + 1) ≤ wtW w a + sW w l
    omega
theorem ptL_V (w t x0 : Nat → Int) : ∀ n c, c ∈ ptL w t x0 n → mnV w t x0 n c
  | 0, c, h => by
    have h : c ∈ [whR x0] := h
    rw [List.mem_singleton] at h
    exact h
  | n + 1, c, h => by
    have h : c ∈ (ptL w t x0 n).flatMap (stL w (hwO t n)) := h
    rw [List.mem_flatMap] at h
    obtain ⟨s, hs, hc⟩ := h
    unfold stL at hc
    refine ⟨s, ptL_V w t x0 n s hs, ?_⟩
    by_cases ho : ovR (w 194) (wcX w s) = true
    · rw [if_pos ho] at hc
      exact absurd hc List.not_mem_nil
    · rw [if_neg ho] at hc
      refine ⟨by cases e : ovR (w 194) (wcX w s) with | true => exact absurd e ho | false => rfl, ?_⟩
      by_cases c2 : 2 ≤ hwO t n ∧ wcX w s 6 = 1
      · rw [if_pos c2, List.mem_cons, List.mem_cons, List.mem_singleton] at hc
        right
        refine ⟨c2.1, c2.2, ?_⟩
        rcases hc with e | e | e
        · exact ⟨12, Or.inl rfl, e⟩
        · exact ⟨13, Or.inr (Or.inl rfl), e⟩
        · exact ⟨14, Or.inr (Or.inr rfl), e⟩
      · rw [if_neg c2, List.mem_singleton] at hc
        exact Or.inl hc
theorem ptL_m {w t x0 : Nat → Int} : ∀ n, (∀ k, k < n → lgO t k = true) → ∀ c, mnV w t x0 n c → c ∈ ptL w t x0 n
  | 0, _, c, h => by
    have h : c = whR x0 := h
    show c ∈ [whR x0]
    rw [List.mem_singleton]
    exact h
  | n + 1, hO, c, h => by
    obtain ⟨s, hs, ho, hc⟩ := h
    show c ∈ (ptL w t x0 n).flatMap (stL w (hwO t n))
    rw [List.mem_flatMap]
    refine ⟨s, ptL_m n (fun k hk => hO k (by omega)) s hs, ?_⟩
    unfold stL
    rw [if_neg (by rw [ho]; decide)]
    have hI := hw_in (hO n (by omega))
    by_cases c2 : 2 ≤ hwO t n ∧ wcX w s 6 = 1
    · rw [if_pos c2, List.mem_cons, List.mem_cons, List.mem_singleton]
      rcases hc with rfl | ⟨-, -, o, q, rfl⟩
      · rw [rl_as c2.2 c2.1 hI.2]
        have : mnAs (wcX w s) (hwO t n) = 12 ∨ mnAs (wcX w s) (hwO t n) = 13 ∨ mnAs (wcX w s) (hwO t n) = 14 := by
          unfold mnAs
          split
          · exact Or.inl rfl
          · split
            · exact Or.inr (Or.inl rfl)
            · exact Or.inr (Or.inr rfl)
        rcases this with e | e | e <;> rw [e]
        · exact Or.inl rfl
        · exact Or.inr (Or.inl rfl)
        · exact Or.inr (Or.inr rfl)
      · rcases q with rfl | rfl | rfl
        · exact Or.inl rfl
        · exact Or.inr (Or.inl rfl)
        · exact Or.inr (Or.inr rfl)
    · rw [if_neg c2, List.mem_singleton]
      rcases hc with e | ⟨q1, q2, -⟩
      · exact e
      · exact absurd ⟨q1, q2⟩ c2
/-- weights behind a rally -/
theorem stL_W {w t x0 : Nat → Int} {n : Nat} {L' L s : Int} (hw : wV w) (hO : lgO t n = true) (h : bI w t x0 n L' L s) : (2 ≤ hwO t n → 15 * sW w (stL w (hwO t n) s) ≤ 26 * wtW w s) ∧ (¬ 2 ≤ hwO t n → 1 * sW w (stL w (hwO t n) s) ≤ 1 * wtW w s) := by
  obtain ⟨hSV, hB⟩ := wcX_V (w := w) h.1
  have hI := hw_in hO
  have hh := hSV.2.2
  unfold hV at hh
  unfold stL
  by_cases ho : ovR (w 194) (wcX w s) = true
  · rw [if_pos ho]
    exact ⟨fun _ => Nat.zero_le _, fun _ => Nat.zero_le _⟩
  · rw [if_neg ho]
    have of : ovR (w 194) (wcX w s) = false := by cases e : ovR (w 194) (wcX w s) with | true => exact absurd e ho | false => rfl
    have z3 : ∀ how : Int, (how = hwO t n ∨ (2 ≤ hwO t n ∧ wcX w s 6 = 1 ∧ (how = 12 ∨ how = 13 ∨ how = 14))) → wcX w (whR (rlR w (wcX w s) how)) 3 = rlR w (wcX w s) how 3 ∧ (0 ≤ rlR w (wcX w s) how 3) ∧ ((wcX w s 6 = 1 → 2 ≤ how → rlR w (wcX w s) how 3 + 1 ≤ wcX w s 3) ∧ (how < 2 → rlR w (wcX w s) how 3 ≤ wcX w s 3) ∧ rlR w (wcX w s) how 3 ≤ wcX w s 3 + 1) := by
      intro how q
      have i0 : 0 ≤ how := by omega
      have i1 : how ≤ 14 := by omega
      have i2 : wcX w s 6 = 0 → how ≤ 11 := fun c => by omega
      have RV := rlR_V hw hSV i0 i1 i2
      have RB : xB 6 (rlR w (wcX w s) how) := by
        have w4 := hw.1
        have of := of
        unfold ovR at of
        rw [Bool.or_eq_false_iff, decide_eq_false_iff_not, decide_eq_false_iff_not] at of
        obtain ⟨b4, b5, b7, b8, b9⟩ := hB
        have hb : xB 5 (wcX w s) := ⟨b4, b5, by omega, by omega, b9⟩
        exact rlR_B hSV hb i0 i1
      have R3 := RV.2.2
      unfold hV at R3
      obtain ⟨g, c1, c2⟩ := rl_ch (w := w) hSV i1 i0 i2 _ rfl
      refine ⟨(wc_xE RV RB).2.2.2.1, by omega, fun c d => ?_, fun d => ?_, ?_⟩
      · by_cases cw : rlW w (wcX w s) how = -1
        · omega
        · exact ((c1 cw).2 d).2
      · by_cases cw : rlW w (wcX w s) how = -1
        · have := (c2 cw).1
          omega
        · exact (c1 cw).1
      · by_cases cw : rlW w (wcX w s) how = -1
        · exact (c2 cw).2
        · have := (c1 cw).1
          omega
    by_cases c2 : 2 ≤ hwO t n ∧ wcX w s 6 = 1
    · rw [if_pos c2]
      refine ⟨fun _ => ?_, fun z => absurd c2.1 z⟩
      obtain ⟨a1, a2, a3, -⟩ := z3 12 (Or.inr ⟨c2.1, c2.2, Or.inl rfl⟩)
      obtain ⟨b1, b2, b3, -⟩ := z3 13 (Or.inr ⟨c2.1, c2.2, Or.inr (Or.inl rfl)⟩)
      obtain ⟨d1, d2, d3, -⟩ := z3 14 (Or.inr ⟨c2.1, c2.2, Or.inr (Or.inr rfl)⟩)
      have a3 := a3 c2.2 (by decide)
      have b3 := b3 c2.2 (by decide)
      have d3 := d3 c2.2 (by decide)
      show 15 * (wtW w _ + (wtW w _ + (wtW w _ + 0))) ≤ 26 * wtW w s
      unfold wtW
      rw [a1, b1, d1]
      rcases (show wcX w s 3 = 1 ∨ wcX w s 3 = 2 by omega) with e | e
      · rw [if_pos (show rlR w (wcX w s) 12 3 = 0 by omega), if_pos (show rlR w (wcX w s) 13 3 = 0 by omega), if_pos (show rlR w (wcX w s) 14 3 = 0 by omega), if_neg (by omega), if_pos e]
        decide
      · rw [if_neg (show ¬ wcX w s 3 = 0 by omega), if_neg (show ¬ wcX w s 3 = 1 by omega)]
        have k : ∀ v : Int, 0 ≤ v → v + 1 ≤ 2 → (if v = 0 then 225 else if v = 1 then 390 else 676 : Nat) ≤ 390 := fun v h1 h2 => by
          split
          · decide
          · rw [if_pos (by omega)]
            exact Nat.le_refl _
        have k1 := k _ a2 (by omega)
        have k2 := k _ b2 (by omega)
        have k3 := k _ d2 (by omega)
        omega
    · rw [if_neg c2]
      obtain ⟨a1, a2, a3, a4, a5⟩ := z3 (hwO t n) (Or.inl rfl)
      have k : sW w [whR (rlR w (wcX w s) (hwO t n))] = (if rlR w (wcX w s) (hwO t n) 3 = 0 then 225 else if rlR w (wcX w s) (hwO t n) 3 = 1 then 390 else 676) := by
        show wtW w _ + 0 = _
        unfold wtW
        rw [a1]
        rfl
      rw [k]
      generalize rlR w (wcX w s) (hwO t n) 3 = v at *
      unfold wtW
      refine ⟨fun d => ?_, fun d => ?_⟩
      · have c6 : wcX w s 6 = 0 := by
          have : ¬ wcX w s 6 = 1 := fun z => c2 ⟨d, z⟩
          omega
        rcases (show wcX w s 3 = 0 ∨ wcX w s 3 = 1 by omega) with e | e
        · rw [if_pos e]
          split
          · decide
          · rw [if_pos (by omega)]
            decide
        · rw [if_neg (show ¬ wcX w s 3 = 0 by omega), if_pos e]
          split
          · decide
          · split <;> decide
      · have a4 := a4 (by omega)
        split
        · split
          · decide
          · split <;> decide
        · rw [if_neg (show ¬ wcX w s 3 = 0 by omega)]
          split
          · split <;> decide
          · rw [if_neg (show ¬ wcX w s 3 = 1 by omega)]
            exact Nat.le_refl _
theorem ptL_W {w t x0 : Nat → Int} (hw : wV w) (h0 : scV x0) (hB : xB 6 x0) : ∀ n, (∀ k, k < n → lgO t k = true) → 15 ^ dN t n * sW w (ptL w t x0 n) ≤ 26 ^ dN t n * 676
  | 0, _ => by
    show 1 * (wtW w _ + 0) ≤ 1 * 676
    unfold wtW
    split
    · decide
    · split <;> decide
  | n + 1, hO => by
    have ih := ptL_W hw h0 hB n (fun k hk => hO k (by omega))
    obtain ⟨a, b, ha, hb, hv⟩ := bI_V (t := t) hw h0 hB
    have hs := fun s hs => stL_W hw (hO n (by omega)) (hv n (fun k hk => hO k (by omega)) s (ptL_V w t x0 n s hs))
    have eL : ptL w t x0 (n + 1) = (ptL w t x0 n).flatMap (stL w (hwO t n)) := rfl
    rw [eL]
    by_cases c : 2 ≤ hwO t n
    · have e : dN t (n + 1) = dN t n + 1 := by
        show dN t n + (if 2 ≤ hwO t n then 1 else 0) = _
        rw [if_pos c]
      have := sW_fm w (stL w (hwO t n)) 15 26 (ptL w t x0 n) (fun s h => (hs s h).1 c)
      rw [e, Nat.pow_succ, Nat.pow_succ]
      calc 15 ^ dN t n * 15 * sW w ((ptL w t x0 n).flatMap (stL w (hwO t n))) = 15 ^ dN t n * (15 * sW w ((ptL w t x0 n).flatMap (stL w (hwO t n)))) := Nat.mul_assoc _ _ _
        _ ≤ 15 ^ dN t n * (26 * sW w (ptL w t x0 n)) := Nat.mul_le_mul_left _ this
        _ = 26 * (15 ^ dN t n * sW w (ptL w t x0 n)) := Nat.mul_left_comm _ _ _
        _ ≤ 26 * (26 ^ dN t n * 676) := Nat.mul_le_mul_left _ ih
        _ = 26 ^ dN t n * 26 * 676 := by rw [← Nat.mul_assoc, Nat.mul_comm 26 (26 ^ dN t n)]
    · have e : dN t (n + 1) = dN t n := by
        show dN t n + (if 2 ≤ hwO t n then 1 else 0) = _
        rw [if_neg c]
        rfl
      have := sW_fm w (stL w (hwO t n)) 1 1 (ptL w t x0 n) (fun s h => (hs s h).2 c)
      rw [e]
      exact Nat.le_trans (Nat.mul_le_mul_left _ (by omega)) ih
/-! places: at most 3958 behind 14 chases and more -/
def bnF (o v K u : Nat) : Bool :=
  Nat.beq (u / 64) 0 || (Nat.ble 3 (u / 8 % 8 + o) && (Nat.ble (v + 3) (u % 8) && Nat.ble (1 + u / 448 * (4 + o + (if v = 3 then 1 else 0)) + u / 64 % 7 * (4 - v) + (u / 8 % 8 + o - 3) + (u % 8 - v - 3)) (K + (if u / 448 = 0 then (if u / 64 % 7 = 0 then 0 else 4 - v) else (if u / 64 % 7 = 0 then 4 + o + (if v = 3 then 1 else 0) else max (4 - v) (4 + o + (if v = 3 then 1 else 0)))))))
def bnP (u : Nat) : Bool := (Nat.ble (u / 8 % 8) 6 && Nat.ble (u % 8) 6) || ((Nat.beq (u / 8 % 8) 7 && Nat.beq (u % 8) 6) || (Nat.beq (u / 8 % 8) 6 && Nat.beq (u % 8) 7))
def bnL (o v K : Nat) : List Nat := (List.range 3136).filter (fun u => bnP u && bnF o v K u)
theorem bn_ok : ∀ o, o < 4 → ∀ v, v < 4 → 2 * (bnL o v 24).length + 6 * (bnL o v 23).length ≤ 4000 := by decide +kernel
/-- where a state lies -/
theorem bn_in {w x0 y : Nat → Int} {N K o v : Nat} (hw : wV w) (eo : w 197 = o) (ev : w 198 = v) (hy : scV y) (h7 : 0 ≤ x0 7 ∧ y 7 ≤ 6) (h8 : 0 ≤ x0 8 ∧ y 8 ≤ 6) (hP : bP w x0 N y) (hK : N ≤ K) : ∃ u, u ∈ bnL o v K ∧ y 0 + 3 = ((u / 8 % 8 : Nat) : Int) ∧ y 1 + 3 = ((u % 8 : Nat) : Int) ∧ y 7 = x0 7 + ((u / 448 : Nat) : Int) ∧ y 8 = x0 8 + ((u / 64 % 7 : Nat) : Int) := by
  obtain ⟨u0, u1, g0, g1, hu⟩ := hP
  obtain ⟨-, -, -, w7, w8⟩ := hw
  have hp := hy.1
  unfold pV at hp
  obtain ⟨a, ea⟩ : ∃ a : Nat, y 0 + 3 = a := ⟨(y 0 + 3).toNat, by omega⟩
  obtain ⟨b, eb⟩ : ∃ b : Nat, y 1 + 3 = b := ⟨(y 1 + 3).toNat, by omega⟩
  have f1 : (u0 * 448 + u1 * 64 + a * 8 + b) / 8 % 8 = a := by omega
  have f2 : (u0 * 448 + u1 * 64 + a * 8 + b) % 8 = b := by omega
  have f3 : (u0 * 448 + u1 * 64 + a * 8 + b) / 448 = u0 := by omega
  have f4 : (u0 * 448 + u1 * 64 + a * 8 + b) / 64 % 7 = u1 := by omega
  have f5 : (u0 * 448 + u1 * 64 + a * 8 + b) / 64 = u0 * 7 + u1 := by omega
  refine ⟨u0 * 448 + u1 * 64 + a * 8 + b, ?_, by rw [f1]; exact ea, by rw [f2]; exact eb, by rw [f3]; exact g0, by rw [f4]; exact g1⟩
  unfold bnL
  rw [List.mem_filter, List.mem_range]
  refine ⟨by omega, ?_⟩
  unfold bnP bnF
  rw [f1, f2, f3, f4, f5]
  simp only [Bool.and_eq_true, Bool.or_eq_true, Nat.ble_eq, Nat.beq_eq]
  refine ⟨by omega, ?_⟩
  rcases hu with ⟨c0, c1⟩ | ⟨M, hM, c1, c2, c3⟩
  · exact Or.inl (by omega)
  · right
    refine ⟨by omega, by omega, ?_⟩
    have v0 : bg0 w = ((4 + o + (if v = 3 then 1 else 0) : Nat) : Int) := by
      unfold bg0
      rw [eo, ev]
      by_cases c : v = 3
      · rw [if_pos (by omega), if_pos c]
        omega
      · rw [if_neg (by omega), if_neg c]
        omega
    have v1 : bg1 w = ((4 - v : Nat) : Int) := by
      unfold bg1
      rw [ev]
      omega
    rw [v0, v1] at c3 hM
    rw [← Int.natCast_mul, ← Int.natCast_mul] at c3
    generalize hB0 : 4 + o + (if v = 3 then 1 else 0) = B0 at *
    generalize hB1 : 4 - v = B1 at *
    generalize u0 * B0 = A at *
    generalize u1 * B1 = B at *
    have hm : M ≤ (((if u0 = 0 then (if u1 = 0 then 0 else B1) else (if u1 = 0 then B0 else max B1 B0)) : Nat) : Int) := by
      rcases hM with ⟨m1, m2⟩ | ⟨m1, m2⟩
      · rw [if_neg (by omega)]
        split <;> omega
      · split
        · rw [if_neg (by omega)]
          omega
        · rw [if_neg (by omega)]
          omega
    generalize (if u0 = 0 then (if u1 = 0 then 0 else B1) else (if u1 = 0 then B0 else max B1 B0)) = Z at *
    omega
def bnE (k : Nat → Int) (h0 h1 : Int) (s u : Nat) : Int := ((((u / 8 % 8 : Nat) : Int) * 8 + ((u % 8 : Nat) : Int)) * 242 + 121 * s + k u) * 8 * 8 + (h0 + ((u / 448 : Nat) : Int)) * 8 + (h1 + ((u / 64 % 7 : Nat) : Int))
theorem mnV_w {w t x0 : Nat → Int} (hw : wV w) (h0 : scV x0) (hB : xB 6 x0) : ∀ n, (∀ k, k < n → lgO t k = true) → ∀ c, mnV w t x0 n c → ∃ y, c = whR y ∧ scV y ∧ xB 6 y := by
  intro n hO c hc
  cases n with
  | zero => exact ⟨x0, hc, h0, hB⟩
  | succ n =>
    obtain ⟨a, b, ha, hb, hv⟩ := bI_V (t := t) hw h0 hB
    obtain ⟨s, hs, ho, hh⟩ := hc
    have hI := hw_in (hO n (by omega))
    obtain ⟨hV, hB'⟩ := wcX_V (w := w) (hv n (fun k hk => hO k (by omega)) s hs).1
    have g : ∀ how : Int, 0 ≤ how → how ≤ 14 → (wcX w s 6 = 0 → how ≤ 11) → scV (rlR w (wcX w s) how) ∧ xB 6 (rlR w (wcX w s) how) := fun how i0 i1 i2 => by
      have w4 := hw.1
      unfold ovR at ho
      rw [Bool.or_eq_false_iff, decide_eq_false_iff_not, decide_eq_false_iff_not] at ho
      obtain ⟨b4, b5, b7, b8, b9⟩ := hB'
      have hb : xB 5 (wcX w s) := ⟨b4, b5, by omega, by omega, b9⟩
      exact ⟨rlR_V hw hV i0 i1 i2, rlR_B hV hb i0 i1⟩
    rcases hh with rfl | ⟨q1, q2, o, q3, rfl⟩
    · exact ⟨_, rfl, g _ hI.1 (by omega) (fun _ => hI.2)⟩
    · exact ⟨_, rfl, g _ (by omega) (by omega) (fun z => by omega)⟩
theorem mnB_ok {w t x0 : Nat → Int} (hw : wV w) (h0 : scV x0) (hB : xB 6 x0) {n : Nat} (hn : n ≤ 30) (hO : ∀ k, k < n → lgO t k = true) : mnB w t x0 n := by
  intro f m hf hi
  by_cases hd : dN t n ≤ 13
  · have h1 := pigN m f (ptL w t x0 n) (fun i hi' => ptL_m n hO _ (hf i hi')) hi
    have h2 := sW_ln w (ptL w t x0 n)
    have h3 := ptL_W (t := t) hw h0 hB n hO
    generalize (ptL w t x0 n).length = l at *
    generalize sW w (ptL w t x0 n) = s at *
    generalize dN t n = d at *
    have : d = 0 ∨ d = 1 ∨ d = 2 ∨ d = 3 ∨ d = 4 ∨ d = 5 ∨ d = 6 ∨ d = 7 ∨ d = 8 ∨ d = 9 ∨ d = 10 ∨ d = 11 ∨ d = 12 ∨ d = 13 := by omega
    rcases this with e | e | e | e | e | e | e | e | e | e | e | e | e | e <;> subst e <;> omega
  · obtain ⟨a, b, ha, hb, hv⟩ := bI_V (t := t) hw h0 hB
    obtain ⟨-, -, -, w7, w8⟩ := id hw
    obtain ⟨o, eo⟩ : ∃ o : Nat, w 197 = o := ⟨(w 197).toNat, by omega⟩
    obtain ⟨v, ev⟩ : ∃ v : Nat, w 198 = v := ⟨(w 198).toNat, by omega⟩
    have hl := bn_ok o (by omega) v (by omega)
    have hx := h0.2.2
    unfold hV at hx
    have hxB := hB
    obtain ⟨-, -, x7, x8, -⟩ := hxB
    obtain ⟨L', L, eL⟩ : ∃ L' L, lnN t a b n = (L', L) := ⟨_, _, rfl⟩
    let k1 : Nat → Int := fun u => if eE w (((u / 8 % 8 : Nat) : Int) - 3) (((u % 8 : Nat) : Int) - 3) = true then 11 + L else 1 + L
    have hm := pigN m f ((bnL o v 24).map (bnE (fun _ => 0) (x0 7) (x0 8) 0) ++ ((bnL o v 24).map (bnE (fun _ => 0) (x0 7) (x0 8) 1) ++ ((bnL o v 23).map (bnE k1 (x0 7) (x0 8) 0) ++ ((bnL o v 23).map (bnE k1 (x0 7) (x0 8) 1) ++ ((bnL o v 23).map (bnE (fun _ => 11 + L') (x0 7) (x0 8) 0) ++ ((bnL o v 23).map (bnE (fun _ => 11 + L') (x0 7) (x0 8) 1) ++ ((bnL o v 23).map (bnE (fun _ => 21 + 10 * L' + L) (x0 7) (x0 8) 0) ++ (bnL o v 23).map (bnE (fun _ => 21 + 10 * L' + L) (x0 7) (x0 8) 1)))))))) (fun i hi' => ?_) hi
    · simp only [List.length_append, List.length_map] at hm
      omega
    · have hmV := hf i hi'
      obtain ⟨y, ec, hyV, hyB⟩ := mnV_w hw h0 hB n hO _ hmV
      have hI := hv n hO _ hmV
      rw [eL] at hI
      rw [ec] at hI ⊢
      have eq := (wc_xE (w := w) hyV hyB).sy
      obtain ⟨-, hC, hE, N, hN, hP⟩ := hI
      have hC := bC_xE eq hC
      have hE := bE_xE eq (hE (by have := dN_le t n; omega))
      have hP := bP_xE eq hP
      rw [← eq.2.2.2.1] at hN
      have hh := hyV.2.2
      unfold hV at hh
      have hyB' := hyB
      obtain ⟨-, -, y7, y8, -⟩ := hyB'
      have y2 := hyV.2.1
      have N24 : N ≤ 24 := by omega
      have N23 : y 3 ≠ 0 → N ≤ 23 := by omega
      have key : ∀ (k : Nat → Int) (s u : Nat), y 0 + 3 = ((u / 8 % 8 : Nat) : Int) → y 1 + 3 = ((u % 8 : Nat) : Int) → y 7 = x0 7 + ((u / 448 : Nat) : Int) → y 8 = x0 8 + ((u / 64 % 7 : Nat) : Int) → y 2 = s → nuC y = k u → whR y = bnE k (x0 7) (x0 8) s u := by
        intro k s u e0 e1 e7 e8 e2 ek
        unfold whR nuR bnE
        rw [← e0, ← e1, ← e7, ← e8, ek, e2]
        omega
      simp only [List.mem_append, List.mem_map]
      by_cases c3 : y 3 = 0
      · obtain ⟨u, hu, e0, e1, e7, e8⟩ := bn_in hw eo ev hyV ⟨x7.1, y7.2⟩ ⟨x8.1, y8.2⟩ hP N24
        have ek : nuC y = 0 := by unfold nuC; rw [if_pos c3]
        rcases y2 with e2 | e2
        · exact Or.inl ⟨u, hu, (key (fun _ => 0) 0 u e0 e1 e7 e8 e2 ek).symm⟩
        · exact Or.inr (Or.inl ⟨u, hu, (key (fun _ => 0) 1 u e0 e1 e7 e8 e2 ek).symm⟩)
      · obtain ⟨u, hu, e0, e1, e7, e8⟩ := bn_in hw eo ev hyV ⟨x7.1, y7.2⟩ ⟨x8.1, y8.2⟩ hP (N23 c3)
        have ee : eE w (((u / 8 % 8 : Nat) : Int) - 3) (((u % 8 : Nat) : Int) - 3) = eE w (y 0) (y 1) := by
          rw [← e0, ← e1, show y 0 + 3 - 3 = y 0 by omega, show y 1 + 3 - 3 = y 1 by omega]
        unfold bC at hC
        rcases hC with q | q | q | q | q
        · exact absurd q c3
        · have ek : nuC y = k1 u := by
            show _ = if _ then _ else _
            rw [ee, hE q.1 q.2.1, if_neg (by decide)]
            unfold nuC
            rw [if_neg c3, if_neg (by omega), if_neg (by omega), q.2.2]
          rcases y2 with e2 | e2
          · exact Or.inr (Or.inr (Or.inl ⟨u, hu, (key k1 0 u e0 e1 e7 e8 e2 ek).symm⟩))
          · exact Or.inr (Or.inr (Or.inr (Or.inl ⟨u, hu, (key k1 1 u e0 e1 e7 e8 e2 ek).symm⟩)))
        · have ek : nuC y = 11 + L' := by
            unfold nuC
            rw [if_neg c3, if_neg (by omega), if_pos q.2.1, q.2.2]
          rcases y2 with e2 | e2
          · exact Or.inr (Or.inr (Or.inr (Or.inr (Or.inl ⟨u, hu, (key (fun _ => 11 + L') 0 u e0 e1 e7 e8 e2 ek).symm⟩))))
          · exact Or.inr (Or.inr (Or.inr (Or.inr (Or.inr (Or.inl ⟨u, hu, (key (fun _ => 11 + L') 1 u e0 e1 e7 e8 e2 ek).symm⟩)))))
        · have ek : nuC y = k1 u := by
            show _ = if _ then _ else _
            rw [ee, q.2.2.2, if_pos rfl]
            unfold nuC
            rw [if_neg c3, if_neg (by omega), if_pos q.2.1, q.2.2.1]
          rcases y2 with e2 | e2
          · exact Or.inr (Or.inr (Or.inl ⟨u, hu, (key k1 0 u e0 e1 e7 e8 e2 ek).symm⟩))
          · exact Or.inr (Or.inr (Or.inr (Or.inl ⟨u, hu, (key k1 1 u e0 e1 e7 e8 e2 ek).symm⟩)))
        · have ek : nuC y = 21 + 10 * L' + L := by
            unfold nuC
            rw [if_neg c3, if_pos q.1, q.2.2.1, q.2.2.2]
          rcases y2 with e2 | e2
          · exact Or.inr (Or.inr (Or.inr (Or.inr (Or.inr (Or.inr (Or.inl ⟨u, hu, (key (fun _ => 21 + 10 * L' + L) 0 u e0 e1 e7 e8 e2 ek).symm⟩))))))
          · exact Or.inr (Or.inr (Or.inr (Or.inr (Or.inr (Or.inr (Or.inr ⟨u, hu, (key (fun _ => 21 + 10 * L' + L) 1 u e0 e1 e7 e8 e2 ek).symm⟩))))))
