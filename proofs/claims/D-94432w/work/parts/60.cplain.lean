/-! ===== the component's score as the model's row x ===== -/
set_option maxRecDepth 100000
/-- the score whose object is q: its arrays are q + 1 (points), q + 2 (games), q + 3 (lines) -/
def cx (S : Nat → Nat → Int) (q : Nat) : Nat → Int := fun k => if k = 0 then S (q + 1) 0 else if k = 1 then S (q + 1) 1 else if k = 2 then S q 3 else if k = 3 then S q 4 else if k = 4 then S (q + 3) 0 else if k = 5 then S (q + 3) 1 else if k = 6 then S q 5 else if k = 7 then S (q + 2) 0 else if k = 8 then S (q + 2) 1 else 0
def cxW (S : Nat → Nat → Int) (q : Nat) (x : Nat → Int) : Nat → Nat → Int := fun h k => if h = q + 1 ∧ k = 0 then x 0 else if h = q + 1 ∧ k = 1 then x 1 else if h = q ∧ k = 3 then x 2 else if h = q ∧ k = 4 then x 3 else if h = q + 3 ∧ k = 0 then x 4 else if h = q + 3 ∧ k = 1 then x 5 else if h = q ∧ k = 5 then x 6 else if h = q + 2 ∧ k = 0 then x 7 else if h = q + 2 ∧ k = 1 then x 8 else S h k
theorem cxW_o (S : Nat → Nat → Int) (q : Nat) (x : Nat → Int) {h : Nat} (h1 : h ≠ q) (h2 : h ≠ q + 1) (h3 : h ≠ q + 2) (h4 : h ≠ q + 3) : cxW S q x h = S h := by
  funext k
  simp [cxW, h1, h2, h3, h4]
theorem cxW_f (S : Nat → Nat → Int) (q : Nat) (x : Nat → Int) {k : Nat} (h1 : k ≠ 3) (h2 : k ≠ 4) (h3 : k ≠ 5) : cxW S q x q k = S q k := by
  simp [cxW, h1, h2, h3]
theorem cx_cxW (S : Nat → Nat → Int) (q : Nat) (x : Nat → Int) (hx : ∀ j, 9 ≤ j → x j = 0) : cx (cxW S q x) q = x := by
  funext k
  unfold cx
  by_cases h0 : k = 0
  · subst h0; simp [cxW]
  by_cases h1 : k = 1
  · subst h1; simp [cxW]
  by_cases h2 : k = 2
  · subst h2; simp [cxW]
  by_cases h3 : k = 3
  · subst h3; simp [cxW]
  by_cases h4 : k = 4
  · subst h4; simp [cxW]
  by_cases h5 : k = 5
  · subst h5; simp [cxW]
  by_cases h6 : k = 6
  · subst h6; simp [cxW]
  by_cases h7 : k = 7
  · subst h7; simp [cxW]
  by_cases h8 : k = 8
  · subst h8; simp [cxW]
  · simp [h0, h1, h2, h3, h4, h5, h6, h7, h8, hx k (by omega)]
theorem cx_ne (S : Nat → Nat → Int) (q q' : Nat) (x : Nat → Int) (h : q + 3 < q' ∨ q' + 3 < q) : cx (cxW S q x) q' = cx S q' := by
  unfold cx
  rw [cxW_o S q x (h := q') (by omega) (by omega) (by omega) (by omega), cxW_o S q x (h := q' + 1) (by omega) (by omega) (by omega) (by omega), cxW_o S q x (h := q' + 2) (by omega) (by omega) (by omega) (by omega), cxW_o S q x (h := q' + 3) (by omega) (by omega) (by omega) (by omega)]
theorem cxW_cxW (S : Nat → Nat → Int) (q : Nat) (x y : Nat → Int) : cxW (cxW S q x) q y = cxW S q y := by
  funext h k
  simp only [cxW]
  grind
theorem cxW_id (S : Nat → Nat → Int) (q : Nat) : cxW S q (cx S q) = S := by
  funext h k
  unfold cxW
  split
  · next e => rw [e.1, e.2]; rfl
  split
  · next e => rw [e.1, e.2]; rfl
  split
  · next e => rw [e.1, e.2]; rfl
  split
  · next e => rw [e.1, e.2]; rfl
  split
  · next e => rw [e.1, e.2]; rfl
  split
  · next e => rw [e.1, e.2]; rfl
  split
  · next e => rw [e.1, e.2]; rfl
  split
  · next e => rw [e.1, e.2]; rfl
  split
  · next e => rw [e.1, e.2]; rfl
  · rfl
/-- single writes as writes of the score -/
theorem cxW_0 (S : Nat → Nat → Int) (q : Nat) (x : Nat → Int) (v : Int) : mm_up (cxW S q x) (q + 1) 0 v = cxW S q (ru x 0 v) := by
  funext h k; grind [up_eq, cxW, ru]
theorem cxW_1 (S : Nat → Nat → Int) (q : Nat) (x : Nat → Int) (v : Int) : mm_up (cxW S q x) (q + 1) 1 v = cxW S q (ru x 1 v) := by
  funext h k; grind [up_eq, cxW, ru]
theorem cxW_2 (S : Nat → Nat → Int) (q : Nat) (x : Nat → Int) (v : Int) : mm_up (cxW S q x) q 3 v = cxW S q (ru x 2 v) := by
  funext h k; grind [up_eq, cxW, ru]
theorem cxW_3 (S : Nat → Nat → Int) (q : Nat) (x : Nat → Int) (v : Int) : mm_up (cxW S q x) q 4 v = cxW S q (ru x 3 v) := by
  funext h k; grind [up_eq, cxW, ru]
theorem cxW_4 (S : Nat → Nat → Int) (q : Nat) (x : Nat → Int) (v : Int) : mm_up (cxW S q x) (q + 3) 0 v = cxW S q (ru x 4 v) := by
  funext h k; grind [up_eq, cxW, ru]
theorem cxW_5 (S : Nat → Nat → Int) (q : Nat) (x : Nat → Int) (v : Int) : mm_up (cxW S q x) (q + 3) 1 v = cxW S q (ru x 5 v) := by
  funext h k; grind [up_eq, cxW, ru]
theorem cxW_6 (S : Nat → Nat → Int) (q : Nat) (x : Nat → Int) (v : Int) : mm_up (cxW S q x) q 5 v = cxW S q (ru x 6 v) := by
  funext h k; grind [up_eq, cxW, ru]
theorem cxW_7 (S : Nat → Nat → Int) (q : Nat) (x : Nat → Int) (v : Int) : mm_up (cxW S q x) (q + 2) 0 v = cxW S q (ru x 7 v) := by
  funext h k; grind [up_eq, cxW, ru]
theorem cxW_8 (S : Nat → Nat → Int) (q : Nat) (x : Nat → Int) (v : Int) : mm_up (cxW S q x) (q + 2) 1 v = cxW S q (ru x 8 v) := by
  funext h k; grind [up_eq, cxW, ru]
/-- two scores that answer alike: lines of chases that are not there don't count -/
def xE (y z : Nat → Int) : Prop := y 0 = z 0 ∧ y 1 = z 1 ∧ y 2 = z 2 ∧ y 3 = z 3 ∧ (1 ≤ z 3 → y 4 = z 4) ∧ (2 ≤ z 3 → y 5 = z 5) ∧ y 6 = z 6 ∧ y 7 = z 7 ∧ y 8 = z 8
theorem xE.rf (x : Nat → Int) : xE x x := ⟨rfl, rfl, rfl, rfl, fun _ => rfl, fun _ => rfl, rfl, rfl, rfl⟩
theorem xE.sy {x y : Nat → Int} (h : xE x y) : xE y x := by
  obtain ⟨h0, h1, h2, h3, h4, h5, h6, h7, h8⟩ := h
  exact ⟨h0.symm, h1.symm, h2.symm, h3.symm, fun c => (h4 (by rw [← h3]; exact c)).symm, fun c => (h5 (by rw [← h3]; exact c)).symm, h6.symm, h7.symm, h8.symm⟩
theorem xE.tr {x y z : Nat → Int} (h : xE x y) (h' : xE y z) : xE x z := by
  obtain ⟨h0, h1, h2, h3, h4, h5, h6, h7, h8⟩ := h
  obtain ⟨g0, g1, g2, g3, g4, g5, g6, g7, g8⟩ := h'
  exact ⟨h0.trans g0, h1.trans g1, h2.trans g2, h3.trans g3, fun c => (h4 (by rw [g3]; exact c)).trans (g4 c), fun c => (h5 (by rw [g3]; exact c)).trans (g5 c), h6.trans g6, h7.trans g7, h8.trans g8⟩
/-- what of the world a score asks -/
def wsc (S : Nat → Nat → Int) (w : Nat → Int) : Prop := S 200 1 = w 194 ∧ S 200 2 = w 195 ∧ S 200 3 = w 196 ∧ S 200 4 = w 197 ∧ S 200 5 = w 198
theorem wsc_cxW {S : Nat → Nat → Int} {w : Nat → Int} {q : Nat} {x : Nat → Int} (h : wsc S w) (hq : q = 204 ∨ q = 108 ∨ q = 112) : wsc (cxW S q x) w := by
  unfold wsc
  rw [cxW_o S q x (h := 200) (by omega) (by omega) (by omega) (by omega)]
  exact h
/-- the rally of a model for a component's: 12 to 14 while a chase is played off -/
def clH (x : Nat → Int) (how line : Int) : Int := if how < 2 then how else if x 6 = 1 then (if line < x 4 then 12 else if x 4 < line then 13 else 14) else 2 + line
theorem clH_rl (w x : Nat → Int) {line : Int} (h0 : 0 ≤ line) (h1 : line ≤ 9) (h6 : x 6 = 0 ∨ x 6 = 1) : rlR w x (clH x 2 line) = rlR w x (2 + line) ∧ rlW w x (clH x 2 line) = rlW w x (2 + line) := by
  have key : rlW w x (clH x 2 line) = rlW w x (2 + line) ∧ (x 6 = 0 → clH x 2 line = 2 + line) := by
    unfold clH
    rw [if_neg (by decide)]
    rcases h6 with e | e
    · rw [if_neg (by rw [e]; decide)]
      exact ⟨rfl, fun _ => rfl⟩
    · refine ⟨?_, fun c => by omega⟩
      rw [if_pos e]
      by_cases a : line < x 4
      · rw [if_pos a]; unfold rlW; grind
      · rw [if_neg a]
        by_cases b : x 4 < line
        · rw [if_pos b]; unfold rlW; grind
        · rw [if_neg b]; unfold rlW; grind
  refine ⟨?_, key.1⟩
  funext j
  unfold rlR rlY
  rw [key.1]
  rcases h6 with e | e
  · rw [key.2 e]
  · simp [e]
/-- the component's rally as a function of rows -/
def crG (x : Nat → Int) : Nat → Int := ru (ru (ru x 4 (x 5)) 3 (x 3 - 1)) 6 (if 0 < x 3 - 1 then 1 else 0)
def crC (x : Nat → Int) (line : Int) : Nat → Int := ru (ru x (if x 3 = 0 then 4 else 5) line) 3 (x 3 + 1)
def cchR (w x : Nat → Int) : Nat → Int := fun j => if x 6 = 0 then chR w x j else x j
def crA (x : Nat → Int) (how line : Int) : Nat → Int := if x 6 = 1 then crG x else if how = 2 then crC x line else x
def crR (w x : Nat → Int) (how line : Int) : Nat → Int :=
  cchR w (if rlW w x (clH x how line) = -1 then crA x how line else pnt w (crA x how line) (rlW w x (clH x how line)).toNat)
theorem ptw_cr {x y : Nat → Int} (h0 : y 0 = x 0) (h1 : y 1 = x 1) {p : Nat} (hp : p < 2) : ptw y p = ptw x p := by
  have e : p = 0 ∨ p = 1 := by omega
  unfold ptw ptB ptA
  rcases e with e | e <;> subst e <;> simp [ru, h0, h1]
theorem cpt_at (w x : Nat → Int) {p : Nat} (hp : p < 2) : (ptw x p = true → pnt w x p 3 = 0 ∧ pnt w x p 6 = 0 ∧ pnt w x p 4 = x 4 ∧ pnt w x p 5 = x 5 ∧ pnt w x p 0 = -w 197 ∧ pnt w x p 1 = w 198 ∧ pnt w x p 2 = x 2 ∧ pnt w x p (7 + p) = x (7 + p) + 1 ∧ pnt w x p (8 - p) = x (8 - p)) ∧ (ptw x p = false → (∀ j, 2 ≤ j → pnt w x p j = x j)) := by
  have e : p = 0 ∨ p = 1 := by omega
  refine ⟨fun h => ?_, fun h j hj => ?_⟩
  · unfold pnt
    simp only [h, if_true]
    rcases e with e | e <;> subst e <;> simp [ptC, ptB, ptA, ru]
  · unfold pnt
    simp only [h]
    have h1 : ¬ (x 0 + 1 = 4 ∧ x 1 = 4 ∧ (j = 0 ∨ j = 1)) := by omega
    rcases e with e | e <;> subst e <;> simp [ptB, ptA, ru] <;> omega
theorem pnt_01 {w x y : Nat → Int} (h0 : y 0 = x 0) (h1 : y 1 = x 1) {p : Nat} (hp : p < 2) : pnt w y p 0 = pnt w x p 0 ∧ pnt w y p 1 = pnt w x p 1 := by
  have e : p = 0 ∨ p = 1 := by omega
  have h := ptw_cr h0 h1 hp
  unfold pnt
  rw [h]
  rcases e with e | e <;> subst e <;> cases ptw x _ <;> simp [ptC, ptB, ptA, ru, h0, h1]
theorem cch_at (w x : Nat → Int) (h : chD w x = false) : chR w x = x := by
  funext j
  unfold chR
  rw [h]
  rfl
theorem chD_0 {w x : Nat → Int} (h : x 3 = 0) : chD w x = false := by unfold chD; simp [h]
theorem cchR_at {w x : Nat → Int} (h : x 6 = 1 ∨ x 3 = 0) : cchR w x = x := by
  funext j
  unfold cchR
  rcases h with h | h
  · simp [h]
  · rw [cch_at w x (chD_0 (w := w) h)]; simp
theorem rlW_in' (w x : Nat → Int) (h : Int) (h2 : x 2 = 0 ∨ x 2 = 1) : rlW w x h = -1 ∨ ((rlW w x h).toNat < 2 ∧ 0 ≤ rlW w x h) := by
  unfold rlW
  grind
theorem crR_xE {w x : Nat → Int} {how line : Int} (hx : scV x) (h0 : 0 ≤ how) (h1 : how ≤ 2) (hl : x 6 = 0 → how = 2 → 0 ≤ line ∧ line ≤ 9) : xE (crR w x how line) (rlR w x (clH x how line)) := by
  have h2 := hx.2.1
  have h6 : x 6 = 0 ∨ x 6 = 1 := by
    rcases hx.2.2 with ⟨-, e⟩ | ⟨-, e, -⟩ | ⟨-, e, -⟩
    · exact Or.inl e
    · exact e
    · exact Or.inr e
  rcases h6 with e6 | e6
  · -- none is played off
    have eq : crR w x how line = rlR w x (clH x how line) := by
      by_cases hh : how = 2
      · have ew : rlW w x (clH x how line) = -1 := by
          unfold clH
          rw [if_neg (by omega), if_neg (by omega)]
          unfold rlW
          have := hl e6 hh
          rw [if_neg (by omega), if_neg (by omega), if_pos e6]
        have ec : clH x how line = 2 + line := by
          unfold clH
          rw [if_neg (by omega), if_neg (by omega)]
        funext j
        unfold crR rlR rlY
        rw [ew, if_pos rfl]
        unfold crA
        rw [if_neg (by omega), if_pos hh, if_pos e6]
        unfold cchR
        have e7 : crC x line 6 = 0 := by simp [crC, ru]; split <;> simp_all
        rw [if_pos e7]
        have ef : (fun j => if (-1 : Int) < 0 then (if x 6 = 0 then rlC x (clH x how line) j else x j) else pnt w x (Int.toNat (-1)) j) = crC x line := by
          funext i
          simp only [show ((-1 : Int) < 0) = True by simp, if_true, e6, ec]
          unfold rlC crC ru
          by_cases h3 : x 3 = 0
          · simp only [h3, if_true, true_and]
            grind
          · simp only [h3, if_false]
            grind
        rw [ef]
      · have hw : ¬ rlW w x (clH x how line) = -1 := by
          have hh2 : how = 0 ∨ how = 1 := by omega
          rcases hh2 with e | e <;> subst e <;> unfold clH rlW <;> simp <;> omega
        have hp := (rlW_in' w x (clH x how line) h2).resolve_left hw
        funext j
        unfold crR
        rw [if_neg hw]
        unfold crA
        rw [if_neg (by omega), if_neg hh]
        have e7 : pnt w x (rlW w x (clH x how line)).toNat 6 = 0 := by
          have := cpt_at w x hp.1
          cases hq : ptw x (rlW w x (clH x how line)).toNat with
          | true => exact (this.1 hq).2.1
          | false => rw [this.2 hq 6 (by decide)]; exact e6
        unfold cchR
        rw [if_pos e7]
        unfold rlR
        rw [if_pos e6]
        have ef : rlY w x (clH x how line) = pnt w x (rlW w x (clH x how line)).toNat := by
          funext i
          unfold rlY
          rw [if_neg (by omega)]
        rw [ef]
    rw [eq]
    exact xE.rf _
  · -- one is played off
    have eA : crA x how line = crG x := by unfold crA; rw [if_pos e6]
    have g0 : crG x 0 = x 0 := by simp [crG, ru]
    have g1 : crG x 1 = x 1 := by simp [crG, ru]
    have g2 : crG x 2 = x 2 := by simp [crG, ru]
    have g3 : crG x 3 = x 3 - 1 := by simp [crG, ru]
    have g4 : crG x 4 = x 5 := by simp [crG, ru]
    have g5 : crG x 5 = x 5 := by simp [crG, ru]
    have g6 : crG x 6 = (if 0 < x 3 - 1 then 1 else 0) := by simp [crG, ru]
    have g7 : crG x 7 = x 7 := by simp [crG, ru]
    have g8 : crG x 8 = x 8 := by simp [crG, ru]
    have h36 : crG x 6 = 1 ∨ crG x 3 = 0 := by
      rw [g6, g3]
      have : x 3 = 1 ∨ x 3 = 2 := by
        rcases hx.2.2 with ⟨-, e⟩ | ⟨e, -⟩ | ⟨e, -⟩
        · omega
        · exact Or.inl e
        · exact Or.inr e
      rcases this with e | e <;> rw [e] <;> decide
    unfold crR
    rw [eA]
    have er : ∀ j, rlR w x (clH x how line) j = gnR (rlY w x (clH x how line)) j := fun j => by unfold rlR; rw [if_neg (by omega)]
    by_cases hw : rlW w x (clH x how line) = -1
    · rw [if_pos hw, cchR_at h36]
      have ey : rlY w x (clH x how line) = x := by
        funext j
        unfold rlY
        rw [hw]
        simp [e6]
      have eg : crG x = rlR w x (clH x how line) := by
        funext j
        rw [er, ey]
        unfold gnR
        rw [if_neg (by omega)]
        unfold crG ru
        grind
      rw [eg]
      exact xE.rf _
    · have hp := (rlW_in' w x (clH x how line) h2).resolve_left hw
      rw [if_neg hw]
      have ey : rlY w x (clH x how line) = pnt w x (rlW w x (clH x how line)).toNat := by
        funext i
        unfold rlY
        rw [if_neg (by omega)]
      rw [ey] at er
      generalize (rlW w x (clH x how line)).toNat = p at *
      have q1 := cpt_at w x hp.1
      have q2 := cpt_at w (crG x) hp.1
      have q3 := pnt_01 (w := w) g0 g1 hp.1
      have q4 := ptw_cr g0 g1 hp.1
      cases hq : ptw x p with
      | true =>
        rw [hq] at q4
        obtain ⟨a3, a6, a4, a5, a0, a1, a2, a7, a8⟩ := q1.1 hq
        obtain ⟨b3, b6, b4, b5, b0, b1, b2, b7, b8⟩ := q2.1 q4
        rw [cchR_at (Or.inr b3)]
        have en : ∀ j, rlR w x (clH x how line) j = pnt w x p j := fun j => by rw [er]; unfold gnR; rw [if_pos a6]
        have h78 : pnt w (crG x) p 7 = pnt w x p 7 ∧ pnt w (crG x) p 8 = pnt w x p 8 := by
          have : p = 0 ∨ p = 1 := by omega
          rcases this with e | e <;> subst e
          · exact ⟨by rw [show (7 : Nat) = 7 + 0 from rfl, b7, a7]; exact congrArg (· + 1) g7, by rw [show (8 : Nat) = 8 - 0 from rfl, b8, a8]; exact g8⟩
          · exact ⟨by rw [show (7 : Nat) = 8 - 1 from rfl, b8, a8]; exact g7, by rw [show (8 : Nat) = 7 + 1 from rfl, b7, a7]; exact congrArg (· + 1) g8⟩
        refine ⟨by rw [en]; exact q3.1, by rw [en]; exact q3.2, by rw [en, b2, a2, g2], by rw [en, b3, a3], fun c => ?_, fun c => ?_, by rw [en, b6, a6], by rw [en]; exact h78.1, by rw [en]; exact h78.2⟩
        · rw [en, a3] at c; omega
        · rw [en, a3] at c; omega
      | false =>
        rw [hq] at q4
        have a := q1.2 hq
        have b := q2.2 q4
        rw [cchR_at (by rw [b 6 (by decide), b 3 (by decide)]; exact h36)]
        have a6 : ¬ pnt w x p 6 = 0 := by rw [a 6 (by decide)]; omega
        have en : ∀ j, rlR w x (clH x how line) j = (if j = 3 then x 3 - 1 else if j = 4 then x 5 else if j = 6 then (if 0 < x 3 - 1 then 1 else 0) else pnt w x p j) := fun j => by
          rw [er]; unfold gnR; rw [if_neg a6, a 3 (by decide), a 5 (by decide)]
        have en' : ∀ j, pnt w (crG x) p j = rlR w x (clH x how line) j := by
          intro j
          rw [en]
          by_cases hj : j < 2
          · have : j = 0 ∨ j = 1 := by omega
            rcases this with e | e <;> subst e
            · exact q3.1
            · exact q3.2
          · rw [b j (by omega)]
            unfold crG ru
            have := a j (by omega)
            grind
        have : pnt w (crG x) p = rlR w x (clH x how line) := funext en'
        rw [this]
        exact xE.rf _
theorem pnt_9 {w x : Nat → Int} {p : Nat} (hp : p < 2) (hx : ∀ j, 9 ≤ j → x j = 0) : ∀ j, 9 ≤ j → pnt w x p j = 0 := by
  intro j hj
  have e : p = 0 ∨ p = 1 := by omega
  have h0 := hx j hj
  unfold pnt ptC ptB ptA ru
  rcases e with e | e <;> subst e <;> split <;> grind
theorem pnt_36 {w x : Nat → Int} {p : Nat} (hp : p < 2) (h3 : 0 ≤ x 3) (h6 : x 6 = 0 ∨ x 6 = 1) : 0 ≤ pnt w x p 3 ∧ (pnt w x p 6 = 0 ∨ pnt w x p 6 = 1) := by
  have q := cpt_at w x hp
  cases hq : ptw x p with
  | true =>
    have := q.1 hq
    rw [this.1, this.2.1]
    exact ⟨by decide, Or.inl rfl⟩
  | false =>
    have := q.2 hq
    rw [this 3 (by decide), this 6 (by decide)]
    exact ⟨h3, h6⟩
theorem cxW_i6 (S : Nat → Nat → Int) (q : Nat) (v : Int) : mm_up S q 5 v = cxW S q (ru (cx S q) 6 v) := by
  have h := cxW_6 S q (cx S q) v
  rwa [cxW_id] at h
theorem cxW_i3 (S : Nat → Nat → Int) (q : Nat) (v : Int) : mm_up S q 4 v = cxW S q (ru (cx S q) 3 v) := by
  have h := cxW_3 S q (cx S q) v
  rwa [cxW_id] at h
theorem cxW_i2 (S : Nat → Nat → Int) (q : Nat) (v : Int) : mm_up S q 3 v = cxW S q (ru (cx S q) 2 v) := by
  have h := cxW_2 S q (cx S q) v
  rwa [cxW_id] at h
theorem cxW_i0 (S : Nat → Nat → Int) (q : Nat) (v : Int) : mm_up S (q + 1) 0 v = cxW S q (ru (cx S q) 0 v) := by
  have h := cxW_0 S q (cx S q) v
  rwa [cxW_id] at h
theorem cxW_i4 (S : Nat → Nat → Int) (q : Nat) (v : Int) : mm_up S (q + 3) 0 v = cxW S q (ru (cx S q) 4 v) := by
  have h := cxW_4 S q (cx S q) v
  rwa [cxW_id] at h
theorem cxW_i5 (S : Nat → Nat → Int) (q : Nat) (v : Int) : mm_up S (q + 3) 1 v = cxW S q (ru (cx S q) 5 v) := by
  have h := cxW_5 S q (cx S q) v
  rwa [cxW_id] at h
/-- who has the point, case by case -/
theorem raO_cases {w x : Nat → Int} {how line v : Int} (hh : 0 ≤ how ∧ how ≤ 2) (h2 : x 2 = 0 ∨ x 2 = 1) (hv : (how < 2 ∧ v = 1 + how) ∨ (how = 2 ∧ x 6 = 0 ∧ v = 0) ∨ (how = 2 ∧ x 6 = 1 ∧ ((line = x 4 ∧ w 196 = 0 ∧ v = 0) ∨ (line < x 4 ∧ v = 2) ∨ (¬ line < x 4 ∧ (x 4 < line ∨ w 196 = 1) ∧ v = 1)))) (hl : x 6 = 0 → how = 2 → 0 ≤ line ∧ line ≤ 9) : v = raO w x (clH x how line) := by
  rcases hv with ⟨a, e⟩ | ⟨a, b, e⟩ | ⟨a, b, hv⟩
  · subst e
    have : how = 0 ∨ how = 1 := by omega
    unfold raO
    have ec : clH x how line = how := by unfold clH; rw [if_pos a]
    rw [ec]
    rcases this with e | e <;> subst e <;> rcases h2 with e2 | e2 <;> simp [rlW, e2]
  · subst e a
    have := hl b rfl
    have ec : clH x 2 line = 2 + line := by unfold clH; rw [if_neg (by decide), if_neg (by omega)]
    unfold raO rlW
    rw [ec, if_neg (show ¬ (2 + line = 0) by omega), if_neg (show ¬ (2 + line = 1) by omega), if_pos b, if_pos rfl]
  · subst a
    have ew : rlW w x (clH x 2 line) = (if line < x 4 then 1 - x 2 else if x 4 < line ∨ w 196 = 1 then x 2 else -1) := by
      unfold clH
      rw [if_neg (by decide), if_pos b]
      by_cases c : line < x 4
      · rw [if_pos c, if_pos c]; unfold rlW; simp [b]
      · rw [if_neg c, if_neg c]
        by_cases d : x 4 < line
        · rw [if_pos d, if_pos (Or.inl d)]; unfold rlW; simp [b]
        · rw [if_neg d]; unfold rlW; simp [b, d]
    unfold raO
    rw [ew]
    rcases hv with ⟨c, d, e⟩ | ⟨c, e⟩ | ⟨c, d, e⟩
    · subst e
      have e9 : (if line < x 4 then 1 - x 2 else if x 4 < line ∨ w 196 = 1 then x 2 else -1) = -1 := by rw [if_neg (by omega), if_neg (by omega)]
      rw [e9, if_pos rfl]
    · subst e
      rw [if_pos c]
      rcases h2 with e2 | e2 <;> rw [e2] <;> decide
    · subst e
      rw [if_neg c, if_pos d]
      rcases h2 with e2 | e2 <;> rw [e2] <;> decide
/-- the score's cells, bounded -/
def scb0 (x : Nat → Int) : Prop := ∀ j, -50 ≤ x j ∧ x j ≤ 50
theorem crA_b {x : Nat → Int} {how line : Int} (hx : scV x) (hb : scb0 x) (hl : x 6 = 0 → how = 2 → 0 ≤ line ∧ line ≤ 9) : scb0 (crA x how line) ∧ 0 ≤ crA x how line 3 ∧ (crA x how line 6 = 0 ∨ crA x how line 6 = 1) := by
  have h3 : 0 ≤ x 3 ∧ x 3 ≤ 2 ∧ (x 6 = 0 ∨ x 6 = 1) ∧ (x 6 = 1 → 1 ≤ x 3) := by
    rcases hx.2.2 with ⟨a, b⟩ | ⟨a, b, -⟩ | ⟨a, b, -⟩ <;> omega
  unfold crA
  by_cases h6 : x 6 = 1
  · rw [if_pos h6]
    refine ⟨fun j => ?_, ?_, ?_⟩
    · have := hb j
      have := hb 5
      unfold crG ru
      grind
    · simp only [crG, ru]; simp; omega
    · simp only [crG, ru]; simp; omega
  · rw [if_neg h6]
    by_cases hh : how = 2
    · have := hl (by omega) hh
      rw [if_pos hh]
      refine ⟨fun j => ?_, ?_, ?_⟩
      · have := hb j
        unfold crC ru
        grind
      · simp only [crC, ru]; simp; omega
      · simp only [crC, ru]
        by_cases h0 : x 3 = 0
        · simp [h0]; omega
        · simp [h0]; omega
    · rw [if_neg hh]
      exact ⟨hb, h3.1, h3.2.2.1⟩
theorem crA_9 {x : Nat → Int} {how line : Int} (hx : ∀ j, 9 ≤ j → x j = 0) : ∀ j, 9 ≤ j → crA x how line j = 0 := by
  intro j hj
  have h0 := hx j hj
  unfold crA
  split
  · unfold crG ru
    rw [if_neg (by omega), if_neg (by omega), if_neg (by omega)]
    exact h0
  · split
    · unfold crC ru
      have : j ≠ (if x 3 = 0 then 4 else 5) := by split <;> omega
      rw [if_neg (by omega), if_neg this]
      exact h0
    · exact h0
theorem cx_9 (S : Nat → Nat → Int) (q : Nat) : ∀ j, 9 ≤ j → cx S q j = 0 := fun j hj => by
  unfold cx
  rw [if_neg (by omega), if_neg (by omega), if_neg (by omega), if_neg (by omega), if_neg (by omega), if_neg (by omega), if_neg (by omega), if_neg (by omega), if_neg (by omega)]
/-- the score of a number -/
def isX (x : Nat → Int) (k : Int) : Nat → Int := fun j => if j = 7 then x 7 else if j = 8 then x 8 else unR (fun _ => 0) (fun _ => 0) k j
theorem isP_cb {k : Int} (h0 : 0 ≤ k) (h1 : k < 15488) : isP (k / 1936 - 3) (k / 242 % 8 - 3) ↔ cbR k = true := by
  unfold isP cbR
  simp only [Bool.and_eq_true, Bool.or_eq_true, decide_eq_true_eq]
  omega
theorem raO_p {w x : Nat → Int} {h : Int} (h2 : x 2 = 0 ∨ x 2 = 1) : (raO w x h = 0 ∧ rlW w x h = -1) ∨ (raO w x h = 1 ∧ rlW w x h = x 2) ∨ (raO w x h = 2 ∧ rlW w x h = 1 - x 2) := by
  have : rlW w x h = -1 ∨ rlW w x h = x 2 ∨ rlW w x h = 1 - x 2 := by unfold rlW; grind
  unfold raO
  rcases this with e | e | e
  · rw [e]; simp
  · rw [e]; rcases h2 with c | c <;> rw [c] <;> simp
  · rw [e]; rcases h2 with c | c <;> rw [c] <;> simp
