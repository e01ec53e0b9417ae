/-! ===== what the calls of a script do, plainly: of component and model alike ===== -/
set_option maxRecDepth 100000
/-- the row, the image's row, whether there is one, the tape, its many bytes, the fault -/
abbrev aS : Type := (Nat → Int) × (Nat → Int) × Nat × (Nat → Int) × Nat × Int
def aN (x : aS) (w : Nat → Int) (n : Nat) (fl : Int) : aS := (w, x.2.1, x.2.2.1, x.2.2.2.1, n, fl)
def ruW (w t : Nat → Int) (n : Nat) : Nat → Int := fun k => if k = 193 then w 193 + 1 else if k = 210 + 401 * (w 193).toNat then (n : Int) else if 211 + 401 * (w 193).toNat ≤ k ∧ k < 211 + 401 * (w 193).toNat + n then t (k - (211 + 401 * (w 193).toNat)) else w k
def scW (w : Nat → Int) (a b s : Int) : Nat → Int := fun k => if k = 207 then 0 else if k = 204 then 0 else if k = 203 then s else if k = 202 then b else if k = 201 then a else w k
/-- the row with another score -/
def wpt (w y : Nat → Int) : Nat → Int := fun k => if 201 ≤ k ∧ k < 210 then y (k - 201) else w k
def sm0 (x : aS) (a b d e g : Int) : Int × Int × aS := if 400 < x.2.2.2.2.1 + 20 then (0, -1, x) else (0, ((x.2.2.2.2.1 + 20 : Nat) : Int), x.1, x.2.1, x.2.2.1, fun j => if x.2.2.2.2.1 ≤ j ∧ j < x.2.2.2.2.1 + 20 then fdM a b d e g (j - x.2.2.2.2.1) else x.2.2.2.1 j, x.2.2.2.2.1 + 20, x.2.2.2.2.2)
def sm1 (x : aS) (a : Int) : Int × Int × aS := if 0 ≤ a ∧ a ≤ x.2.2.2.2.1 then (0, 1, aN x x.1 a.toNat x.2.2.2.2.2) else (0, 0, x)
def sm2 (x : aS) : Int × Int × aS := match ctW x.2.2.2.1 x.2.2.2.2.1 x.1 with
  | .inl q => (1, 0, aN x x.1 0 (q : Int))
  | .inr r => if x.1 192 = 12 then (2, 0, aN x x.1 0 (-1)) else (0, x.1 192 + 1, aN x (fun k => if k = 192 then x.1 192 + 1 else r k) 0 (-1))
def sm3 (x : aS) : Int × Int × aS := match ruP x.2.2.2.1 x.2.2.2.2.1 with
  | .inl q => (1, 0, aN x x.1 0 (q : Int))
  | .inr _ => if x.1 193 = 6 then (2, 0, aN x x.1 0 (-1)) else (0, x.1 193, aN x (ruW x.1 x.2.2.2.1 x.2.2.2.2.1) 0 (-1))
def sm4 (x : aS) : Int × Int × aS := (0, x.2.2.2.2.2, x)
def sm5 (x : aS) (a b d : Int) : Int × Int × aS := (lkT a b d, if lkT a b d = 0 then x.1 (12 * (4 * a + b) + d).toNat else 0, x)
def sm6 (x : aS) (a b : Int) : Int × Int × aS := if plT (x.1 193) a b = 1 then (1, 0, x) else (0, x.1 (199 + a).toNat, aN x (fun k => if k = (199 + a).toNat then b else x.1 k) x.2.2.2.2.1 x.2.2.2.2.2)
def sm7 (x : aS) (a : Int) : Int × Int × aS := if 0 ≤ a ∧ a ≤ 1 then (0, stR x.1 (nwW x.1) a.toNat, x) else (1, 0, x)
noncomputable def sm8 (x : aS) (a b s : Int) : Int × Int × aS := if ¬ (0 ≤ s ∧ s ≤ 1) then (1, 0, x) else @ite (Int × Int × aS) (¬ isP a b) (Classical.propDecidable _) (2, 0, x) (0, 0, aN x (scW x.1 a b s) x.2.2.2.2.1 x.2.2.2.2.2)
def sm9 (x : aS) (a b : Int) : Int × Int × aS := if (0 ≤ a ∧ a ≤ 6) ∧ (0 ≤ b ∧ b ≤ 6) then (0, 0, aN x (fun k => if k = 209 then b else if k = 208 then a else x.1 k) x.2.2.2.2.1 x.2.2.2.2.2) else (1, 0, x)
def sm10 (x : aS) (a b : Int) : Int × Int × aS := if (0 ≤ a ∧ a ≤ 3) ∧ (0 ≤ b ∧ b ≤ 3) then (0, 0, aN x (fun k => if k = 198 then b else if k = 197 then a else x.1 k) x.2.2.2.2.1 x.2.2.2.2.2) else (1, 0, x)
def sm11 (x : aS) (a : Int) : Int × Int × aS := if 0 ≤ a ∧ a ≤ 9 then (0, tdR (nwW x.1) a, x) else (1, 0, x)
def sm12 (x : aS) (a b : Int) : Int × Int × aS := if raT x.1 (nwW x.1) a b = 0 then (0, raO x.1 (nwW x.1) (raH a b), aN x (wpt x.1 (rlR x.1 (nwW x.1) (raH a b))) x.2.2.2.2.1 x.2.2.2.2.2) else (raT x.1 (nwW x.1) a b, 0, x)
def sm13 (x : aS) (a : Int) : Int × Int × aS := if bqT x.1 (nwW x.1) a = 0 then (0, if ptw (nwW x.1) a.toNat = true then 1 else 0, aN x (wpt x.1 (bqR x.1 (nwW x.1) a.toNat)) x.2.2.2.2.1 x.2.2.2.2.2) else (bqT x.1 (nwW x.1) a, 0, x)
def sm14 (x : aS) (a b : Int) : Int × Int × aS := (rfR x.1 (nwW x.1) a b, tbR x.1 (stT x.1) a (-1) b.toNat (nuR (nwW x.1)).toNat, x)
def sm15 (x : aS) (a b d : Int) : Int × Int × aS := (rfR x.1 (nwW x.1) a b, if d = 0 then bsT x.1 (stT x.1) a.toNat b.toNat (nuR (nwW x.1)).toNat else fdR x.1 (stT x.1) a.toNat (nuR (nwW x.1)).toNat b.toNat, x)
def sm16 (x : aS) (a b d : Int) : Int × Int × aS := (svTh x.1 (nwW x.1) a b d, if d = 0 then svT x.1 (stT x.1) a.toNat b.toNat (nuR (nwW x.1)).toNat else if d = 1 then svK x.1 (stT x.1) a.toNat (nuR (nwW x.1)).toNat b.toNat else svT x.1 (stT x.1) a.toNat b.toNat (nuR (nwW x.1)).toNat - tbR x.1 (stT x.1) a (-1) b.toNat (nuR (nwW x.1)).toNat, x)
def sm17 (x : aS) (a b d : Int) : Int × Int × aS := (woT x.1 (nwW x.1) a b d, if nwW x.1 6 = 1 then -2000000000 else tbR x.1 (stT x.1) a (-1) d.toNat (nuR (rlR x.1 (nwW x.1) (2 + b))).toNat - tbR x.1 (stT x.1) a (-1) d.toNat (nuR (nwW x.1)).toNat, x)
def sm18 (x : aS) (a b : Int) : Int × Int × aS := (rfR x.1 (nwW x.1) a b, seR (fun k => tbK x.1 (stT x.1) k b.toNat (nuR (nwW x.1)).toNat) (wyF x.1 (stT x.1) b.toNat) (x.1 194) a (x.1 208) (x.1 209), x)
def sm19 (x : aS) (a b d e : Int) : Int × Int × aS := (wyT a b d e, tbR x.1 (stT x.1) b d e.toNat (nuR (bgX x.1 a)).toNat, x)
def sm20 (x : aS) (a b : Int) : Int × Int × aS := if (0 ≤ a ∧ a ≤ 30) ∧ (0 ≤ b ∧ b ≤ 500000) then (0, evI (evB (tbR x.1 (stT x.1) 0 (-1) a.toNat) (nwW x.1) b) 28 0, x) else (1, 0, x)
def sm21 (x : aS) (a : Int) : Int × Int × aS := if lgB x.2.2.2.1 x.2.2.2.2.1 = true then (match lgR x.1 x.2.2.2.1 (x.2.2.2.2.1 / 2) 0 (nwW x.1) with
  | none => (2, 0, aN x x.1 0 x.2.2.2.2.2)
  | some z => if 0 ≤ a ∧ a ≤ 9 then (0, tdR z a, aN x x.1 0 x.2.2.2.2.2) else (3, 0, aN x x.1 0 x.2.2.2.2.2)) else (1, 0, aN x x.1 0 x.2.2.2.2.2)
def sm22 (x : aS) (a b d e g : Int) : Int × Int × aS := if lgB x.2.2.2.1 x.2.2.2.2.1 = true then (0, mnF (mnS x.1 x.2.2.2.1 (nwW x.1) (x.2.2.2.2.1 / 2) a b d e) g 31 0, aN x x.1 0 x.2.2.2.2.2) else (1, 0, aN x x.1 0 x.2.2.2.2.2)
def sm23 (x : aS) (a b d : Int) : Int × Int × aS := (pyT b d, if d = 10 then ((pyR x.1 b.toNat (nwW x.1) a).1 : Nat) else tdR (pyR x.1 b.toNat (nwW x.1) a).2 d, x)
def sm24 (x : aS) : Int × Int × aS := (0, 0, x.1, x.1, 1, x.2.2.2.1, x.2.2.2.2.1, x.2.2.2.2.2)
def sm25 (x : aS) : Int × Int × aS := if x.2.2.1 = 0 then (0, 0, x) else (0, 1, aN x x.2.1 x.2.2.2.2.1 x.2.2.2.2.2)
def sm26 (x : aS) (a : Int) : Int × Int × aS := (0, ctR x.1 a, x)
/-! what holds of a row all through a run -/
def WI (w : Nat → Int) : Prop := (mG w ∧ whB w 16 = true) ∧ (scV (nwW w) ∧ xB 6 (nwW w)) ∧ (0 ≤ w 192 ∧ w 192 ≤ 12) ∧ (∃ r : Nat, w 193 = r ∧ r ≤ 6 ∧ (∀ i, i < r → trG w i) ∧ ∀ u, u < 2 → w (199 + u) = -1 ∨ (0 ≤ w (199 + u) ∧ w (199 + u) < r)) ∧ ∀ k, 2616 ≤ k → w k = 0
def AI (x : aS) : Prop := WI x.1 ∧ ((x.2.2.1 = 0 ∨ (x.2.2.1 = 1 ∧ WI x.2.1)) ∧ ∀ k, 2616 ≤ k → x.2.1 k = 0) ∧ (x.2.2.2.2.1 ≤ 400 ∧ tpG x.2.2.2.1) ∧ R32 x.2.2.2.2.2
/-- the model's memory is as x tells -/
def MI (x : aS) (S : Nat → Nat → Int) : Prop := (S 1 = x.1 ∧ S 2 = x.2.1 ∧ S 4 = x.2.2.2.1) ∧ (S 0 3 = x.2.2.1 ∧ S 0 6 = x.2.2.2.2.1 ∧ S 0 10 = x.2.2.2.2.2) ∧ gdF S ∧ xG (S 6)
theorem WI.plG {w : Nat → Int} (h : WI w) : ∀ u, u < 2 → plG w u := by
  obtain ⟨-, -, -, ⟨r, h1, h2, h3, h4⟩, -⟩ := h
  intro u hu
  rcases h4 u hu with c | ⟨c1, c2⟩
  · exact Or.inl c
  · exact Or.inr ⟨c1, h3 _ (by omega)⟩
theorem MI.now {x : aS} {S : Nat → Nat → Int} (h : MI x S) : nwX S = nwW x.1 := by
  funext k
  show (if 6 = 6 ∧ k < 9 then S 1 (201 + k) else S 6 k) = if k < 9 then x.1 (201 + k) else 0
  by_cases c : k < 9
  · rw [if_pos ⟨rfl, c⟩, if_pos c, h.1.1]
  · rw [if_neg (fun z => c z.2), if_neg c, h.2.2.2.2 k (by omega)]
theorem MI.mI {x : aS} {S : Nat → Nat → Int} (h : MI x S) (a : AI x) : mI S := by
  have e := h.now
  unfold Jvm.Pilot.CChaseCourtLaw_law_r1587_f51dab.mI
  rw [e, h.1.1, h.2.1.2.2]
  exact ⟨a.1.1.1, a.1.1.2, a.1.plG, h.2.2.1, a.2.2.2, h.2.2.2, a.1.2.1⟩
/-- a memory that tells the same -/
theorem MI.to {x : aS} {S T : Nat → Nat → Int} (h : MI x S) (e1 : T 1 = S 1) (e2 : T 2 = S 2) (e4 : T 4 = S 4) (e3 : T 0 3 = S 0 3) (e6 : T 0 6 = S 0 6) (e10 : T 0 10 = S 0 10) (g : gdF T) (hx : xG (T 6)) : MI x T := ⟨⟨e1.trans h.1.1, e2.trans h.1.2.1, e4.trans h.1.2.2⟩, ⟨e3.trans h.2.1.1, e6.trans h.2.1.2.1, e10.trans h.2.1.2.2⟩, g, hx⟩
theorem coQ.row {S T : Nat → Nat → Int} (h : coQ S T) : T 1 = S 1 ∧ T 2 = S 2 ∧ T 4 = S 4 ∧ T 0 0 = S 0 0 ∧ T 0 3 = S 0 3 ∧ T 0 6 = S 0 6 ∧ T 0 10 = S 0 10 := by
  refine ⟨funext fun k => h.1 1 k ?_, funext fun k => h.1 2 k ?_, funext fun k => h.1 4 k ?_, h.1 0 0 rfl, h.1 0 3 rfl, h.1 0 6 rfl, h.1 0 10 rfl⟩ <;> simp [core]
/-- behind a call that only works: nothing is told anew but what was thrown -/
theorem MI.co {x : aS} {S T : Nat → Nat → Int} {c : Int} (h : MI x S) (q : coQ (mm_up S 0 0 c) T) : MI x T ∧ T 0 0 = c := by
  obtain ⟨q1, q2, q4, q0, q3, q6, q10⟩ := q.row
  have o : ∀ a b, ¬ (a = 0 ∧ b = 0) → mm_up S 0 0 c a b = S a b := fun a b hh => by rw [up_eq, if_neg hh]
  refine ⟨h.to (q1.trans (funext fun k => o 1 k (by omega))) (q2.trans (funext fun k => o 2 k (by omega))) (q4.trans (funext fun k => o 4 k (by omega))) (q3.trans (o 0 3 (by decide))) (q6.trans (o 0 6 (by decide))) (q10.trans (o 0 10 (by decide))) q.2.1 q.2.2, q0.trans ?_⟩
  rw [up_eq, if_pos ⟨rfl, rfl⟩]
/-- the same, the tape being taken -/
theorem MI.co0 {x : aS} {S T : Nat → Nat → Int} {c : Int} (h : MI x S) (q : coQ (mm_up (mm_up S 0 6 0) 0 0 c) T) : MI (aN x x.1 0 x.2.2.2.2.2) T ∧ T 0 0 = c := by
  obtain ⟨q1, q2, q4, q0, q3, q6, q10⟩ := q.row
  have o : ∀ a b, ¬ (a = 0 ∧ (b = 0 ∨ b = 6)) → mm_up (mm_up S 0 6 0) 0 0 c a b = S a b := fun a b hh => by rw [up_eq, if_neg (by omega), up_eq, if_neg (by omega)]
  refine ⟨⟨⟨(q1.trans (funext fun k => o 1 k (by omega))).trans h.1.1, (q2.trans (funext fun k => o 2 k (by omega))).trans h.1.2.1, (q4.trans (funext fun k => o 4 k (by omega))).trans h.1.2.2⟩, ⟨(q3.trans (o 0 3 (by decide))).trans h.2.1.1, q6.trans ?_, (q10.trans (o 0 10 (by decide))).trans h.2.1.2.2⟩, q.2.1, q.2.2⟩, q0.trans ?_⟩
  · rw [up_eq, if_neg (by decide), up_eq, if_pos ⟨rfl, rfl⟩]
    rfl
  · rw [up_eq, if_pos ⟨rfl, rfl⟩]
/-- one place of the model's own cells told anew leaves the rest -/
theorem MI.up0 {x : aS} {S : Nat → Nat → Int} (c : Int) (h : MI x S) : MI x (mm_up S 0 0 c) ∧ mm_up S 0 0 c 0 0 = c := by
  have o : ∀ a b, ¬ (a = 0 ∧ b = 0) → mm_up S 0 0 c a b = S a b := fun a b hh => by rw [up_eq, if_neg hh]
  refine ⟨h.to (funext fun k => o 1 k (by omega)) (funext fun k => o 2 k (by omega)) (funext fun k => o 4 k (by omega)) (o 0 3 (by decide)) (o 0 6 (by decide)) (o 0 10 (by decide)) ?_ ?_, by rw [up_eq, if_pos ⟨rfl, rfl⟩]⟩
  · obtain ⟨g1, g2, g3⟩ := h.2.2.1
    refine ⟨fun k => ?_, by rw [o 0 13 (by decide)]; exact g2, by rw [o 0 14 (by decide)]; exact g3⟩
    have := g1 k
    unfold fcS at this ⊢
    rw [o 5 k (by omega), o 0 13 (by decide), o 0 14 (by decide)]
    exact this
  · have e : mm_up S 0 0 c 6 = S 6 := funext fun k => o 6 k (by omega)
    rw [e]
    exact h.2.2.2
