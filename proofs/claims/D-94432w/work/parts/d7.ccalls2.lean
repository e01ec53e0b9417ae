/-! ===== the component's calls that tell the score anew ===== -/
set_option maxRecDepth 100000
def eQv (y : Int × Int × aS) : Option zv → zz_M → Prop := fun r M' => y.1 = 0 ∧ r = none ∧ ∃ f' S' L' P' top', M' = ((2, f'), S', L', P') ∧ CI y.2.2 f' S' P' top'
theorem eQv.mk {y : Int × Int × aS} {v : Int} {x' : aS} {f : Nat → Nat × Nat} {S L : Nat → Nat → Int} {P : Nat → Nat → Option Nat} {top : Nat} (hy : y = (0, v, x')) (C : CI x' f S P top) : eQv y none ((2, f), S, L, P) := by
  subst hy
  exact ⟨rfl, rfl, _, _, _, _, _, rfl, C⟩
theorem clH_ra {w z : Nat → Int} {how line : Int} (h6 : z 6 = 0 ∨ z 6 = 1) (h0 : 0 ≤ how) (h1 : how ≤ 2) (hl : how = 2 → 0 ≤ line ∧ line ≤ 9) : rlR w z (clH z how line) = rlR w z (raH how line) ∧ rlW w z (clH z how line) = rlW w z (raH how line) := by
  by_cases c : how = 2
  · subst c
    have e : raH 2 line = 2 + line := if_pos rfl
    rw [e]
    exact clH_rl w z (hl rfl).1 (hl rfl).2 h6
  · have e1 : clH z how line = how := by
      unfold clH
      rw [if_pos (by omega)]
    have e2 : raH how line = how := if_neg c
    rw [e1, e2]
    exact ⟨rfl, rfl⟩
theorem ovR_xE {g : Int} {x z : Nat → Int} (h : xE x z) : ovR g x = ovR g z := by
  unfold ovR
  rw [h.2.2.2.2.2.2.2.1, h.2.2.2.2.2.2.2.2]
theorem bq_xE {w x z : Nat → Int} {p : Nat} (hp : p < 2) (h : xE x z) : xE (bqR w x p) (bqR w z p) := by
  have e6 := h.2.2.2.2.2.2.1
  have h2 := (pnt_xE (w := w) hp h).2
  by_cases c : z 6 = 1
  · have e1 : bqR w x p = pnt w x p := funext fun j => by rw [bqR_at, if_pos (by omega)]
    have e2 : bqR w z p = pnt w z p := funext fun j => by rw [bqR_at, if_pos c]
    rw [e1, e2]
    exact h2
  · have e1 : bqR w x p = chR w (pnt w x p) := funext fun j => by rw [bqR_at, if_neg (by omega)]
    have e2 : bqR w z p = chR w (pnt w z p) := funext fun j => by rw [bqR_at, if_neg c]
    rw [e1, e2]
    exact chR_xE h2
/-- bounds of a score that is valid, its lines as before -/
theorem scb_of {x y : Nat → Int} (hV : scV y) (h4 : y 4 = x 4) (h5 : y 5 = x 5) (h7 : -50 ≤ y 7 ∧ y 7 ≤ 50) (h8 : -50 ≤ y 8 ∧ y 8 ≤ 50) (h9 : ∀ j, 9 ≤ j → y j = 0) (hb : scb x) : scb y := by
  obtain ⟨hp, h2, hh⟩ := hV
  unfold pV at hp
  unfold Jvm.Pilot.CChaseCourtLaw_law_r1587_f51dab.hV at hh
  intro j
  by_cases hj : 9 ≤ j
  · rw [h9 j hj]; omega
  · have b4 := hb 4
    have b5 := hb 5
    have : j = 0 ∨ j = 1 ∨ j = 2 ∨ j = 3 ∨ j = 4 ∨ j = 5 ∨ j = 6 ∨ j = 7 ∨ j = 8 := by omega
    rcases this with e | e | e | e | e | e | e | e | e <;> subst e <;> omega
section
variable {x : aS} {f : Nat → Nat × Nat} {S L : Nat → Nat → Int} {P : Nat → Nat → Option Nat} {top : Nat} {a b d e g : Int}
/-- the score told anew -/
theorem CI.score (C : CI x f S P top) {w' y : Nat → Int} (hw : WI w') (ew : ∀ k, ¬ (201 ≤ k ∧ k < 210) → w' k = x.1 k) (hx : xE y (nwW w')) (hb : scb y) (h9 : ∀ j, 9 ≤ j → y j = 0) : CI (aN x w' x.2.2.2.2.1 x.2.2.2.2.2) f (cxW S 204 y) P top := by
  obtain ⟨rs, e, m, ⟨c11, -⟩, -⟩ := id C
  have o : ∀ h, ¬ (204 ≤ h ∧ h ≤ 207) → cxW S 204 y h = S h := fun h hh => cxW_o S 204 y (by omega) (by omega) (by omega) (by omega)
  refine C.row hw (ew 195 (by omega)) (ew 196 (by omega)) (fun k hk => ew k (by omega)) (fun h hh => o h (by omega)) (o 202 (by omega)) ?_ (fun rs h _ p hp => ?_) (by rw [cx_cxW S 204 y h9]; exact hx) (by rw [cx_cxW S 204 y h9]; exact hb)
  · obtain ⟨⟨r1, r2, r3, r4, r5⟩, r6, r7, r8, r9, r10⟩ := c11
    unfold wRel wsc
    rw [o 200 (by omega), o 202 (by omega), o 203 (by omega), ew 194 (by omega), ew 195 (by omega), ew 196 (by omega), ew 197 (by omega), ew 198 (by omega), ew 192 (by omega), ew 193 (by omega), ew 199 (by omega), ew 200 (by omega)]
    exact ⟨⟨r1, r2, r3, r4, r5⟩, r6, r7, r8, r9, fun i k hi hk => by rw [o (210 + i) (by omega), ew (12 * i + k) (by omega)]; exact r10 i k hi hk⟩
  · have := h p hp
    unfold prI at this ⊢
    rw [o 203 (by omega)]
    exact this
theorem le08 (C : CI x f S P top) (hA : AI x) (ra : R32 a) (rb : R32 b) (rd : R32 d) : zX1_score [vr 100, vi a, vi b, vi d] ((2, f), S, L, P) (eQv (sm8 x a b d)) (eX [(3, 1), (1, 2)] (sm8 x a b d)) := by
  apply oX1_score
  have hK := ka8 (a := a) (b := b) (d := d) hA
  obtain ⟨rs, e, m, c1, -⟩ := id C
  obtain ⟨hx, hV, hb⟩ := c1.2.2.2.2.1
  refine ⟨ra, rb, rd, fun c => eX.mk (by unfold sm8; rw [if_pos c]) (by decide) C, fun c c2 => eX.mk (by unfold sm8; rw [if_neg (fun z => z c), if_pos c2]) (by decide) C, fun c c2 => ?_⟩
  have es : sm8 x a b d = (0, 0, aN x (scW x.1 a b d) x.2.2.2.2.1 x.2.2.2.2.2) := by unfold sm8; rw [if_neg (fun z => z c), if_neg (fun z => z c2)]
  rw [es] at hK
  have n : ∀ k, nwW (scW x.1 a b d) k = if k = 6 then 0 else if k = 3 then 0 else if k = 2 then d else if k = 1 then b else if k = 0 then a else nwW x.1 k := fun k => by
    unfold nwW scW
    grind
  refine eQv.mk es (C.score hK.1 (fun k hk => ?_) ?_ (fun j => ?_) (fun j hj => ?_))
  · unfold scW
    rw [if_neg (by omega), if_neg (by omega), if_neg (by omega), if_neg (by omega), if_neg (by omega)]
  · obtain ⟨-, -, -, -, -, -, -, e7, e8⟩ := hx
    refine ⟨?_, ?_, ?_, ?_, fun z => ?_, fun z => ?_, ?_, ?_, ?_⟩
    · rw [n 0]; simp [ru_at]
    · rw [n 1]; simp [ru_at]
    · rw [n 2]; simp [ru_at]
    · rw [n 3]; simp [ru_at]
    · rw [n 3] at z; simp at z
    · rw [n 3] at z; simp at z
    · rw [n 6]; simp [ru_at]
    · rw [n 7]; simp [ru_at]; exact e7
    · rw [n 8]; simp [ru_at]; exact e8
  · have := hb j
    unfold isP at c2
    simp only [ru_at]
    grind
  · simp only [ru_at]
    have := cx_9 S 204 j hj
    grind
theorem le09 (C : CI x f S P top) (hA : AI x) (ra : R32 a) (rb : R32 b) : zX1_games [vr 100, vi a, vi b] ((2, f), S, L, P) (eQv (sm9 x a b)) (eX [(1, 1)] (sm9 x a b)) := by
  apply oX1_games
  have hK := ka9 (a := a) (b := b) hA
  obtain ⟨rs, e, m, c1, -⟩ := id C
  obtain ⟨hx, hV, hb⟩ := c1.2.2.2.2.1
  refine ⟨ra, rb, fun c => eX.mk (by unfold sm9; rw [if_neg c]) (by decide) C, fun c => ?_⟩
  have es : sm9 x a b = (0, 0, aN x (fun k => if k = 209 then b else if k = 208 then a else x.1 k) x.2.2.2.2.1 x.2.2.2.2.2) := by unfold sm9; rw [if_pos c]
  rw [es] at hK
  have n : ∀ k, nwW (fun k => if k = 209 then b else if k = 208 then a else x.1 k) k = if k = 8 then b else if k = 7 then a else nwW x.1 k := fun k => by
    unfold nwW
    grind
  refine eQv.mk es (C.score hK.1 (fun k hk => ?_) ?_ (fun j => ?_) (fun j hj => ?_))
  · show (if k = 209 then b else if k = 208 then a else x.1 k) = _
    rw [if_neg (by omega), if_neg (by omega)]
  · obtain ⟨e0, e1, e2, e3, e4, e5, e6, -, -⟩ := hx
    refine ⟨?_, ?_, ?_, ?_, fun z => ?_, fun z => ?_, ?_, ?_, ?_⟩
    · rw [n 0]; simp [ru_at]; exact e0
    · rw [n 1]; simp [ru_at]; exact e1
    · rw [n 2]; simp [ru_at]; exact e2
    · rw [n 3]; simp [ru_at]; exact e3
    · rw [n 3] at z
      rw [n 4]; simp [ru_at] at z ⊢; exact e4 z
    · rw [n 3] at z
      rw [n 5]; simp [ru_at] at z ⊢; exact e5 z
    · rw [n 6]; simp [ru_at]; exact e6
    · rw [n 7]; simp [ru_at]
    · rw [n 8]; simp [ru_at]
  · have := hb j
    simp only [ru_at]
    grind
  · simp only [ru_at]
    have := cx_9 S 204 j hj
    grind
theorem le12 (C : CI x f S P top) (hA : AI x) (ra : R32 a) (rb : R32 b) : zX1_rally [vr 100, vi a, vi b] ((2, f), S, L, P) (eQ (sm12 x a b)) (eX [(3, 1), (1, 2), (5, 3)] (sm12 x a b)) := by
  apply oX1_rally
  have hK := ka12 (a := a) (b := b) hA
  obtain ⟨rs, e, m, c1, -⟩ := id C
  obtain ⟨hx, hV, hb⟩ := c1.2.2.2.2.1
  have hw := hA.1.1.1.2.1
  have et : raT x.1 (cx S 204) a b = raT x.1 (nwW x.1) a b := by
    unfold raT
    rw [ovR_xE hx]
  have no : raT x.1 (nwW x.1) a b ≠ 0 → sm12 x a b = (raT x.1 (nwW x.1) a b, 0, x) := fun c => by unfold sm12; rw [if_neg c]
  refine ⟨ra, rb, hb, scV_xE hV hx, x.1, c1.1.1, hw, ?_⟩
  rw [et]
  refine ⟨fun c => eX.mk (no (by omega)) (by rw [c]; decide) C, fun c => eX.mk (no (by omega)) (by rw [c]; decide) C, fun c => eX.mk (no (by omega)) (by rw [c]; decide) C, fun c => ?_⟩
  have es : sm12 x a b = (0, raO x.1 (nwW x.1) (raH a b), aN x (wpt x.1 (rlR x.1 (nwW x.1) (raH a b))) x.2.2.2.2.1 x.2.2.2.2.2) := by unfold sm12; rw [if_pos c]
  rw [es] at hK
  have r0 : (0 ≤ a ∧ a ≤ 2) ∧ (a = 2 → 0 ≤ b ∧ b ≤ 9) ∧ ovR (x.1 194) (nwW x.1) = false := by
    unfold raT at c
    split at c
    · exact absurd c (by decide)
    · split at c
      · exact absurd c (by decide)
      · split at c
        · exact absurd c (by decide)
        · next ho =>
          refine ⟨by omega, fun z => by omega, ?_⟩
          cases e : ovR (x.1 194) (nwW x.1) with
          | true => exact absurd e ho
          | false => rfl
  have h6 : nwW x.1 6 = 0 ∨ nwW x.1 6 = 1 := by
    have := hV.2.2
    unfold Jvm.Pilot.CChaseCourtLaw_law_r1587_f51dab.hV at this
    omega
  obtain ⟨q1, q2⟩ := cr_xE (w := x.1) (line := b) hV hx r0.1.1 r0.1.2 (fun _ z => r0.2.1 z)
  obtain ⟨q3, q4⟩ := clH_ra (w := x.1) (line := b) h6 r0.1.1 r0.1.2 r0.2.1
  have rh : 0 ≤ raH a b ∧ raH a b ≤ 11 := by
    unfold raH
    split <;> omega
  have RV := rlR_V hw hV rh.1 (by omega) (fun _ => rh.2)
  have RB := rlR_B (w := x.1) (g := 5) hV (x5 hA.1.2.1.2 hw.1.2 r0.2.2) rh.1 (by omega)
  rw [q3] at q2
  have eo : raO x.1 (cx S 204) (clH (cx S 204) a b) = raO x.1 (nwW x.1) (raH a b) := by
    have e1 := (rl_xE (w := x.1) (how := clH (cx S 204) a b) hV hx).1
    unfold raO
    rw [e1, q1, q4, hx.2.2.1]
  rw [eo]
  refine eQ.mk es (C.score hK.1 (fun k hk => wpt_o _ _ hk) ?_ ?_ ?_)
  · rw [nwW_wpt _ (RV.xG RB (by decide))]
    exact q2
  · exact crR_b (scV_xE hV hx) hb (cx_9 S 204) (fun _ z => r0.2.1 z) q2 RV RB
  · exact crR_9 (scV_xE hV hx).2.1 (cx_9 S 204)
theorem le13 (C : CI x f S P top) (hA : AI x) (ra : R32 a) : zX1_bisque [vr 100, vi a] ((2, f), S, L, P) (eQ (sm13 x a)) (eX [(3, 1), (5, 2)] (sm13 x a)) := by
  apply oX1_bisque
  have hK := ka13 (a := a) hA
  obtain ⟨rs, e, m, c1, -⟩ := id C
  obtain ⟨hx, hV, hb⟩ := c1.2.2.2.2.1
  have hw := hA.1.1.1.2.1
  have et : bqT x.1 (cx S 204) a = bqT x.1 (nwW x.1) a := by
    unfold bqT
    rw [ovR_xE hx]
  have no : bqT x.1 (nwW x.1) a ≠ 0 → sm13 x a = (bqT x.1 (nwW x.1) a, 0, x) := fun c => by unfold sm13; rw [if_neg c]
  refine ⟨ra, hb, scV_xE hV hx, x.1, c1.1.1, hw, ?_⟩
  rw [et]
  have put : ∀ c : bqT x.1 (nwW x.1) a = 0, ptw (cx S 204) a.toNat = ptw (nwW x.1) a.toNat ∧ CI (aN x (wpt x.1 (bqR x.1 (nwW x.1) a.toNat)) x.2.2.2.2.1 x.2.2.2.2.2) f (cxW S 204 (cchR x.1 (pnt x.1 (cx S 204) a.toNat))) P top := fun c => by
    have es : sm13 x a = (0, if ptw (nwW x.1) a.toNat = true then 1 else 0, aN x (wpt x.1 (bqR x.1 (nwW x.1) a.toNat)) x.2.2.2.2.1 x.2.2.2.2.2) := by unfold sm13; rw [if_pos c]
    rw [es] at hK
    have r0 : a.toNat < 2 ∧ ovR (x.1 194) (nwW x.1) = false := by
      unfold bqT at c
      split at c
      · exact absurd c (by decide)
      · split at c
        · exact absurd c (by decide)
        · next ho =>
          refine ⟨by omega, ?_⟩
          cases e : ovR (x.1 194) (nwW x.1) with
          | true => exact absurd e ho
          | false => rfl
    have hVx := scV_xE hV hx
    have h6 : cx S 204 6 = 0 ∨ cx S 204 6 = 1 := by
      have := hVx.2.2
      unfold Jvm.Pilot.CChaseCourtLaw_law_r1587_f51dab.hV at this
      omega
    have RV := bqR_V hw r0.1 hV
    have RB := bqR_B (w := x.1) (g := 5) r0.1 (x5 hA.1.2.1.2 hw.1.2 r0.2)
    have RX := bq_xE (w := x.1) r0.1 hx
    rw [cbq_eq r0.1 h6]
    have at_ : ∀ j, j = 4 ∨ j = 5 ∨ 9 ≤ j → bqR x.1 (cx S 204) a.toNat j = cx S 204 j := fun j hj => by
      have hp : a.toNat = 0 ∨ a.toNat = 1 := by have := r0.1; omega
      have e1 : pnt x.1 (cx S 204) a.toNat j = cx S 204 j := by
        rw [pnt_at]
        rcases hp with q | q <;> rw [q] <;> rcases hj with z | z | z
        · subst z; simp [ptA_at, ptB_at, ptC_at]
        · subst z; simp [ptA_at, ptB_at, ptC_at]
        · simp [ptA_at, ptB_at, ptC_at, show j ≠ 0 by omega, show j ≠ 1 by omega, show j ≠ 3 by omega, show j ≠ 6 by omega, show j ≠ 7 by omega]
        · subst z; simp [ptA_at, ptB_at, ptC_at]
        · subst z; simp [ptA_at, ptB_at, ptC_at]
        · simp [ptA_at, ptB_at, ptC_at, show j ≠ 0 by omega, show j ≠ 1 by omega, show j ≠ 3 by omega, show j ≠ 6 by omega, show j ≠ 8 by omega]
      rw [bqR_at]
      split
      · exact e1
      · rw [chR_at]
        split
        · rw [if_neg (by omega), if_neg (by omega)]
          exact e1
        · exact e1
    have b7 := RX.2.2.2.2.2.2.2.1
    have b8 := RX.2.2.2.2.2.2.2.2
    obtain ⟨-, -, r7, r8, -⟩ := id RB
    exact ⟨(pnt_xE (w := x.1) r0.1 hx).1, C.score hK.1 (fun k hk => wpt_o _ _ hk) (by rw [nwW_wpt _ (RV.xG RB (by decide))]; exact RX) (scb_of (bqR_V hw r0.1 hVx) (at_ 4 (by omega)) (at_ 5 (by omega)) (by omega) (by omega) (fun j hj => (at_ j (by omega)).trans (cx_9 S 204 j hj)) hb) (fun j hj => (at_ j (by omega)).trans (cx_9 S 204 j hj))⟩
  refine ⟨fun c => eX.mk (no (by omega)) (by rw [c]; decide) C, fun c => eX.mk (no (by omega)) (by rw [c]; decide) C, fun c => ?_⟩
  obtain ⟨p1, p2⟩ := put c
  rw [p1]
  exact ⟨fun z => eQ.mk (by unfold sm13; rw [if_pos c, if_pos z]) p2, fun z => eQ.mk (by unfold sm13; rw [if_pos c, if_neg (by rw [z]; decide)]) p2⟩
end
