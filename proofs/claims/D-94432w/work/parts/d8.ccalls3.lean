/-! ===== the component's calls that leave the world as it was, and the players' rules ===== -/
set_option maxRecDepth 100000
def eQl (y : Int × Int × aS) : Option zv → zz_M → Prop := fun r M' => y.1 = 0 ∧ r = some (vl y.2.1) ∧ ∃ f' S' L' P' top', M' = ((2, f'), S', L', P') ∧ CI y.2.2 f' S' P' top'
theorem eQl.mk {y : Int × Int × aS} {v : Int} {x' : aS} {f : Nat → Nat × Nat} {S L : Nat → Nat → Int} {P : Nat → Nat → Option Nat} {top : Nat} (hy : y = (0, v, x')) (C : CI x' f S P top) : eQl y (some (vl v)) ((2, f), S, L, P) := by
  subst hy
  exact ⟨rfl, rfl, _, _, _, _, _, rfl, C⟩
section
variable {x : aS} {f : Nat → Nat × Nat} {S L : Nat → Nat → Int} {P : Nat → Nat → Option Nat} {top : Nat} {a b d e g : Int}
/-- the world is as it was; the tape and the fault may be told anew, new things made -/
theorem CI.mv (C : CI x f S P top) {f' : Nat → Nat × Nat} {S' : Nat → Nat → Int} {P' : Nat → Nat → Option Nat} {u n' : Nat} {t' : Nat → Int} {fl' : Int} (hu : top ≤ u) (hf : frF f' u) (of : ∀ h, h < top → f' h = f h) (oS : ∀ h k, h < top → h ≠ 101 → h ≠ 102 → ¬ (108 ≤ h ∧ h ≤ 115) → ¬ (130 ≤ h ∧ h ≤ 140) → ¬ (h = 103 ∧ k = 1) → S' h k = S h k) (oP : ∀ h k, h < top → ¬ (h = 103 ∧ k = 0) → P' h k = P h k) (ht : S' 101 1 = (n' : Int) ∧ ∀ k, k < n' → S' 102 k = cby (t' k)) (h5 : S' 101 5 = fl') : CI (x.1, x.2.1, x.2.2.1, t', n', fl') f' S' P' u := by
  obtain ⟨rs, e, m, ⟨c11, c12, c13, ⟨c14, c15, c16⟩, c17, c18, c19, c20⟩, c2, c3, c4, c5, c6⟩ := C
  have t2 := c2.1
  have ag : ∀ h, 2000 ≤ h → h < top → f' h = f h ∧ S' h = S h ∧ P' h = P h := fun h h1 h2 => ⟨of h h2, funext fun k => oS h k h2 (by omega) (by omega) (by omega) (by omega) (by omega), funext fun k => oP h k h2 (by omega)⟩
  have w : ∀ h k, 200 ≤ h → h ≤ 225 → S' h k = S h k := fun h k h1 h2 => oS h k (by omega) (by omega) (by omega) (by omega) (by omega) (by omega)
  have g2 : rlG 202 e m u f' S' P' rs := c2.fr hu (w 202 2 (by omega) (by omega)) (oP 202 1 (by omega) (by omega)) ag
  have ecx : cx S' 204 = cx S 204 := cx_eqS fun j h1 h2 => funext fun k => w j k (by omega) (by omega)
  have cn : ∀ q, q = 116 ∨ q = 120 ∨ q = 124 → (∃ a, cN P q a) → ∃ a, cN P' q a := fun q hq ⟨a, ha⟩ => ⟨a, ha.1, by rw [oP q 0 (by omega) (by omega)]; exact ha.2.1, by rw [oP q 1 (by omega) (by omega)]; exact ha.2.2⟩
  refine ⟨rs, e, m, ⟨c11.fr w, c12, ?_, ⟨g2.I, c15, fun p hp => ?_⟩, by rw [ecx]; exact c17, cn 116 (by omega) c18, cn 120 (by omega) c19, cn 124 (by omega) c20⟩, g2, ⟨hf, fun h h1 h2 => by rw [of h (by omega)]; exact c3.2.1 h h1 h2, by rw [of 51 (by omega)]; exact c3.2.2⟩, ht, h5, ?_⟩
  · rw [oS 100 8 (by omega) (by omega) (by omega) (by omega) (by omega) (by omega)]
    exact c13.imp id (fun ⟨h1, h2⟩ => ⟨h1, h2.w rfl rfl (fun h hh k => oS h k (by omega) (by omega) (by omega) (by omega) (by omega) (by omega))⟩)
  · have := c16 p hp
    unfold prI at this ⊢
    rw [w 203 p (by omega) (by omega)]
    exact this
  · rw [oP 100 1 (by omega) (by omega)]
    exact c6.imp id (fun ⟨h1, g, e', m', rs', h2, h3⟩ => ⟨h1, g, e', m', rs', h2, h3.fr hu (fun h a b _ => ag h a b)⟩)
theorem CI.fre (C : CI x f S P top) : 2000 ≤ top ∧ frF f top := by
  obtain ⟨rs, e, m, -, c2, c3, -⟩ := C
  exact ⟨c2.1, c3.1⟩
theorem CI.tape (C : CI x f S P top) : S 101 1 = (x.2.2.2.2.1 : Int) ∧ (∀ k, k < x.2.2.2.2.1 → S 102 k = cby (x.2.2.2.1 k)) ∧ S 101 5 = x.2.2.2.2.2 := by
  obtain ⟨rs, e, m, -, -, -, c4, c5, -⟩ := C
  exact ⟨c4.1, c4.2, c5⟩
/-- the tape is taken -/
theorem CI.mv0 (C : CI x f S P top) {S' : Nat → Nat → Int} (oS : ∀ h k, h ≠ 132 → h ≠ 133 → ¬ (108 ≤ h ∧ h ≤ 111) → ¬ (134 ≤ h ∧ h ≤ 140) → ¬ (h = 101 ∧ (k = 1 ∨ k = 2 ∨ k = 3 ∨ k = 6)) → S' h k = S h k) (h1 : S' 101 1 = 0) : CI (aN x x.1 0 x.2.2.2.2.2) f S' P top :=
  C.mv (Nat.le_refl _) C.fre.2 (fun _ _ => rfl) (fun h k _ a1 a2 a3 a4 a5 => oS h k (by omega) (by omega) (by omega) (by omega) (by omega)) (fun _ _ _ _ => rfl) ⟨h1, fun k hk => absurd hk (Nat.not_lt_zero _)⟩ ((oS 101 5 (by omega) (by omega) (by omega) (by omega) (by omega)).trans C.tape.2.2)
theorem le21 (C : CI x f S P top) (hA : AI x) (ra : R32 a) : zX1_log [vr 100, vi a] ((2, f), S, L, P) (eQ (sm21 x a)) (eX [(1, 1), (5, 2), (4, 3)] (sm21 x a)) := by
  apply oX1_log
  obtain ⟨rs, e, m, c1, -⟩ := id C
  obtain ⟨hx, hV, hb⟩ := c1.2.2.2.2.1
  have hn := hA.2.2.1.1
  refine ⟨ra, x.1, x.2.2.2.1, nwW x.1, x.2.2.2.2.1, hn, C.tape.1, fun k hk => ⟨hA.2.2.1.2 k (by omega), C.tape.2.1 k hk⟩, c1.1.1, hA.1.1.1.2.1, hV, hA.1.2.1.2, hx, hb, fun S' q => ?_⟩
  have K := C.mv0 (S' := S') (fun h k a1 a2 a3 _ a5 => q.1 h k a1 a2 a3 a5) q.2
  refine ⟨fun c => eX.mk (by unfold sm21; rw [if_neg (by rw [c]; decide)]) (by decide) K, fun c c2 => eX.mk (by unfold sm21; rw [if_pos c, c2]) (by decide) K, fun z c c2 => ⟨fun k => eX.mk (by unfold sm21; rw [if_pos c, c2]; exact if_neg k) (by decide) K, fun k => eQ.mk (by unfold sm21; rw [if_pos c, c2]; exact if_pos k) K⟩⟩
theorem le22 (C : CI x f S P top) (hA : AI x) (ra : R32 a) (rb : R32 b) (rd : R32 d) (re : R32 e) (hg : g = 0 ∨ g = 1) : zX1_mends [vr 100, vi a, vi b, vi d, vi e, vi g] ((2, f), S, L, P) (eQl (sm22 x a b d e g)) (eX [(1, 1)] (sm22 x a b d e g)) := by
  apply oX1_mends
  obtain ⟨rs, e', m, c1, -⟩ := id C
  obtain ⟨hx, hV, hb⟩ := c1.2.2.2.2.1
  have hn := hA.2.2.1.1
  refine ⟨⟨ra, rb, rd, re, hg⟩, x.1, x.2.2.2.1, nwW x.1, x.2.2.2.2.1, hn, C.tape.1, fun k hk => ⟨hA.2.2.1.2 k (by omega), C.tape.2.1 k hk⟩, c1.1.1, hA.1.1.1.2.1, hV, hA.1.2.1.2, hx, hb, fun c k hk => ?_, fun S' L' q => ?_⟩
  · unfold lgB lgA at c
    rw [Bool.and_eq_true, Bool.and_eq_true, List.all_eq_true] at c
    have n60 : x.2.2.2.2.1 ≤ 60 := of_decide_eq_true c.1.2
    exact mnB_ok hA.1.1.1.2.1 hV hA.1.2.1.2 (by omega) (fun j hj => c.2 j (List.mem_range.mpr (by omega)))
  · have K := C.mv0 (S' := S') (fun h k a1 a2 a3 a4 a5 => q.1 h k a1 a2 a3 a4 a5) q.2
    exact ⟨fun c => eX.mk (by unfold sm22; rw [if_neg (by rw [c]; decide)]) (by decide) K, fun c => eQl.mk (by unfold sm22; rw [if_pos c]) K⟩
theorem le01 (C : CI x f S P top) (ra : R32 a) (hA : AI x) : zX1_end [vr 100, vi a] ((2, f), S, L, P) (eQ (sm1 x a)) (eX [] (sm1 x a)) := by
  apply oX1_end
  have hn := hA.2.2.1.1
  rw [C.tape.1]
  refine ⟨ra, by omega, fun c => eQ.mk (by unfold sm1; rw [if_neg c]) C, fun c => eQ.mk (x' := aN x x.1 a.toNat x.2.2.2.2.2) (by unfold sm1; rw [if_pos c]) (C.mv (Nat.le_refl _) C.fre.2 (fun _ _ => rfl) (fun h k _ a1 _ _ _ _ => by rw [up_eq, if_neg (fun z => a1 z.1)]) (fun _ _ _ _ => rfl) ⟨?_, fun k hk => ?_⟩ ?_)⟩
  · rw [up_eq, if_pos ⟨rfl, rfl⟩]
    show a = ((a.toNat : Nat) : Int)
    omega
  · rw [up_eq, if_neg (by omega)]
    exact C.tape.2.1 k (by omega)
  · rw [up_eq, if_neg (by omega)]
    exact C.tape.2.2
theorem le00 (C : CI x f S P top) (hA : AI x) (hr : R32 a ∧ R32 b ∧ R32 d ∧ R32 e ∧ R32 g) : zX1_feed [vr 100, vi a, vi b, vi d, vi e, vi g] ((2, f), S, L, P) (eQ (sm0 x a b d e g)) (eX [] (sm0 x a b d e g)) := by
  apply oX1_feed
  have hn := hA.2.2.1.1
  have ht := C.fre
  refine ⟨x.2.2.2.2.1, top, C.tape.1, hn, ht.2, hr, fun c S' L' P' f' h1 h2 h3 => ?_, fun c S' L' P' f' h1 h2 h3 => ?_⟩
  · refine eQ.mk (x' := x) (by unfold sm0; rw [if_pos c]) (C.mv (f' := f') (S' := S') (P' := P') (u := top + 1) (Nat.le_succ _) h1 (fun h hh => (h2 h hh).1) (fun h k hh _ _ _ _ _ => by rw [h3 h hh]) (fun h k hh _ => by rw [(h2 h hh).2.2]) ⟨?_, fun k hk => ?_⟩ ?_)
    · rw [h3 101 (by omega)]; exact C.tape.1
    · rw [h3 102 (by omega)]; exact C.tape.2.1 k hk
    · rw [h3 101 (by omega)]; exact C.tape.2.2
  · refine eQ.mk (x' := (x.1, x.2.1, x.2.2.1, fun j => if x.2.2.2.2.1 ≤ j ∧ j < x.2.2.2.2.1 + 20 then fdM a b d e g (j - x.2.2.2.2.1) else x.2.2.2.1 j, x.2.2.2.2.1 + 20, x.2.2.2.2.2)) (by unfold sm0; rw [if_neg (by omega)]) (C.mv (f' := f') (S' := S') (P' := P') (u := top + 1) (Nat.le_succ _) h1 (fun h hh => (h2 h hh).1) (fun h k hh a1 a2 _ _ _ => ?_) (fun h k hh _ => by rw [(h2 h hh).2.2]) ⟨?_, fun k hk => ?_⟩ ?_)
    · rw [h3 h hh]
      unfold fdC
      rw [if_neg (fun z => a1 z.1), if_neg (fun z => a2 z.1)]
    · rw [h3 101 (by omega)]
      unfold fdC
      rw [if_pos ⟨rfl, rfl⟩]
    · rw [h3 102 (by omega)]
      unfold fdC
      rw [if_neg (by omega)]
      by_cases c2 : x.2.2.2.2.1 ≤ k ∧ k < x.2.2.2.2.1 + 20
      · rw [if_pos ⟨rfl, c2⟩, if_pos c2]
      · rw [if_neg (fun z => c2 z.2), if_neg c2]
        exact C.tape.2.1 k (by omega)
    · rw [h3 101 (by omega)]
      unfold fdC
      rw [if_neg (by omega), if_neg (by omega)]
      exact C.tape.2.2
theorem le07 (C : CI x f S P top) (ra : R32 a) : zX1_style [vr 100, vi a] ((2, f), S, L, P) (eQ (sm7 x a)) (eX [(3, 1)] (sm7 x a)) := by
  apply oX1_style
  obtain ⟨rs, e, m, c1, -⟩ := id C
  obtain ⟨hx, hV, hb⟩ := c1.2.2.2.2.1
  obtain ⟨c14, c15, c16⟩ := c1.2.2.2.1
  have hVx := scV_xE hV hx
  refine ⟨ra, fun c => eX.mk (by unfold sm7; rw [if_neg (by omega)]) (by decide) C, fun c => ⟨rs, top, c14, c16 _ (by omega), hVx, by have := hb 7; omega, by have := hb 8; omega, fun S' P' q1 q2 => ?_⟩⟩
  have hp : a.toNat < 2 := by omega
  have e3 : S 203 a.toNat = x.1 (199 + a.toNat) := by
    have := c1.1
    rcases (show a.toNat = 0 ∨ a.toNat = 1 by omega) with z | z <;> rw [z]
    · exact this.2.2.2.1
    · exact this.2.2.2.2.1
  have ef : fcX (cx S 204) a.toNat = fcX (nwW x.1) a.toNat := by
    obtain ⟨e0, e1, e2, e3, e4, e5, e6, e7, e8⟩ := hx
    have hh := hV.2.2
    unfold Jvm.Pilot.CChaseCourtLaw_law_r1587_f51dab.hV at hh
    have e4' : (if cx S 204 3 = 0 then (10 : Int) else cx S 204 4) = if nwW x.1 3 = 0 then 10 else nwW x.1 4 := by
      rw [e3]
      by_cases z : nwW x.1 3 = 0
      · rw [if_pos z, if_pos z]
      · rw [if_neg z, if_neg z, e4 (by omega)]
    funext k
    unfold fcX
    rw [e4', e2, e3, e6]
    rcases (show a.toNat = 0 ∨ a.toNat = 1 by omega) with z | z <;> rw [z]
    · rw [e0, e1, e7]
    · rw [e0, e1, e8]
  have ev : syV S rs a.toNat (fcX (cx S 204) a.toNat) = stR x.1 (nwW x.1) a.toNat := by
    rw [ef]
    exact sy_st c15 (c16 _ hp) e3
  rw [ev]
  exact eQ.mk (x' := x) (by unfold sm7; rw [if_pos (by omega)]) (C.mv (Nat.le_refl _) C.fre.2 (fun _ _ => rfl) (fun h k _ _ _ _ _ a6 => q1 h k a6) (fun h k _ a1 => q2 h k a1) ⟨(q1 101 1 (by omega)).trans C.tape.1, fun k hk => (q1 102 k (by omega)).trans (C.tape.2.1 k hk)⟩ ((q1 101 5 (by omega)).trans C.tape.2.2))
theorem le06 (C : CI x f S P top) (hA : AI x) (ra : R32 a) (rb : R32 b) : zX1_plays [vr 100, vi a, vi b] ((2, f), S, L, P) (eQ (sm6 x a b)) (eX [(3, 1)] (sm6 x a b)) := by
  apply oX1_plays
  have hK := ka6 (a := a) (b := b) hA
  obtain ⟨rs, e, m, c1, c2, -⟩ := id C
  obtain ⟨r1, r2, r3, r4, r5, r6⟩ := id c1.1
  obtain ⟨hx, hV, hb⟩ := c1.2.2.2.2.1
  obtain ⟨r, hr, hr6, -⟩ := hA.1.2.2.2.1
  rw [r3]
  refine ⟨ra, rb, by omega, fun c => eX.mk (by unfold sm6; rw [if_pos c]) (by decide) C, fun c => ?_⟩
  have ha : (0 ≤ a ∧ a ≤ 1) ∧ (-1 ≤ b ∧ b ≤ x.1 193 - 1) := by
    unfold plT at c
    split at c
    · exact absurd c (by decide)
    · omega
  have es : sm6 x a b = (0, x.1 (199 + a).toNat, aN x (fun k => if k = (199 + a).toNat then b else x.1 k) x.2.2.2.2.1 x.2.2.2.2.2) := by unfold sm6; rw [if_neg (by rw [c]; decide)]
  rw [es] at hK
  have ev : S 203 a.toNat = x.1 (199 + a).toNat := by
    rcases (show a = 0 ∨ a = 1 by omega) with z | z <;> subst z
    · exact r4
    · exact r5
  rw [ev]
  have o : ∀ k, k ≠ 199 → k ≠ 200 → (if k = (199 + a).toNat then b else x.1 k) = x.1 k := fun k k1 k2 => if_neg (by omega)
  refine eQ.mk es (C.row hK.1 (o 195 (by decide) (by decide)) (o 196 (by decide) (by decide)) (fun k hk => o k (by omega) (by omega)) (fun h hh => funext fun k => by rw [up_eq, if_neg (by omega)]) (funext fun k => by rw [up_eq, if_neg (by omega)]) ?_ (fun rs' h hl p hp => ?_) ?_ ?_)
  · obtain ⟨w1, w2, w3, w4, w5⟩ := r1
    have o2 : ∀ h k, h ≠ 203 → mm_up S 203 a.toNat b h k = S h k := fun h k hh => by rw [up_eq, if_neg (fun z => hh z.1)]
    unfold wRel wsc
    rw [o2 200 1 (by decide), o2 200 2 (by decide), o2 200 3 (by decide), o2 200 4 (by decide), o2 200 5 (by decide), o2 200 0 (by decide), o2 202 2 (by decide)]
    refine ⟨⟨w1.trans (o 194 (by decide) (by decide)).symm, w2.trans (o 195 (by decide) (by decide)).symm, w3.trans (o 196 (by decide) (by decide)).symm, w4.trans (o 197 (by decide) (by decide)).symm, w5.trans (o 198 (by decide) (by decide)).symm⟩, r2.trans (o 192 (by decide) (by decide)).symm, r3.trans (o 193 (by decide) (by decide)).symm, ?_, ?_, fun i k hi hk => ?_⟩
    · rw [up_eq]
      rcases (show a = 0 ∨ a = 1 by omega) with z | z <;> subst z
      · rw [if_pos (by decide)]
        exact (if_pos (by decide)).symm
      · rw [if_neg (by decide)]
        exact r4.trans (if_neg (by decide)).symm
    · rw [up_eq]
      rcases (show a = 0 ∨ a = 1 by omega) with z | z <;> subst z
      · rw [if_neg (by decide)]
        exact r5.trans (if_neg (by decide)).symm
      · rw [if_pos (by decide)]
        exact (if_pos (by decide)).symm
    · rw [o2 _ _ (by omega)]
      exact (r6 i k hi hk).trans (o _ (by omega) (by omega)).symm
  · have hp' := h p hp
    unfold prI at hp' ⊢
    rw [up_eq]
    by_cases z : p = a.toNat
    · rw [if_pos ⟨rfl, z⟩]
      omega
    · rw [if_neg (fun q => z q.2)]
      exact hp'
  · rw [show cx (mm_up S 203 a.toNat b) 204 = cx S 204 from cx_eqS fun j h1 h2 => funext fun k => by rw [up_eq, if_neg (by omega)], nwW_c (w := x.1) (fun k k1 k2 => o k (by omega) (by omega))]
    exact hx
  · rw [show cx (mm_up S 203 a.toNat b) 204 = cx S 204 from cx_eqS fun j h1 h2 => funext fun k => by rw [up_eq, if_neg (by omega)]]
    exact hb
theorem le10 (C : CI x f S P top) (hA : AI x) (ra : R32 a) (rb : R32 b) : zX1_begin [vr 100, vi a, vi b] ((2, f), S, L, P) (eQv (sm10 x a b)) (eX [(1, 1)] (sm10 x a b)) := by
  apply oX1_begin
  have hK := ka10 (a := a) (b := b) hA
  obtain ⟨rs, e, m, c1, c2, -⟩ := id C
  obtain ⟨r1, r2, r3, r4, r5, r6⟩ := id c1.1
  obtain ⟨hx, hV, hb⟩ := c1.2.2.2.2.1
  refine ⟨ra, rb, fun c => eX.mk (by unfold sm10; rw [if_neg c]) (by decide) C, fun c => ?_⟩
  have es : sm10 x a b = (0, 0, aN x (fun k => if k = 198 then b else if k = 197 then a else x.1 k) x.2.2.2.2.1 x.2.2.2.2.2) := by unfold sm10; rw [if_pos c]
  rw [es] at hK
  have o : ∀ k, k ≠ 197 → k ≠ 198 → (if k = 198 then b else if k = 197 then a else x.1 k) = x.1 k := fun k k1 k2 => by rw [if_neg k2, if_neg k1]
  have o2 : ∀ h k, ¬ (h = 200 ∧ (k = 4 ∨ k = 5)) → mm_up (mm_up S 200 4 a) 200 5 b h k = S h k := fun h k hh => by rw [up_eq, if_neg (by omega), up_eq, if_neg (by omega)]
  refine eQv.mk es (C.row hK.1 (o 195 (by decide) (by decide)) (o 196 (by decide) (by decide)) (fun k hk => o k (by omega) (by omega)) (fun h hh => funext fun k => o2 h k (by omega)) (funext fun k => o2 202 k (by omega)) ?_ (fun rs' h hl p hp => ?_) ?_ ?_)
  · obtain ⟨w1, w2, w3, w4, w5⟩ := r1
    unfold wRel wsc
    rw [o2 200 1 (by omega), o2 200 2 (by omega), o2 200 3 (by omega), o2 200 0 (by omega), o2 202 2 (by omega), o2 203 0 (by omega), o2 203 1 (by omega)]
    refine ⟨⟨w1.trans (o 194 (by decide) (by decide)).symm, w2.trans (o 195 (by decide) (by decide)).symm, w3.trans (o 196 (by decide) (by decide)).symm, ?_, ?_⟩, r2.trans (o 192 (by decide) (by decide)).symm, r3.trans (o 193 (by decide) (by decide)).symm, r4.trans (o 199 (by decide) (by decide)).symm, r5.trans (o 200 (by decide) (by decide)).symm, fun i k hi hk => ?_⟩
    · rw [up_eq, if_neg (by omega), up_eq, if_pos ⟨rfl, rfl⟩]
      rfl
    · rw [up_eq, if_pos ⟨rfl, rfl⟩]
      rfl
    · rw [o2 _ _ (by omega)]
      exact (r6 i k hi hk).trans (o _ (by omega) (by omega)).symm
  · have hp' := h p hp
    unfold prI at hp' ⊢
    rw [o2 203 p (by omega)]
    exact hp'
  · rw [show cx (mm_up (mm_up S 200 4 a) 200 5 b) 204 = cx S 204 from cx_eqS fun j h1 h2 => funext fun k => o2 j k (by omega), nwW_c (w := x.1) (fun k k1 k2 => o k (by omega) (by omega))]
    exact hx
  · rw [show cx (mm_up (mm_up S 200 4 a) 200 5 b) 204 = cx S 204 from cx_eqS fun j h1 h2 => funext fun k => o2 j k (by omega)]
    exact hb
end
