/-! ===== the component's calls, as the plain words tell ===== -/
set_option maxRecDepth 100000
section
variable {x : aS} {f : Nat → Nat × Nat} {S L : Nat → Nat → Int} {P : Nat → Nat → Option Nat} {top : Nat} {a b d e g : Int}
theorem le14 (C : CI x f S P top) (ra : R32 a) (rb : R32 b) : zX1_chance [vr 100, vi a, vi b] ((2, f), S, L, P) (eQ (sm14 x a b)) (eX [(3, 1), (1, 2), (5, 3)] (sm14 x a b)) := by
  apply oX1_chance
  obtain ⟨rs, e, m, c1, -⟩ := id C
  exact ⟨ra, rb, x.1, rs, top, c1, fun c => eX.mk rfl (by rw [c]; decide) C, fun c => eX.mk rfl (by rw [c]; decide) C, fun c => eX.mk rfl (by rw [c]; decide) C, fun c S' P' z => eQ.mk (by unfold sm14; rw [c]) (C.z z)⟩
theorem le15 (C : CI x f S P top) (ra : R32 a) (rb : R32 b) (hd : d = 0 ∨ d = 1) : zX1_best [vr 100, vi a, vi b, vi d] ((2, f), S, L, P) (eQ (sm15 x a b d)) (eX [(3, 1), (1, 2), (5, 3)] (sm15 x a b d)) := by
  apply oX1_best
  obtain ⟨rs, e, m, c1, -⟩ := id C
  exact ⟨ra, rb, hd, x.1, rs, top, c1, fun c => eX.mk rfl (by rw [c]; decide) C, fun c => eX.mk rfl (by rw [c]; decide) C, fun c => eX.mk rfl (by rw [c]; decide) C, fun c S' P' z => ⟨fun k => eQ.mk (by unfold sm15; rw [c, if_pos k]) (C.z z), fun k => eQ.mk (by unfold sm15; rw [c, if_neg (by omega)]) (C.z z)⟩⟩
theorem le16 (C : CI x f S P top) (ra : R32 a) (rb : R32 b) (rd : R32 d) : zX1_saves [vr 100, vi a, vi b, vi d] ((2, f), S, L, P) (eQ (sm16 x a b d)) (eX [(3, 1), (1, 2), (5, 3), (4, 4)] (sm16 x a b d)) := by
  apply oX1_saves
  obtain ⟨rs, e, m, c1, -⟩ := id C
  exact ⟨ra, rb, rd, x.1, rs, top, c1, fun c => eX.mk rfl (by rw [c]; decide) C, fun c => eX.mk rfl (by rw [c]; decide) C, fun c => eX.mk rfl (by rw [c]; decide) C, fun c => eX.mk rfl (by rw [c]; decide) C, fun c S' P' z => ⟨fun k => eQ.mk (by unfold sm16; rw [c, if_pos k]) (C.z z), fun k => eQ.mk (by unfold sm16; rw [c, if_neg (by omega), if_pos k]) (C.z z), fun k => eQ.mk (by unfold sm16; rw [c, if_neg (by omega), if_neg (by omega)]) (C.z z)⟩⟩
theorem le17 (C : CI x f S P top) (ra : R32 a) (rb : R32 b) (rd : R32 d) : zX1_worth [vr 100, vi a, vi b, vi d] ((2, f), S, L, P) (eQ (sm17 x a b d)) (eX [(3, 1), (1, 2), (5, 3)] (sm17 x a b d)) := by
  apply oX1_worth
  obtain ⟨rs, e, m, c1, -⟩ := id C
  exact ⟨ra, rb, rd, x.1, rs, top, c1, fun c => eX.mk rfl (by rw [c]; decide) C, fun c => eX.mk rfl (by rw [c]; decide) C, fun c => eX.mk rfl (by rw [c]; decide) C, fun c S' P' z => ⟨fun k => eQ.mk (by unfold sm17; rw [c, if_pos k]) (C.z z), fun k => eQ.mk (by unfold sm17; rw [c, if_neg (by omega)]) (C.z z)⟩⟩
theorem le18 (C : CI x f S P top) (ra : R32 a) (rb : R32 b) : zX1_set [vr 100, vi a, vi b] ((2, f), S, L, P) (eQ (sm18 x a b)) (eX [(3, 1), (1, 2), (5, 3)] (sm18 x a b)) := by
  apply oX1_set
  obtain ⟨rs, e, m, c1, -⟩ := id C
  exact ⟨ra, rb, x.1, rs, top, c1, fun c => eX.mk rfl (by rw [c]; decide) C, fun c => eX.mk rfl (by rw [c]; decide) C, fun c => eX.mk rfl (by rw [c]; decide) C, fun c S' P' z => eQ.mk (by unfold sm18; rw [c]) (C.z z)⟩
theorem le19 (C : CI x f S P top) (ra : R32 a) (rb : R32 b) (rd : R32 d) (re : R32 e) : zX1_ways [vr 100, vi a, vi b, vi d, vi e] ((2, f), S, L, P) (eQ (sm19 x a b d e)) (eX [(3, 1), (1, 2)] (sm19 x a b d e)) := by
  apply oX1_ways
  obtain ⟨rs, e, m, c1, -⟩ := id C
  exact ⟨ra, rb, rd, re, x.1, rs, top, c1, fun c => eX.mk rfl (by rw [c]; decide) C, fun c => eX.mk rfl (by rw [c]; decide) C, fun c S' P' z => eQ.mk (by unfold sm19; rw [c]) (C.z z)⟩
theorem le20 (C : CI x f S P top) (ra : R32 a) (rb : R32 b) : zX1_even [vr 100, vi a, vi b] ((2, f), S, L, P) (eQ (sm20 x a b)) (eX [(1, 1)] (sm20 x a b)) := by
  apply oX1_even
  obtain ⟨rs, e, m, c1, -⟩ := id C
  exact ⟨ra, rb, x.1, rs, top, c1, fun c => eX.mk (by unfold sm20; rw [if_neg c]) (by decide) C, fun c S' P' z => eQ.mk (by unfold sm20; rw [if_pos c]) (C.z z)⟩
theorem le23 (C : CI x f S P top) (hA : AI x) (rb : R32 b) (rd : R32 d) : zX1_play [vr 100, vi a, vi b, vi d] ((2, f), S, L, P) (eQ (sm23 x a b d)) (eX [(1, 1), (4, 2)] (sm23 x a b d)) := by
  apply oX1_play
  obtain ⟨rs, e, m, c1, -⟩ := id C
  exact ⟨rb, rd, x.1, rs, top, c1, hA.1.2.1.2, fun c => eX.mk rfl (by rw [c]; decide) C, fun c => eX.mk rfl (by rw [c]; decide) C, fun c S' P' z => ⟨fun k => eQ.mk (by unfold sm23; rw [c, if_pos k]) (C.z z), fun k => eQ.mk (by unfold sm23; rw [c, if_neg k]) (C.z z)⟩⟩
theorem le05 (C : CI x f S P top) (ra : R32 a) (rb : R32 b) (rd : R32 d) : zX1_look [vr 100, vi a, vi b, vi d] ((2, f), S, L, P) (eQ (sm5 x a b d)) (eX [(3, 1), (4, 2)] (sm5 x a b d)) := by
  apply oX1_look
  obtain ⟨rs, e, m, c1, -⟩ := id C
  refine ⟨ra, rb, rd, fun c => eX.mk rfl (by rw [c]; decide) C, fun c => eX.mk rfl (by rw [c]; decide) C, fun c => ?_⟩
  have hr : (0 ≤ a ∧ a ≤ 3) ∧ (0 ≤ b ∧ b ≤ 3) ∧ (0 ≤ d ∧ d ≤ 11) := by
    unfold lkT at c
    split at c
    · exact absurd c (by decide)
    · split at c
      · exact absurd c (by decide)
      · omega
  have ew := c1.1.2.2.2.2.2 (4 * a + b).toNat d.toNat (by omega) (by omega)
  refine eQ.mk ?_ C
  unfold sm5
  rw [c, if_pos rfl, ew, show (12 * (4 * a + b) + d).toNat = 12 * (4 * a + b).toNat + d.toNat by omega]
theorem le26 (C : CI x f S P top) (ra : R32 a) : zX1_count [vr 100, vi a] ((2, f), S, L, P) (eQ (sm26 x a)) (eX [] (sm26 x a)) := by
  apply oX1_count
  obtain ⟨rs, e, m, c1, -⟩ := id C
  exact ⟨ra, x.1, c1.1, eQ.mk rfl C⟩
theorem le04 (C : CI x f S P top) : zX1_fault [vr 100] ((2, f), S, L, P) (eQ (sm4 x)) (eX [] (sm4 x)) := by
  apply oX1_fault
  obtain ⟨rs, e, m, c1, c2, c3, c4, c5, -⟩ := id C
  rw [c5]
  exact eQ.mk rfl C
theorem le11 (C : CI x f S P top) (ra : R32 a) : zX1_stands [vr 100, vi a] ((2, f), S, L, P) (eQ (sm11 x a)) (eX [(4, 1)] (sm11 x a)) := by
  apply oX1_stands
  obtain ⟨rs, e, m, c1, -⟩ := id C
  obtain ⟨hx, hV, hb⟩ := c1.2.2.2.2.1
  have hV' := scV_xE hV hx
  refine ⟨ra, hb, ?_, fun c => eX.mk (by unfold sm11; rw [if_neg c]) (by decide) C, fun c => ?_⟩
  · have := hV'.2.2
    unfold Jvm.Pilot.CChaseCourtLaw_law_r1587_f51dab.hV at this
    omega
  · have ev : tdR (cx S 204) a = tdR (nwW x.1) a := tdR_xE hx c
    rw [ev]
    exact eQ.mk (by unfold sm11; rw [if_pos c]) C
/-- the world told anew -/
theorem CI.row (C : CI x f S P top) {w' : Nat → Int} {S' : Nat → Nat → Int} (hw : WI w') (e5 : w' 195 = x.1 195) (e6 : w' 196 = x.1 196) (eh : ∀ k, 210 ≤ k → w' k = x.1 k) (o : ∀ h, ¬ (200 ≤ h ∧ h ≤ 207) → S' h = S h) (o2 : S' 202 = S 202) (hr : wRel S' w') (hp : ∀ rs : List (Fc → Option Int), (∀ p, p < 2 → prI S rs p) → rs.length = x.1 193 → ∀ p, p < 2 → prI S' rs p) (hx : xE (cx S' 204) (nwW w')) (hb : scb (cx S' 204)) : CI (aN x w' x.2.2.2.2.1 x.2.2.2.2.2) f S' P top := by
  obtain ⟨rs, e, m, ⟨c11, c12, c13, ⟨c14, c15, c16⟩, c17, c18⟩, c2, c3, c4, c5, c6⟩ := C
  have ag : ∀ h, 2000 ≤ h → h < top → f h = f h ∧ S' h = S h ∧ P h = P h := fun h hh _ => ⟨rfl, o h (by omega), rfl⟩
  have et : ∀ i, trT w' i = trT x.1 i ∧ trN w' i = trN x.1 i := fun i => ⟨funext fun k => eh _ (by omega), by unfold trN; rw [eh _ (by omega)]⟩
  have e193 : (rs.length : Int) = x.1 193 := by
    have h1 := c11.2.2.1
    have h2 := c2.2.1
    omega
  refine ⟨rs, e, m, ⟨hr, hw.1, ?_, ⟨c14.fr (by rw [o2]) rfl ag, fun i r hi => ?_, hp rs c16 e193⟩, ⟨hx, hw.2.1.1, hb⟩, c18⟩, c2.fr (Nat.le_refl _) (by rw [o2]) rfl ag, c3, ?_, ?_, c6.imp id (fun ⟨h1, g, e', m', rs', h2, h3⟩ => ⟨h1, g, e', m', rs', h2, h3.fr (Nat.le_refl _) (fun h a b _ => ag h a b)⟩)⟩
  · rw [o 100 (by omega)]
    refine c13.imp id (fun ⟨h1, h2⟩ => ⟨h1, h2.w e5.symm e6.symm (fun h hh k => ?_)⟩)
    rw [o h (by omega)]
  · obtain ⟨q, q1, q2⟩ := c15 i r hi
    rw [← (et i).1, ← (et i).2] at q1
    exact ⟨q, q1, q2⟩
  · rw [o 101 (by omega), o 102 (by omega)]
    exact c4
  · rw [o 101 (by omega)]
    exact c5
end
