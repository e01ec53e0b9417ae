/-! ===== the model's calls, as the plain words tell ===== -/
set_option maxRecDepth 100000
def mQi (y : Int × Int × aS) : Option zv → zz_M → Prop := fun r M' => (∃ b : Int, r = some (vi b) ∧ (y.1 = 0 → b = y.2.1)) ∧ ∃ S' L', M' = zm S' L' ∧ MI y.2.2 S' ∧ S' 0 0 = y.1
def mQl (y : Int × Int × aS) : Option zv → zz_M → Prop := fun r M' => (∃ b : Int, r = some (vl b) ∧ (y.1 = 0 → b = y.2.1)) ∧ ∃ S' L', M' = zm S' L' ∧ MI y.2.2 S' ∧ S' 0 0 = y.1
def mQv (y : Int × Int × aS) : Option zv → zz_M → Prop := fun r M' => r = none ∧ ∃ S' L', M' = zm S' L' ∧ MI y.2.2 S' ∧ S' 0 0 = y.1
theorem mQi.mk {y : Int × Int × aS} {b c : Int} {x' : aS} {S' L' : Nat → Nat → Int} (hy : y = (c, b, x')) (h : MI x' S') (h0 : S' 0 0 = c) : mQi y (some (vi b)) (zm S' L') := by
  subst hy
  exact ⟨⟨b, rfl, fun _ => rfl⟩, S', L', rfl, h, h0⟩
theorem mQi.no {y : Int × Int × aS} {b v c : Int} {x' : aS} {S' L' : Nat → Nat → Int} (hy : y = (c, v, x')) (hc : c ≠ 0) (h : MI x' S') (h0 : S' 0 0 = c) : mQi y (some (vi b)) (zm S' L') := by
  subst hy
  exact ⟨⟨b, rfl, fun z => absurd z hc⟩, S', L', rfl, h, h0⟩
theorem mQl.mk {y : Int × Int × aS} {b c : Int} {x' : aS} {S' L' : Nat → Nat → Int} (hy : y = (c, b, x')) (h : MI x' S') (h0 : S' 0 0 = c) : mQl y (some (vl b)) (zm S' L') := by
  subst hy
  exact ⟨⟨b, rfl, fun _ => rfl⟩, S', L', rfl, h, h0⟩
theorem mQv.mk {y : Int × Int × aS} {c v : Int} {x' : aS} {S' L' : Nat → Nat → Int} (hy : y = (c, v, x')) (h : MI x' S') (h0 : S' 0 0 = c) : mQv y none (zm S' L') := by
  subst hy
  exact ⟨rfl, S', L', rfl, h, h0⟩
section
variable {x : aS} {S L : Nat → Nat → Int} {X : Nat → zz_M → Prop} {a b d e g : Int}
theorem lm14 (h : MI x S) (hA : AI x) (ra : R32 a) (rb : R32 b) : zX9_chance [vr 0, vi a, vi b] (zm S L) (mQi (sm14 x a b)) X := by
  apply oX9_chance
  rw [h.now, h.1.1]
  refine ⟨ra, rb, h.mI hA, fun T c q => ?_, fun T c q => ?_⟩
  · obtain ⟨q1, q2⟩ := h.co q
    exact mQi.no rfl c q1 q2
  · obtain ⟨q1, q2⟩ := h.co q
    exact mQi.mk (by unfold sm14; rw [c]) q1 q2
theorem lm15 (h : MI x S) (hA : AI x) (ra : R32 a) (rb : R32 b) (hd : d = 0 ∨ d = 1) : zX9_best [vr 0, vi a, vi b, vi d] (zm S L) (mQi (sm15 x a b d)) X := by
  apply oX9_best
  rw [h.now, h.1.1]
  refine ⟨ra, rb, hd, h.mI hA, fun T c q => ?_, fun T c q => ⟨fun z => ?_, fun z => ?_⟩⟩
  · obtain ⟨q1, q2⟩ := h.co q
    exact mQi.no rfl c q1 q2
  · obtain ⟨q1, q2⟩ := h.co q
    exact mQi.mk (by unfold sm15; rw [c, if_pos z]) q1 q2
  · obtain ⟨q1, q2⟩ := h.co q
    exact mQi.mk (by unfold sm15; rw [c, if_neg (by omega)]) q1 q2
theorem lm16 (h : MI x S) (hA : AI x) (ra : R32 a) (rb : R32 b) (rd : R32 d) : zX9_saves [vr 0, vi a, vi b, vi d] (zm S L) (mQi (sm16 x a b d)) X := by
  apply oX9_saves
  rw [h.now, h.1.1]
  refine ⟨ra, rb, rd, h.mI hA, fun T c q => ?_, fun T c q => ⟨fun z => ?_, fun z => ?_, fun z => ?_⟩⟩
  · obtain ⟨q1, q2⟩ := h.co q
    exact mQi.no rfl c q1 q2
  · obtain ⟨q1, q2⟩ := h.co q
    exact mQi.mk (by unfold sm16; rw [c, if_pos z]) q1 q2
  · obtain ⟨q1, q2⟩ := h.co q
    exact mQi.mk (by unfold sm16; rw [c, if_neg (by omega), if_pos z]) q1 q2
  · obtain ⟨q1, q2⟩ := h.co q
    exact mQi.mk (by unfold sm16; rw [c, if_neg (by omega), if_neg (by omega)]) q1 q2
theorem lm17 (h : MI x S) (hA : AI x) (ra : R32 a) (rb : R32 b) (rd : R32 d) : zX9_worth [vr 0, vi a, vi b, vi d] (zm S L) (mQi (sm17 x a b d)) X := by
  apply oX9_worth
  rw [h.now, h.1.1]
  refine ⟨ra, rb, rd, h.mI hA, fun T c q => ?_, fun T c z q => ?_, fun T c z q => ?_⟩
  · obtain ⟨q1, q2⟩ := h.co q
    exact mQi.no rfl c q1 q2
  · obtain ⟨q1, q2⟩ := h.co q
    exact mQi.mk (by unfold sm17; rw [c, if_pos z]) q1 q2
  · obtain ⟨q1, q2⟩ := h.co q
    exact mQi.mk (by unfold sm17; rw [c, if_neg (by omega)]) q1 q2
theorem lm18 (h : MI x S) (hA : AI x) (ra : R32 a) (rb : R32 b) : zX9_set [vr 0, vi a, vi b] (zm S L) (mQi (sm18 x a b)) X := by
  apply oX9_set
  rw [h.now, h.1.1]
  refine ⟨ra, rb, h.mI hA, fun T L' c q => ?_, fun T L' c q => ?_⟩
  · obtain ⟨q1, q2⟩ := h.co q
    exact mQi.no rfl c q1 q2
  · obtain ⟨q1, q2⟩ := h.co q
    exact mQi.mk (by unfold sm18; rw [c]) q1 q2
theorem lm19 (h : MI x S) (hA : AI x) (ra : R32 a) (rb : R32 b) (rd : R32 d) (re : R32 e) : zX9_ways [vr 0, vi a, vi b, vi d, vi e] (zm S L) (mQi (sm19 x a b d e)) X := by
  apply oX9_ways
  rw [h.1.1]
  refine ⟨ra, rb, rd, re, h.mI hA, fun T c q => ?_, fun T c q => ?_⟩
  · obtain ⟨q1, q2⟩ := h.co q
    exact mQi.no rfl c q1 q2
  · obtain ⟨q1, q2⟩ := h.co q
    exact mQi.mk (by unfold sm19; rw [c]) q1 q2
theorem lm20 (h : MI x S) (hA : AI x) (ra : R32 a) (rb : R32 b) : zX9_even [vr 0, vi a, vi b] (zm S L) (mQi (sm20 x a b)) X := by
  apply oX9_even
  rw [h.now, h.1.1]
  refine ⟨ra, rb, h.mI hA, fun T c q => ?_, fun T c q => ?_⟩
  · obtain ⟨q1, q2⟩ := h.co q
    exact mQi.no (by unfold sm20; rw [if_neg c]) (by decide) q1 q2
  · obtain ⟨q1, q2⟩ := h.co q
    exact mQi.mk (by unfold sm20; rw [if_pos c]) q1 q2
theorem lm21 (h : MI x S) (hA : AI x) (ra : R32 a) : zX9_log [vr 0, vi a] (zm S L) (mQi (sm21 x a)) X := by
  apply oX9_log
  rw [h.now, h.1.1, h.1.2.2]
  refine ⟨x.2.2.2.2.1, h.2.1.2.1, hA.2.2.1.1, hA.2.2.1.2, ra, h.mI hA, fun T c q => ?_, fun T c c2 q => ?_, fun T z c c2 => ⟨fun k q => ?_, fun k q => ?_⟩⟩
  · obtain ⟨q1, q2⟩ := h.co0 q
    exact mQi.no (by unfold sm21; rw [if_neg (by rw [c]; decide)]) (by decide) q1 q2
  · obtain ⟨q1, q2⟩ := h.co0 q
    exact mQi.no (by unfold sm21; rw [if_pos c, c2]) (by decide) q1 q2
  · obtain ⟨q1, q2⟩ := h.co0 q
    exact mQi.no (by unfold sm21; rw [if_pos c, c2]; exact if_neg k) (by decide) q1 q2
  · obtain ⟨q1, q2⟩ := h.co0 q
    exact mQi.mk (by unfold sm21; rw [if_pos c, c2]; exact if_pos k) q1 q2
theorem lm22 (h : MI x S) (hA : AI x) (ra : R32 a) (rb : R32 b) (rd : R32 d) (re : R32 e) (rg : R32 g) : zX9_mends [vr 0, vi a, vi b, vi d, vi e, vi g] (zm S L) (mQl (sm22 x a b d e g)) X := by
  apply oX9_mends
  rw [h.now, h.1.1, h.1.2.2]
  refine ⟨x.2.2.2.2.1, h.2.1.2.1, hA.2.2.1.1, hA.2.2.1.2, ⟨ra, rb, rd, re, rg⟩, h.mI hA, fun c k hk => ?_, fun T c q => ?_, fun T L' c q => ?_⟩
  · unfold lgB lgA at c
    rw [Bool.and_eq_true, Bool.and_eq_true, List.all_eq_true] at c
    have n60 : x.2.2.2.2.1 ≤ 60 := of_decide_eq_true c.1.2
    exact mnB_ok hA.1.1.1.2.1 hA.1.2.1.1 hA.1.2.1.2 (by omega) (fun j hj => c.2 j (List.mem_range.mpr (by omega)))
  · obtain ⟨q1, q2⟩ := h.co0 q
    refine ⟨⟨0, rfl, fun z => ?_⟩, T, _, rfl, ?_, ?_⟩ <;> unfold sm22 at *
    · rw [if_neg (by rw [c]; decide)] at z
      exact absurd (show (1 : Int) = 0 from z) (by decide)
    · rw [if_neg (by rw [c]; decide)]
      exact q1
    · rw [if_neg (by rw [c]; decide)]
      exact q2
  · obtain ⟨q1, q2⟩ := h.co0 q
    exact mQl.mk (by unfold sm22; rw [if_pos c]) q1 q2
theorem lm23 (h : MI x S) (hA : AI x) (rb : R32 b) (rd : R32 d) : zX9_play [vr 0, vi a, vi b, vi d] (zm S L) (mQi (sm23 x a b d)) X := by
  apply oX9_play
  rw [h.now, h.1.1]
  refine ⟨rb, rd, h.mI hA, fun T c q => ?_, fun T c q => ⟨fun z => ?_, fun z => ?_⟩⟩
  · obtain ⟨q1, q2⟩ := h.co q
    exact mQi.no rfl c q1 q2
  · obtain ⟨q1, q2⟩ := h.co q
    exact mQi.mk (by unfold sm23; rw [c, if_pos z]) q1 q2
  · obtain ⟨q1, q2⟩ := h.co q
    exact mQi.mk (by unfold sm23; rw [c, if_neg z]) q1 q2
theorem lm04 (h : MI x S) : zX9_fault [vr 0] (zm S L) (mQi (sm4 x)) X := by
  apply oX9_fault
  obtain ⟨q1, q2⟩ := h.up0 0
  rw [h.2.1.2.2]
  exact mQi.mk rfl q1 q2
theorem lm05 (h : MI x S) (ra : R32 a) (rb : R32 b) (rd : R32 d) : zX9_look [vr 0, vi a, vi b, vi d] (zm S L) (mQi (sm5 x a b d)) X := by
  apply oX9_look
  obtain ⟨q1, q2⟩ := h.up0 (lkT a b d)
  refine ⟨ra, rb, rd, ?_⟩
  rw [h.1.1]
  exact mQi.mk rfl q1 q2
theorem lm26 (h : MI x S) (ra : R32 a) : zX9_count [vr 0, vi a] (zm S L) (mQi (sm26 x a)) X := by
  apply oX9_count
  obtain ⟨q1, q2⟩ := h.up0 0
  refine ⟨ra, ?_⟩
  rw [h.1.1]
  exact mQi.mk rfl q1 q2
end
