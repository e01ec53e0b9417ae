/-! ===== the model's calls that tell the row anew ===== -/
set_option maxRecDepth 100000
section
variable {x : aS} {S L : Nat → Nat → Int} {X : Nat → zz_M → Prop} {a b d e g : Int}
theorem MI.row (h : MI x S) (w' : Nat → Int) {T : Nat → Nat → Int} (o : ∀ p k, p ≠ 1 → p ≠ 6 → ¬ (p = 0 ∧ (k = 0 ∨ k = 17 ∨ k = 18)) → T p k = S p k) (e1 : ∀ k, T 1 k = w' k) (h6 : xG (T 6)) : MI (aN x w' x.2.2.2.2.1 x.2.2.2.2.2) T :=
  h.tell (y := aN x w' x.2.2.2.2.1 x.2.2.2.2.2) e1 (fun k => (o 2 k (by decide) (by decide) (by omega)).trans (h.r2 k)) (fun k => (o 4 k (by decide) (by decide) (by omega)).trans (h.r4 k)) ((o 0 3 (by decide) (by decide) (by omega)).trans h.2.1.1) ((o 0 6 (by decide) (by decide) (by omega)).trans h.2.1.2.1) ((o 0 10 (by decide) (by decide) (by omega)).trans h.2.1.2.2) (fun k => o 5 k (by decide) (by decide) (by omega)) (o 0 13 (by decide) (by decide) (by omega)) (o 0 14 (by decide) (by decide) (by omega)) h6
/-- as told, the scratch but -/
theorem MI.same (h : MI x S) {T : Nat → Nat → Int} (o : ∀ p k, p ≠ 6 → ¬ (p = 0 ∧ (k = 0 ∨ k = 17 ∨ k = 18)) → T p k = S p k) (h6 : xG (T 6)) : MI x T :=
  h.tell (fun k => (o 1 k (by decide) (by omega)).trans (h.r1 k)) (fun k => (o 2 k (by decide) (by omega)).trans (h.r2 k)) (fun k => (o 4 k (by decide) (by omega)).trans (h.r4 k)) ((o 0 3 (by decide) (by omega)).trans h.2.1.1) ((o 0 6 (by decide) (by omega)).trans h.2.1.2.1) ((o 0 10 (by decide) (by omega)).trans h.2.1.2.2) (fun k => o 5 k (by decide) (by omega)) (o 0 13 (by decide) (by omega)) (o 0 14 (by decide) (by omega)) h6
theorem AI.xg (hA : AI x) : xG (nwW x.1) := hA.1.2.1.1.xG hA.1.2.1.2 (by decide)
theorem lm06 (h : MI x S) (hA : AI x) (ra : R32 a) (rb : R32 b) : zX9_plays [vr 0, vi a, vi b] (zm S L) (mQi (sm6 x a b)) X := by
  apply oX9_plays
  rw [h.1.1]
  obtain ⟨r, hr, hr6, -⟩ := hA.1.2.2.2.1
  refine ⟨ra, rb, by omega, fun c => ?_, fun c => ?_⟩
  · obtain ⟨q1, q2⟩ := h.up0 1
    exact mQi.no (by unfold sm6; rw [if_pos c]) (by decide) q1 q2
  · have o : ∀ p k, p ≠ 1 → ¬ (p = 0 ∧ k = 0) → mm_up (mm_up S 0 0 0) 1 (199 + a).toNat b p k = S p k := fun p k h1 h2 => by rw [up_eq, if_neg (fun z => h1 z.1), up_eq, if_neg h2]
    refine mQi.mk (c := 0) (by unfold sm6; rw [if_neg (by rw [c]; decide)]) (h.row (fun k => if k = (199 + a).toNat then b else x.1 k) (fun p k h1 h2 h3 => o p k h1 (by omega)) (fun k => ?_) ?_) ?_
    · rw [up_eq]
      by_cases c1 : k = (199 + a).toNat
      · rw [if_pos ⟨rfl, c1⟩, if_pos c1]
      · rw [if_neg (fun z => c1 z.2), if_neg c1, up_eq, if_neg (by omega)]
        exact h.r1 k
    · rw [show mm_up (mm_up S 0 0 0) 1 (199 + a).toNat b 6 = S 6 from funext fun k => o 6 k (by decide) (by omega)]
      exact h.2.2.2
    · rw [up_eq, if_neg (by omega), up_eq, if_pos ⟨rfl, rfl⟩]
theorem lm07 (h : MI x S) (hA : AI x) (ra : R32 a) : zX9_style [vr 0, vi a] (zm S L) (mQi (sm7 x a)) X := by
  apply oX9_style
  have en := h.now
  unfold nwX at en
  rw [en, h.1.1]
  refine ⟨ra, hA.xg.1, hA.1.plG, h.2.2.1, by rw [h.2.1.2.2]; exact hA.2.2.2, fun c => ?_, fun c T q => ?_⟩
  · obtain ⟨q1, q2⟩ := h.up0 1
    exact mQi.no (by unfold sm7; rw [if_neg c]) (by decide) q1 q2
  · have o : ∀ p k, p ≠ 6 → ¬ (p = 0 ∧ k = 0) → tkS (mm_up S 0 0 0) p k = S p k := fun p k h1 h2 => by
      rw [tkS_at, if_neg (fun z => h1 z.1), up_eq, if_neg h2]
    obtain ⟨q1, q2⟩ := MI.sc (y := x) q (fun k => (o 1 k (by decide) (by omega)).trans (h.r1 k)) (fun k => (o 2 k (by decide) (by omega)).trans (h.r2 k)) (fun k => (o 4 k (by decide) (by omega)).trans (h.r4 k)) ((o 0 3 (by decide) (by omega)).trans h.2.1.1) ((o 0 6 (by decide) (by omega)).trans h.2.1.2.1) ((o 0 10 (by decide) (by omega)).trans h.2.1.2.2) (by
      have := (h.up0 0).1.now
      unfold nwX at this
      rw [this]
      exact hA.xg)
    exact mQi.mk (by unfold sm7; rw [if_pos c]) q1 (q2.trans (by rw [tkS_at, if_neg (by omega), up_eq, if_pos ⟨rfl, rfl⟩]))
theorem lm08 (h : MI x S) (ra : R32 a) (rb : R32 b) (rd : R32 d) : zX9_score [vr 0, vi a, vi b, vi d] (zm S L) (mQv (sm8 x a b d)) X := by
  apply oX9_score
  refine ⟨ra, rb, rd, fun c => ?_, fun c c2 => ?_, fun c c2 => ?_⟩
  · obtain ⟨q1, q2⟩ := h.up0 1
    exact mQv.mk (by unfold sm8; rw [if_pos c]) q1 q2
  · obtain ⟨q1, q2⟩ := h.up0 2
    exact mQv.mk (by unfold sm8; rw [if_neg (fun z => z c), if_pos c2]) q1 q2
  · have o : ∀ p k, p ≠ 1 → ¬ (p = 0 ∧ k = 0) → scS S a b d p k = S p k := fun p k h1 h2 => by
      unfold scS
      rw [up_eq, if_neg (fun z => h1 z.1), up_eq, if_neg (fun z => h1 z.1), up_eq, if_neg (fun z => h1 z.1), up_eq, if_neg (fun z => h1 z.1), up_eq, if_neg (fun z => h1 z.1), up_eq, if_neg h2]
    refine mQv.mk (c := 0) (by unfold sm8; rw [if_neg (fun z => z c), if_neg (fun z => z c2)]) (h.row (scW x.1 a b d) (fun p k h1 h2 h3 => o p k h1 (by omega)) (fun k => ?_) ?_) ?_
    · unfold scS scW
      rw [up_eq, up_eq, up_eq, up_eq, up_eq, up_eq, h.r1 k]
      simp
    · rw [show scS S a b d 6 = S 6 from funext fun k => o 6 k (by decide) (by omega)]
      exact h.2.2.2
    · unfold scS
      rw [up_eq, if_neg (by omega), up_eq, if_neg (by omega), up_eq, if_neg (by omega), up_eq, if_neg (by omega), up_eq, if_neg (by omega), up_eq, if_pos ⟨rfl, rfl⟩]
theorem lm09 (h : MI x S) (ra : R32 a) (rb : R32 b) : zX9_games [vr 0, vi a, vi b] (zm S L) (mQv (sm9 x a b)) X := by
  apply oX9_games
  refine ⟨ra, rb, fun c => ?_, fun c => ?_⟩
  · obtain ⟨q1, q2⟩ := h.up0 1
    exact mQv.mk (by unfold sm9; rw [if_neg c]) q1 q2
  · have o : ∀ p k, p ≠ 1 → ¬ (p = 0 ∧ k = 0) → mm_up (mm_up (mm_up S 0 0 0) 1 208 a) 1 209 b p k = S p k := fun p k h1 h2 => by
      rw [up_eq, if_neg (fun z => h1 z.1), up_eq, if_neg (fun z => h1 z.1), up_eq, if_neg h2]
    refine mQv.mk (c := 0) (by unfold sm9; rw [if_pos c]) (h.row (fun k => if k = 209 then b else if k = 208 then a else x.1 k) (fun p k h1 h2 h3 => o p k h1 (by omega)) (fun k => ?_) ?_) ?_
    · rw [up_eq, up_eq, up_eq, h.r1 k]
      simp
    · rw [show mm_up (mm_up (mm_up S 0 0 0) 1 208 a) 1 209 b 6 = S 6 from funext fun k => o 6 k (by decide) (by omega)]
      exact h.2.2.2
    · rw [up_eq, if_neg (by omega), up_eq, if_neg (by omega), up_eq, if_pos ⟨rfl, rfl⟩]
theorem lm10 (h : MI x S) (ra : R32 a) (rb : R32 b) : zX9_begin [vr 0, vi a, vi b] (zm S L) (mQv (sm10 x a b)) X := by
  apply oX9_begin
  refine ⟨ra, rb, fun c => ?_, fun c => ?_⟩
  · obtain ⟨q1, q2⟩ := h.up0 1
    exact mQv.mk (by unfold sm10; rw [if_neg c]) q1 q2
  · have o : ∀ p k, p ≠ 1 → ¬ (p = 0 ∧ k = 0) → mm_up (mm_up (mm_up S 0 0 0) 1 197 a) 1 198 b p k = S p k := fun p k h1 h2 => by
      rw [up_eq, if_neg (fun z => h1 z.1), up_eq, if_neg (fun z => h1 z.1), up_eq, if_neg h2]
    refine mQv.mk (c := 0) (by unfold sm10; rw [if_pos c]) (h.row (fun k => if k = 198 then b else if k = 197 then a else x.1 k) (fun p k h1 h2 h3 => o p k h1 (by omega)) (fun k => ?_) ?_) ?_
    · rw [up_eq, up_eq, up_eq, h.r1 k]
      simp
    · rw [show mm_up (mm_up (mm_up S 0 0 0) 1 197 a) 1 198 b 6 = S 6 from funext fun k => o 6 k (by decide) (by omega)]
      exact h.2.2.2
    · rw [up_eq, if_neg (by omega), up_eq, if_neg (by omega), up_eq, if_pos ⟨rfl, rfl⟩]
theorem lm11 (h : MI x S) (hA : AI x) (ra : R32 a) : zX9_stands [vr 0, vi a] (zm S L) (mQi (sm11 x a)) X := by
  apply oX9_stands
  have en := h.now
  unfold nwX at en
  rw [en]
  refine ⟨ra, hA.xg.1.bx, fun c => ?_, fun c => ?_⟩
  · obtain ⟨q1, q2⟩ := h.up0 1
    exact mQi.no (by unfold sm11; rw [if_neg c]) (by decide) q1 q2
  · refine mQi.mk (c := 0) (by unfold sm11; rw [if_pos c]) (h.same (fun p k h1 h2 => by rw [tkS_at, if_neg (fun z => h1 z.1), up_eq, if_neg (by omega)]) ?_) (by rw [tkS_at, if_neg (by omega), up_eq, if_pos ⟨rfl, rfl⟩])
    have := (h.up0 0).1.now
    unfold nwX at this
    rw [this]
    exact hA.xg
/-- taken from the row, and what was thrown -/
theorem MI.tk0 (h : MI x S) (hA : AI x) (c : Int) : MI x (mm_up (tkS S) 0 0 c) ∧ mm_up (tkS S) 0 0 c 0 0 = c := by
  refine ⟨h.same (fun p k h1 h2 => by rw [up_eq, if_neg (by omega), tkS_at, if_neg (fun z => h1 z.1)]) ?_, by rw [up_eq, if_pos ⟨rfl, rfl⟩]⟩
  have e : mm_up (tkS S) 0 0 c 6 = nwW x.1 := by
    funext k
    rw [up_eq, if_neg (by omega)]
    exact congrFun h.now k
  rw [e]
  exact hA.xg
/-- a score worked with is put into the row -/
theorem MI.put (h : MI x S) (hA : AI x) {y : Nat → Int} (hy : xG y) (wn pf : Int) : MI (aN x (wpt x.1 y) x.2.2.2.2.1 x.2.2.2.2.2) (ptS (sx (mm_up (tkS S) 0 0 0) y wn pf)) ∧ ptS (sx (mm_up (tkS S) 0 0 0) y wn pf) 0 0 = 0 := by
  have o : ∀ p k, p ≠ 1 → p ≠ 6 → ¬ (p = 0 ∧ (k = 0 ∨ k = 17 ∨ k = 18)) → ptS (sx (mm_up (tkS S) 0 0 0) y wn pf) p k = S p k := fun p k h1 h2 h3 => by
    unfold ptS sx
    rw [if_neg (by omega), if_neg h2, if_neg (by omega), if_neg (by omega), up_eq, if_neg (by omega), tkS_at, if_neg (fun z => h2 z.1)]
  refine ⟨h.row (wpt x.1 y) o (fun k => ?_) ?_, ?_⟩
  · unfold ptS sx wpt
    by_cases c : 201 ≤ k ∧ k < 210
    · rw [if_pos ⟨rfl, c⟩, if_pos c, if_pos rfl]
    · rw [if_neg (fun z => c z.2), if_neg c, if_neg (by decide), if_neg (by omega), if_neg (by omega), up_eq, if_neg (by omega), tkS_at, if_neg (by omega)]
      exact h.r1 k
  · have e : ptS (sx (mm_up (tkS S) 0 0 0) y wn pf) 6 = y := by
      funext k
      unfold ptS sx
      rw [if_neg (by omega), if_pos rfl]
    rw [e]
    exact hy
  · unfold ptS sx
    rw [if_neg (by omega), if_neg (by omega), if_neg (by omega), if_neg (by omega), up_eq, if_pos ⟨rfl, rfl⟩]
theorem lm12 (h : MI x S) (hA : AI x) (ra : R32 a) (rb : R32 b) : zX9_rally [vr 0, vi a, vi b] (zm S L) (mQi (sm12 x a b)) X := by
  apply oX9_rally
  have en := h.now
  unfold nwX at en
  have hV := hA.1.2.1.1
  have hB := hA.1.2.1.2
  have hw := hA.1.1.1.2.1
  have ers : raS S (raH a b) = ptS (sx (mm_up (tkS S) 0 0 0) (rlR x.1 (nwW x.1) (raH a b)) (rlN (S 1) (tkS S 6) (raH a b)) (rlW (S 1) (tkS S 6) (raH a b))) := by
    unfold raS
    rw [en, h.1.1]
  rw [ers, en, h.1.1]
  refine ⟨ra, rb, hA.xg.1, hw.bw, hV.2.1, fun c => ?_, fun c => ?_⟩
  · obtain ⟨q1, q2⟩ := h.tk0 hA (raT x.1 (nwW x.1) a b)
    exact mQi.no (by unfold sm12; rw [if_neg c]) c q1 q2
  · have hx : xG (rlR x.1 (nwW x.1) (raH a b)) := by
      unfold raT at c
      have r0 : 0 ≤ raH a b ∧ raH a b ≤ 11 := by
        unfold raH
        split at c
        · exact absurd c (by decide)
        · split at c
          · exact absurd c (by decide)
          · split <;> omega
      exact (rlR_V hw hV r0.1 (by omega) (fun _ => r0.2)).xG (rlR_B (g := 6) hV hB r0.1 (by omega)) (by decide)
    obtain ⟨q1, q2⟩ := h.put hA hx (rlN x.1 (nwW x.1) (raH a b)) (rlW x.1 (nwW x.1) (raH a b))
    exact mQi.mk (c := 0) (by unfold sm12; rw [if_pos c]) q1 q2
theorem lm13 (h : MI x S) (hA : AI x) (ra : R32 a) : zX9_bisque [vr 0, vi a] (zm S L) (mQi (sm13 x a)) X := by
  apply oX9_bisque
  have en := h.now
  unfold nwX at en
  have hV := hA.1.2.1.1
  have hB := hA.1.2.1.2
  have hw := hA.1.1.1.2.1
  have ers : bqS S a.toNat = ptS (sx (mm_up (tkS S) 0 0 0) (bqR x.1 (nwW x.1) a.toNat) (if ptw (tkS S 6) a.toNat = true then (a.toNat : Int) else -1) a.toNat) := by
    unfold bqS
    rw [en, h.1.1]
  rw [ers, en, h.1.1]
  have put : bqT x.1 (nwW x.1) a = 0 → MI (aN x (wpt x.1 (bqR x.1 (nwW x.1) a.toNat)) x.2.2.2.2.1 x.2.2.2.2.2) (ptS (sx (mm_up (tkS S) 0 0 0) (bqR x.1 (nwW x.1) a.toNat) (if ptw (nwW x.1) a.toNat = true then (a.toNat : Int) else -1) a.toNat)) ∧ ptS (sx (mm_up (tkS S) 0 0 0) (bqR x.1 (nwW x.1) a.toNat) (if ptw (nwW x.1) a.toNat = true then (a.toNat : Int) else -1) a.toNat) 0 0 = 0 := fun c => by
    have p2 : a.toNat < 2 := by
      unfold bqT at c
      split at c
      · exact absurd c (by decide)
      · omega
    exact h.put hA ((bqR_V hw p2 hV).xG (bqR_B (g := 6) p2 hB) (by decide)) _ _
  refine ⟨ra, hA.xg.1, hw.bw, fun c => ?_, fun c => ⟨fun z => ?_, fun z => ?_⟩⟩
  · obtain ⟨q1, q2⟩ := h.tk0 hA (bqT x.1 (nwW x.1) a)
    exact mQi.no (by unfold sm13; rw [if_neg c]) c q1 q2
  · obtain ⟨q1, q2⟩ := put c
    exact mQi.mk (c := 0) (by unfold sm13; rw [if_pos c, if_pos z]) q1 q2
  · obtain ⟨q1, q2⟩ := put c
    exact mQi.mk (c := 0) (by unfold sm13; rw [if_pos c, if_neg (by rw [z]; decide)]) q1 q2
theorem lm24 (h : MI x S) (hA : AI x) : zX9_image [vr 0] (zm S L) (mQv (sm24 x)) X := by
  apply oX9_image
  have o : ∀ p k, p ≠ 2 → ¬ (p = 0 ∧ (k = 0 ∨ k = 3)) → imS S p k = S p k := fun p k h1 h2 => by
    unfold imS
    rw [if_neg (by omega), if_neg (by omega), if_neg (fun z => h1 z.1)]
  refine mQv.mk (c := 0) (x' := (x.1, x.1, 1, x.2.2.2.1, x.2.2.2.2.1, x.2.2.2.2.2)) rfl (h.tell (fun k => (o 1 k (by decide) (by omega)).trans (h.r1 k)) (fun k => ?_) (fun k => (o 4 k (by decide) (by omega)).trans (h.r4 k)) ?_ ((o 0 6 (by decide) (by omega)).trans h.2.1.2.1) ((o 0 10 (by decide) (by omega)).trans h.2.1.2.2) (fun k => o 5 k (by decide) (by omega)) (o 0 13 (by decide) (by omega)) (o 0 14 (by decide) (by omega)) ?_) ?_
  · show imS S 2 k = x.1 k
    unfold imS
    rw [if_neg (by omega), if_neg (by omega)]
    by_cases c : k < 2616
    · rw [if_pos ⟨rfl, c⟩]
      exact h.r1 k
    · rw [if_neg (fun z => c z.2), h.r2 k, hA.2.1.2 k (by omega), hA.1.2.2.2.2 k (by omega)]
  · unfold imS
    rw [if_neg (by omega), if_pos ⟨rfl, rfl⟩]
    rfl
  · rw [show imS S 6 = S 6 from funext fun k => o 6 k (by decide) (by omega)]
    exact h.2.2.2
  · unfold imS
    rw [if_pos ⟨rfl, rfl⟩]
theorem lm25 (h : MI x S) (hA : AI x) : zX9_back [vr 0] (zm S L) (mQi (sm25 x)) X := by
  apply oX9_back
  have h3 := h.2.1.1
  have hh := hA.2.1.1
  refine ⟨by omega, fun c => ?_, fun c => ?_⟩
  · obtain ⟨q1, q2⟩ := h.up0 0
    exact mQi.mk (by unfold sm25; rw [if_pos (by omega)]) q1 q2
  · have hv : WI x.2.1 := (hh.resolve_left (by omega)).2
    have o : ∀ p k, p ≠ 1 → ¬ (p = 0 ∧ k = 0) → bkS S p k = S p k := fun p k h1 h2 => by
      unfold bkS
      rw [if_neg h2, if_neg (fun z => h1 z.1)]
    refine mQi.mk (c := 0) (by unfold sm25; rw [if_neg (by omega)]) (h.row x.2.1 (fun p k h1 h2 h3 => o p k h1 (by omega)) (fun k => ?_) ?_) ?_
    · unfold bkS
      rw [if_neg (by omega)]
      by_cases c2 : k < 2616
      · rw [if_pos ⟨rfl, c2⟩]
        exact h.r2 k
      · rw [if_neg (fun z => c2 z.2), h.r1 k, hA.1.2.2.2.2 k (by omega), hA.2.1.2 k (by omega)]
    · rw [show bkS S 6 = S 6 from funext fun k => o 6 k (by decide) (by omega)]
      exact h.2.2.2
    · unfold bkS
      rw [if_pos ⟨rfl, rfl⟩]
end
