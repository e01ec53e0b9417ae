/-! ===== the model's calls that tell something anew ===== -/
set_option maxRecDepth 100000
theorem gdF.to {S T : Nat → Nat → Int} (h : gdF S) (e5 : ∀ k, T 5 k = S 5 k) (e13 : T 0 13 = S 0 13) (e14 : T 0 14 = S 0 14) : gdF T := by
  obtain ⟨g1, g2, g3⟩ := h
  refine ⟨fun k => ?_, by rw [e13]; exact g2, by rw [e14]; exact g3⟩
  have := g1 k
  unfold fcS at this ⊢
  rw [e5 k, e13, e14]
  exact this
/-- told anew: all places but those of the scratch are given -/
theorem MI.tell {x y : aS} {S T : Nat → Nat → Int} (h : MI x S) (e1 : ∀ k, T 1 k = y.1 k) (e2 : ∀ k, T 2 k = y.2.1 k) (e4 : ∀ k, T 4 k = y.2.2.2.1 k) (e3 : T 0 3 = y.2.2.1) (e6 : T 0 6 = y.2.2.2.2.1) (e10 : T 0 10 = y.2.2.2.2.2) (e5 : ∀ k, T 5 k = S 5 k) (e13 : T 0 13 = S 0 13) (e14 : T 0 14 = S 0 14) (hx : xG (T 6)) : MI y T :=
  ⟨⟨funext e1, funext e2, funext e4⟩, ⟨e3, e6, e10⟩, h.2.2.1.to e5 e13 e14, hx⟩
/-- the same behind a call that may write the scratch -/
theorem MI.sc {y : aS} {T U : Nat → Nat → Int} (q : sc T U) (e1 : ∀ k, T 1 k = y.1 k) (e2 : ∀ k, T 2 k = y.2.1 k) (e4 : ∀ k, T 4 k = y.2.2.2.1 k) (e3 : T 0 3 = y.2.2.1) (e6 : T 0 6 = y.2.2.2.2.1) (e10 : T 0 10 = y.2.2.2.2.2) (hx : xG (T 6)) : MI y U ∧ U 0 0 = T 0 0 := by
  have o : ∀ h k, ¬ (h = 3 ∨ h = 5 ∨ (h = 0 ∧ (k = 7 ∨ k = 8 ∨ k = 9 ∨ k = 11 ∨ k = 13 ∨ k = 14 ∨ k = 15))) → U h k = T h k := fun h k hh => q.1 h k (scr_f.mpr hh)
  have e66 : U 6 = T 6 := funext fun k => o 6 k (by omega)
  exact ⟨⟨⟨funext fun k => (o 1 k (by omega)).trans (e1 k), funext fun k => (o 2 k (by omega)).trans (e2 k), funext fun k => (o 4 k (by omega)).trans (e4 k)⟩, ⟨(o 0 3 (by omega)).trans e3, (o 0 6 (by omega)).trans e6, (o 0 10 (by omega)).trans e10⟩, q.2, by rw [e66]; exact hx⟩, o 0 0 (by omega)⟩
section
variable {x : aS} {S L : Nat → Nat → Int} {X : Nat → zz_M → Prop} {a b d e g : Int}
theorem MI.r1 (h : MI x S) (k : Nat) : S 1 k = x.1 k := congrFun h.1.1 k
theorem MI.r2 (h : MI x S) (k : Nat) : S 2 k = x.2.1 k := congrFun h.1.2.1 k
theorem MI.r4 (h : MI x S) (k : Nat) : S 4 k = x.2.2.2.1 k := congrFun h.1.2.2 k
theorem lm00 (h : MI x S) (hA : AI x) : zX9_feed [vr 0, vi a, vi b, vi d, vi e, vi g] (zm S L) (mQi (sm0 x a b d e g)) X := by
  apply oX9_feed
  refine ⟨x.2.2.2.2.1, h.2.1.2.1, hA.2.2.1.1, fun c => ?_, fun c => ?_⟩
  · obtain ⟨q1, q2⟩ := h.up0 0
    exact mQi.mk (by unfold sm0; rw [if_pos c]) q1 q2
  · have o : ∀ p q, ¬ (p = 0 ∧ (q = 6 ∨ q = 0)) → p ≠ 4 → fdS (mm_up S 0 0 0) x.2.2.2.2.1 20 (fdM a b d e g) p q = S p q := fun p q h1 h2 => by
      unfold fdS
      rw [if_neg (by omega), if_neg (by omega), up_eq, if_neg (by omega)]
    refine mQi.mk (c := 0) (x' := (x.1, x.2.1, x.2.2.1, fun j => if x.2.2.2.2.1 ≤ j ∧ j < x.2.2.2.2.1 + 20 then fdM a b d e g (j - x.2.2.2.2.1) else x.2.2.2.1 j, x.2.2.2.2.1 + 20, x.2.2.2.2.2)) (by unfold sm0; rw [if_neg (by omega)]) (h.tell (fun k => (o 1 k (by omega) (by decide)).trans (h.r1 k)) (fun k => (o 2 k (by omega) (by decide)).trans (h.r2 k)) (fun k => ?_) ((o 0 3 (by omega) (by decide)).trans h.2.1.1) ?_ ((o 0 10 (by omega) (by decide)).trans h.2.1.2.2) (fun k => o 5 k (by omega) (by decide)) (o 0 13 (by omega) (by decide)) (o 0 14 (by omega) (by decide)) ?_) ?_
    · show fdS (mm_up S 0 0 0) x.2.2.2.2.1 20 (fdM a b d e g) 4 k = if x.2.2.2.2.1 ≤ k ∧ k < x.2.2.2.2.1 + 20 then fdM a b d e g (k - x.2.2.2.2.1) else x.2.2.2.1 k
      unfold fdS
      rw [if_neg (by omega)]
      by_cases c2 : x.2.2.2.2.1 ≤ k ∧ k < x.2.2.2.2.1 + 20
      · rw [if_pos ⟨rfl, c2⟩, if_pos c2]
      · rw [if_neg (fun z => c2 z.2), if_neg c2, up_eq, if_neg (by omega)]
        exact h.r4 k
    · unfold fdS
      rw [if_pos ⟨rfl, rfl⟩]
    · rw [show fdS (mm_up S 0 0 0) x.2.2.2.2.1 20 (fdM a b d e g) 6 = S 6 from funext fun k => o 6 k (by omega) (by decide)]
      exact h.2.2.2
    · unfold fdS
      rw [if_neg (by omega), if_neg (by omega), up_eq, if_pos ⟨rfl, rfl⟩]
theorem lm01 (h : MI x S) (hA : AI x) (ra : R32 a) : zX9_end [vr 0, vi a] (zm S L) (mQi (sm1 x a)) X := by
  apply oX9_end
  rw [h.2.1.2.1]
  have hn := hA.2.2.1.1
  refine ⟨ra, by omega, fun c => ?_, fun c => ?_⟩
  · obtain ⟨q1, q2⟩ := h.up0 0
    exact mQi.mk (by unfold sm1; rw [if_neg c]) q1 q2
  · have o : ∀ p q, ¬ (p = 0 ∧ (q = 6 ∨ q = 0)) → mm_up (mm_up S 0 0 0) 0 6 a p q = S p q := fun p q h1 => by rw [up_eq, if_neg (by omega), up_eq, if_neg (by omega)]
    refine mQi.mk (c := 0) (x' := aN x x.1 a.toNat x.2.2.2.2.2) (by unfold sm1; rw [if_pos c]) (h.tell (fun k => (o 1 k (by omega)).trans (h.r1 k)) (fun k => (o 2 k (by omega)).trans (h.r2 k)) (fun k => (o 4 k (by omega)).trans (h.r4 k)) ((o 0 3 (by omega)).trans h.2.1.1) ?_ ((o 0 10 (by omega)).trans h.2.1.2.2) (fun k => o 5 k (by omega)) (o 0 13 (by omega)) (o 0 14 (by omega)) ?_) ?_
    · rw [up_eq, if_pos ⟨rfl, rfl⟩]
      show a = ((a.toNat : Nat) : Int)
      omega
    · rw [show mm_up (mm_up S 0 0 0) 0 6 a 6 = S 6 from funext fun k => o 6 k (by omega)]
      exact h.2.2.2
    · rw [up_eq, if_neg (by omega), up_eq, if_pos ⟨rfl, rfl⟩]
/-- the reader's end: thrown t, no tape, the fault -/
theorem ctS_o (t f : Int) {p q : Nat} (h1 : ¬ (p = 0 ∧ (q = 6 ∨ q = 0 ∨ q = 10))) : ctS S t f p q = S p q := by
  unfold ctS
  rw [up_eq, if_neg (by omega), up_eq, if_neg (by omega), up_eq, if_neg (by omega)]
theorem ctS_v (t f : Int) : ctS S t f 0 0 = t ∧ ctS S t f 0 6 = 0 ∧ ctS S t f 0 10 = f := by
  unfold ctS
  refine ⟨?_, ?_, ?_⟩
  · rw [up_eq, if_neg (by omega), up_eq, if_neg (by omega), up_eq, if_pos ⟨rfl, rfl⟩]
  · rw [up_eq, if_neg (by omega), up_eq, if_pos ⟨rfl, rfl⟩]
  · rw [up_eq, if_pos ⟨rfl, rfl⟩]
theorem MI.ct (h : MI x S) {t f : Int} {U : Nat → Nat → Int} (q : Jvm.Pilot.CChaseCourtLaw_law_r1587_f51dab.sc (ctS S t f) U) : MI (aN x x.1 0 f) U ∧ U 0 0 = t := by
  obtain ⟨v0, v6, v10⟩ := ctS_v (S := S) t f
  obtain ⟨q1, q2⟩ := MI.sc (y := aN x x.1 0 f) q (fun k => (ctS_o t f (by omega)).trans (h.r1 k)) (fun k => (ctS_o t f (by omega)).trans (h.r2 k)) (fun k => (ctS_o t f (by omega)).trans (h.r4 k)) ((ctS_o t f (by omega)).trans h.2.1.1) v6 v10 (by
    rw [show ctS S t f 6 = S 6 from funext fun k => ctS_o t f (by omega)]
    exact h.2.2.2)
  exact ⟨q1, q2.trans v0⟩
theorem lm02 (h : MI x S) (hA : AI x) : zX9_court [vr 0] (zm S L) (mQi (sm2 x)) X := by
  apply oX9_court
  rw [h.1.1, h.1.2.2]
  refine ⟨x.2.2.2.2.1, h.2.1.2.1, hA.2.2.1.1, fun k hk => hA.2.2.1.2 k (by have := hA.2.2.1.1; omega), hA.1.1.1.1, hA.1.2.2.1, h.2.2.1, fun w c U q => ?_, fun r c => ⟨fun c2 U q => ?_, fun c2 U q => ?_⟩⟩
  · obtain ⟨q1, q2⟩ := h.ct q
    exact mQi.no (by unfold sm2; rw [c]) (by decide) q1 q2
  · obtain ⟨q1, q2⟩ := h.ct q
    exact mQi.no (by unfold sm2; rw [c]; exact if_pos c2) (by decide) q1 q2
  · obtain ⟨v0, v6, v10⟩ := ctS_v (S := S) 0 (-1)
    have o : ∀ p k, p ≠ 1 → rowS (ctS S 0 (-1)) (fun k => if k = 192 then x.1 192 + 1 else r k) p k = ctS S 0 (-1) p k := fun p k hp => if_neg hp
    obtain ⟨q1, q2⟩ := MI.sc (y := aN x (fun k => if k = 192 then x.1 192 + 1 else r k) 0 (-1)) q (fun k => if_pos rfl) (fun k => (o 2 k (by decide)).trans ((ctS_o 0 (-1) (by omega)).trans (h.r2 k))) (fun k => (o 4 k (by decide)).trans ((ctS_o 0 (-1) (by omega)).trans (h.r4 k))) ((o 0 3 (by decide)).trans ((ctS_o 0 (-1) (by omega)).trans h.2.1.1)) ((o 0 6 (by decide)).trans v6) ((o 0 10 (by decide)).trans v10) (by
      rw [show rowS (ctS S 0 (-1)) (fun k => if k = 192 then x.1 192 + 1 else r k) 6 = S 6 from funext fun k => (o 6 k (by decide)).trans (ctS_o 0 (-1) (by omega))]
      exact h.2.2.2)
    exact mQi.mk (by unfold sm2; rw [c]; exact if_neg (by omega)) q1 (q2.trans ((o 0 0 (by decide)).trans v0))
theorem lm03 (h : MI x S) (hA : AI x) : zX9_rule [vr 0] (zm S L) (mQi (sm3 x)) X := by
  apply oX9_rule
  rw [h.1.2.2]
  have e193 := h.r1 193
  rw [e193]
  obtain ⟨r, hr, hr6, -⟩ := hA.1.2.2.2.1
  refine ⟨x.2.2.2.2.1, h.2.1.2.1, hA.2.2.1.1, fun k hk => hA.2.2.1.2 k (by have := hA.2.2.1.1; omega), by omega, h.2.2.1, fun w c U q => ?_, fun c c1 => ⟨fun c2 U q => ?_, fun c2 U q => ?_⟩⟩
  · obtain ⟨q1, q2⟩ := h.ct (t := 1) (f := w) q
    exact mQi.no (by unfold sm3; rw [c]) (by decide) q1 q2
  · obtain ⟨q1, q2⟩ := h.ct (t := 2) (f := -1) q
    exact mQi.no (by unfold sm3; rw [c1]; exact if_pos c2) (by decide) q1 q2
  · have o : ∀ p k, p ≠ 1 → ¬ (p = 0 ∧ (k = 6 ∨ k = 0 ∨ k = 10)) → mm_up (ruS S x.2.2.2.2.1 x.2.2.2.2.1) 1 193 (x.1 193 + 1) p k = S p k := fun p k hp hk => by
      rw [up_eq, if_neg (fun z => hp z.1)]
      unfold ruS
      rw [if_neg (fun z => hp z.1), if_neg (fun z => hp z.1), if_neg (by omega), if_neg (by omega), if_neg (by omega)]
    have z : ∀ k, mm_up (ruS S x.2.2.2.2.1 x.2.2.2.2.1) 1 193 (x.1 193 + 1) 0 k = if k = 0 then 0 else if k = 6 then 0 else if k = 10 then -1 else S 0 k := fun k => by
      rw [up_eq, if_neg (by omega)]
      unfold ruS
      rw [if_neg (by omega), if_neg (by omega)]
      by_cases k0 : k = 0
      · rw [if_pos ⟨rfl, k0⟩, if_pos k0]
      · rw [if_neg (fun z => k0 z.2), if_neg k0]
        by_cases k6 : k = 6
        · rw [if_pos ⟨rfl, k6⟩, if_pos k6]
        · rw [if_neg (fun z => k6 z.2), if_neg k6]
          by_cases k10 : k = 10
          · rw [if_pos ⟨rfl, k10⟩, if_pos k10]
          · rw [if_neg (fun z => k10 z.2), if_neg k10]
    have hrow : ∀ k, mm_up (ruS S x.2.2.2.2.1 x.2.2.2.2.1) 1 193 (x.1 193 + 1) 1 k = ruW x.1 x.2.2.2.1 x.2.2.2.2.1 k := fun k => by
      rw [up_eq]
      unfold ruS ruW
      rw [e193]
      by_cases k1 : k = 193
      · rw [if_pos ⟨rfl, k1⟩, if_pos k1]
      · rw [if_neg (fun z => k1 z.2), if_neg k1]
        by_cases k2 : k = 210 + 401 * (x.1 193).toNat
        · rw [if_pos ⟨rfl, k2⟩, if_pos k2]
        · rw [if_neg (fun z => k2 z.2), if_neg k2]
          by_cases k3 : 211 + 401 * (x.1 193).toNat ≤ k ∧ k < 211 + 401 * (x.1 193).toNat + x.2.2.2.2.1
          · rw [if_pos ⟨rfl, k3⟩, if_pos k3]
            exact h.r4 _
          · rw [if_neg (fun z => k3 z.2), if_neg k3, if_neg (by omega), if_neg (by omega), if_neg (by omega)]
            exact h.r1 k
    obtain ⟨q1, q2⟩ := MI.sc (y := aN x (ruW x.1 x.2.2.2.1 x.2.2.2.2.1) 0 (-1)) q hrow (fun k => (o 2 k (by decide) (by omega)).trans (h.r2 k)) (fun k => (o 4 k (by decide) (by omega)).trans (h.r4 k)) ((z 3).trans h.2.1.1) (z 6) (z 10) (by
      rw [show mm_up (ruS S x.2.2.2.2.1 x.2.2.2.2.1) 1 193 (x.1 193 + 1) 6 = S 6 from funext fun k => o 6 k (by decide) (by omega)]
      exact h.2.2.2)
    exact mQi.mk (by unfold sm3; rw [c1]; exact if_neg (by omega)) q1 (q2.trans (z 0))
end
