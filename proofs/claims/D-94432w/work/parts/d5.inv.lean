/-! ===== the component's memory is as the plain words tell ===== -/
set_option maxRecDepth 100000
/-- the list of rules hl with its row e, its rules clear of av too -/
def rlX (hl e m top av : Nat) (f : Nat → Nat × Nat) (S : Nat → Nat → Int) (P : Nat → Nat → Option Nat) (rs : List (Fc → Option Int)) : Prop :=
  2000 ≤ top ∧ S hl 2 = (rs.length : Int) ∧ rs.length ≤ 6 ∧ P hl 1 = some e ∧ rs.length ≤ m ∧ (m = 0 ∨ 10 ≤ m) ∧ m ≤ 1000 ∧ ((e = 1300 ∧ m = 0) ∨ (inR 2000 top e ∧ e ≠ hl ∧ f e = (7, m) ∧ 0 < m)) ∧
    ∃ l : List Nat, l.length = rs.length ∧ ∀ (i x : Nat) (r : Fc → Option Int), l[i]? = some x → rs[i]? = some r → P e i = some x ∧ ∃ lo hi : Nat, 2000 ≤ lo ∧ hi ≤ top ∧ (hl < lo ∨ hi ≤ hl) ∧ (e < lo ∨ hi ≤ e) ∧ (av < lo ∨ hi ≤ av) ∧ ruT lo hi f S P x r
/-- the image's world at g, of the row v; e is the row of the list of the world that is now -/
def imC (g e' m' top e : Nat) (f : Nat → Nat × Nat) (S : Nat → Nat → Int) (P : Nat → Nat → Option Nat) (v : Nat → Int) (rs : List (Fc → Option Int)) : Prop :=
  (2000 ≤ g ∧ g + 26 ≤ top) ∧ (e = 1300 ∨ (e ≠ e' ∧ ¬ (g ≤ e ∧ e < g + 26))) ∧ (f g = (1, 1) ∧ wSh f P g 100) ∧ (drW S g v ∧ S g 0 = v 192 ∧ S g 4 = v 197 ∧ S g 5 = v 198 ∧ v 193 = (rs.length : Int)) ∧ (rlX (g + 2) e' m' top e f S P rs ∧ ruR v rs) ∧ (∀ p, p < 2 → S (g + 3) p = v (199 + p)) ∧ xE (cx S (g + 4)) (nwW v) ∧ scb (cx S (g + 4))
/-- the component's memory is as x tells -/
def CI (x : aS) (f : Nat → Nat × Nat) (S : Nat → Nat → Int) (P : Nat → Nat → Option Nat) (top : Nat) : Prop :=
  ∃ (rs : List (Fc → Option Int)) (e m : Nat), cO f S P x.1 rs top ∧ rlG 202 e m top f S P rs ∧ (frF f top ∧ (∀ h, h < 100 → h ≠ 51 → (f h).1 = 0) ∧ f 51 = (3, 1)) ∧ (S 101 1 = (x.2.2.2.2.1 : Int) ∧ ∀ k, k < x.2.2.2.2.1 → S 102 k = cby (x.2.2.2.1 k)) ∧ S 101 5 = x.2.2.2.2.2 ∧ ((x.2.2.1 = 0 ∧ P 100 1 = none) ∨ (x.2.2.1 = 1 ∧ ∃ (g e' m' : Nat) (rs' : List (Fc → Option Int)), P 100 1 = some g ∧ imC g e' m' top e f S P x.2.1 rs'))
theorem rlX.fr {hl e m top av u : Nat} {f f' : Nat → Nat × Nat} {S S' : Nat → Nat → Int} {P P' : Nat → Nat → Option Nat} {rs : List (Fc → Option Int)} (q : rlX hl e m top av f S P rs) (hu : top ≤ u) (e2 : S' hl 2 = S hl 2) (e1 : P' hl 1 = P hl 1) (a : ∀ h, 2000 ≤ h → h < top → h ≠ av → f' h = f h ∧ S' h = S h ∧ P' h = P h) (hav : av ≠ e ∨ av = 1300) : rlX hl e m u av f' S' P' rs := by
  obtain ⟨q1, q2, q3, q4, q5, q6, q7, q8, l, q9, q10⟩ := q
  have he : (e = 1300 ∧ m = 0) ∨ (f' e = f e ∧ P' e = P e) := by
    rcases q8 with c | ⟨c1, c2, c3, c4⟩
    · exact Or.inl c
    · obtain ⟨z1, -, z3⟩ := a e c1.2.1 c1.2.2 (by have := c1.2.1; omega)
      exact Or.inr ⟨z1, z3⟩
  refine ⟨by omega, e2.trans q2, q3, e1.trans q4, q5, q6, q7, ?_, l, q9, fun i x r h1 h2 => ?_⟩
  · rcases q8 with c | ⟨c1, c2, c3, c4⟩
    · exact Or.inl c
    · refine Or.inr ⟨⟨c1.1, c1.2.1, by have := c1.2.2; omega⟩, c2, ?_, c4⟩
      rcases he with ⟨-, z⟩ | ⟨z, -⟩
      · omega
      · rw [z]; exact c3
  · obtain ⟨p1, lo, hi, p2, p3, p4, p5, p6, p7⟩ := q10 i x r h1 h2
    refine ⟨?_, lo, hi, p2, by omega, p4, p5, p6, p7.fr (fun h a1 a2 => a h (by omega) (by omega) (by omega))⟩
    rcases he with ⟨-, z⟩ | ⟨-, z⟩
    · have : i < l.length := (List.getElem?_eq_some_iff.mp h1).1
      omega
    · rw [z]; exact p1
/-- the image is left alone by what leaves its places alone -/
theorem imC.fr {g e' m' top e u : Nat} {f f' : Nat → Nat × Nat} {S S' : Nat → Nat → Int} {P P' : Nat → Nat → Option Nat} {v : Nat → Int} {rs : List (Fc → Option Int)} (q : imC g e' m' top e f S P v rs) (hu : top ≤ u) (a : ∀ h, 2000 ≤ h → h < top → h ≠ e → f' h = f h ∧ S' h = S h ∧ P' h = P h) : imC g e' m' u e f' S' P' v rs := by
  obtain ⟨⟨q1, q2⟩, q3, ⟨q4, q5⟩, ⟨q6, q7, q8, q9, q10⟩, ⟨q11, q12⟩, q13, q14, q15⟩ := q
  have ag : ∀ h, g ≤ h → h ≤ g + 25 → f' h = f h ∧ S' h = S h ∧ P' h = P h := fun h h1 h2 => a h (by omega) (by omega) (by omega)
  have ecx : cx S' (g + 4) = cx S (g + 4) := cx_eqS fun j h1 h2 => (ag j (by omega) (by omega)).2.1
  refine ⟨⟨q1, by omega⟩, q3, ⟨by rw [(ag g (by omega) (by omega)).1]; exact q4, q5.fr fun j h1 h2 => ⟨(ag j h1 h2).1, (ag j h1 h2).2.2⟩⟩, ?_, ⟨q11.fr hu (by rw [(ag (g + 2) (by omega) (by omega)).2.1]) (by rw [(ag (g + 2) (by omega) (by omega)).2.2]) a (by omega), q12⟩, fun p hp => by rw [(ag (g + 3) (by omega) (by omega)).2.1]; exact q13 p hp, by rw [ecx]; exact q14, by rw [ecx]; exact q15⟩
  rw [(ag g (by omega) (by omega)).2.1]
  refine ⟨?_, q7, q8, q9, q10⟩
  obtain ⟨w1, w2, w3, w4⟩ := q6
  unfold drW
  rw [(ag g (by omega) (by omega)).2.1]
  exact ⟨fun i k hi hk => by rw [(ag (g + 10 + i) (by omega) (by omega)).2.1]; exact w1 i k hi hk, w2, w3, w4⟩
/-- behind what only works -/
theorem CI.z {x : aS} {f : Nat → Nat × Nat} {S S' : Nat → Nat → Int} {P P' : Nat → Nat → Option Nat} {top : Nat} (C : CI x f S P top) (z : cZ S P x.1 S' P') : CI x f S' P' top := by
  obtain ⟨rs, e, m, c1, c2, c3, ⟨c4, c5⟩, c6, c7⟩ := C
  have oS : ∀ h k, ¬ (103 ≤ h ∧ h ≤ 140) → ¬ (h = 100 ∧ k = 8) → S' h k = S h k := fun h k h1 h2 => sck_t z.1.1 h1 h2
  have oP : ∀ h k, ¬ (h = 103 ∨ h = 116 ∨ h = 120 ∨ h = 124) → P' h k = P h k := fun h k h1 => z.1.2 h k (by
    unfold spk
    have b : ∀ c : Nat, h ≠ c → Nat.beq h c = false := fun c hc => by
      cases e : Nat.beq h c with
      | false => rfl
      | true => exact absurd (Nat.eq_of_beq_eq_true e) hc
    rw [b 103 (by omega), b 116 (by omega), b 120 (by omega), b 124 (by omega)]
    rfl)
  have ag : ∀ h, 2000 ≤ h → f h = f h ∧ S' h = S h ∧ P' h = P h := fun h hh => ⟨rfl, funext fun k => oS h k (by omega) (by omega), funext fun k => oP h k (by omega)⟩
  refine ⟨rs, e, m, c1.z z, c2.fr (Nat.le_refl _) (oS 202 2 (by omega) (by omega)) (oP 202 1 (by omega)) (fun h h1 _ => ag h h1), c3, ⟨(oS 101 1 (by omega) (by omega)).trans c4, fun k hk => (oS 102 k (by omega) (by omega)).trans (c5 k hk)⟩, (oS 101 5 (by omega) (by omega)).trans c6, ?_⟩
  rw [oP 100 1 (by omega)]
  refine c7.imp id (fun ⟨h1, g, e', m', rs', h2, h3⟩ => ⟨h1, g, e', m', rs', h2, h3.fr (Nat.le_refl _) (fun h a _ _ => ag h a)⟩)
/-! what a call's end tells -/
def eQ (y : Int × Int × aS) : Option zv → zz_M → Prop := fun r M' => y.1 = 0 ∧ r = some (vi y.2.1) ∧ ∃ f' S' L' P' top', M' = ((2, f'), S', L', P') ∧ CI y.2.2 f' S' P' top'
def eX (l : List (Nat × Int)) (y : Int × Int × aS) : Nat → zz_M → Prop := fun i M' => (i, y.1) ∈ l ∧ ∃ f' S' L' P' top', M' = ((2, f'), S', L', P') ∧ CI y.2.2 f' S' P' top'
def cQ (y : Int × Int × aS) : Option zv → zz_M → Prop := fun r M' => r = some (vi y.1) ∧ ∃ f' S' L' P' top', M' = ((2, f'), S', L', P') ∧ CI y.2.2 f' S' P' top' ∧ (y.1 = 0 → L' 51 0 = nz y.2.1)
theorem eQ.mk {y : Int × Int × aS} {v : Int} {x' : aS} {f : Nat → Nat × Nat} {S L : Nat → Nat → Int} {P : Nat → Nat → Option Nat} {top : Nat} (hy : y = (0, v, x')) (C : CI x' f S P top) : eQ y (some (vi v)) ((2, f), S, L, P) := by
  subst hy
  exact ⟨rfl, rfl, _, _, _, _, _, rfl, C⟩
theorem eX.mk {l : List (Nat × Int)} {i : Nat} {y : Int × Int × aS} {c v : Int} {x' : aS} {f : Nat → Nat × Nat} {S L : Nat → Nat → Int} {P : Nat → Nat → Option Nat} {top : Nat} (hy : y = (c, v, x')) (hi : (i, c) ∈ l) (C : CI x' f S P top) : eX l y i ((2, f), S, L, P) := by
  subst hy
  exact ⟨hi, _, _, _, _, _, rfl, C⟩
theorem CI.f51 {x : aS} {f : Nat → Nat × Nat} {S : Nat → Nat → Int} {P : Nat → Nat → Option Nat} {top : Nat} (C : CI x f S P top) : f 51 = (3, 1) := by
  obtain ⟨-, -, -, -, -, c, -⟩ := C
  exact c.2.2
