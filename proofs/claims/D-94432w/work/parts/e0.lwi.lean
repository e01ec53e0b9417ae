/-! ===== the law's memory: component and model as the plain words tell ===== -/
set_option maxRecDepth 100000
def fC (f : Nat → Nat × Nat) : Nat → Nat × Nat := fun h => if h < 51 then (0, 0) else f h
theorem fC_hi {f : Nat → Nat × Nat} {h : Nat} (e : 51 ≤ h) : fC f h = f h := if_neg (by omega)
theorem cs_f {h : Nat} (h1 : (100 ≤ h ∧ h ≤ 140) ∨ (200 ≤ h ∧ h ≤ 207) ∨ (210 ≤ h ∧ h ≤ 225)) : zfs 2 h = true ∧ (cS h).1 ≠ 0 := by
  have := (by decide +kernel : ∀ i : Fin 226, ((100 ≤ i.val ∧ i.val ≤ 140) ∨ (200 ≤ i.val ∧ i.val ≤ 207) ∨ (210 ≤ i.val ∧ i.val ≤ 225)) → zfs 2 i.val = true ∧ (cS i.val).1 ≠ 0) ⟨h, by omega⟩
  exact this h1
theorem rlG.fw {hl e m top : Nat} {f f' : Nat → Nat × Nat} {S S' : Nat → Nat → Int} {P P' : Nat → Nat → Option Nat} {rs : List (Fc → Option Int)} (q : rlG hl e m top f S P rs) (a : agW top 2000 top f S P f' S' P') (e2 : S' hl 2 = S hl 2) (e1 : P' hl 1 = P hl 1) : rlG hl e m top f' S' P' rs := by
  obtain ⟨q1, q2, q3, q4, q5, q6, q7, q8, l, q9, q10⟩ := q
  refine ⟨q1, e2.trans q2, q3, e1.trans q4, q5, q6, q7, ?_, l, q9, fun i x r b1 b2 => ?_⟩
  · rcases q8 with c | ⟨c1, c2, c3, c4⟩
    · exact Or.inl c
    · refine Or.inr ⟨c1, c2, ?_, c4⟩
      rw [(a e c1.2.1 c1.2.2 (by rw [c3]; exact Nat.succ_ne_zero 6)).1]
      exact c3
  · obtain ⟨p1, lo, hi, p2, p3, p4, p5, p7⟩ := q10 i x r b1 b2
    refine ⟨?_, lo, hi, p2, p3, p4, p5, p7.fw p3 (a.sub p2 p3)⟩
    have hx := p7.1.lt p3
    rcases q8 with ⟨-, z⟩ | ⟨c, -, c3, -⟩
    · have : i < l.length := (List.getElem?_eq_some_iff.mp b1).1
      omega
    · exact (a e c.2.1 c.2.2 (by rw [c3]; exact Nat.succ_ne_zero 6)).2.2.2 i x p1 (by omega)
/-- the component's part looks at what lives alone -/
theorem CI.lv {x : aS} {f2 f' : Nat → Nat × Nat} {S2 L2 S' : Nat → Nat → Int} {P2 P' : Nat → Nat → Option Nat} {top : Nat} (C : CI x f2 S2 P2 top) (a : ∀ h, 51 ≤ h → (f' h).1 = (zsh ((2, f2), S2, L2, P2) h).1 ∧ ((f' h).1 ≠ 0 → f' h = zsh ((2, f2), S2, L2, P2) h ∧ ((h < 1000 ∨ 1400 ≤ h) → S' h = S2 h) ∧ P' h = zpt ((2, f2), S2, L2, P2) h)) : CI x (fC f') S' P' top := by
  obtain ⟨rs, e, m, ⟨c11, c12, c13, ⟨c14, c15, c16⟩, c17, c18, c19, c20⟩, c2, c3, c4, c5, c6⟩ := C
  have t2 := c2.1
  have F := fun (h : Nat) (h1 : (100 ≤ h ∧ h ≤ 140) ∨ (200 ≤ h ∧ h ≤ 207) ∨ (210 ≤ h ∧ h ≤ 225)) => (by
    obtain ⟨e1, e2⟩ := cs_f h1
    obtain ⟨a1, a2⟩ := a h (by omega)
    have ez : zsh ((2, f2), S2, L2, P2) h = cS h := by rw [zsh_d (Or.inl rfl), e1]; rfl
    rw [ez] at a1
    have := a2 (by rw [a1]; exact e2)
    exact ⟨this.2.1 (by omega), this.2.2⟩ : S' h = S2 h ∧ P' h = zpt ((2, f2), S2, L2, P2) h)
  have aW : agW top 2000 top f2 S2 P2 (fC f') S' P' := by
    intro h h1 h2 h3
    obtain ⟨a1, a2⟩ := a h (by omega)
    rw [zsh_hi h1] at a1 a2
    obtain ⟨b1, b2, b3⟩ := a2 (by rw [a1]; exact h3)
    have b4 : ∀ k, P' h k = P2 h k := fun k => by rw [b3, zpt_hi h1]
    exact ⟨(fC_hi (by omega)).trans b1, b2 (by omega), fun k hk => (b4 k).trans hk, fun k b hk _ => (b4 k).trans hk⟩
  have s100 := (F 100 (by omega)).1
  have s101 := (F 101 (by omega)).1
  have s102 := (F 102 (by omega)).1
  have s200 := (F 200 (by omega)).1
  have s202 := (F 202 (by omega)).1
  have s203 := (F 203 (by omega)).1
  have p100 : P' 100 1 = P2 100 1 := by rw [(F 100 (by omega)).2]; rfl
  have p202 : P' 202 1 = P2 202 1 := by rw [(F 202 (by omega)).2]; rfl
  have ecx : cx S' 204 = cx S2 204 := cx_eqS fun j h1 h2 => (F j (by omega)).1
  have cn : ∀ q, q = 116 ∨ q = 120 ∨ q = 124 → (∃ a, cN P2 q a) → ∃ a, cN P' q a := fun q hq ⟨a, ha⟩ => by
    have hp := (F q (by omega)).2
    refine ⟨a, ha.1, ?_, ?_⟩
    · rw [hp]
      rcases hq with z | z | z <;> subst z <;> exact ha.2.1
    · rw [hp]
      rcases hq with z | z | z <;> subst z <;> exact ha.2.2
  have g2 := c2.fw aW (by rw [s202]) p202
  refine ⟨rs, e, m, ⟨?_, c12, ?_, ⟨g2.I, c15, fun p hp => ?_⟩, by rw [ecx]; exact c17, cn 116 (by omega) c18, cn 120 (by omega) c19, cn 124 (by omega) c20⟩, g2, ⟨⟨t2, fun h hh => ?_⟩, fun h h1 h2 => ?_, ?_⟩, ⟨by rw [s101]; exact c4.1, fun k hk => by rw [s102]; exact c4.2 k hk⟩, by rw [s101]; exact c5, ?_⟩
  · obtain ⟨r1, r2, r3, r4, r5, r6⟩ := c11
    unfold wRel wsc
    rw [s200, s202, s203]
    exact ⟨r1, r2, r3, r4, r5, fun i k hi hk => by rw [(F (210 + i) (by omega)).1]; exact r6 i k hi hk⟩
  · rw [s100]
    exact c13.imp id (fun ⟨h1, h2⟩ => ⟨h1, h2.w rfl rfl (fun h hh k => by rw [(F h (by omega)).1])⟩)
  · have := c16 p hp
    unfold prI at this ⊢
    rw [s203]
    exact this
  · rw [fC_hi (by omega), (a h (by omega)).1, zsh_hi (by omega)]
    exact c3.1.2 h hh
  · by_cases c : h < 51
    · show ((if h < 51 then ((0, 0) : Nat × Nat) else f' h)).1 = 0
      rw [if_pos c]
    · rw [fC_hi (by omega), (a h (by omega)).1, zsh_d (Or.inl rfl), zfs_lo h1]
      exact c3.2.1 h h1 h2
  · have e51 : zsh ((2, f2), S2, L2, P2) 51 = (3, 1) := (show zsh ((2, f2), S2, L2, P2) 51 = f2 51 from rfl).trans c3.2.2
    obtain ⟨a1, a2⟩ := a 51 (by decide)
    rw [e51] at a1 a2
    exact (fC_hi (by decide)).trans (a2 (by rw [a1]; decide)).1
  · rw [p100]
    exact c6.imp id (fun ⟨h1, g, e', m', rs', h2, h3⟩ => ⟨h1, g, e', m', rs', h2, h3.fw aW (Nat.le_refl _) (Or.inl rfl)⟩)
/-- the law's memory, the component at x, the model at m -/
def LI (n : Nat) (x m : aS) (M : zz_M) : Prop :=
  ∃ (f : Nat → Nat × Nat) (S L : Nat → Nat → Int) (P : Nat → Nat → Option Nat) (top : Nat), M = ((0, f), S, L, P) ∧ lwK 2 n f P ∧ CI x (fC f) S P top ∧ MI m S
/-- the same, the component's world being at t -/
def LI3 (n : Nat) (x m : aS) (M : zz_M) : Prop :=
  ∃ (t : Nat) (f : Nat → Nat × Nat) (S L : Nat → Nat → Int) (P : Nat → Nat → Option Nat) (top : Nat), M = ((0, f), S, L, P) ∧ lwK 3 n f P ∧ (2000 ≤ t ∧ f t = (1, 1) ∧ wSh f P t 100 ∧ P 100 0 = some t) ∧ CI x (fC (fun h => f (sw t h))) (fun h => S (sw t h)) (pw t P) top ∧ MI m S
theorem MI.lo {m : aS} {S S' : Nat → Nat → Int} (h : MI m S) (e : ∀ h, h < 18 → S' h = S h) : MI m S' :=
  h.to (e 1 (by decide)) (e 2 (by decide)) (e 4 (by decide)) (by rw [e 0 (by decide)]) (by rw [e 0 (by decide)]) (by rw [e 0 (by decide)]) (h.2.2.1.to (fun k => by rw [e 5 (by decide)]) (by rw [e 0 (by decide)]) (by rw [e 0 (by decide)])) (by rw [e 6 (by decide)]; exact h.2.2.2)
section
variable {n : Nat} {x m : aS} {M : zz_M}
theorem LI.pC (h : LI n x m M) : mm_pt2 (eM M) (eM (vC M)) ∧ mm_cs (eM (vC M)) := by
  obtain ⟨f, S, L, P, top, rfl, k, -⟩ := h
  exact k.C S L
theorem LI.pM (h : LI n x m M) : mm_pt2 (eM M) (eM (vM M)) ∧ mm_cs (eM (vM M)) := by
  obtain ⟨f, S, L, P, top, rfl, k, -⟩ := h
  exact k.M S L
theorem LI.v100 (h : LI n x m M) : mm_vk (eM (vC M)) (ev (vr 100)) := by
  obtain ⟨f, S, L, P, top, rfl, k, -⟩ := h
  intro b e
  have e : Value.ref 100 = Value.ref b := e
  cases e
  exact (show (cS 100).1 ≠ 0 by decide)
theorem LI.v51 (h : LI n x m M) : mm_vk (eM (vC M)) (ev (vr 51)) := by
  obtain ⟨f, S, L, P, top, rfl, k, -⟩ := h
  intro b e
  have e : Value.ref 51 = Value.ref b := e
  cases e
  show (zsh (vC ((0, f), S, L, P)) 51).1 ≠ 0
  rw [k.sC, if_neg (by decide), k.2.1.2]
  decide
theorem LI.v0 (h : LI n x m M) : mm_vk (eM (vM M)) (ev (vr 0)) := by
  obtain ⟨f, S, L, P, top, rfl, k, -⟩ := h
  intro b e
  have e : Value.ref 0 = Value.ref b := e
  cases e
  exact (show (mS 0).1 ≠ 0 by decide)
theorem vk_i (N : mm_M) (a : Int) : mm_vk N (ev (vi a)) := fun b e => by
  have e : Value.int (zI a) = Value.ref b := e
  cases e
/-- behind a call of the component's -/
theorem LI.bC (h : LI n x m M) {x2 : aS} {f2 : Nat → Nat × Nat} {S2 L2 : Nat → Nat → Int} {P2 : Nat → Nat → Option Nat} {top2 : Nat} (C : CI x2 f2 S2 P2 top2) (g : mm_gd (eM (vC M)) (eM ((2, f2), S2, L2, P2))) : mm_nc (eM M) (eM (vC M)) (eM ((2, f2), S2, L2, P2)) ∧ ∃ (f' : Nat → Nat × Nat) (S' L' : Nat → Nat → Int) (P' : Nat → Nat → Option Nat), mgZ M (vC M) ((2, f2), S2, L2, P2) = ((0, f'), S', L', P') ∧ LI n x2 m ((0, f'), S', L', P') ∧ L' 51 = L2 51 := by
  obtain ⟨f, S, L, P, top, rfl, k, hC, hM⟩ := h
  obtain ⟨-, -, -, -, -, z3, -⟩ := id C
  obtain ⟨b1, f', S', L', P', b2, b3, b4, b5⟩ := k.bC (Or.inl rfl) g z3.2.1
  refine ⟨b1, f', S', L', P', b2, ⟨f', S', L', P', top2, rfl, b3, C.lv (L2 := L2) (fun h hh => ⟨(b5 h hh).1, fun q => ?_⟩), hM.lo (fun h hh => (b4 h (by omega)).2.1)⟩, ?_⟩
  · obtain ⟨q1, q2, -, q3⟩ := (b5 h hh).2 q
    exact ⟨q1, fun _ => q2, q3⟩
  · have e51 : f' 51 = (3, 1) := b3.2.1.2
    exact ((b5 51 (by decide)).2 (by rw [e51]; decide)).2.2.1
theorem wSh.cS {f : Nat → Nat × Nat} {P : Nat → Nat → Option Nat} {t y : Nat} (h0 : f t = (1, 1)) (w : wSh f P t y) : ∀ i, i < 26 → i ≠ 8 → i ≠ 9 → f (t + i) = Jvm.Pilot.CChaseCourtLaw_law_r1587_f51dab.cS (200 + i) := by
  obtain ⟨⟨⟨a1, a2, a3, a4, a5⟩, a6⟩, -⟩ := w
  intro i h1 h2 h3
  by_cases c : 10 ≤ i
  · have e := a2 (i - 10) (by omega)
    rw [show t + 10 + (i - 10) = t + i by omega] at e
    rw [e]
    have := (by decide +kernel : ∀ j : Fin 26, 10 ≤ j.val → Jvm.Pilot.CChaseCourtLaw_law_r1587_f51dab.cS (200 + j.val) = (2, 12)) ⟨i, h1⟩ c
    exact this.symm
  · rcases (show i = 0 ∨ i = 1 ∨ i = 2 ∨ i = 3 ∨ i = 4 ∨ i = 5 ∨ i = 6 ∨ i = 7 by omega) with z | z | z | z | z | z | z | z <;> subst z
    · exact h0
    · exact a1
    · exact a3
    · exact a4
    · exact a5
    · exact a6 5 (by decide) (by decide)
    · exact a6 6 (by decide) (by decide)
    · exact a6 7 (by decide) (by decide)
theorem sw_51 {t h : Nat} (ht : 2000 ≤ t) (hh : 51 ≤ h) : 51 ≤ sw t h := by
  unfold sw
  split
  · omega
  · split <;> omega
/-- a shape that stays, under the new names -/
theorem sw_fix {t : Nat} {G : Nat → Nat × Nat} {P : Nat → Nat → Option Nat} {y : Nat} (ht : 2000 ≤ t) (hc : ∀ h, zfs 2 h = true → (h < 200 ∨ 226 ≤ h) → G h = cS h) (h0 : G t = (1, 1)) (w : wSh G P t y) {h : Nat} (e : zfs 2 h = true) : G (sw t h) = cS h := by
  by_cases c : 200 ≤ h ∧ h < 226
  · have hn : h ≠ 208 ∧ h ≠ 209 := ⟨fun z => by subst z; exact absurd e (by decide), fun z => by subst z; exact absurd e (by decide)⟩
    have := w.cS h0 (h - 200) (by omega) (by omega) (by omega)
    have e2 := sw_i (t := t) (i := h - 200) (by omega) (by omega) (by omega)
    rw [show 200 + (h - 200) = h by omega] at e2 this
    rw [e2]
    exact this
  · have e2 : sw t h = h := by
      refine sw_o (by omega) (fun z => ?_)
      rw [zfs_hi (by omega)] at e
      cases e
    rw [e2]
    exact hc h e (by omega)
/-- behind a call of the component's that made another world -/
theorem LI.bC3 (h : LI n x m M) {x2 : aS} {t : Nat} {f2 : Nat → Nat × Nat} {S2 L2 : Nat → Nat → Int} {P2 : Nat → Nat → Option Nat} {top2 : Nat} (C : C3 x2 t f2 S2 P2 top2) (g : mm_gd (eM (vC M)) (eM ((3, f2), S2, L2, P2))) : mm_nc (eM M) (eM (vC M)) (eM ((3, f2), S2, L2, P2)) ∧ ∃ (f' : Nat → Nat × Nat) (S' L' : Nat → Nat → Int) (P' : Nat → Nat → Option Nat), mgZ M (vC M) ((3, f2), S2, L2, P2) = ((0, f'), S', L', P') ∧ LI3 n x2 m ((0, f'), S', L', P') ∧ L' 51 = L2 51 := by
  obtain ⟨f, S, L, P, top, rfl, k, hC, hM⟩ := h
  obtain ⟨⟨t2, hu⟩, ⟨h0, hw, hp⟩, hI⟩ := C
  obtain ⟨-, -, -, -, -, z3, -⟩ := id hI
  have lo2 : ∀ h, h < 100 → h ≠ 51 → (f2 h).1 = 0 := fun h h1 h2 => by
    have := z3.2.1 h h1 h2
    rw [show (fun h => zs3 f2 (sw t h)) h = zs3 f2 (sw t h) from rfl, sw_b t2 (Or.inl (by omega)), zs3_f (zfs_lo h1)] at this
    exact this
  obtain ⟨b1, f', S', L', P', b2, b3, b4, b5⟩ := k.bC (Or.inr rfl) g lo2
  have b5 : ∀ h, 51 ≤ h → (f' h).1 = (zs3 f2 h).1 ∧ ((f' h).1 ≠ 0 → f' h = zs3 f2 h ∧ S' h = S2 h ∧ L' h = L2 h ∧ P' h = zp3 P2 h) := b5
  have wt : ∀ h, 2000 ≤ h → (f2 h).1 ≠ 0 → f' h = f2 h ∧ P' h = P2 h := fun h h1 h2 => by
    obtain ⟨a1, a2⟩ := b5 h (by omega)
    rw [zs3_f (zfs_hi h1)] at a1 a2
    obtain ⟨c1, -, -, c2⟩ := a2 (by rw [a1]; exact h2)
    exact ⟨c1, by rw [c2]; exact funext fun k => zp3_f (zfx_of (show zfs 3 h = false from zfs_hi h1) k)⟩
  have e51 : f' 51 = (3, 1) := b3.2.1.2
  have w' : wSh f' P' t 100 := hw.fw (t := t + 26) (lo := t) (hi := t + 26) (S := S2) (S' := S2) (fun h h1 h2 h3 => by
    obtain ⟨c1, c2⟩ := wt h (by omega) h3
    exact ⟨c1, rfl, fun k hk => by rw [c2]; exact hk, fun k b hk _ => by rw [c2]; exact hk⟩) (Nat.le_refl _) (Nat.le_refl _) (by omega) (Nat.le_refl _) (by decide) (by rw [h0]; decide)
  refine ⟨b1, f', S', L', P', b2, ⟨t, f', S', L', P', top2, rfl, b3, ⟨t2, (wt t t2 (by rw [h0]; decide)).1.trans h0, w', ?_⟩, hI.lv (L2 := fun h => L2 (sw t h)) (fun h hh => ?_), hM.lo (fun h hh => (b4 h (by omega)).2.1)⟩, ((b5 51 (by decide)).2 (by rw [e51]; decide)).2.2.1⟩
  · obtain ⟨a1, a2⟩ := b5 100 (by decide)
    rw [(a2 (by rw [a1]; exact (show (zs3 f2 100).1 ≠ 0 from (show (cS 100).1 ≠ 0 by decide)))).2.2.2]
    exact hp
  · have key : zsh ((2, fun h => zs3 f2 (sw t h)), fun h => S2 (sw t h), fun h => L2 (sw t h), pw t (zp3 P2)) h = zs3 f2 (sw t h) := by
      rw [zsh_d (Or.inl rfl)]
      cases e : zfs 2 h with
      | false => rfl
      | true =>
        have hc : ∀ h, zfs 2 h = true → (h < 200 ∨ 226 ≤ h) → zs3 f2 h = cS h := fun h e _ => by
          unfold zs3
          rw [show zfs 3 h = zfs 2 h from rfl, e]
          rfl
        have ws : wSh (zs3 f2) P2 t 100 := by
          have z : ∀ j, 2000 ≤ j → zs3 f2 j = f2 j := fun j hj => zs3_f (zfs_hi hj)
          exact hw.fr fun j j1 j2 => ⟨z j (by omega), rfl⟩
        exact (sw_fix t2 hc ((zs3_f (zfs_hi t2)).trans h0) ws e).symm
    have h5 := sw_51 t2 hh
    rw [key]
    obtain ⟨a1, a2⟩ := b5 (sw t h) h5
    refine ⟨a1, fun q => ?_⟩
    obtain ⟨c1, c2, -, c3⟩ := a2 q
    refine ⟨c1, fun _ => c2, ?_⟩
    funext j
    rw [zpt_d (Or.inl rfl)]
    show (if zfx 2 h j = true then cP h j else (P' (sw t h) j).map (sw t)) = bif zfx 2 h j then cP h j else (if zfx 2 h j = true then cP h j else (zp3 P2 (sw t h) j).map (sw t))
    rw [c3]
    cases e : zfx 2 h j <;> rfl
/-- behind a call of the model's -/
theorem LI.bM (h : LI n x m M) {m2 : aS} {S2 L2 : Nat → Nat → Int} (hM2 : MI m2 S2) : mm_nc (eM M) (eM (vM M)) (eM (zm S2 L2)) ∧ ∃ (f' : Nat → Nat × Nat) (S' L' : Nat → Nat → Int) (P' : Nat → Nat → Option Nat), mgZ M (vM M) (zm S2 L2) = ((0, f'), S', L', P') ∧ LI n x m2 ((0, f'), S', L', P') ∧ S' 0 0 = S2 0 0 ∧ L' 51 = M.2.2.1 51 := by
  obtain ⟨f, S, L, P, top, rfl, k, hC, hM⟩ := h
  obtain ⟨b1, S', L', b2, b3, b4⟩ := k.bM S L S2 L2
  refine ⟨b1, f, S', L', P, b2, ⟨f, S', L', P, top, rfl, k, hC.lv (L2 := L) (f' := f) (fun h hh => ?_), hM2.lo (fun h hh => (b3 h hh).1)⟩, by rw [(b3 0 (by decide)).1], (b4 51 (by decide) (by decide)).2⟩
  have e : zsh ((2, fC f), S, L, P) h = f h := (k.sC S L h).trans (if_neg (by omega))
  have e2 : zpt ((2, fC f), S, L, P) = P := k.pC S L
  rw [e, e2]
  exact ⟨rfl, fun _ => ⟨rfl, fun c => (b4 h (by omega) c).1, rfl⟩⟩
end
/-! ===== a call from the law ===== -/
def nl (v : Int) : Int := (zL v).toInt
theorem nl_R (v : Int) : R64 (nl v) := ⟨Int64.le_toInt _, Int64.toInt_lt _⟩
def nzr : Option zv → Option zv
  | some (.inl v) => some (vi (nz v))
  | some (.inr (.inl v)) => some (vl (nl v))
  | r => r
theorem nzr_ev (r : Option zv) : (nzr r).map ev = r.map ev := by
  rcases r with - | (v | v | v)
  · rfl
  · exact (nz_ev v).symm
  · show some (Value.long (zL (nl v))) = some (Value.long (zL v))
    unfold nl zL
    rw [Int64.ofInt_toInt]
  · rfl
/-- a contract over a part of the memory, as one over the memory: its result as it is kept; it throws nothing -/
def zA (v : zz_M → zz_M) (sp : zz_Sp) : zz_Sp := fun as M Q _ => (mm_pt2 (eM M) (eM (v M)) ∧ (∀ a ∈ as, mm_vk (eM (v M)) (ev a)) ∧ mm_cs (eM (v M))) ∧ ∃ (Q1 : Option zv → zz_M → Prop) (X1 : Nat → zz_M → Prop), sp as (v M) Q1 X1 ∧ (∀ r M2, Q1 r M2 → mm_gd (eM (v M)) (eM M2) → mm_nc (eM M) (eM (v M)) (eM M2) ∧ ∃ M3, eM M3 = eM (mgZ M (v M) M2) ∧ Q (nzr r) M3) ∧ ∀ i M2, ¬ X1 i M2
theorem zA_ok {l : Launch} {y : MethodName} {ws : List Cond} {rm : Room} {sp : zz_Sp} (v : zz_M → zz_M) (h : mm_Spec l y ws rm (zE sp)) : mm_Spec l y ws rm (zE (zA v sp)) := by
  rintro as M Q X ⟨as', M', Q', X', rfl, rfl, ⟨⟨hp, hv, hc⟩, Q1, X1, hs, hq, hx⟩, hQ, hX⟩
  refine mm_Met.frameC (h _ _ (fun r Mt => ∃ (r' : Option zv) (M2 : zz_M), r = r'.map ev ∧ Mt = eM M2 ∧ Q1 r' M2) (fun _ _ => False) ⟨as', v M', Q1, X1, rfl, rfl, hs, fun r m q => ⟨r, m, rfl, rfl, q⟩, fun i m E hE q => hx i m q⟩) hp ?_ hc ?_ ?_
  · intro a ha
    obtain ⟨b, hb, rfl⟩ := List.mem_map.mp ha
    exact hv b hb
  · rintro r Mt hcl ⟨r', M2, rfl, rfl, q⟩
    obtain ⟨q1, M3, q2, q3⟩ := hq r' M2 q hcl
    refine ⟨q1, ?_⟩
    have := hQ _ _ q3
    rw [nzr_ev, q2, eM_mg] at this
    exact this
  · rintro E Mt hcl q
    exact q.elim
/-- a contract that asks for no less -/
theorem zE_sub {l : Launch} {y : MethodName} {ws : List Cond} {rm : Room} {sp sp' : zz_Sp} (h : mm_Spec l y ws rm (zE sp)) (hs : ∀ as M Q X, sp' as M Q X → sp as M Q X) : mm_Spec l y ws rm (zE sp') := by
  rintro as M Q X ⟨as', M', Q', X', e1, e2, q, hQ, hX⟩
  exact h _ _ _ _ ⟨as', M', Q', X', e1, e2, hs _ _ _ _ q, hQ, hX⟩
