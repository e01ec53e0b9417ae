/-! ===== the component's calls that tell a rule, or keep an image ===== -/
set_option maxRecDepth 100000
theorem rlG.e {hl e m top : Nat} {f : Nat → Nat × Nat} {S : Nat → Nat → Int} {P : Nat → Nat → Option Nat} {rs : List (Fc → Option Int)} (q : rlG hl e m top f S P rs) : 1300 ≤ e ∧ e < top ∧ (e = 1300 ∨ 2000 ≤ e) := by
  obtain ⟨q1, -, -, -, -, -, -, q8, -⟩ := q
  rcases q8 with ⟨c, -⟩ | ⟨c, -⟩
  · omega
  · have := c.2.1
    have := c.2.2
    omega
/-- the list's rules lie below; its row is now y -/
theorem rlX.fr2 {hl e m top av y u : Nat} {f f' : Nat → Nat × Nat} {S S' : Nat → Nat → Int} {P P' : Nat → Nat → Option Nat} {rs : List (Fc → Option Int)} (q : rlX hl e m top av f S P rs) (hu : top ≤ u) (hy : y = av ∨ top ≤ y) (e2 : S' hl 2 = S hl 2) (e1 : P' hl 1 = P hl 1) (a : ∀ h, 2000 ≤ h → h < top → h ≠ av → f' h = f h ∧ S' h = S h ∧ P' h = P h) (hav : av ≠ e ∨ av = 1300) : rlX hl e m u y f' S' P' rs := by
  obtain ⟨q1, q2, q3, q4, q5, q6, q7, q8, l, q9, q10⟩ := q
  have he : (e = 1300 ∧ m = 0) ∨ (f' e = f e ∧ P' e = P e) := by
    rcases q8 with c | ⟨c1, c2, c3, c4⟩
    · exact Or.inl c
    · obtain ⟨z1, -, z3⟩ := a e c1.2.1 c1.2.2 (by have := c1.2.1; omega)
      exact Or.inr ⟨z1, z3⟩
  refine ⟨by omega, e2.trans q2, q3, e1.trans q4, q5, q6, q7, ?_, l, q9, fun i x r h1 h2 => ?_⟩
  · rcases q8 with c | ⟨c1, c2, c3, c4⟩
    · exact Or.inl c
    · refine Or.inr ⟨⟨c1.1, c1.2.1, by have := c1.2.2; omega⟩, c2, ?_, c4⟩
      rcases he with ⟨-, z⟩ | ⟨z, -⟩
      · omega
      · rw [z]; exact c3
  · obtain ⟨p1, lo, hi, p2, p3, p4, p5, p6, p7⟩ := q10 i x r h1 h2
    refine ⟨?_, lo, hi, p2, by omega, p4, p5, by omega, p7.fr (fun h a1 a2 => a h (by omega) (by omega) (by omega))⟩
    rcases he with ⟨-, z⟩ | ⟨-, z⟩
    · have : i < l.length := (List.getElem?_eq_some_iff.mp h1).1
      omega
    · rw [z]; exact p1
theorem rlX.e {hl e m top av : Nat} {f : Nat → Nat × Nat} {S : Nat → Nat → Int} {P : Nat → Nat → Option Nat} {rs : List (Fc → Option Int)} (q : rlX hl e m top av f S P rs) : 1300 ≤ e ∧ e < top ∧ (e = 1300 ∨ 2000 ≤ e) := by
  obtain ⟨q1, -, -, -, -, -, -, q8, -⟩ := q
  rcases q8 with ⟨c, -⟩ | ⟨c, -⟩
  · omega
  · have := c.2.1
    have := c.2.2
    omega
theorem imC.fr2 {g e' m' top e y u : Nat} {f f' : Nat → Nat × Nat} {S S' : Nat → Nat → Int} {P P' : Nat → Nat → Option Nat} {v : Nat → Int} {rs : List (Fc → Option Int)} (q : imC g e' m' top e f S P v rs) (hu : top ≤ u) (hy : y = e ∨ top ≤ y) (a : ∀ h, 2000 ≤ h → h < top → h ≠ e → f' h = f h ∧ S' h = S h ∧ P' h = P h) : imC g e' m' u y f' S' P' v rs := by
  obtain ⟨⟨q1, q2⟩, q3, ⟨q4, q5⟩, ⟨q6, q7, q8, q9, q10⟩, ⟨q11, q12⟩, q13, q14, q15⟩ := q
  have ag : ∀ h, g ≤ h → h ≤ g + 25 → f' h = f h ∧ S' h = S h ∧ P' h = P h := fun h h1 h2 => a h (by omega) (by omega) (by omega)
  have ecx : cx S' (g + 4) = cx S (g + 4) := cx_eqS fun j h1 h2 => (ag j (by omega) (by omega)).2.1
  have ee := q11.e
  refine ⟨⟨q1, by omega⟩, by omega, ⟨by rw [(ag g (by omega) (by omega)).1]; exact q4, q5.fr fun j h1 h2 => ⟨(ag j h1 h2).1, (ag j h1 h2).2.2⟩⟩, ?_, ⟨q11.fr2 hu hy (by rw [(ag (g + 2) (by omega) (by omega)).2.1]) (by rw [(ag (g + 2) (by omega) (by omega)).2.2]) a (by omega), q12⟩, fun p hp => by rw [(ag (g + 3) (by omega) (by omega)).2.1]; exact q13 p hp, by rw [ecx]; exact q14, by rw [ecx]; exact q15⟩
  rw [(ag g (by omega) (by omega)).2.1]
  refine ⟨?_, q7, q8, q9, q10⟩
  obtain ⟨w1, w2, w3, w4⟩ := q6
  unfold drW
  rw [(ag g (by omega) (by omega)).2.1]
  exact ⟨fun i k hi hk => by rw [(ag (g + 10 + i) (by omega) (by omega)).2.1]; exact w1 i k hi hk, w2, w3, w4⟩
section
variable {x : aS} {f : Nat → Nat × Nat} {S L : Nat → Nat → Int} {P : Nat → Nat → Option Nat} {top : Nat} {a b d g : Int}
/-- behind the reader's work: the list of rules told anew -/
theorem CI.rd {rs rs' : List (Fc → Option Int)} {e m y k' u : Nat} {f' : Nat → Nat × Nat} {S' L' : Nat → Nat → Int} {P' : Nat → Nat → Option Nat} {w' : Nat → Int} {fl' : Int} (C1 : cO f S P x.1 rs top) (C2 : rlG 202 e m top f S P rs) (C3 : (∀ h, h < 100 → h ≠ 51 → (f h).1 = 0) ∧ f 51 = (3, 1)) (C6 : (x.2.2.1 = 0 ∧ P 100 1 = none) ∨ (x.2.2.1 = 1 ∧ ∃ (g e' m' : Nat) (rs' : List (Fc → Option Int)), P 100 1 = some g ∧ imC g e' m' top e f S P x.2.1 rs')) (hu : top ≤ u) (hy : y = e ∨ top ≤ y) (hf : frF f' u) (rd : rdE top e f S L P f' S' L' P') (G : rlG 202 y k' u f' S' P' rs') (h1 : S' 101 1 = 0) (h5 : S' 101 5 = fl') (hW : WI w') (ew : ∀ k, k < 210 → k ≠ 193 → w' k = x.1 k) (hr : ruR w' rs') (hl : rs.length ≤ rs'.length) (e193 : w' 193 = (rs'.length : Int)) : CI (aN x w' 0 fl') f' S' P' u := by
  obtain ⟨c11, c12, c13, ⟨c14, c15, c16⟩, c17, c18, c19, c20⟩ := C1
  obtain ⟨d1, d2, d3, d4⟩ := rd
  have t2 := C2.1
  have ee := C2.e
  have sS : ∀ h k, h < top → h ≠ 101 → h ≠ 202 → S' h k = S h k := fun h k a1 a2 a3 => d2 h k a1 a2 (fun z => a3 z.1)
  have ecx : cx S' 204 = cx S 204 := cx_eqS fun j h1 h2 => funext fun k => sS j k (by omega) (by omega) (by omega)
  have cn : ∀ q, q = 116 ∨ q = 120 ∨ q = 124 → (∃ a, cN P q a) → ∃ a, cN P' q a := fun q hq ⟨a, ha⟩ => ⟨a, ha.1, by rw [d4 q 0 (by omega) (by omega) (by omega)]; exact ha.2.1, by rw [d4 q 1 (by omega) (by omega) (by omega)]; exact ha.2.2⟩
  have enw : nwW w' = nwW x.1 := nwW_c fun k k1 k2 => ew k (by omega) (by omega)
  refine ⟨rs', y, k', ⟨?_, hW.1, ?_, ⟨G.I, hr, fun p hp => ?_⟩, ?_, cn 116 (by omega) c18, cn 120 (by omega) c19, cn 124 (by omega) c20⟩, G, ⟨hf, fun h a1 a2 => by rw [d1 h (by omega)]; exact C3.1 h a1 a2, by rw [d1 51 (by omega)]; exact C3.2⟩, ⟨h1, fun k hk => absurd hk (Nat.not_lt_zero _)⟩, h5, ?_⟩
  · obtain ⟨⟨w1, w2, w3, w4, w5⟩, r2, r3, r4, r5, r6⟩ := c11
    unfold wRel wsc
    rw [sS 200 1 (by omega) (by decide) (by decide), sS 200 2 (by omega) (by decide) (by decide), sS 200 3 (by omega) (by decide) (by decide), sS 200 4 (by omega) (by decide) (by decide), sS 200 5 (by omega) (by decide) (by decide), sS 200 0 (by omega) (by decide) (by decide), sS 203 0 (by omega) (by decide) (by decide), sS 203 1 (by omega) (by decide) (by decide)]
    refine ⟨⟨w1.trans (ew 194 (by decide) (by decide)).symm, w2.trans (ew 195 (by decide) (by decide)).symm, w3.trans (ew 196 (by decide) (by decide)).symm, w4.trans (ew 197 (by decide) (by decide)).symm, w5.trans (ew 198 (by decide) (by decide)).symm⟩, r2.trans (ew 192 (by decide) (by decide)).symm, G.2.1.trans e193.symm, r4.trans (ew 199 (by decide) (by decide)).symm, r5.trans (ew 200 (by decide) (by decide)).symm, fun i k hi hk => ?_⟩
    rw [sS _ _ (by omega) (by omega) (by omega)]
    exact (r6 i k hi hk).trans (ew _ (by omega) (by omega)).symm
  · rw [sS 100 8 (by omega) (by decide) (by decide)]
    exact c13.imp id (fun ⟨h1, h2⟩ => ⟨h1, h2.w (ew 195 (by decide) (by decide)).symm (ew 196 (by decide) (by decide)).symm (fun h hh k => sS h k (by omega) (by omega) (by omega))⟩)
  · have := c16 p hp
    unfold prI at this ⊢
    rw [sS 203 p (by omega) (by decide) (by decide)]
    omega
  · rw [ecx]
    show xE (cx S 204) (nwW w') ∧ scV (nwW w') ∧ scb (cx S 204)
    rw [enw]
    exact c17
  · show (x.2.2.1 = 0 ∧ P' 100 1 = none) ∨ _
    rw [d4 100 1 (by omega) (by omega) (by omega)]
    exact C6.imp id (fun ⟨h1, g, e', m', rs', h2, h3⟩ => ⟨h1, g, e', m', rs', h2, h3.fr2 hu hy (fun h a b c => ⟨d1 h b, funext fun k => sS h k b (by omega) (by omega), funext fun k => d4 h k b (by omega) c⟩)⟩)
theorem le03 (C : CI x f S P top) (hA : AI x) : zX1_rule [vr 100] ((2, f), S, L, P) (eQ (sm3 x)) (eX [(1, 1), (2, 2)] (sm3 x)) := by
  apply oX1_rule
  have hK := ka3 hA
  obtain ⟨rs, e, m, c1, c2, c3, c4, c5, c6⟩ := id C
  have hn := hA.2.2.1.1
  have ht := hA.2.2.1.2
  have e193 : x.1 193 = (rs.length : Int) := by
    have h1 := c1.1.2.2.1
    have h2 := c2.2.1
    omega
  have h6 := c2.2.2.1
  refine ⟨x.2.2.2.1, x.2.2.2.2.1, top, e, m, rs, ⟨hn, C.tape.1, fun k hk => ⟨ht k (by omega), C.tape.2.1 k hk⟩⟩, c2, c3.1, fun w hw S' L' P' f' u hu hf rd G h1 h5 => ?_, fun r hr => ⟨fun c S' L' P' f' u hu hf rd G h1 h5 => ?_, fun c S' L' P' f' u y k' hu hy hf rd G h1 h5 => ?_⟩⟩
  · exact eX.mk (c := 1) (v := 0) (x' := aN x x.1 0 (w : Int)) (by unfold sm3; rw [hw]) (by decide) (CI.rd c1 c2 c3.2 c6 hu (Or.inl rfl) hf rd G h1 h5 hA.1 (fun _ _ _ => rfl) c1.2.2.2.1.2.1 (Nat.le_refl _) e193)
  · exact eX.mk (c := 2) (v := 0) (x' := aN x x.1 0 (-1)) (by unfold sm3; rw [hr]; exact if_pos (by omega)) (by decide) (CI.rd c1 c2 c3.2 c6 hu (Or.inl rfl) hf rd G h1 h5 hA.1 (fun _ _ _ => rfl) c1.2.2.2.1.2.1 (Nat.le_refl _) e193)
  · have es : sm3 x = (0, x.1 193, aN x (ruW x.1 x.2.2.2.1 x.2.2.2.2.1) 0 (-1)) := by unfold sm3; rw [hr]; exact if_neg (by omega)
    rw [es] at hK
    have er : (x.1 193).toNat = rs.length := by omega
    have o : ∀ k, k < 210 + 401 * rs.length → k ≠ 193 → ruW x.1 x.2.2.2.1 x.2.2.2.2.1 k = x.1 k := fun k k1 k2 => by
      unfold ruW
      rw [er, if_neg k2, if_neg (by omega), if_neg (by omega)]
    have z : ruW x.1 x.2.2.2.1 x.2.2.2.2.1 193 = ((rs.length + 1 : Nat) : Int) := by
      unfold ruW
      rw [if_pos rfl]
      omega
    have zN : ruW x.1 x.2.2.2.1 x.2.2.2.2.1 (210 + 401 * rs.length) = (x.2.2.2.2.1 : Int) := by
      unfold ruW
      rw [er, if_neg (by omega), if_pos rfl]
    have zT : ∀ k, k < x.2.2.2.2.1 → ruW x.1 x.2.2.2.1 x.2.2.2.2.1 (211 + 401 * rs.length + k) = x.2.2.2.1 k := fun k hk => by
      unfold ruW
      rw [er, if_neg (by omega), if_neg (by omega), if_pos ⟨by omega, by omega⟩, show 211 + 401 * rs.length + k - (211 + 401 * rs.length) = k by omega]
    rw [← e193]
    refine eQ.mk es (CI.rd c1 c2 c3.2 c6 hu hy hf rd G h1 h5 hK.1 (fun k k1 k2 => o k (by omega) k2) (fun i q hq => ?_) (by simp) (by rw [z]; simp))
    have hi : i < rs.length + 1 := by
      apply Decidable.byContradiction
      intro hc
      rw [List.getElem?_eq_none (by simp; omega)] at hq
      cases hq
    by_cases ei : i = rs.length
    · subst ei
      rw [List.getElem?_append_right (Nat.le_refl _), Nat.sub_self] at hq
      cases hq
      have eN : trN (ruW x.1 x.2.2.2.1 x.2.2.2.2.1) rs.length = x.2.2.2.2.1 := by
        unfold trN
        rw [zN]
        rfl
      have eT : ∀ k, k < x.2.2.2.2.1 → trT (ruW x.1 x.2.2.2.1 x.2.2.2.2.1) rs.length k = x.2.2.2.1 k := zT
      exact ⟨r, by rw [eN, cg_ru eT]; exact hr, rfl⟩
    · rw [List.getElem?_append_left (by omega)] at hq
      obtain ⟨c', q1, q2⟩ := c1.2.2.2.1.2.1 i q hq
      obtain ⟨-, -, -, ⟨r', hr', hr6, hr3, -⟩, -⟩ := hA.1
      have hN : trN x.1 i ≤ 400 := by
        have hg := hr3 i (by omega)
        have g2 := hg.2.1
        have g3 := hg.2.2.1
        unfold trN
        omega
      have eN : trN (ruW x.1 x.2.2.2.1 x.2.2.2.2.1) i = trN x.1 i := by
        unfold trN
        rw [o _ (by omega) (by omega)]
      have eT : ∀ k, k < trN x.1 i → trT (ruW x.1 x.2.2.2.1 x.2.2.2.2.1) i k = trT x.1 i k := fun k hk => o _ (by omega) (by omega)
      exact ⟨c', by rw [eN, cg_ru eT]; exact q1, q2⟩
/-- the world now, as the copying asks for it -/
theorem wo_of {w : Nat → Int} {rs : List (Fc → Option Int)} {e m : Nat} (c1 : cO f S P w rs top) (c2 : rlG 202 e m top f S P rs) : woZ ((2, f), S, L, P) 200 e m rs.length := by
  obtain ⟨q1, q2, q3, q4, q5, q6, q7, q8, l, q9, q10⟩ := c2
  have hV := scV_xE c1.2.2.2.2.1.2.1 c1.2.2.2.2.1.1
  have h6 : S 204 5 = 0 ∨ S 204 5 = 1 := by
    have hh := hV.2.2
    unfold Jvm.Pilot.CChaseCourtLaw_law_r1587_f51dab.hV at hh
    have e : cx S 204 6 = S 204 5 := rfl
    rw [e] at hh
    omega
  refine ⟨rfl, ⟨rfl, rfl, rfl, rfl, rfl⟩, rfl, fun i hi => ?_, rfl, ⟨rfl, ⟨rfl, rfl, rfl⟩, rfl, rfl, rfl⟩, ⟨rfl, (show zpt ((2, f), S, L, P) 202 1 = P 202 1 from rfl).trans q4, q2, ?_, q5, q7, fun i y hi hy => ?_⟩, q3, h6⟩
  · rcases (show i = 0 ∨ i = 1 ∨ i = 2 ∨ i = 3 ∨ i = 4 ∨ i = 5 ∨ i = 6 ∨ i = 7 ∨ i = 8 ∨ i = 9 ∨ i = 10 ∨ i = 11 ∨ i = 12 ∨ i = 13 ∨ i = 14 ∨ i = 15 by omega) with z | z | z | z | z | z | z | z | z | z | z | z | z | z | z | z <;> subst z <;> exact ⟨rfl, rfl⟩
  · rcases q8 with ⟨c, d⟩ | c
    · subst c d
      exact Or.inr ⟨rfl, rfl⟩
    · exact Or.inl ((zsh_hi c.1.le).trans c.2.2.1)
  · obtain ⟨r1, lo, hi', r2, r3, r4, r5, r6⟩ := q10 i _ _ (List.getElem?_eq_getElem (by omega : i < l.length)) (List.getElem?_eq_getElem hi)
    rcases q8 with c | c
    · omega
    · rw [zpt_hi c.1.le, r1] at hy
      cases hy
      obtain ⟨y1, ci, y2, y3⟩ := ruT.V.1 _ _ _ _ _ _ _ r6
      exact ⟨ci, (zsh_hi y1.le).trans y2, y3⟩
theorem dr_of {w : Nat → Int} (h : wRel S w) : drW S 200 w := by
  obtain ⟨⟨w1, w2, w3, -, -⟩, -, -, -, -, r6⟩ := h
  exact ⟨r6, w1, w2, w3⟩
/-- the world and its rules stay -/
theorem cO.mv {w : Nat → Int} {rs : List (Fc → Option Int)} {e m u : Nat} {f' : Nat → Nat × Nat} {S' : Nat → Nat → Int} {P' : Nat → Nat → Option Nat} (C1 : cO f S P w rs top) (C2 : rlG 202 e m top f S P rs) (hu : top ≤ u) (of : ∀ h, h < top → f' h = f h) (oS : ∀ h, h < top → S' h = S h) (oP : ∀ h k, h < top → ¬ (h = 100 ∧ k = 1) → P' h k = P h k) : cO f' S' P' w rs u ∧ rlG 202 e m u f' S' P' rs := by
  obtain ⟨c11, c12, c13, ⟨c14, c15, c16⟩, c17, c18, c19, c20⟩ := C1
  have t2 := C2.1
  have ag : ∀ h, 2000 ≤ h → h < top → f' h = f h ∧ S' h = S h ∧ P' h = P h := fun h h1 h2 => ⟨of h h2, oS h h2, funext fun k => oP h k h2 (by omega)⟩
  have wS : ∀ h k, 200 ≤ h → h ≤ 225 → S' h k = S h k := fun h k h1 h2 => by rw [oS h (by omega)]
  have g2 : rlG 202 e m u f' S' P' rs := C2.fr hu (wS 202 2 (by omega) (by omega)) (oP 202 1 (by omega) (by omega)) ag
  have ecx : cx S' 204 = cx S 204 := cx_eqS fun j h1 h2 => oS j (by omega)
  have cn : ∀ q, q = 116 ∨ q = 120 ∨ q = 124 → (∃ a, cN P q a) → ∃ a, cN P' q a := fun q hq ⟨a, ha⟩ => ⟨a, ha.1, by rw [oP q 0 (by omega) (by omega)]; exact ha.2.1, by rw [oP q 1 (by omega) (by omega)]; exact ha.2.2⟩
  refine ⟨⟨c11.fr wS, c12, ?_, ⟨g2.I, c15, fun p hp => ?_⟩, by rw [ecx]; exact c17, cn 116 (by omega) c18, cn 120 (by omega) c19, cn 124 (by omega) c20⟩, g2⟩
  · rw [oS 100 (by omega)]
    exact c13.imp id (fun ⟨h1, h2⟩ => ⟨h1, h2.w rfl rfl (fun h hh k => by rw [oS h (by omega)])⟩)
  · have := c16 p hp
    unfold prI at this ⊢
    rw [oS 203 (by omega)]
    exact this
/-- a list of rules that was made anew behind t -/
theorem rlX.mk {hl t u av : Nat} {f : Nat → Nat × Nat} {S : Nat → Nat → Int} {P : Nat → Nat → Option Nat} {rs : List (Fc → Option Int)} (ht : 2000 ≤ t) (hu : t + 26 ≤ u) (h6 : rs.length ≤ 6) (hS : S hl 2 = (rs.length : Int)) (h0 : rs.length = 0 → P hl 1 = some 1300) (h1 : 0 < rs.length → P hl 1 = some (t + 9) ∧ f (t + 9) = (7, 10)) (hh : hl < 2000 ∨ (t ≤ hl ∧ hl ≠ t + 9)) (hel : 0 < rs.length → ∃ l : List Nat, l.length = rs.length ∧ ∀ (i x : Nat) (r : Fc → Option Int), l[i]? = some x → rs[i]? = some r → P (t + 9) i = some x ∧ ∃ lo hi : Nat, 2000 ≤ lo ∧ hi ≤ t ∧ (av < lo ∨ hi ≤ av) ∧ ruT lo hi f S P x r) : ∃ e m : Nat, (e = 1300 ∨ e = t + 9) ∧ rlX hl e m u av f S P rs := by
  by_cases c : rs.length = 0
  · refine ⟨1300, 0, Or.inl rfl, by omega, hS, h6, h0 c, by omega, Or.inl rfl, by decide, Or.inl ⟨rfl, rfl⟩, [], c.symm, fun i x r hi => ?_⟩
    rw [List.getElem?_nil] at hi
    cases hi
  · obtain ⟨l, k1, k2⟩ := hel (by omega)
    refine ⟨t + 9, 10, Or.inr rfl, by omega, hS, h6, (h1 (by omega)).1, by omega, Or.inr (by decide), by decide, Or.inr ⟨⟨Nat.le_refl _, by omega, by omega⟩, by omega, (h1 (by omega)).2, by decide⟩, l, k1, fun i x r a1 a2 => ?_⟩
    obtain ⟨p1, lo, hi, p2, p3, p4, p5⟩ := k2 i x r a1 a2
    have o1 : hl < lo ∨ hi ≤ hl := by
      rcases hh with z | ⟨z, -⟩
      · exact Or.inl (Nat.lt_of_lt_of_le z p2)
      · exact Or.inr (Nat.le_trans p3 z)
    have o2 : hi ≤ t + 9 := Nat.le_trans p3 (Nat.le_add_right t 9)
    have o3 : hi ≤ u := Nat.le_trans p3 (Nat.le_trans (Nat.le_add_right t 26) hu)
    exact ⟨p1, lo, hi, p2, o3, o1, Or.inr o2, p4, p5⟩
theorem rlX.G {hl e m top av : Nat} {rs : List (Fc → Option Int)} (q : rlX hl e m top av f S P rs) : rlG hl e m top f S P rs := by
  obtain ⟨q1, q2, q3, q4, q5, q6, q7, q8, l, q9, q10⟩ := q
  refine ⟨q1, q2, q3, q4, q5, q6, q7, q8, l, q9, fun i x r a1 a2 => ?_⟩
  obtain ⟨p1, lo, hi, p2, p3, p4, p5, -, p7⟩ := q10 i x r a1 a2
  exact ⟨p1, lo, hi, p2, p3, p4, p5, p7⟩
theorem le24 (C : CI x f S P top) : zX1_image [vr 100] ((2, f), S, L, P) (eQv (sm24 x)) (eX [] (sm24 x)) := by
  apply oX1_image
  obtain ⟨rs, e, m, c1, c2, c3, c4, c5, c6⟩ := id C
  have t2 := c2.1
  have ee := c2.e
  have h6 := c2.2.2.1
  refine ⟨x.1, top, e, m, rs.length, wo_of c1 c2, c3.1, dr_of c1.1, fun S' L' P' f' h1 h2 h3 h4 h5 => ?_⟩
  obtain ⟨p1, p2, ⟨p3, p4, p5⟩, p6, ⟨p7, p8, p9⟩, p10, p11⟩ := h5
  obtain ⟨⟨w1, w2, w3, w4, w5⟩, r2, r3, r4, r5, r6⟩ := id c1.1
  have ag : ∀ h, 2000 ≤ h → h < top → f' h = f h ∧ S' h = S h ∧ P' h = P h := fun h a b => ⟨(h2 h b).1, (h2 h b).2.1, funext fun k => h3 h k b (by omega)⟩
  obtain ⟨d1, d2⟩ := cO.mv c1 c2 (show top ≤ top + 26 by omega) (fun h hh => (h2 h hh).1) (fun h hh => (h2 h hh).2.1) (fun h k hh hk => h3 h k hh hk)
  have hlist : ∃ e2 m2 : Nat, (e2 = 1300 ∨ e2 = top + 9) ∧ rlX (top + 2) e2 m2 (top + 26) e f' S' P' rs := by
    refine rlX.mk t2 (Nat.le_refl _) h6 p7 p8 (fun c => ⟨(p9 c).1, (p9 c).2.1⟩) (by omega) (fun c => ?_)
    obtain ⟨q1, q2, q3, q4, q5, q6, q7, q8, l, q9, q10⟩ := c2
    refine ⟨l, q9, fun i y r a1 a2 => ?_⟩
    have hi : i < l.length := (List.getElem?_eq_some_iff.mp a1).1
    obtain ⟨b1, lo, hi', b2, b3, b4, b5, b6⟩ := q10 i y r a1 a2
    refine ⟨?_, lo, hi', b2, b3, b5, b6.fr (fun h a b => ag h (by omega) (by omega))⟩
    rw [(p9 c).2.2 i (by omega)]
    rcases q8 with z | z
    · omega
    · rw [zpt_hi z.1.le]
      exact b1
  obtain ⟨e2, m2, he2, hX⟩ := hlist
  refine eQv.mk (v := 0) (x' := (x.1, x.1, 1, x.2.2.2.1, x.2.2.2.2.1, x.2.2.2.2.2)) rfl ⟨rs, e, m, d1, d2, ⟨h1, fun h a1 a2 => by rw [(h2 h (by omega)).1]; exact c3.2.1 h a1 a2, by rw [(h2 51 (by omega)).1]; exact c3.2.2⟩, ⟨by rw [(h2 101 (by omega)).2.1]; exact c4.1, fun k hk => by rw [(h2 102 (by omega)).2.1]; exact c4.2 k hk⟩, by rw [(h2 101 (by omega)).2.1]; exact c5, Or.inr ⟨rfl, top, e2, m2, rs, h4, ⟨t2, Nat.le_refl _⟩, by omega, ⟨p1, p2⟩, ⟨p6, p3.trans r2, p4.trans w4, p5.trans w5, ?_⟩, ⟨hX, c1.2.2.2.1.2.1⟩, fun p hp => ?_, ?_, ?_⟩⟩
  · have := c2.2.1
    show x.1 193 = (rs.length : Int)
    omega
  · rw [p10 p hp]
    rcases (show p = 0 ∨ p = 1 by omega) with z | z <;> subst z
    · exact r4
    · exact r5
  · rw [p11]
    exact c1.2.2.2.2.1.1
  · rw [p11]
    exact c1.2.2.2.2.1.2.2
end
