/-! ===== the trees of rules under other names of the world's handles ===== -/
set_option maxRecDepth 100000
/-- as agR, of what lives; of the references those alone that lie outside the world's handles and below t -/
def agW (t lo hi : Nat) (f : Nat → Nat × Nat) (S : Nat → Nat → Int) (P : Nat → Nat → Option Nat) (f' : Nat → Nat × Nat) (S' : Nat → Nat → Int) (P' : Nat → Nat → Option Nat) : Prop := ∀ h, lo ≤ h → h < hi → (f h).1 ≠ 0 → f' h = f h ∧ S' h = S h ∧ (∀ k, P h k = none → P' h k = none) ∧ ∀ k b, P h k = some b → (b < 200 ∨ (226 ≤ b ∧ b < t)) → P' h k = some b
theorem agW.sub {t lo hi lo' hi' : Nat} {f f' : Nat → Nat × Nat} {S S' : Nat → Nat → Int} {P P' : Nat → Nat → Option Nat} (a : agW t lo hi f S P f' S' P') (h1 : lo ≤ lo') (h2 : hi' ≤ hi) : agW t lo' hi' f S P f' S' P' := fun h q1 q2 q3 => a h (Nat.le_trans h1 q1) (Nat.lt_of_lt_of_le q2 h2) q3
theorem el_q {α : Type} {l : List Nat} {gs : List α} {Q : Nat → α → Prop} (hl : l.length = gs.length) (h : ∀ (i x : Nat) (g : α), l[i]? = some x → gs[i]? = some g → Q x g) : ∀ i x : Nat, l[i]? = some x → ∃ g, Q x g := by
  intro i x hx
  have hi : i < l.length := by
    apply Decidable.byContradiction
    intro hc
    rw [List.getElem?_eq_none (by omega)] at hx
    cases hx
  exact ⟨_, h i x (gs[i]'(by omega)) hx (List.getElem?_eq_getElem _)⟩
theorem inR.lt {t lo hi h : Nat} (q : inR lo hi h) (ht : hi ≤ t) : 226 ≤ h ∧ h < t := by
  have := q.le
  have := q.2.2
  omega
theorem PaT.fw {t lo hi : Nat} {f f' : Nat → Nat × Nat} {S S' : Nat → Nat → Int} {P P' : Nat → Nat → Option Nat} {h : Nat} {g : Fc → Int} (q : PaT lo hi f S P h g) (ht : hi ≤ t) (a : agW t lo hi f S P f' S' P') : PaT lo hi f' S' P' h g := by
  obtain ⟨a1, a2, a3, a4⟩ := a h q.1.2.1 q.1.2.2 (by rw [q.2.1]; decide)
  have := q.1.lt ht
  have h2 := q.1.le
  refine ⟨q.1, by rw [a1]; exact q.2.1, ?_⟩
  rw [a2]
  rcases q.2.2 with ⟨r1, r2, r3⟩ | ⟨j, r1, r2, r3⟩
  · exact Or.inl ⟨a3 1 r1, r2, r3⟩
  · exact Or.inr ⟨j, r1, a4 1 _ r2 (by omega), r3⟩
theorem ALT.fw {t lo hi : Nat} {f f' : Nat → Nat × Nat} {S S' : Nat → Nat → Int} {P P' : Nat → Nat → Option Nat} {h : Nat} {l : List Nat} (q : ALT lo hi f S P h l) (ht : hi ≤ t) (hx : ∀ i x : Nat, l[i]? = some x → 226 ≤ x ∧ x < t) (a : agW t lo hi f S P f' S' P') : ALT lo hi f' S' P' h l := by
  obtain ⟨q1, q2, q3, q4, q5⟩ := q
  obtain ⟨a1, a2, a3, a4⟩ := a h q1.2.1 q1.2.2 (by rw [q2]; decide)
  refine ⟨q1, by rw [a1]; exact q2, by rw [a2]; exact q3, q4, fun ne => ?_⟩
  obtain ⟨e, n, r1, r2, r3, r4, r5, r6⟩ := q5 ne
  obtain ⟨b1, b2, b3, b4⟩ := a e r1.2.1 r1.2.2 (by rw [r3]; exact Nat.succ_ne_zero 6)
  have := r1.lt ht
  exact ⟨e, n, r1, a4 1 e r2 (by omega), by rw [b1]; exact r3, r4, r5, fun i x hi => b4 i x (r6 i x hi) (by have := hx i x hi; omega)⟩
theorem SuT.fw {t lo hi : Nat} {f f' : Nat → Nat × Nat} {S S' : Nat → Nat → Int} {P P' : Nat → Nat → Option Nat} {h : Nat} {g : Fc → Int} (q : SuT lo hi f S P h g) (ht : hi ≤ t) (a : agW t lo hi f S P f' S' P') : SuT lo hi f' S' P' h g := by
  obtain ⟨q1, q2, x, l, gs, q3, q4, q5, q6, q7⟩ := q
  obtain ⟨a1, a2, a3, a4⟩ := a h q1.2.1 q1.2.2 (by rw [q2]; decide)
  have := q4.1.lt ht
  exact ⟨q1, by rw [a1]; exact q2, x, l, gs, a4 0 x q3 (by omega), q4.fw ht (fun i y hy => by obtain ⟨g', hg⟩ := el_q q5 q6 i y hy; exact hg.1.lt ht) a, q5, fun i y g' h1 h2 => (q6 i y g' h1 h2).fw ht a, q7⟩
theorem leT.fw {t lo hi : Nat} {f f' : Nat → Nat × Nat} {S S' : Nat → Nat → Int} {P P' : Nat → Nat → Option Nat} {h : Nat} {c : Fc → Bool} (q : leT lo hi f S P h c) (ht : hi ≤ t) (a : agW t lo hi f S P f' S' P') : leT lo hi f' S' P' h c := by
  obtain ⟨q1, q2⟩ := q
  obtain ⟨a1, a2, a3, a4⟩ := a h q1.2.1 q1.2.2 (by rcases q2 with ⟨c, -⟩ | ⟨c, -⟩ <;> rw [c] <;> decide)
  refine ⟨q1, ?_⟩
  rw [a1, a2]
  refine q2.imp id ?_
  rintro ⟨q3, x, y, g, k, q4, q5, q6, q7, q8⟩
  have := q6.1.lt ht
  have := q7.1.lt ht
  exact ⟨q3, x, y, g, k, a4 0 x q4 (by omega), a4 1 y q5 (by omega), q6.fw ht a, q7.fw ht a, q8⟩
theorem coT.fw {t lo hi : Nat} {f f' : Nat → Nat × Nat} {S S' : Nat → Nat → Int} {P P' : Nat → Nat → Option Nat} (ht : hi ≤ t) (a : agW t lo hi f S P f' S' P') : ∀ {n h : Nat} {c : Fc → Bool}, coT lo hi f S P n h c → coT lo hi f' S' P' n h c
  | 0, _, _, q => leT.fw q ht a
  | n + 1, h, c, q => by
    rcases q with q | ⟨q1, q2, x, g, q3, q4, q5⟩ | ⟨q1, q2, al, x, l, cs, q3, q4, q5, q6, q7, q8⟩
    · exact Or.inl (leT.fw q ht a)
    · obtain ⟨a1, a2, a3, a4⟩ := a h q1.2.1 q1.2.2 (by rw [q2]; decide)
      have := (coT.ob q4).1.lt ht
      exact Or.inr (Or.inl ⟨q1, by rw [a1]; exact q2, x, g, a4 0 x q3 (by omega), coT.fw ht a q4, q5⟩)
    · obtain ⟨a1, a2, a3, a4⟩ := a h q1.2.1 q1.2.2 (by rw [q2]; decide)
      have := q5.1.lt ht
      exact Or.inr (Or.inr ⟨q1, by rw [a1]; exact q2, al, x, l, cs, by rw [a2]; exact q3, a4 1 x q4 (by omega), q5.fw ht (fun i y hy => by obtain ⟨g', hg⟩ := el_q q6 q7 i y hy; exact (coT.ob hg).1.lt ht) a, q6, fun i y g h1 h2 => coT.fw ht a (q7 i y g h1 h2), q8⟩)
theorem liT.fw {t lo hi : Nat} {f f' : Nat → Nat × Nat} {S S' : Nat → Nat → Int} {P P' : Nat → Nat → Option Nat} {h : Nat} {r : Fc → Option Int} (q : liT lo hi f S P h r) (ht : hi ≤ t) (a : agW t lo hi f S P f' S' P') : liT lo hi f' S' P' h r := by
  obtain ⟨q1, q2, q3, q4⟩ := q
  obtain ⟨a1, a2, a3, a4⟩ := a h q1.2.1 q1.2.2 (by rw [q2]; decide)
  refine ⟨q1, by rw [a1]; exact q2, by rw [a2]; exact q3, ?_⟩
  rw [a2]
  rcases q4 with ⟨r1, r2⟩ | ⟨x, c, r1, r2, r3⟩
  · exact Or.inl ⟨a3 1 r1, r2⟩
  · have := (coT.ob r2).1.lt ht
    exact Or.inr ⟨x, c, a4 1 x r1 (by omega), coT.fw ht a r2, r3⟩
theorem ruT.fw {t lo hi : Nat} {f f' : Nat → Nat × Nat} {S S' : Nat → Nat → Int} {P P' : Nat → Nat → Option Nat} {h : Nat} {r : Fc → Option Int} (q : ruT lo hi f S P h r) (ht : hi ≤ t) (a : agW t lo hi f S P f' S' P') : ruT lo hi f' S' P' h r := by
  obtain ⟨q1, q2, x, l, rs, q3, q4, q5, q6, q7⟩ := q
  obtain ⟨a1, a2, a3, a4⟩ := a h q1.2.1 q1.2.2 (by rw [q2]; decide)
  have := q4.1.lt ht
  exact ⟨q1, by rw [a1]; exact q2, x, l, rs, a4 0 x q3 (by omega), q4.fw ht (fun i y hy => by obtain ⟨g', hg⟩ := el_q q5 q6 i y hy; exact hg.1.lt ht) a, q5, fun i y r' h1 h2 => (q6 i y r' h1 h2).fw ht a, q7⟩
