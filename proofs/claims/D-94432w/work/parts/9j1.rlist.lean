/-! ===== the rules that are told: the list that grows ===== -/
set_option maxRecDepth 100000
/-- the list of rules hl, its row e of m places: what the rules say; all below top -/
def rlG (hl e m top : Nat) (f : Nat → Nat × Nat) (S : Nat → Nat → Int) (P : Nat → Nat → Option Nat) (rs : List (Fc → Option Int)) : Prop :=
  2000 ≤ top ∧ S hl 2 = (rs.length : Int) ∧ rs.length ≤ 6 ∧ P hl 1 = some e ∧ rs.length ≤ m ∧ (m = 0 ∨ 10 ≤ m) ∧ m ≤ 1000 ∧ ((e = 1300 ∧ m = 0) ∨ (inR 2000 top e ∧ e ≠ hl ∧ f e = (7, m) ∧ 0 < m)) ∧
    ∃ l : List Nat, l.length = rs.length ∧ ∀ (i x : Nat) (r : Fc → Option Int), l[i]? = some x → rs[i]? = some r → P e i = some x ∧ ∃ lo hi : Nat, 2000 ≤ lo ∧ hi ≤ top ∧ (hl < lo ∨ hi ≤ hl) ∧ (e < lo ∨ hi ≤ e) ∧ ruT lo hi f S P x r
theorem ruT.V : VOK ruT := by
  refine ⟨fun lo hi f S P x g q => ⟨q.1, 9, q.2.1, by decide⟩, fun lo hi lo' hi' f S P x g q a b c => ?_, fun lo hi f f' S S' P P' x g q a => ?_⟩
  · obtain ⟨q1, q2, y, l, rs, q3, q4, q5, q6, q7⟩ := q
    exact ⟨q1.mo a b c, q2, y, l, rs, q3, q4.mo a b c, q5, fun i z r h1 h2 => (q6 i z r h1 h2).mo a b c, q7⟩
  · obtain ⟨q1, q2, y, l, rs, q3, q4, q5, q6, q7⟩ := q
    obtain ⟨a1, a2, a3⟩ := a x q1.2.1 q1.2.2
    exact ⟨q1, by rw [a1]; exact q2, y, l, rs, by rw [a3]; exact q3, q4.fr a, q5, fun i z r h1 h2 => (q6 i z r h1 h2).fr a, q7⟩
/-- as the entries ask for it -/
theorem rlG.I {e m top : Nat} {f : Nat → Nat × Nat} {S : Nat → Nat → Int} {P : Nat → Nat → Option Nat} {rs : List (Fc → Option Int)} (q : rlG 202 e m top f S P rs) : rlI f S P top rs := by
  obtain ⟨q1, q2, q3, q4, q5, q6, q7, q8, l, q9, q10⟩ := q
  refine ⟨q1, q2, q3, fun ne => ?_⟩
  have : 0 < rs.length := List.length_pos_iff.mpr ne
  rcases q8 with c | c
  · omega
  · refine ⟨e, m, l, c.1, q4, c.2.2.1, by omega, q9, by omega, fun i x hx => ?_, fun i x r hx hr => ?_⟩
    · have hi : i < l.length := by
        apply Decidable.byContradiction
        intro hc
        rw [List.getElem?_eq_none (by omega)] at hx
        cases hx
      exact (q10 i x (rs[i]'(by omega)) hx (List.getElem?_eq_getElem _)).1
    · obtain ⟨-, lo, hi, r1, r2, -, -, r3⟩ := q10 i x r hx hr
      exact ruT.V.2.1 _ _ _ _ _ _ _ _ _ r3 (Nat.le_refl _) r1 r2
/-- it stays, if its cells and what is below its top stay -/
theorem rlG.fr {hl e m top u : Nat} {f f' : Nat → Nat × Nat} {S S' : Nat → Nat → Int} {P P' : Nat → Nat → Option Nat} {rs : List (Fc → Option Int)} (q : rlG hl e m top f S P rs) (hu : top ≤ u) (e2 : S' hl 2 = S hl 2) (e1 : P' hl 1 = P hl 1) (a : agR 2000 top f S P f' S' P') : rlG hl e m u f' S' P' rs := by
  obtain ⟨q1, q2, q3, q4, q5, q6, q7, q8, l, q9, q10⟩ := q
  refine ⟨by omega, e2.trans q2, q3, e1.trans q4, q5, q6, q7, q8.imp id fun c => ⟨⟨c.1.1, c.1.2.1, by have := c.1.2.2; omega⟩, c.2.1, by rw [(a e c.1.2.1 c.1.2.2).1]; exact c.2.2.1, c.2.2.2⟩, l, q9, fun i x r hx hr => ?_⟩
  obtain ⟨r0, lo, hi, r1, r2, r3, r4, r5⟩ := q10 i x r hx hr
  have hi' : i < l.length := by
    apply Decidable.byContradiction
    intro hc
    rw [List.getElem?_eq_none (by omega)] at hx
    cases hx
  refine ⟨?_, lo, hi, r1, by omega, r3, r4, ruT.V.2.2 _ _ _ _ _ _ _ _ _ _ r5 (fun h h1 h2 => a h (by omega) (by omega))⟩
  rcases q8 with c | c
  · omega
  · rw [(a e c.1.2.1 c.1.2.2).2.2]
    exact r0
/-- one rule more -/
theorem rlG.add {e m top u x c s : Nat} {f : Nat → Nat × Nat} {S L : Nat → Nat → Int} {P : Nat → Nat → Option Nat} {rs : List (Fc → Option Int)} {g : Fc → Option Int} {R : (Nat → Nat × Nat) → (Nat → Nat → Int) → (Nat → Nat → Int) → (Nat → Nat → Option Nat) → Prop}
    (q : rlG 202 e m top f S P rs) (hf : frF f u) (hvu : top ≤ u) (hx : ruT top u f S P x g) (h6 : rs.length < 6) (hc : 1 ≤ c ∧ 10 ≤ s)
    (k : ∀ (f' : Nat → Nat × Nat) (S' L' : Nat → Nat → Int) (P' : Nat → Nat → Option Nat) (u' e' m' : Nat), u ≤ u' → (e' = e ∨ u ≤ e') → frF f' u' → (∀ h, h < u → f' h = f h) → (∀ h k, h < u → ¬ (h = 202 ∧ (k = 0 ∨ k = 2)) → S' h k = S h k) → (∀ h, h < u → L' h = L h) → (∀ h k, h < u → ¬ (h = 202 ∧ k = 1) → h ≠ e → P' h k = P h k) → rlG 202 e' m' u' f' S' P' (rs ++ [g]) → S' 202 2 = (rs.length : Int) + 1 → R f' S' L' P') :
    ∃ a_4 b_4 m_4 n_4 ci_4 : Nat, lsR ((2, f), S, L, P) 202 a_4 m_4 n_4 ∧ (zsh ((2, f), S, L, P) x = (1, ci_4) ∧ mm_mem mm_obs ci_4 = true) ∧ (n_4 < m_4 → (∀ (S_4 : Nat → Nat → Int) (P_4 : Nat → Nat → Option Nat), (∀ j k, ¬ (j = 202 ∧ (k = 0 ∨ k = 2)) → S_4 j k = S j k) → S_4 202 2 = (n_4 : Int) + 1 → (∀ j k, ¬ (j = a_4 ∧ k = n_4) → P_4 j k = P j k) → P_4 a_4 n_4 = some x → R f S_4 L P_4)) ∧ (n_4 = m_4 → zfree ((2, f), S, L, P) b_4 ∧ (1 ≤ c ∧ lsN m_4 ≤ s) ∧ (∀ (S_4 : Nat → Nat → Int) (P_4 : Nat → Nat → Option Nat), (∀ j k, ¬ (j = 202 ∧ (k = 0 ∨ k = 2)) → j ≠ b_4 → S_4 j k = S j k) → S_4 202 2 = (n_4 : Int) + 1 → (∀ j k, j ≠ b_4 → ¬ (j = 202 ∧ k = 1) → P_4 j k = P j k) → P_4 202 1 = some b_4 → (∀ i : Nat, i < m_4 → P_4 b_4 i = zpt ((2, f), S, L, P) a_4 i) → P_4 b_4 n_4 = some x → R (zrw f b_4 (7, lsN m_4)) S_4 (zrw L b_4 (fun _ => 0)) P_4)) := by
  obtain ⟨q1, q2, q3, q4, q5, q6, q7, q8, l, q9, q10⟩ := q
  have u2 := hf.1
  obtain ⟨x1, ci, x2, x3⟩ := ruT.V.1 _ _ _ _ _ _ _ hx
  have z202 : zsh ((2, f), S, L, P) 202 = (1, 17) := rfl
  have p202 : zpt ((2, f), S, L, P) 202 1 = P 202 1 := rfl
  have app : ∀ (i y : Nat) (g' : Fc → Option Int), (l ++ [x])[i]? = some y → (rs ++ [g])[i]? = some g' → (l[i]? = some y ∧ rs[i]? = some g' ∧ i < l.length) ∨ (i = l.length ∧ y = x ∧ g' = g) := by
    intro i y g' h1 h2
    by_cases hi : i < l.length
    · rw [List.getElem?_append_left hi] at h1
      rw [List.getElem?_append_left (by omega)] at h2
      exact Or.inl ⟨h1, h2, hi⟩
    · rw [List.getElem?_append_right (by omega)] at h1
      rw [List.getElem?_append_right (by omega)] at h2
      by_cases e0 : i = l.length
      · rw [e0, Nat.sub_self] at h1
        rw [e0, q9, Nat.sub_self] at h2
        cases h1
        cases h2
        exact Or.inr ⟨e0, rfl, rfl⟩
      · rw [List.getElem?_eq_none (by simp; omega)] at h1
        cases h1
  have row : ∀ i y : Nat, i < rs.length → zpt ((2, f), S, L, P) e i = some y → ∃ ci : Nat, zsh ((2, f), S, L, P) y = (1, ci) ∧ mm_mem mm_obs ci = true := by
    intro i y hi hy
    obtain ⟨r1, lo, hi', r2, r3, r4, r5, r6⟩ := q10 i _ _ (List.getElem?_eq_getElem (by omega : i < l.length)) (List.getElem?_eq_getElem hi)
    rcases q8 with c | c
    · omega
    · rw [zpt_hi c.1.le, r1] at hy
      cases hy
      obtain ⟨y1, ci, y2, y3⟩ := ruT.V.1 _ _ _ _ _ _ _ r6
      exact ⟨ci, (zsh_hi y1.le).trans y2, y3⟩
  refine ⟨e, u, m, rs.length, ci, ⟨z202, rfl, q2, p202.trans q4, q5, by omega, ?_, row⟩, ⟨(zsh_hi x1.le).trans x2, x3⟩, fun lt S4 P4 e1 e2 e3 e4 => ?_, fun eq => ⟨hf.z (Nat.le_refl _), ?_, fun S4 P4 e1 e2 e3 e4 e5 e6 => ?_⟩⟩
  · rcases q8 with c | c
    · exact Or.inl ⟨c.1, c.2, by rw [c.1]; rfl⟩
    · exact Or.inr ⟨(zsh_hi c.1.le).trans c.2.2.1, c.2.2.2, zfs_hi c.1.le⟩
  · obtain ⟨c1, c2, c3, c4⟩ : inR 2000 top e ∧ e ≠ 202 ∧ f e = (7, m) ∧ 0 < m := by
      rcases q8 with c | c
      · omega
      · exact c
    have ev := c1.2.2
    have et := c1.2.1
    have Sx : ∀ j, 2000 ≤ j → S4 j = S j := fun j hj => by
      funext k
      exact e1 j k (fun c => by have := c.1; omega)
    have Px : ∀ j, j ≠ e → P4 j = P j := fun j hj => by
      funext k
      exact e3 j k (fun c => hj c.1)
    refine k f S4 L P4 u e m (Nat.le_refl _) (Or.inl rfl) hf (fun _ _ => rfl) (fun h k _ hk => e1 h k hk) (fun _ _ => rfl) (fun h k _ _ he => e3 h k (fun c => he c.1)) ⟨by omega, by rw [e2]; simp, by simp; omega, by rw [Px 202 (by omega)]; exact q4, by simp; omega, q6, q7, Or.inr ⟨⟨Nat.le_refl _, et, by omega⟩, c2, c3, c4⟩, l ++ [x], by simp [q9], fun i y g' h1 h2 => ?_⟩ e2
    rcases app i y g' h1 h2 with ⟨a1, a2, a3⟩ | ⟨a1, a2, a3⟩
    · obtain ⟨r1, lo, hi, r2, r3, r4, r5, r6⟩ := q10 i y g' a1 a2
      refine ⟨by rw [e3 e i (fun c => by omega)]; exact r1, lo, hi, r2, by omega, r4, r5, ruT.V.2.2 _ _ _ _ _ _ _ _ _ _ r6 (fun z z1 z2 => ⟨rfl, Sx z (by omega), Px z (by omega)⟩)⟩
    · subst a1 a2 a3
      exact ⟨by rw [q9]; exact e4, top, u, q1, Nat.le_refl _, Or.inl (by omega), Or.inl ev, ruT.V.2.2 _ _ _ _ _ _ _ _ _ _ hx (fun z z1 z2 => ⟨rfl, Sx z (by omega), Px z (by omega)⟩)⟩
  · refine ⟨hc.1, ?_⟩
    have : m = 0 := by omega
    rw [this]
    exact hc.2
  · have m0 : m = 0 := by omega
    have Sx : ∀ j, 2000 ≤ j → j ≠ u → S4 j = S j := fun j hj hu => by
      funext k
      exact e1 j k (fun c => by have := c.1; omega) hu
    have Px : ∀ j, j ≠ 202 → j ≠ u → P4 j = P j := fun j hj hu => by
      funext k
      exact e3 j k hu (fun c => hj c.1)
    have fx : ∀ j, j ≠ u → zrw f u (7, lsN m) j = f j := fun j hj => zrw_n _ _ hj
    have ln : lsN m = 10 := by rw [m0]; rfl
    have l0 : rs.length = 0 := by omega
    refine k _ S4 _ P4 (u + 1) u (lsN m) (by omega) (Or.inr (Nat.le_refl _)) ⟨by omega, fun j hj => by rw [fx j (by omega)]; exact hf.2 j (by omega)⟩ (fun h hh => fx h (by omega)) (fun h k hh hk => e1 h k hk (by omega)) (fun h hh => zrw_n _ _ (by omega)) (fun h k hh hk he => e3 h k (by omega) hk) ⟨by omega, by rw [e2]; simp, by simp; omega, e4, by simp; omega, Or.inr (by omega), by omega, Or.inr ⟨⟨Nat.le_refl _, by omega, by omega⟩, by omega, zrw_s _ _ _, by omega⟩, l ++ [x], by simp [q9], fun i y g' h1 h2 => ?_⟩ e2
    rcases app i y g' h1 h2 with ⟨a1, a2, a3⟩ | ⟨a1, a2, a3⟩
    · omega
    · subst a1 a2 a3
      exact ⟨by rw [q9]; exact e6, top, u, q1, by omega, Or.inl (by omega), Or.inr (Nat.le_refl _), ruT.V.2.2 _ _ _ _ _ _ _ _ _ _ hx (fun z z1 z2 => ⟨fx z (by omega), Sx z (by omega) (by omega), Px z (by omega) (by omega)⟩)⟩
/-- what the reader's entries leave as it was: all below top but the reader's cells, the list of rules and its row e -/
def rdE (top e : Nat) (f : Nat → Nat × Nat) (S L : Nat → Nat → Int) (P : Nat → Nat → Option Nat) (f' : Nat → Nat × Nat) (S' L' : Nat → Nat → Int) (P' : Nat → Nat → Option Nat) : Prop :=
  (∀ h, h < top → f' h = f h) ∧ (∀ h k, h < top → h ≠ 101 → ¬ (h = 202 ∧ (k = 0 ∨ k = 2)) → S' h k = S h k) ∧ (∀ h, h < top → L' h = L h) ∧ ∀ h k, h < top → ¬ (h = 202 ∧ k = 1) → h ≠ e → P' h k = P h k
/-- the tape as it was told: n bytes -/
def tpT (S : Nat → Nat → Int) (tx : Nat → Int) (n : Nat) : Prop := n ≤ 400 ∧ S 101 1 = (n : Int) ∧ ∀ k, k < n → (0 ≤ tx k ∧ tx k ≤ 255) ∧ S 102 k = cby (tx k)
