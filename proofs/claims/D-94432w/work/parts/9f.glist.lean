/-! ===== lists that are being made ===== -/
set_option maxRecDepth 100000
abbrev VT (α : Type) : Type := Nat → Nat → (Nat → Nat × Nat) → (Nat → Nat → Int) → (Nat → Nat → Option Nat) → Nat → α → Prop
/-- a tree's predicate: its root is an object of a region, a greater region will do, it looks at its region alone -/
def VOK {α : Type} (V : VT α) : Prop :=
  (∀ (lo hi : Nat) (f : Nat → Nat × Nat) (S : Nat → Nat → Int) (P : Nat → Nat → Option Nat) (x : Nat) (g : α), V lo hi f S P x g → inR lo hi x ∧ ∃ ci : Nat, f x = (1, ci) ∧ mm_mem mm_obs ci = true) ∧
  (∀ (lo hi lo' hi' : Nat) (f : Nat → Nat × Nat) (S : Nat → Nat → Int) (P : Nat → Nat → Option Nat) (x : Nat) (g : α), V lo hi f S P x g → 2000 ≤ lo' → lo' ≤ lo → hi ≤ hi' → V lo' hi' f S P x g) ∧
  ∀ (lo hi : Nat) (f f' : Nat → Nat × Nat) (S S' : Nat → Nat → Int) (P P' : Nat → Nat → Option Nat) (x : Nat) (g : α), V lo hi f S P x g → agR lo hi f S P f' S' P' → V lo hi f' S' P' x g
/-- a list h in the making, its row of m places: all in [t, u) -/
def GL {α : Type} (V : VT α) (t u h m : Nat) (f : Nat → Nat × Nat) (S : Nat → Nat → Int) (P : Nat → Nat → Option Nat) (l : List Nat) (gs : List α) : Prop :=
  inR t u h ∧ f h = (1, 17) ∧ S h 2 = (l.length : Int) ∧ l.length = gs.length ∧ l.length ≤ m ∧ (m = 0 ∨ 10 ≤ m) ∧ ∃ e : Nat, P h 1 = some e ∧ ((e = 1300 ∧ m = 0) ∨ (inR t u e ∧ e ≠ h ∧ f e = (7, m) ∧ 0 < m)) ∧
    ∀ (i x : Nat) (g : α), l[i]? = some x → gs[i]? = some g → P e i = some x ∧ ∃ lo hi : Nat, t ≤ lo ∧ hi ≤ u ∧ h < lo ∧ (e < lo ∨ hi ≤ e) ∧ V lo hi f S P x g
theorem GL.nil {α : Type} {V : VT α} {t u h : Nat} {f : Nat → Nat × Nat} {S : Nat → Nat → Int} {P : Nat → Nat → Option Nat} (h1 : inR t u h) (h2 : f h = (1, 17)) (h3 : S h 2 = 0) (h4 : P h 1 = some 1300) : GL V t u h 0 f S P [] [] :=
  ⟨h1, h2, h3, rfl, Nat.le_refl _, Or.inl rfl, 1300, h4, Or.inl ⟨rfl, rfl⟩, fun i x g e => by rw [List.getElem?_nil] at e; cases e⟩
theorem GL.grm {α : Type} {V : VT α} (hV : VOK V) {t u v w h m : Nat} {f f' : Nat → Nat × Nat} {S S' L L' : Nat → Nat → Int} {P P' : Nat → Nat → Option Nat} {l : List Nat} {gs : List α} (q : GL V t u h m f S P l gs) (a : gr v w f S L P f' S' L' P') (hv : u ≤ v) : GL V t u h m f' S' P' l gs := by
  obtain ⟨q1, q2, q3, q4, q5, q6, e, q7, q8, q9⟩ := q
  have ag := a.ag (lo := t) (hi := u) q1.1 hv
  obtain ⟨a1, a2, a3⟩ := ag h q1.2.1 q1.2.2
  refine ⟨q1, by rw [a1]; exact q2, by rw [a2]; exact q3, q4, q5, q6, e, by rw [a3]; exact q7, q8.imp id fun c => ⟨c.1, c.2.1, by rw [(ag e c.1.2.1 c.1.2.2).1]; exact c.2.2.1, c.2.2.2⟩, fun i x g h1 h2 => ?_⟩
  obtain ⟨r1, lo, hi, r2, r3, r4, r5, r6⟩ := q9 i x g h1 h2
  have he : P' e = P e := by
    rcases q8 with c | c
    · rw [c.2] at q5
      have : l = [] := List.length_eq_zero_iff.mp (by omega)
      rw [this, List.getElem?_nil] at h1
      cases h1
    · exact (ag e c.1.2.1 c.1.2.2).2.2
  exact ⟨by rw [he]; exact r1, lo, hi, r2, r3, r4, r5, hV.2.2 _ _ _ _ _ _ _ _ _ _ r6 (fun x h1 h2 => ag x (by omega) (by omega))⟩
theorem lsN_4 {m : Nat} (h : m = 0 ∨ 10 ≤ m) : lsN m + 4 * m ≤ 4 * lsN m ∧ 10 ≤ lsN m ∧ (10 ≤ m → lsN m ≤ 2 * m) := by
  unfold lsN
  rcases h with rfl | h
  · simp
  · rw [if_neg (by omega), if_neg (by omega)]
    omega
/-- what an element's taking in asks for, and gives -/
theorem GL.add {α : Type} {V : VT α} (hV : VOK V) {t v u h m x c s : Nat} {f : Nat → Nat × Nat} {S L : Nat → Nat → Int} {P : Nat → Nat → Option Nat} {l : List Nat} {gs : List α} {g : α} {R : (Nat → Nat × Nat) → (Nat → Nat → Int) → (Nat → Nat → Int) → (Nat → Nat → Option Nat) → Prop}
    (q : GL V t v h m f S P l gs) (hf : frF f u) (hvu : v ≤ u) (hx : V v u f S P x g) (hm : m ≤ 400000) (hc : l.length < m ∨ (1 ≤ c ∧ lsN m ≤ s))
    (k : ∀ (f' : Nat → Nat × Nat) (S' L' : Nat → Nat → Int) (P' : Nat → Nat → Option Nat) (u' m' : Nat), gr t u' f S L P f' S' L' P' → (∀ k, S' 101 k = S 101 k) → (∀ j, j < u → j ≠ h → f j ≠ (7, m) → f' j = f j ∧ S' j = S j ∧ P' j = P j) → u ≤ u' → GL V t u' h m' f' S' P' (l ++ [x]) (gs ++ [g]) → ((l.length < m ∧ m' = m) ∨ (l.length = m ∧ m' = lsN m)) → R f' S' L' P') :
    ∃ a_4 b_4 m_4 n_4 ci_4 : Nat, lsR ((2, f), S, L, P) h a_4 m_4 n_4 ∧ (zsh ((2, f), S, L, P) x = (1, ci_4) ∧ mm_mem mm_obs ci_4 = true) ∧ (n_4 < m_4 → (∀ (S_4 : Nat → Nat → Int) (P_4 : Nat → Nat → Option Nat), (∀ j k, ¬ (j = h ∧ (k = 0 ∨ k = 2)) → S_4 j k = S j k) → S_4 h 2 = (n_4 : Int) + 1 → (∀ j k, ¬ (j = a_4 ∧ k = n_4) → P_4 j k = P j k) → P_4 a_4 n_4 = some x → R f S_4 L P_4)) ∧ (n_4 = m_4 → zfree ((2, f), S, L, P) b_4 ∧ (1 ≤ c ∧ lsN m_4 ≤ s) ∧ (∀ (S_4 : Nat → Nat → Int) (P_4 : Nat → Nat → Option Nat), (∀ j k, ¬ (j = h ∧ (k = 0 ∨ k = 2)) → j ≠ b_4 → S_4 j k = S j k) → S_4 h 2 = (n_4 : Int) + 1 → (∀ j k, j ≠ b_4 → ¬ (j = h ∧ k = 1) → P_4 j k = P j k) → P_4 h 1 = some b_4 → (∀ i : Nat, i < m_4 → P_4 b_4 i = zpt ((2, f), S, L, P) a_4 i) → P_4 b_4 n_4 = some x → R (zrw f b_4 (7, lsN m_4)) S_4 (zrw L b_4 (fun _ => 0)) P_4)) := by
  obtain ⟨q1, q2, q3, q4, q5, q6, e, q7, q8, q9⟩ := q
  have t2 := q1.1
  have ht := q1.2.1
  have hv := q1.2.2
  have h2 : 2000 ≤ h := q1.le
  obtain ⟨x1, ci, x2, x3⟩ := hV.1 _ _ _ _ _ _ _ hx
  have u2 := hf.1
  have app : ∀ (i y : Nat) (g' : α), (l ++ [x])[i]? = some y → (gs ++ [g])[i]? = some g' → (l[i]? = some y ∧ gs[i]? = some g' ∧ i < l.length) ∨ (i = l.length ∧ y = x ∧ g' = g) := by
    intro i y g' h1 h2
    by_cases hi : i < l.length
    · rw [List.getElem?_append_left hi] at h1
      rw [List.getElem?_append_left (by omega)] at h2
      exact Or.inl ⟨h1, h2, hi⟩
    · rw [List.getElem?_append_right (by omega)] at h1
      rw [List.getElem?_append_right (by omega)] at h2
      by_cases e0 : i = l.length
      · rw [e0, Nat.sub_self] at h1
        rw [e0, q4, Nat.sub_self] at h2
        cases h1
        cases h2
        exact Or.inr ⟨e0, rfl, rfl⟩
      · rw [List.getElem?_eq_none (by simp; omega)] at h1
        cases h1
  have el : ∀ i y : Nat, i < l.length → l[i]? = some y → ∃ g', gs[i]? = some g' := fun i y hi _ => ⟨gs[i]'(by omega), List.getElem?_eq_getElem _⟩
  have row : ∀ i y : Nat, i < l.length → zpt ((2, f), S, L, P) e i = some y → ∃ ci : Nat, zsh ((2, f), S, L, P) y = (1, ci) ∧ mm_mem mm_obs ci = true := by
    intro i y hi hy
    obtain ⟨g', hg⟩ := el i _ hi (List.getElem?_eq_getElem hi)
    obtain ⟨r1, lo, hi', r2, r3, r4, r5, r6⟩ := q9 i _ g' (List.getElem?_eq_getElem hi) hg
    rcases q8 with c | c
    · omega
    · rw [zpt_hi c.1.le, r1] at hy
      cases hy
      obtain ⟨y1, ci, y2, y3⟩ := hV.1 _ _ _ _ _ _ _ r6
      exact ⟨ci, (zsh_hi y1.le).trans y2, y3⟩
  refine ⟨e, u, m, l.length, ci, ⟨(zsh_hi h2).trans q2, zfx_of (zfs_hi h2) 1, q3, (zpt_hi h2).trans q7, q5, hm, ?_, row⟩, ⟨(zsh_hi x1.le).trans x2, x3⟩, fun lt S4 P4 e1 e2 e3 e4 => ?_, fun eq => ⟨hf.z (Nat.le_refl _), ?_, fun S4 P4 e1 e2 e3 e4 e5 e6 => ?_⟩⟩
  · rcases q8 with c | c
    · exact Or.inl ⟨c.1, c.2, by rw [c.1]; rfl⟩
    · exact Or.inr ⟨(zsh_hi c.1.le).trans c.2.2.1, c.2.2.2, zfs_hi c.1.le⟩
  · obtain ⟨c1, c2, c3, c4⟩ : inR t v e ∧ e ≠ h ∧ f e = (7, m) ∧ 0 < m := by
      rcases q8 with c | c
      · omega
      · exact c
    have ev := c1.2.2
    have et := c1.2.1
    have Sx : ∀ j, j ≠ h → S4 j = S j := fun j hj => by
      funext k
      exact e1 j k (fun c => hj c.1)
    have Px : ∀ j, j ≠ e → P4 j = P j := fun j hj => by
      funext k
      exact e3 j k (fun c => hj c.1)
    refine k f S4 L P4 u m ⟨by omega, fun _ _ => rfl, fun j k hj _ => by rw [Sx j (by omega)], fun _ _ => rfl, fun j hj => Px j (by omega), hf⟩ (fun k => by rw [Sx 101 (by omega)]) (fun j _ j1 j2 => ⟨rfl, Sx j j1, Px j (fun c => j2 (by rw [c]; exact c3))⟩) (Nat.le_refl _) ⟨⟨t2, ht, by omega⟩, q2, by rw [e2]; simp, by simp [q4], by simp; omega, q6, e, by rw [Px h (Ne.symm c2)]; exact q7, Or.inr ⟨⟨t2, et, by omega⟩, c2, c3, c4⟩, fun i y g' h1 h2 => ?_⟩ (Or.inl ⟨lt, rfl⟩)
    rcases app i y g' h1 h2 with ⟨a1, a2, a3⟩ | ⟨a1, a2, a3⟩
    · obtain ⟨r1, lo, hi, r2, r3, r4, r5, r6⟩ := q9 i y g' a1 a2
      refine ⟨by rw [e3 e i (fun c => by omega)]; exact r1, lo, hi, r2, by omega, r4, r5, hV.2.2 _ _ _ _ _ _ _ _ _ _ r6 (fun z z1 z2 => ⟨rfl, Sx z (by omega), Px z (by omega)⟩)⟩
    · subst a1 a2 a3
      exact ⟨e4, v, u, by omega, Nat.le_refl _, hv, Or.inl ev, hV.2.2 _ _ _ _ _ _ _ _ _ _ hx (fun z z1 z2 => ⟨rfl, Sx z (by omega), Px z (by omega)⟩)⟩
  · rcases hc with c | c
    · omega
    · exact c
  · have Sx : ∀ j, j ≠ h → j ≠ u → S4 j = S j := fun j hj hu => by
      funext k
      exact e1 j k (fun c => hj c.1) hu
    have Px : ∀ j, j ≠ h → j ≠ u → P4 j = P j := fun j hj hu => by
      funext k
      exact e3 j k hu (fun c => hj c.1)
    have fx : ∀ j, j ≠ u → zrw f u (7, lsN m) j = f j := fun j hj => zrw_n _ _ hj
    have l4 := lsN_4 q6
    refine k _ S4 _ P4 (u + 1) (lsN m) ⟨by omega, fun j hj => fx j (by omega), fun j k hj _ => by rw [Sx j (by omega) (by omega)], fun j hj => zrw_n _ _ (by omega), fun j hj => Px j (by omega) (by omega), by omega, fun j hj => by rw [fx j (by omega)]; exact hf.2 j (by omega)⟩ (fun k => by rw [Sx 101 (by omega) (by omega)]) (fun j j0 j1 _ => ⟨fx j (by omega), Sx j j1 (by omega), Px j j1 (by omega)⟩) (by omega) ⟨⟨t2, ht, by omega⟩, by rw [fx h (by omega)]; exact q2, by rw [e2]; simp, by simp [q4], ?_, by omega, u, e4, Or.inr ⟨⟨t2, by omega, by omega⟩, by omega, zrw_s _ _ _, by omega⟩, fun i y g' h1 h2 => ?_⟩ (Or.inr ⟨eq, rfl⟩)
    · rw [List.length_append]
      show l.length + 1 ≤ lsN m
      rcases q6 with z | z
      · omega
      · have : m + 1 ≤ lsN m := by
          unfold lsN
          rw [if_neg (by omega), if_neg (by omega)]
          omega
        omega
    · rcases app i y g' h1 h2 with ⟨a1, a2, a3⟩ | ⟨a1, a2, a3⟩
      · obtain ⟨r1, lo, hi, r2, r3, r4, r5, r6⟩ := q9 i y g' a1 a2
        refine ⟨?_, lo, hi, r2, by omega, r4, Or.inr (by omega), hV.2.2 _ _ _ _ _ _ _ _ _ _ r6 (fun z z1 z2 => ⟨fx z (by omega), Sx z (by omega) (by omega), Px z (by omega) (by omega)⟩)⟩
        rw [e5 i (by omega)]
        rcases q8 with c | c
        · omega
        · rw [zpt_hi c.1.le]
          exact r1
      · subst a1 a2 a3
        exact ⟨e6, v, u, by omega, by omega, hv, Or.inr (Nat.le_refl _), hV.2.2 _ _ _ _ _ _ _ _ _ _ hx (fun z z1 z2 => ⟨fx z (by omega), Sx z (by omega) (by omega), Px z (by omega) (by omega)⟩)⟩
/-- a list that is made -/
theorem GL.ALT {α : Type} {V : VT α} (hV : VOK V) {t u h m : Nat} {f : Nat → Nat × Nat} {S : Nat → Nat → Int} {P : Nat → Nat → Option Nat} {l : List Nat} {gs : List α} (q : GL V t u h m f S P l gs) (hm : m ≤ 400000) : ALT t u f S P h l ∧ l.length = gs.length ∧ ∀ (i x : Nat) (g : α), l[i]? = some x → gs[i]? = some g → V t u f S P x g := by
  obtain ⟨q1, q2, q3, q4, q5, q6, e, q7, q8, q9⟩ := q
  refine ⟨⟨q1, q2, q3, by omega, fun ne => ?_⟩, q4, fun i x g h1 h2 => ?_⟩
  · have : 0 < l.length := List.length_pos_iff.mpr ne
    rcases q8 with c | c
    · omega
    · refine ⟨e, m, c.1, q7, c.2.2.1, by omega, q5, fun i x hx => ?_⟩
      have hi : i < l.length := by
        apply Decidable.byContradiction
        intro hc
        rw [List.getElem?_eq_none (by omega)] at hx
        cases hx
      exact (q9 i x (gs[i]'(by omega)) hx (List.getElem?_eq_getElem _)).1
  · obtain ⟨r1, lo, hi, r2, r3, r4, r5, r6⟩ := q9 i x g h1 h2
    exact hV.2.1 _ _ _ _ _ _ _ _ _ r6 q1.1 r2 r3
theorem gr.tr2 {t u v : Nat} {f f1 f2 : Nat → Nat × Nat} {S S1 S2 L L1 L2 : Nat → Nat → Int} {P P1 P2 : Nat → Nat → Option Nat} (a : gr t u f S L P f1 S1 L1 P1) (b : gr t v f1 S1 L1 P1 f2 S2 L2 P2) : gr t v f S L P f2 S2 L2 P2 := by
  obtain ⟨a0, a1, a2, a3, a4, a5⟩ := a
  obtain ⟨b0, b1, b2, b3, b4, b5⟩ := b
  exact ⟨b0, fun h hh => (b1 h hh).trans (a1 h hh), fun h k hh hk => (b2 h k hh hk).trans (a2 h k hh hk), fun h hh => (b3 h hh).trans (a3 h hh), fun h hh => (b4 h hh).trans (a4 h hh), b5⟩
theorem agR_rS {lo hi a b : Nat} {f : Nat → Nat × Nat} {S : Nat → Nat → Int} {P : Nat → Nat → Option Nat} (h : 2000 ≤ lo) : agR lo hi f S P f (rS S a b) P := fun j h1 _ => ⟨rfl, rS_o S a b (by omega), rfl⟩
theorem GL.rS {α : Type} {V : VT α} (hV : VOK V) {t u h m a b : Nat} {f : Nat → Nat × Nat} {S : Nat → Nat → Int} {P : Nat → Nat → Option Nat} {l : List Nat} {gs : List α} (q : GL V t u h m f S P l gs) : GL V t u h m f (rS S a b) P l gs := by
  obtain ⟨q1, q2, q3, q4, q5, q6, e, q7, q8, q9⟩ := q
  have h2 := q1.le
  refine ⟨q1, q2, by rw [rS_o S a b (by omega)]; exact q3, q4, q5, q6, e, q7, q8, fun i x g h1 h2 => ?_⟩
  obtain ⟨r1, lo, hi, r2, r3, r4, r5, r6⟩ := q9 i x g h1 h2
  exact ⟨r1, lo, hi, r2, r3, r4, r5, hV.2.2 _ _ _ _ _ _ _ _ _ _ r6 (agR_rS (by have := q1.1; omega))⟩
theorem GL.up {α : Type} {V : VT α} {t u u' h m : Nat} {f : Nat → Nat × Nat} {S : Nat → Nat → Int} {P : Nat → Nat → Option Nat} {l : List Nat} {gs : List α} (q : GL V t u h m f S P l gs) (hu : u ≤ u') : GL V t u' h m f S P l gs := by
  obtain ⟨q1, q2, q3, q4, q5, q6, e, q7, q8, q9⟩ := q
  refine ⟨⟨q1.1, q1.2.1, by have := q1.2.2; omega⟩, q2, q3, q4, q5, q6, e, q7, q8.imp id fun c => ⟨⟨c.1.1, c.1.2.1, by have := c.1.2.2; omega⟩, c.2⟩, fun i x g h1 h2 => ?_⟩
  obtain ⟨r1, lo, hi, r2, r3, r4⟩ := q9 i x g h1 h2
  exact ⟨r1, lo, hi, r2, by omega, r4⟩
