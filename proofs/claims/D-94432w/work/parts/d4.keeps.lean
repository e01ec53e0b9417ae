/-! ===== what holds of a row goes on to hold ===== -/
set_option maxRecDepth 100000
theorem smR_c {w w' : Nat → Int} (e : ∀ k, k < 192 → w' k = w k) : ∀ i b, b + i ≤ 192 → smR w' b i = smR w b i
  | 0, _, _ => rfl
  | i + 1, b, h => by
    show smR w' b i + w' (b + i) = smR w b i + w (b + i)
    rw [smR_c e i b (by omega), e (b + i) (by omega)]
theorem whB_c {w w' : Nat → Int} (e : ∀ k, k < 192 → w' k = w k) (h : whB w 16 = true) : whB w' 16 = true :=
  whB_t.mpr fun j hj => (smR_c e 12 (12 * j) (by omega)).trans (whB_t.mp h j hj)
theorem trG_c {w w' : Nat → Int} {i : Nat} (h : trG w i) (e : ∀ k, k < 401 → w' (210 + 401 * i + k) = w (210 + 401 * i + k)) : trG w' i := by
  obtain ⟨h1, h2, h3, h4, c, h5⟩ := h
  have e0 : w' (210 + 401 * i) = w (210 + 401 * i) := e 0 (by decide)
  have eN : trN w' i = trN w i := by unfold trN; rw [e0]
  have eT : ∀ k, k < trN w i → trT w' i k = trT w i k := fun k hk => by
    unfold trN at hk
    have := e (1 + k) (by omega)
    unfold trT
    rw [show 211 + 401 * i + k = 210 + 401 * i + (1 + k) by omega]
    exact this
  refine ⟨h1, by rw [e0]; exact h2, by rw [e0]; exact h3, fun k hk => ?_, c, ?_⟩
  · rw [eN] at hk
    rw [eT k hk]
    exact h4 k hk
  · rw [eN, cg_ru eT]
    exact h5
theorem WI.to {w w' : Nat → Int} (h : WI w) (e : ∀ k, 210 ≤ k → w' k = w k) (e3 : w' 193 = w 193) (e9 : ∀ u, u < 2 → w' (199 + u) = w (199 + u)) (g : mG w' ∧ whB w' 16 = true) (s : scV (nwW w') ∧ xB 6 (nwW w')) (c : 0 ≤ w' 192 ∧ w' 192 ≤ 12) : WI w' := by
  obtain ⟨-, -, -, ⟨r, h1, h2, h3, h4⟩, h5⟩ := h
  exact ⟨g, s, c, ⟨r, e3.trans h1, h2, fun i hi => trG_c (h3 i hi) (fun k _ => e _ (by omega)), fun u hu => by rw [e9 u hu]; exact h4 u hu⟩, fun k hk => (e k (by omega)).trans (h5 k hk)⟩
theorem nwW_c {w w' : Nat → Int} (e : ∀ k, 201 ≤ k → k < 210 → w' k = w k) : nwW w' = nwW w := by
  funext k
  unfold nwW
  by_cases c : k < 9
  · rw [if_pos c, if_pos c, e (201 + k) (by omega) (by omega)]
  · rw [if_neg c, if_neg c]
theorem mG_c {w w' : Nat → Int} (h : mG w) (e : ∀ k, k < 210 → k ≠ 192 → k ≠ 193 → ¬ (199 ≤ k ∧ k < 208) → w' k = w k) : mG w' := by
  obtain ⟨⟨g1, g2, g3, g4⟩, ⟨v1, v2, v3, v4, v5⟩, q1, q2⟩ := h
  unfold mG cG wV
  rw [e 194 (by decide) (by decide) (by decide) (by decide), e 195 (by decide) (by decide) (by decide) (by decide), e 196 (by decide) (by decide) (by decide) (by decide), e 197 (by decide) (by decide) (by decide) (by decide), e 198 (by decide) (by decide) (by decide) (by decide), e 208 (by decide) (by decide) (by decide) (by decide), e 209 (by decide) (by decide) (by decide) (by decide)]
  exact ⟨⟨fun k hk => by rw [e k (by omega) (by omega) (by omega) (by omega)]; exact g1 k hk, g2, g3, g4⟩, ⟨v1, v2, v3, v4, v5⟩, q1, q2⟩
section
variable {x : aS} {a b d e g : Int}
theorem AI.fl (h : AI x) {q : Nat} (hq : q ≤ 400) : AI (aN x x.1 0 (q : Int)) := ⟨h.1, h.2.1, ⟨Nat.zero_le _, h.2.2.1.2⟩, by show R32 ((q : Nat) : Int); omega⟩
theorem AI.f1 (h : AI x) : AI (aN x x.1 0 (-1)) := ⟨h.1, h.2.1, ⟨Nat.zero_le _, h.2.2.1.2⟩, (by decide : R32 (-1))⟩
theorem AI.n0 (h : AI x) : AI (aN x x.1 0 x.2.2.2.2.2) := ⟨h.1, h.2.1, ⟨Nat.zero_le _, h.2.2.1.2⟩, h.2.2.2⟩
theorem AI.told (h : AI x) {w' : Nat → Int} (hw : WI w') : AI (aN x w' 0 (-1)) := ⟨hw, h.2.1, ⟨Nat.zero_le _, h.2.2.1.2⟩, (by decide : R32 (-1))⟩
theorem AI.row (h : AI x) {w' : Nat → Int} (hw : WI w') : AI (aN x w' x.2.2.2.2.1 x.2.2.2.2.2) := ⟨hw, h.2.1, h.2.2.1, h.2.2.2⟩
theorem ka0 (h : AI x) : AI (sm0 x a b d e g).2.2 := by
  unfold sm0
  split
  · exact h
  · refine ⟨h.1, h.2.1, ⟨?_, fun k hk => ?_⟩, h.2.2.2⟩
    · show x.2.2.2.2.1 + 20 ≤ 400
      omega
    · show 0 ≤ (if x.2.2.2.2.1 ≤ k ∧ k < x.2.2.2.2.1 + 20 then fdM a b d e g (k - x.2.2.2.2.1) else x.2.2.2.1 k) ∧ (if x.2.2.2.2.1 ≤ k ∧ k < x.2.2.2.2.1 + 20 then fdM a b d e g (k - x.2.2.2.2.1) else x.2.2.2.1 k) ≤ 255
      split
      · exact zand_in _ (by decide) (by decide)
      · exact h.2.2.1.2 k hk
theorem ka1 (h : AI x) : AI (sm1 x a).2.2 := by
  unfold sm1
  have hn := h.2.2.1.1
  split
  · next c =>
    refine ⟨h.1, h.2.1, ⟨?_, h.2.2.1.2⟩, h.2.2.2⟩
    show a.toNat ≤ 400
    omega
  · exact h
theorem ctW_in {tx : Nat → Int} {n q : Nat} {w : Nat → Int} (h : ctW tx n w = .inl q) : q ≤ n := by
  unfold ctW at h
  cases hc : ctP tx n with
  | inl v => rw [hc] at h; cases h; exact ctP_w hc
  | inr c =>
    rw [hc] at h
    dsimp only at h
    split at h
    · cases h
    · cases h; exact Nat.le_refl _
theorem ctW_r {tx : Nat → Int} {n : Nat} {w r : Nat → Int} (h : ctW tx n w = .inr r) (g : cG w) : cG r ∧ whB r 16 = true ∧ ∀ k, (k = 192 ∨ k = 193 ∨ 197 ≤ k) → r k = w k := by
  unfold ctW at h
  cases hc : ctP tx n with
  | inl v => rw [hc] at h; cases h
  | inr c =>
    rw [hc] at h
    dsimp only at h
    split at h
    · next hw =>
      cases h
      obtain ⟨q1, q2⟩ := ctP_cW hc
      exact ⟨q1 w g, hw, fun k hk => q2 w k (by omega)⟩
    · cases h
theorem ka2 (h : AI x) : AI (sm2 x).2.2 := by
  have hn := h.2.2.1.1
  unfold sm2
  cases hc : ctW x.2.2.2.1 x.2.2.2.2.1 x.1 with
  | inl q => exact h.fl (Nat.le_trans (ctW_in hc) hn)
  | inr r =>
    dsimp only
    split
    · exact h.f1
    · next c =>
      obtain ⟨g1, g2, g3⟩ := ctW_r hc h.1.1.1.1
      have h192 := h.1.2.2.1
      have o : ∀ k, k ≠ 192 → (fun k => if k = 192 then x.1 192 + 1 else r k) k = r k := fun k hk => if_neg hk
      obtain ⟨⟨-, ⟨-, -, -, v4, v5⟩, q1, q2⟩, -⟩ := h.1.1
      refine h.told (w' := fun k => if k = 192 then x.1 192 + 1 else r k) (h.1.to (fun k hk => (o k (by omega)).trans (g3 k (by omega))) ((o 193 (by decide)).trans (g3 193 (by omega))) (fun u hu => (o _ (by omega)).trans (g3 _ (by omega))) ⟨?_, ?_⟩ ?_ ?_)
      · obtain ⟨c1, c2, c3, c4⟩ := g1
        unfold mG cG wV
        rw [o 194 (by decide), o 195 (by decide), o 196 (by decide), o 197 (by decide), o 198 (by decide), o 208 (by decide), o 209 (by decide), g3 197 (by omega), g3 198 (by omega), g3 208 (by omega), g3 209 (by omega)]
        exact ⟨⟨fun k hk => by rw [o k (by omega)]; exact c1 k hk, c2, c3, c4⟩, ⟨c2, c3, c4, v4, v5⟩, q1, q2⟩
      · exact whB_c (fun k hk => o k (by omega)) g2
      · rw [nwW_c (w := x.1) (fun k h1 h2 => (o k (by omega)).trans (g3 k (by omega)))]
        exact h.1.2.1
      · show 0 ≤ (if (192 : Nat) = 192 then x.1 192 + 1 else r 192) ∧ (if (192 : Nat) = 192 then x.1 192 + 1 else r 192) ≤ 12
        rw [if_pos rfl]
        omega
theorem ruP_w {tx : Nat → Int} {n w : Nat} (hx : ∀ k, k < n → 0 ≤ tx k ∧ tx k ≤ 255) (h : ruP tx n = .inl w) : w ≤ n := by
  unfold ruP liP at h
  split at h
  · cases h
  · exact liF_w (rlP_ok hx) _ _ _ _ (Nat.zero_le _) h
theorem ka3 (h : AI x) : AI (sm3 x).2.2 := by
  have hn := h.2.2.1.1
  have ht := h.2.2.1.2
  unfold sm3
  cases hc : ruP x.2.2.2.1 x.2.2.2.2.1 with
  | inl q => exact h.fl (Nat.le_trans (ruP_w (fun k hk => ht k (by omega)) hc) hn)
  | inr r0 =>
    dsimp only
    split
    · exact h.f1
    · next c =>
      obtain ⟨⟨hm, hwh⟩, hs, h192, ⟨r, h1, h2, h3, h4⟩, h5⟩ := h.1
      have er : (x.1 193).toNat = r := by omega
      have o : ∀ k, k < 210 + 401 * r → k ≠ 193 → ruW x.1 x.2.2.2.1 x.2.2.2.2.1 k = x.1 k := fun k k1 k2 => by
        unfold ruW
        rw [er, if_neg k2, if_neg (by omega), if_neg (by omega)]
      have z : ruW x.1 x.2.2.2.1 x.2.2.2.2.1 193 = ((r + 1 : Nat) : Int) := by
        unfold ruW
        rw [if_pos rfl]
        omega
      have zN : ruW x.1 x.2.2.2.1 x.2.2.2.2.1 (210 + 401 * r) = (x.2.2.2.2.1 : Int) := by
        unfold ruW
        rw [er, if_neg (by omega), if_pos rfl]
      have zT : ∀ k, k < x.2.2.2.2.1 → ruW x.1 x.2.2.2.1 x.2.2.2.2.1 (211 + 401 * r + k) = x.2.2.2.1 k := fun k hk => by
        unfold ruW
        rw [er, if_neg (by omega), if_neg (by omega), if_pos ⟨by omega, by omega⟩, show 211 + 401 * r + k - (211 + 401 * r) = k by omega]
      refine h.told (w' := ruW x.1 x.2.2.2.1 x.2.2.2.2.1) ⟨⟨mG_c hm (fun k k1 k2 k3 k4 => o k (by omega) k3), whB_c (fun k hk => o k (by omega) (by omega)) hwh⟩, ?_, ?_, ⟨r + 1, z, by omega, fun i hi => ?_, fun u hu => ?_⟩, fun k hk => ?_⟩
      · show scV (nwW (ruW x.1 x.2.2.2.1 x.2.2.2.2.1)) ∧ xB 6 (nwW (ruW x.1 x.2.2.2.1 x.2.2.2.2.1))
        rw [nwW_c (w := x.1) (fun k k1 k2 => o k (by omega) (by omega))]
        exact hs
      · rw [o 192 (by omega) (by decide)]
        exact h192
      · by_cases ei : i = r
        · subst ei
          have eN : trN (ruW x.1 x.2.2.2.1 x.2.2.2.2.1) i = x.2.2.2.2.1 := by
            unfold trN
            rw [zN]
            rfl
          have eT : ∀ k, k < x.2.2.2.2.1 → trT (ruW x.1 x.2.2.2.1 x.2.2.2.2.1) i k = x.2.2.2.1 k := zT
          refine ⟨by omega, ?_, ?_, fun k hk => ?_, r0, ?_⟩
          · show 0 ≤ ruW x.1 x.2.2.2.1 x.2.2.2.2.1 (210 + 401 * i)
            rw [zN]
            omega
          · show ruW x.1 x.2.2.2.1 x.2.2.2.2.1 (210 + 401 * i) ≤ 400
            rw [zN]
            omega
          · rw [eN] at hk
            rw [eT k hk]
            exact ht k (by omega)
          · rw [eN, cg_ru eT]
            exact hc
        · exact trG_c (h3 i (by omega)) (fun k hk => o _ (by omega) (by omega))
      · rw [o (199 + u) (by omega) (by omega)]
        have := h4 u hu
        omega
      · show ruW x.1 x.2.2.2.1 x.2.2.2.2.1 k = 0
        unfold ruW
        rw [er, if_neg (by omega), if_neg (by omega), if_neg (by omega)]
        exact h5 k hk
theorem ka6 (h : AI x) : AI (sm6 x a b).2.2 := by
  unfold sm6
  split
  · exact h
  · next c =>
    obtain ⟨⟨hm, hwh⟩, hs, h192, ⟨r, h1, h2, h3, h4⟩, h5⟩ := h.1
    have ha : (0 ≤ a ∧ a ≤ 1) ∧ (-1 ≤ b ∧ b ≤ x.1 193 - 1) := by
      unfold plT at c
      split at c
      · exact absurd rfl c
      · omega
    have o : ∀ k, k ≠ 199 → k ≠ 200 → (fun k => if k = (199 + a).toNat then b else x.1 k) k = x.1 k := fun k k1 k2 => if_neg (by omega)
    refine h.row (w' := fun k => if k = (199 + a).toNat then b else x.1 k) ⟨⟨mG_c hm (fun k k1 k2 k3 k4 => o k (by omega) (by omega)), whB_c (fun k hk => o k (by omega) (by omega)) hwh⟩, ?_, ?_, ⟨r, ?_, h2, fun i hi => trG_c (h3 i hi) (fun k hk => o _ (by omega) (by omega)), fun u hu => ?_⟩, fun k hk => ?_⟩
    · rw [nwW_c (w := x.1) (fun k k1 k2 => o k (by omega) (by omega))]
      exact hs
    · rw [o 192 (by decide) (by decide)]
      exact h192
    · exact (o 193 (by decide) (by decide)).trans h1
    · show (if 199 + u = (199 + a).toNat then b else x.1 (199 + u)) = -1 ∨ _
      by_cases c1 : 199 + u = (199 + a).toNat
      · simp only [if_pos c1]
        omega
      · simp only [if_neg c1]
        exact h4 u hu
    · exact (o k (by omega) (by omega)).trans (h5 k hk)
theorem ka8 (h : AI x) : AI (sm8 x a b d).2.2 := by
  unfold sm8
  split
  · exact h
  · next c =>
    split
    · exact h
    · next c2 =>
      have c2 : isP a b := Classical.not_not.mp c2
      obtain ⟨⟨hm, hwh⟩, hs, h192, ⟨r, h1, h2, h3, h4⟩, h5⟩ := h.1
      have o : ∀ k, ¬ (201 ≤ k ∧ k < 208) → scW x.1 a b d k = x.1 k := fun k hk => by
        unfold scW
        rw [if_neg (by omega), if_neg (by omega), if_neg (by omega), if_neg (by omega), if_neg (by omega)]
      have n : ∀ k, nwW (scW x.1 a b d) k = if k = 6 then 0 else if k = 3 then 0 else if k = 2 then d else if k = 1 then b else if k = 0 then a else nwW x.1 k := fun k => by
        unfold nwW scW
        grind
      obtain ⟨hsV, h4', h5', h7', h8', h9'⟩ := hs
      refine h.row (w' := scW x.1 a b d) (h.1.to (fun k hk => o k (by omega)) (o 193 (by omega)) (fun u hu => o _ (by omega)) ⟨mG_c hm (fun k k1 k2 k3 k4 => o k (by omega)), whB_c (fun k hk => o k (by omega)) hwh⟩ ⟨?_, ?_⟩ ?_)
      · unfold scV pV hV
        rw [n 0, n 1, n 2, n 3, n 6]
        unfold isP at c2
        simp
        omega
      · unfold xB
        rw [n 4, n 5, n 7, n 8]
        simp
        refine ⟨h4', h5', h7', h8', fun j hj => ?_⟩
        rw [n j, if_neg (by omega), if_neg (by omega), if_neg (by omega), if_neg (by omega), if_neg (by omega)]
        exact h9' j hj
      · rw [o 192 (by omega)]
        exact h192
theorem ka9 (h : AI x) : AI (sm9 x a b).2.2 := by
  unfold sm9
  split
  · next c =>
    obtain ⟨⟨⟨g1, g2, q1, q2⟩, hwh⟩, hs, h192, ⟨r, h1, h2, h3, h4⟩, h5⟩ := h.1
    have o : ∀ k, k ≠ 208 → k ≠ 209 → (fun k => if k = 209 then b else if k = 208 then a else x.1 k) k = x.1 k := fun k k1 k2 => by
      show (if k = 209 then b else if k = 208 then a else x.1 k) = _
      rw [if_neg k2, if_neg k1]
    have n : ∀ k, nwW (fun k => if k = 209 then b else if k = 208 then a else x.1 k) k = if k = 8 then b else if k = 7 then a else nwW x.1 k := fun k => by
      unfold nwW
      grind
    obtain ⟨hsV, h4', h5', h7', h8', h9'⟩ := hs
    refine h.row (w' := fun k => if k = 209 then b else if k = 208 then a else x.1 k) (h.1.to (fun k hk => o k (by omega) (by omega)) (o 193 (by decide) (by decide)) (fun u hu => o _ (by omega) (by omega)) ⟨⟨?_, ?_, ?_, ?_⟩, whB_c (fun k hk => o k (by omega) (by omega)) hwh⟩ ⟨?_, ?_⟩ ?_)
    · obtain ⟨v1, v2, v3, v4⟩ := g1
      unfold cG
      rw [o 194 (by decide) (by decide), o 195 (by decide) (by decide), o 196 (by decide) (by decide)]
      exact ⟨fun k hk => by rw [o k (by omega) (by omega)]; exact v1 k hk, v2, v3, v4⟩
    · unfold wV
      rw [o 194 (by decide) (by decide), o 195 (by decide) (by decide), o 196 (by decide) (by decide), o 197 (by decide) (by decide), o 198 (by decide) (by decide)]
      exact g2
    · exact c.1
    · exact c.2
    · unfold scV pV hV at hsV ⊢
      rw [n 0, n 1, n 2, n 3, n 4, n 5, n 6]
      exact hsV
    · unfold xB
      rw [n 4, n 5, n 7, n 8]
      refine ⟨h4', h5', c.1, c.2, fun j hj => ?_⟩
      rw [n j, if_neg (by omega), if_neg (by omega)]
      exact h9' j hj
    · exact h192
  · exact h
theorem ka10 (h : AI x) : AI (sm10 x a b).2.2 := by
  unfold sm10
  split
  · next c =>
    obtain ⟨⟨⟨g1, ⟨v1, v2, v3, v4, v5⟩, q1, q2⟩, hwh⟩, hs, h192, -, h5⟩ := h.1
    have o : ∀ k, k ≠ 197 → k ≠ 198 → (fun k => if k = 198 then b else if k = 197 then a else x.1 k) k = x.1 k := fun k k1 k2 => by
      show (if k = 198 then b else if k = 197 then a else x.1 k) = _
      rw [if_neg k2, if_neg k1]
    refine h.row (w' := fun k => if k = 198 then b else if k = 197 then a else x.1 k) (h.1.to (fun k hk => o k (by omega) (by omega)) (o 193 (by decide) (by decide)) (fun u hu => o _ (by omega) (by omega)) ⟨⟨?_, ?_, q1, q2⟩, whB_c (fun k hk => o k (by omega) (by omega)) hwh⟩ ?_ ?_)
    · obtain ⟨w1, w2, w3, w4⟩ := g1
      unfold cG
      rw [o 194 (by decide) (by decide), o 195 (by decide) (by decide), o 196 (by decide) (by decide)]
      exact ⟨fun k hk => by rw [o k (by omega) (by omega)]; exact w1 k hk, w2, w3, w4⟩
    · exact ⟨v1, v2, v3, c.1, c.2⟩
    · rw [nwW_c (w := x.1) (fun k k1 k2 => o k (by omega) (by omega))]
      exact hs
    · exact h192
  · exact h
theorem wpt_o (w y : Nat → Int) {k : Nat} (hk : ¬ (201 ≤ k ∧ k < 210)) : wpt w y k = w k := if_neg hk
theorem nwW_wpt (w : Nat → Int) {y : Nat → Int} (h : xG y) : nwW (wpt w y) = y := by
  funext k
  unfold nwW wpt
  by_cases c : k < 9
  · rw [if_pos c, if_pos ⟨by omega, by omega⟩, show 201 + k - 201 = k by omega]
  · rw [if_neg c]
    exact (h.2 k (by omega)).symm
theorem WI.put {w y : Nat → Int} (h : WI w) (hV : scV y) (hB : xB 6 y) : WI (wpt w y) := by
  obtain ⟨⟨⟨g1, g2, q1, q2⟩, hwh⟩, hs, h192, -, h5⟩ := id h
  have e7 : wpt w y 208 = y 7 := if_pos (by decide)
  have e8 : wpt w y 209 = y 8 := if_pos (by decide)
  obtain ⟨-, -, b7, b8, -⟩ := id hB
  refine h.to (fun k hk => wpt_o w y (by omega)) (wpt_o w y (by omega)) (fun u hu => wpt_o w y (by omega)) ⟨⟨?_, ?_, ?_, ?_⟩, whB_c (fun k hk => wpt_o w y (by omega)) hwh⟩ ?_ ?_
  · obtain ⟨v1, v2, v3, v4⟩ := g1
    unfold cG
    rw [wpt_o w y (k := 194) (by omega), wpt_o w y (k := 195) (by omega), wpt_o w y (k := 196) (by omega)]
    exact ⟨fun k hk => by rw [wpt_o w y (by omega)]; exact v1 k hk, v2, v3, v4⟩
  · unfold wV
    rw [wpt_o w y (k := 194) (by omega), wpt_o w y (k := 195) (by omega), wpt_o w y (k := 196) (by omega), wpt_o w y (k := 197) (by omega), wpt_o w y (k := 198) (by omega)]
    exact g2
  · rw [e7]; exact b7
  · rw [e8]; exact b8
  · rw [nwW_wpt w (hV.xG hB (by decide))]
    exact ⟨hV, hB⟩
  · rw [wpt_o w y (k := 192) (by omega)]
    exact h192
theorem x5 {g : Int} {y : Nat → Int} (hB : xB 6 y) (hg : g ≤ 6) (ho : ovR g y = false) : xB 5 y := by
  unfold ovR at ho
  rw [Bool.or_eq_false_iff, decide_eq_false_iff_not, decide_eq_false_iff_not] at ho
  obtain ⟨b4, b5, b7, b8, b9⟩ := hB
  exact ⟨b4, b5, by omega, by omega, b9⟩
theorem ka12 (h : AI x) : AI (sm12 x a b).2.2 := by
  unfold sm12
  split
  · next c =>
    have hV := h.1.2.1.1
    have hB := h.1.2.1.2
    have hw := h.1.1.1.2.1
    unfold raT at c
    have r0 : (0 ≤ raH a b ∧ raH a b ≤ 11) ∧ ovR (x.1 194) (nwW x.1) = false := by
      unfold raH
      split at c
      · exact absurd c (by decide)
      · split at c
        · exact absurd c (by decide)
        · split at c
          · exact absurd c (by decide)
          · next ho =>
            refine ⟨by split <;> omega, ?_⟩
            cases e : ovR (x.1 194) (nwW x.1) with
            | true => exact absurd e ho
            | false => rfl
    exact h.row (h.1.put (rlR_V hw hV r0.1.1 (by omega) (fun _ => r0.1.2)) (rlR_B (g := 5) hV (x5 hB hw.1.2 r0.2) r0.1.1 (by omega)))
  · exact h
theorem ka13 (h : AI x) : AI (sm13 x a).2.2 := by
  unfold sm13
  split
  · next c =>
    have hV := h.1.2.1.1
    have hB := h.1.2.1.2
    have hw := h.1.1.1.2.1
    unfold bqT at c
    have r0 : a.toNat < 2 ∧ ovR (x.1 194) (nwW x.1) = false := by
      split at c
      · exact absurd c (by decide)
      · split at c
        · exact absurd c (by decide)
        · next ho =>
          refine ⟨by omega, ?_⟩
          cases e : ovR (x.1 194) (nwW x.1) with
          | true => exact absurd e ho
          | false => rfl
    exact h.row (h.1.put (bqR_V hw r0.1 hV) (bqR_B (g := 5) r0.1 (x5 hB hw.1.2 r0.2)))
  · exact h
theorem ka21 (h : AI x) : AI (sm21 x a).2.2 := by
  unfold sm21
  split
  · split
    · exact h.n0
    · split
      · exact h.n0
      · exact h.n0
  · exact h.n0
theorem ka22 (h : AI x) : AI (sm22 x a b d e g).2.2 := by
  unfold sm22
  split
  · exact h.n0
  · exact h.n0
theorem ka24 (h : AI x) : AI (sm24 x).2.2 := ⟨h.1, ⟨Or.inr ⟨rfl, h.1⟩, h.1.2.2.2.2⟩, h.2.2⟩
theorem ka25 (h : AI x) : AI (sm25 x).2.2 := by
  unfold sm25
  split
  · exact h
  · next c => exact h.row (h.2.1.1.resolve_left c).2
end
