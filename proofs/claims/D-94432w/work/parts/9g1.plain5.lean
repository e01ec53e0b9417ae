/-! ===== the plain parsers, case by case ===== -/
set_option maxRecDepth 100000
theorem p3_B {tx : Nat → Int} {n : Nat} : ∀ a, a ≤ n → a ≤ rn (qB tx) n a ∧ rn (qB tx) n a ≤ n := fun _ h => ⟨rn_ge h, rn_le h⟩
theorem wl_rn {tx : Nat → Int} {n a : Nat} (ha : a ≤ n) : wl tx n (rn (qB tx) n a) = wl tx n a := by
  unfold wl
  rw [rn_rn ha]
theorem wl_hs {tx : Nat → Int} {n a : Nat} {w : List Nat} (h : hsW tx n (rn (qB tx) n a) w = true) : wl tx n a = w.length := by
  have := (hsW_t.mp h).1
  unfold wl
  omega
theorem suP_wl {tx : Nat → Int} {n a : Nat} {c : Nat × (Fc → Int)} (hx : ∀ k, k < n → 0 ≤ tx k ∧ tx k ≤ 255) (ha : a ≤ n) (h : suP tx n a = .inr c) : a + wl tx n a ≤ c.1 := by
  unfold suP at h
  cases hp : ptP tx n a with
  | inl w => rw [hp] at h; cases h
  | inr e =>
    have h1 := ptP_wl ha hp
    have h2 := ptP_in hx a e ha hp
    rw [hp] at h
    have := lpP_ge (fun a b h1 h2 => spS_in a b h1 h2) (fun a c h1 h2 => ⟨Nat.le_of_lt (ptP_in hx a c h1 h2).1, (ptP_in hx a c h1 h2).2.1⟩) p3_B h2.2.1 h
    omega
section
variable {tx : Nat → Int} {n a b r w : Nat}
theorem at_pl (hb : rn (qB tx) n a = b) (h9 : hsW tx n b (wo 9) = false) (h40 : isSg tx n b 40 = false) (r : Nat) : atP tx n r a = plP tx n a := by
  cases r with
  | zero =>
    unfold atP
    rw [hb, if_neg (by rw [h9, h40]; decide)]
  | succ r =>
    unfold atP
    rw [hb, if_neg (by rw [h9]; decide), if_neg (by rw [h40]; decide)]
theorem at_0 (hb : rn (qB tx) n a = b) (h : hsW tx n b (wo 9) = true ∨ isSg tx n b 40 = true) : atP tx n 0 a = .inl b := by
  unfold atP
  rw [hb, if_pos h]
theorem at_nw (hb : rn (qB tx) n a = b) (h9 : hsW tx n b (wo 9) = true) (h : atP tx n r (b + 3) = .inl w) : atP tx n (r + 1) a = .inl w := by
  rw [atP, hb, if_pos h9, h]
theorem at_nr {c : Nat × (Fc → Bool)} (hb : rn (qB tx) n a = b) (h9 : hsW tx n b (wo 9) = true) (h : atP tx n r (b + 3) = .inr c) : atP tx n (r + 1) a = .inr (c.1, fun F => !c.2 F) := by
  rw [atP, hb, if_pos h9, h]
theorem sg_hs {c : Int} {v : List Nat} (hb : b ≤ n) (h : isSg tx n b c = true) (hc : c < 97) (hv : 0 < v.length) : hsW tx n b v = false := by
  rw [hsW_f]
  rintro ⟨h1, h2⟩
  have h3 := (rn_in (q := qL tx) _ b rfl hb).2.2.2 b (Nat.le_refl _) (by omega)
  unfold qL at h3
  rw [Bool.and_eq_true, decide_eq_true_eq] at h3
  have := (isSg_t.mp h).2
  omega
theorem sg_wl {c : Int} (ha : a ≤ n) (h : isSg tx n (rn (qB tx) n a) c = true) (hc : c < 97) : wl tx n a = 0 := by
  unfold wl
  have e : rn (qL tx) n (rn (qB tx) n a) = rn (qB tx) n a := rn_f (fun _ => by
    unfold qL
    have := (isSg_t.mp h).2
    rw [decide_eq_false (by omega)]
    rfl)
  omega
theorem at_pw (hb : rn (qB tx) n a = b) (h9 : hsW tx n b (wo 9) = false) (h40 : isSg tx n b 40 = true) (h : soP tx n (atP tx n r) (b + 1) = .inl w) : atP tx n (r + 1) a = .inl w := by
  rw [atP, hb, if_neg (by rw [h9]; decide), if_pos h40, h]
theorem at_pr {c : Nat × (Fc → Bool)} (hb : rn (qB tx) n a = b) (h9 : hsW tx n b (wo 9) = false) (h40 : isSg tx n b 40 = true) (h : soP tx n (atP tx n r) (b + 1) = .inr c) (h41 : isSg tx n (rn (qB tx) n c.1) 41 = true) : atP tx n (r + 1) a = .inr (rn (qB tx) n c.1 + 1, c.2) := by
  rw [atP, hb, if_neg (by rw [h9]; decide), if_pos h40, h]
  simp only
  rw [if_pos h41]
theorem at_pn {c : Nat × (Fc → Bool)} (hb : rn (qB tx) n a = b) (h9 : hsW tx n b (wo 9) = false) (h40 : isSg tx n b 40 = true) (h : soP tx n (atP tx n r) (b + 1) = .inr c) (h41 : isSg tx n (rn (qB tx) n c.1) 41 = false) : atP tx n (r + 1) a = .inl (rn (qB tx) n c.1) := by
  rw [atP, hb, if_neg (by rw [h9]; decide), if_pos h40, h]
  simp only
  rw [if_neg (by rw [h41]; decide)]
theorem pl_10 (hb : rn (qB tx) n a = b) (h : hsW tx n b (wo 10) = true) : plP tx n a = .inr (b + 7, fun F => decide (F 5 = 1)) := by
  rw [plP, hb, if_pos h]
theorem pl_11 (hb : rn (qB tx) n a = b) (h10 : hsW tx n b (wo 10) = false) (h : hsW tx n b (wo 11) = true) : plP tx n a = .inr (b + 3, fun F => decide (F 6 = 1)) := by
  rw [plP, hb, if_neg (by rw [h10]; decide), if_pos h]
theorem pl_w (hb : rn (qB tx) n a = b) (h10 : hsW tx n b (wo 10) = false) (h11 : hsW tx n b (wo 11) = false) (h : suP tx n b = .inl w) : plP tx n a = .inl w := by
  rw [plP, hb, if_neg (by rw [h10]; decide), if_neg (by rw [h11]; decide), h]
theorem pl_lw {c : Nat × (Fc → Int)} (hb : rn (qB tx) n a = b) (h10 : hsW tx n b (wo 10) = false) (h11 : hsW tx n b (wo 11) = false) (h : suP tx n b = .inr c) (h60 : isSg tx n (rn (qB tx) n c.1) 60 = true) (h2 : suP tx n (rn (qB tx) n c.1 + 1) = .inl w) : plP tx n a = .inl w := by
  rw [plP, hb, if_neg (by rw [h10]; decide), if_neg (by rw [h11]; decide), h]
  simp only
  rw [if_pos h60, h2]
theorem pl_lr {c e : Nat × (Fc → Int)} (hb : rn (qB tx) n a = b) (h10 : hsW tx n b (wo 10) = false) (h11 : hsW tx n b (wo 11) = false) (h : suP tx n b = .inr c) (h60 : isSg tx n (rn (qB tx) n c.1) 60 = true) (h2 : suP tx n (rn (qB tx) n c.1 + 1) = .inr e) : plP tx n a = .inr (e.1, fun F => decide (c.2 F < e.2 F)) := by
  rw [plP, hb, if_neg (by rw [h10]; decide), if_neg (by rw [h11]; decide), h]
  simp only
  rw [if_pos h60, h2]
theorem pl_gw {c : Nat × (Fc → Int)} (hb : rn (qB tx) n a = b) (h10 : hsW tx n b (wo 10) = false) (h11 : hsW tx n b (wo 11) = false) (h : suP tx n b = .inr c) (h60 : isSg tx n (rn (qB tx) n c.1) 60 = false) (h62 : isSg tx n (rn (qB tx) n c.1) 62 = true) (h2 : suP tx n (rn (qB tx) n c.1 + 1) = .inl w) : plP tx n a = .inl w := by
  rw [plP, hb, if_neg (by rw [h10]; decide), if_neg (by rw [h11]; decide), h]
  simp only
  rw [if_neg (by rw [h60]; decide), if_pos h62, h2]
theorem pl_gr {c e : Nat × (Fc → Int)} (hb : rn (qB tx) n a = b) (h10 : hsW tx n b (wo 10) = false) (h11 : hsW tx n b (wo 11) = false) (h : suP tx n b = .inr c) (h60 : isSg tx n (rn (qB tx) n c.1) 60 = false) (h62 : isSg tx n (rn (qB tx) n c.1) 62 = true) (h2 : suP tx n (rn (qB tx) n c.1 + 1) = .inr e) : plP tx n a = .inr (e.1, fun F => decide (e.2 F < c.2 F)) := by
  rw [plP, hb, if_neg (by rw [h10]; decide), if_neg (by rw [h11]; decide), h]
  simp only
  rw [if_neg (by rw [h60]; decide), if_pos h62, h2]
theorem pl_n {c : Nat × (Fc → Int)} (hb : rn (qB tx) n a = b) (h10 : hsW tx n b (wo 10) = false) (h11 : hsW tx n b (wo 11) = false) (h : suP tx n b = .inr c) (h60 : isSg tx n (rn (qB tx) n c.1) 60 = false) (h62 : isSg tx n (rn (qB tx) n c.1) 62 = false) : plP tx n a = .inl (rn (qB tx) n c.1) := by
  rw [plP, hb, if_neg (by rw [h10]; decide), if_neg (by rw [h11]; decide), h]
  simp only
  rw [if_neg (by rw [h60]; decide), if_neg (by rw [h62]; decide)]
end
/-- so much is read by a plain condition at least -/
theorem pl_min {tx : Nat → Int} {n a b : Nat} {c : Nat × (Fc → Bool)} (hx : ∀ k, k < n → 0 ≤ tx k ∧ tx k ≤ 255) (ha : a ≤ n) (hb : rn (qB tx) n a = b) (h : plP tx n a = .inr c) : b + 3 ≤ c.1 ∧ b + wl tx n b ≤ c.1 := by
  have hbn : b ≤ n := by rw [← hb]; exact rn_le ha
  have hbb : rn (qB tx) n b = b := by rw [← hb]; exact rn_rn ha
  have hw : ∀ j, hsW tx n b (wo j) = true → wl tx n b = (wo j).length := fun j e => wl_hs (by rw [hbb]; exact e)
  cases h10 : hsW tx n b (wo 10) with
  | true =>
    rw [pl_10 hb h10] at h
    cases h
    have := hw _ h10
    have l : (wo 10).length = 7 := rfl
    show b + 3 ≤ b + 7 ∧ b + wl tx n b ≤ b + 7
    omega
  | false =>
    cases h11 : hsW tx n b (wo 11) with
    | true =>
      rw [pl_11 hb h10 h11] at h
      cases h
      have := hw _ h11
      have l : (wo 11).length = 3 := rfl
      show b + 3 ≤ b + 3 ∧ b + wl tx n b ≤ b + 3
      omega
    | false =>
      cases hs : suP tx n b with
      | inl w => rw [pl_w hb h10 h11 hs] at h; cases h
      | inr e =>
        have h1 := suP_in hx b e hbn hs
        have h2 := suP_wl hx hbn hs
        have h3 := rn_ge (q := qB tx) h1.2.1
        have h4 := rn_le (q := qB tx) h1.2.1
        cases h60 : isSg tx n (rn (qB tx) n e.1) 60 with
        | true =>
          have h5 := (isSg_t.mp h60).1
          cases hs2 : suP tx n (rn (qB tx) n e.1 + 1) with
          | inl w => rw [pl_lw hb h10 h11 hs h60 hs2] at h; cases h
          | inr e2 =>
            have h6 := suP_in hx _ e2 (by omega) hs2
            rw [pl_lr hb h10 h11 hs h60 hs2] at h
            cases h
            show b + 3 ≤ e2.1 ∧ b + wl tx n b ≤ e2.1
            omega
        | false =>
          cases h62 : isSg tx n (rn (qB tx) n e.1) 62 with
          | true =>
            have h5 := (isSg_t.mp h62).1
            cases hs2 : suP tx n (rn (qB tx) n e.1 + 1) with
            | inl w => rw [pl_gw hb h10 h11 hs h60 h62 hs2] at h; cases h
            | inr e2 =>
              have h6 := suP_in hx _ e2 (by omega) hs2
              rw [pl_gr hb h10 h11 hs h60 h62 hs2] at h
              cases h
              show b + 3 ≤ e2.1 ∧ b + wl tx n b ≤ e2.1
              omega
          | false => rw [pl_n hb h10 h11 hs h60 h62] at h; cases h
/-- a Less that is made -/
theorem leT_mk {t u u3 u6 x y : Nat} {f3 f6 : Nat → Nat × Nat} {S3 S6 : Nat → Nat → Int} {P3 P6 P2 : Nat → Nat → Option Nat} {g k : Fc → Int} (t2 : 2000 ≤ t) (tu : t ≤ u) (uu : u ≤ u3) (hx : SuT u u3 f3 S3 P3 x g) (ag : agR u u3 f3 S3 P3 f6 S6 P6) (hy : SuT (u3 + 1) u6 f6 S6 P6 y k) (le : u3 + 1 ≤ u6) (hf : f6 u3 = (1, 16)) (b : ∀ F, bF F → R32 (g F) ∧ R32 (k F)) (e : ∀ j, j ≠ u3 → P2 j = P6 j) :
    (P2 u3 0 = some x → P2 u3 1 = some y → leT t u6 f6 S6 P2 u3 (fun F => decide (g F < k F))) ∧ (P2 u3 0 = some y → P2 u3 1 = some x → leT t u6 f6 S6 P2 u3 (fun F => decide (k F < g F))) := by
  have a1 : agR u u3 f3 S3 P3 f6 S6 P2 := fun h h1 h2 => by
    obtain ⟨q1, q2, q3⟩ := ag h h1 h2
    exact ⟨q1, q2, (e h (by omega)).trans q3⟩
  have a2 : agR (u3 + 1) u6 f6 S6 P6 f6 S6 P2 := fun h h1 h2 => ⟨rfl, rfl, e h (by omega)⟩
  have x1 := (hx.fr a1).mo t2 tu (show u3 ≤ u6 by omega)
  have y1 := (hy.fr a2).mo t2 (show t ≤ u3 + 1 by omega) (Nat.le_refl _)
  have hr : inR t u6 u3 := ⟨t2, by omega, by omega⟩
  exact ⟨fun h0 h1 => ⟨hr, Or.inr ⟨hf, x, y, g, k, h0, h1, x1, y1, b, rfl⟩⟩, fun h0 h1 => ⟨hr, Or.inr ⟨hf, y, x, k, g, h0, h1, y1, x1, fun F hF => ⟨(b F hF).2, (b F hF).1⟩, rfl⟩⟩⟩
theorem gr.toP {t u : Nat} {f f1 : Nat → Nat × Nat} {S S1 L L1 : Nat → Nat → Int} {P P1 P2 : Nat → Nat → Option Nat} (a : gr t u f S L P f1 S1 L1 P1) (e : ∀ j, j < t → P2 j = P1 j) : gr t u f S L P f1 S1 L1 P2 := by
  obtain ⟨a0, a1, a2, a3, a4, a5⟩ := a
  exact ⟨a0, a1, a2, a3, fun h hh => (e h hh).trans (a4 h hh), a5⟩
