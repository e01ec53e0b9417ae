/-! ===== equivalent scores stay equivalent ===== -/
set_option maxRecDepth 100000
theorem pnt_xE {w x z : Nat → Int} {p : Nat} (hp : p < 2) (h : xE x z) : ptw x p = ptw z p ∧ xE (pnt w x p) (pnt w z p) := by
  obtain ⟨h0, h1, h2, h3, h4, h5, h6, h7, h8⟩ := h
  have e := ptw_cr (x := z) (y := x) h0 h1 hp
  refine ⟨e, ?_⟩
  have key : ∀ j, x j = z j → (j = 7 + p → x (7 + p) = z (7 + p)) → pnt w x p j = pnt w z p j := by
    intro j hj hg
    have ep : p = 0 ∨ p = 1 := by omega
    unfold pnt
    rw [e]
    unfold ptC ptB ptA ru
    rcases ep with e | e <;> subst e <;> split <;> grind
  have h7p : x (7 + p) = z (7 + p) := by
    have ep : p = 0 ∨ p = 1 := by omega
    rcases ep with e | e <;> subst e
    · exact h7
    · exact h8
  have z3 : pnt w z p 3 = 0 ∨ pnt w z p 3 = z 3 := by
    have ep : p = 0 ∨ p = 1 := by omega
    unfold pnt ptC ptB ptA ru
    rcases ep with e | e <;> subst e <;> split <;> grind
  refine ⟨key 0 h0 (by omega), key 1 h1 (by omega), key 2 h2 (by omega), key 3 h3 (by omega), fun c => key 4 (h4 (by omega)) (by omega), fun c => key 5 (h5 (by omega)) (by omega), key 6 h6 (by omega), key 7 h7 (fun _ => h7p), key 8 h8 (fun _ => h7p)⟩
theorem chR_xE {w x z : Nat → Int} (h : xE x z) : xE (chR w x) (chR w z) := by
  obtain ⟨h0, h1, h2, h3, h4, h5, h6, h7, h8⟩ := h
  have e : chD w x = chD w z := by
    unfold chD wW
    rw [h0, h1, h3]
  have o : ∀ y : Nat → Int, ∀ j, j ≠ 2 → j ≠ 6 → chR w y j = y j := fun y j a b => by
    unfold chR
    rw [if_neg a, if_neg b]
    split <;> rfl
  refine ⟨?_, ?_, ?_, ?_, ?_, ?_, ?_, ?_, ?_⟩
  · rw [o x 0 (by decide) (by decide), o z 0 (by decide) (by decide), h0]
  · rw [o x 1 (by decide) (by decide), o z 1 (by decide) (by decide), h1]
  · unfold chR
    rw [e, h2]
  · rw [o x 3 (by decide) (by decide), o z 3 (by decide) (by decide), h3]
  · rw [o x 4 (by decide) (by decide), o z 4 (by decide) (by decide), o z 3 (by decide) (by decide)]
    exact h4
  · rw [o x 5 (by decide) (by decide), o z 5 (by decide) (by decide), o z 3 (by decide) (by decide)]
    exact h5
  · unfold chR
    rw [e, h6, h2]
  · rw [o x 7 (by decide) (by decide), o z 7 (by decide) (by decide), h7]
  · rw [o x 8 (by decide) (by decide), o z 8 (by decide) (by decide), h8]
theorem gnR_xE {x z : Nat → Int} (h : xE x z) : xE (gnR x) (gnR z) := by
  obtain ⟨h0, h1, h2, h3, h4, h5, h6, h7, h8⟩ := h
  refine ⟨?_, ?_, ?_, ?_, ?_, ?_, ?_, ?_, ?_⟩
  · unfold gnR; rw [h6, h0]; rfl
  · unfold gnR; rw [h6, h1]; rfl
  · unfold gnR; rw [h6, h2]; rfl
  · unfold gnR; rw [h6, h3]; split <;> rfl
  · unfold gnR
    rw [h6]
    by_cases c : z 6 = 0
    · rw [if_pos c, if_pos c, if_pos c]
      exact h4
    · rw [if_neg c, if_neg c, if_neg c]
      intro d
      exact h5 (by simpa using (show 1 ≤ z 3 - 1 from d) |> fun d => (by omega : 2 ≤ z 3))
  · unfold gnR
    rw [h6]
    by_cases c : z 6 = 0
    · rw [if_pos c, if_pos c, if_pos c]
      exact h5
    · rw [if_neg c, if_neg c, if_neg c]
      intro d
      exact h5 ((fun d : 2 ≤ z 3 - 1 => (by omega : 2 ≤ z 3)) d)
  · unfold gnR; rw [h6, h3]; split <;> rfl
  · unfold gnR; rw [h6, h7]; rfl
  · unfold gnR; rw [h6, h8]; rfl
theorem rl_xE {w x z : Nat → Int} {how : Int} (hz : scV z) (h : xE x z) : rlW w x how = rlW w z how ∧ rlN w x how = rlN w z how ∧ xE (rlR w x how) (rlR w z how) := by
  have hh := h
  obtain ⟨h0, h1, h2, h3, h4, h5, h6, h7, h8⟩ := h
  have z2 := hz.2.1
  have z63 : z 6 = 0 ∨ (z 6 = 1 ∧ 1 ≤ z 3) := by
    rcases hz.2.2 with ⟨a, b⟩ | ⟨a, b, -⟩ | ⟨a, b, -⟩ <;> omega
  have z3 : 0 ≤ z 3 ∧ z 3 ≤ 2 := by
    rcases hz.2.2 with ⟨a, b⟩ | ⟨a, b, -⟩ | ⟨a, b, -⟩ <;> omega
  have z30 : z 6 = 0 → z 3 ≤ 1 := by
    rcases hz.2.2 with ⟨a, b⟩ | ⟨a, b, -⟩ | ⟨a, b, -⟩ <;> omega
  have eW : rlW w x how = rlW w z how := by
    unfold rlW
    rw [h2, h6]
    rcases z63 with e | ⟨e, e3⟩
    · rw [if_pos e, if_pos e]
    · rw [h4 e3]
  have hin := rlW_in' w z how z2
  have eN : rlN w x how = rlN w z how := by
    unfold rlN
    rw [eW]
    rcases hin with e | e
    · rw [e]; rfl
    · rw [(pnt_xE (w := w) e.1 hh).1]
  have eY : xE (rlY w x how) (rlY w z how) := by
    rcases hin with e | e
    · by_cases c : z 6 = 0
      · rw [rlY_c (eW.trans e) (h6.trans c), rlY_c e c]
        have i0 := rlC_at x how
        have i1 := rlC_at z how
        have c3 := z30 c
        refine ⟨?_, ?_, ?_, ?_, ?_, ?_, ?_, ?_, ?_⟩
        · rw [i0, i1]; simp [h0]
        · rw [i0, i1]; simp [h1]
        · rw [i0, i1]; simp [h2]
        · rw [i0, i1]; simp [h3]
        · intro _
          rw [i0, i1]
          by_cases d : z 3 = 0
          · simp [h3, d]
          · simp [h3, d]
            exact h4 (by omega)
        · intro g
          rw [i1] at g
          simp at g
          rw [i0, i1]
          have d : z 3 ≠ 0 := by omega
          simp [h3, d]
        · rw [i0, i1]; simp [h6]
        · rw [i0, i1]; simp [h7]
        · rw [i0, i1]; simp [h8]
      · rw [rlY_n (eW.trans e) (by rw [h6]; exact c), rlY_n e c]
        exact hh
    · obtain ⟨p, hp⟩ : ∃ p : Nat, rlW w z how = p := ⟨(rlW w z how).toNat, by omega⟩
      rw [rlY_p (eW.trans hp), rlY_p hp]
      exact (pnt_xE (by omega) hh).2
  refine ⟨eW, eN, ?_⟩
  rcases z63 with e | ⟨e, e3⟩
  · rw [rlR_0 (h6.trans e), rlR_0 e]
    exact chR_xE eY
  · rw [rlR_1 (by rw [h6, e]; decide), rlR_1 (by rw [e]; decide)]
    exact gnR_xE eY
/-- the component's rally at an equivalent score -/
theorem cr_xE {w x z : Nat → Int} {how line : Int} (hz : scV z) (h : xE x z) (h0 : 0 ≤ how) (h1 : how ≤ 2) (hl : z 6 = 0 → how = 2 → 0 ≤ line ∧ line ≤ 9) : clH x how line = clH z how line ∧ xE (crR w x how line) (rlR w z (clH z how line)) := by
  have hx := scV_xE hz h
  have e : clH x how line = clH z how line := by
    unfold clH
    rw [h.2.2.2.2.2.2.1]
    by_cases c : z 6 = 1
    · have z3 : 1 ≤ z 3 := by
        rcases hz.2.2 with ⟨a, b⟩ | ⟨a, b, -⟩ | ⟨a, b, -⟩ <;> omega
      rw [h.2.2.2.2.1 z3]
    · rw [if_neg c, if_neg c]
  have a := crR_xE (w := w) hx h0 h1 (fun c => hl (by rw [← h.2.2.2.2.2.2.1]; exact c))
  rw [e] at a
  exact ⟨e, a.tr (rl_xE hz h).2.2⟩
