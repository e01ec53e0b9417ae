/-! ===== the model's other entries by whole numbers ===== -/
set_option maxRecDepth 100000
def zX9_thrown : zz_Sp := fun as M Q X => match as with
  | [.inr (.inr (some h_))] => bif Nat.beq h_ 0 && Nat.beq M.1.1 1 then (Q (some (vi (M.2.1 0 0))) (zm M.2.1 M.2.2.1)) else False
  | _ => False

theorem zmX9_thrown (l : Launch) (hl : l.stackTraces = false) : mm_Spec l yX9_thrown (ws_ yX9_thrown cX9_thrown 1 (some .int)) (mm_rm 1 0 0) (zE zX9_thrown) := by
  refine zE_of (mX9_thrown l hl) ?_
  rintro as ⟨⟨t_, f⟩, S, L, P⟩ Q X Q' X' hQ hX h
  unfold zX9_thrown at h
  split at h
  rotate_left
  · exact h.elim
  rename_i h_
  obtain ⟨e1_, e2_, h⟩ := mm_and2 h (fun q => q)
  cases mm_beq e1_
  cases mm_beq e2_
  try dsimp only at h
  exact ⟨_, _, rfl, rfl, hQ _ _ h⟩
def zX9_look : zz_Sp := fun as M Q X => match as with
  | [.inr (.inr (some h_)), .inl s, .inl hz, .inl wh] => bif Nat.beq h_ 0 && Nat.beq M.1.1 1 then (R32 s ∧ R32 hz ∧ R32 wh ∧ Q (some (vi (if lkT s hz wh = 0 then M.2.1 1 (12 * (4 * s + hz) + wh).toNat else 0))) (zm (mm_up M.2.1 0 0 (lkT s hz wh)) M.2.2.1)) else False
  | _ => False

theorem zmX9_look (l : Launch) (hl : l.stackTraces = false) : mm_Spec l yX9_look (ws_ yX9_look cX9_look 4 (some .int)) (mm_rm 2 0 0) (zE zX9_look) := by
  refine zE_of (mX9_look l hl) ?_
  rintro as ⟨⟨t_, f⟩, S, L, P⟩ Q X Q' X' hQ hX h
  unfold zX9_look at h
  split at h
  rotate_left
  · exact h.elim
  rename_i h_ s hz wh
  obtain ⟨e1_, e2_, h⟩ := mm_and2 h (fun q => q)
  cases mm_beq e1_
  cases mm_beq e2_
  try dsimp only at h
  obtain ⟨h1, h2, h3, hq⟩ := h
  exact ⟨S, L, s, hz, wh, h1, h2, h3, rfl, rfl, hQ _ _ hq⟩
def zX9_plays : zz_Sp := fun as M Q X => match as with
  | [.inr (.inr (some h_)), .inl p, .inl k] => bif Nat.beq h_ 0 && Nat.beq M.1.1 1 then (R32 p ∧ R32 k ∧ (-100 ≤ M.2.1 1 193 ∧ M.2.1 1 193 ≤ 100) ∧ (plT (M.2.1 1 193) p k = 1 → Q (some (vi 0)) (zm (mm_up M.2.1 0 0 1) M.2.2.1)) ∧ (plT (M.2.1 1 193) p k = 0 → Q (some (vi (M.2.1 1 (199 + p).toNat))) (zm (mm_up (mm_up M.2.1 0 0 0) 1 (199 + p).toNat k) M.2.2.1))) else False
  | _ => False

theorem zmX9_plays (l : Launch) (hl : l.stackTraces = false) : mm_Spec l yX9_plays (ws_ yX9_plays cX9_plays 4 (some .int)) (mm_rm 3 0 0) (zE zX9_plays) := by
  refine zE_of (mX9_plays l hl) ?_
  rintro as ⟨⟨t_, f⟩, S, L, P⟩ Q X Q' X' hQ hX h
  unfold zX9_plays at h
  split at h
  rotate_left
  · exact h.elim
  rename_i h_ p k
  obtain ⟨e1_, e2_, h⟩ := mm_and2 h (fun q => q)
  cases mm_beq e1_
  cases mm_beq e2_
  try dsimp only at h
  obtain ⟨h1, h2, h3, hq1, hq0⟩ := h
  exact ⟨S, L, p, k, h1, h2, rfl, rfl, h3.1, h3.2, fun e => hQ _ _ (hq1 e), fun e => hQ _ _ (hq0 e)⟩
def zX9_games : zz_Sp := fun as M Q X => match as with
  | [.inr (.inr (some h_)), .inl a, .inl b] => bif Nat.beq h_ 0 && Nat.beq M.1.1 1 then (R32 a ∧ R32 b ∧ (¬ ((0 ≤ a ∧ a ≤ 6) ∧ (0 ≤ b ∧ b ≤ 6)) → Q none (zm (mm_up M.2.1 0 0 1) M.2.2.1)) ∧ ((0 ≤ a ∧ a ≤ 6) ∧ (0 ≤ b ∧ b ≤ 6) → Q none (zm (mm_up (mm_up (mm_up M.2.1 0 0 0) 1 208 a) 1 209 b) M.2.2.1))) else False
  | _ => False

theorem zmX9_games (l : Launch) (hl : l.stackTraces = false) : mm_Spec l yX9_games (ws_ yX9_games cX9_games 3 none) (mm_rm 2 0 0) (zE zX9_games) := by
  refine zE_of (mX9_games l hl) ?_
  rintro as ⟨⟨t_, f⟩, S, L, P⟩ Q X Q' X' hQ hX h
  unfold zX9_games at h
  split at h
  rotate_left
  · exact h.elim
  rename_i h_ a b
  obtain ⟨e1_, e2_, h⟩ := mm_and2 h (fun q => q)
  cases mm_beq e1_
  cases mm_beq e2_
  try dsimp only at h
  obtain ⟨h1, h2, hq1, hq0⟩ := h
  exact ⟨S, L, a, b, h1, h2, rfl, rfl, fun e => hQ _ _ (hq1 e), fun e => hQ _ _ (hq0 e)⟩
def zX9_begin : zz_Sp := fun as M Q X => match as with
  | [.inr (.inr (some h_)), .inl a, .inl b] => bif Nat.beq h_ 0 && Nat.beq M.1.1 1 then (R32 a ∧ R32 b ∧ (¬ ((0 ≤ a ∧ a ≤ 3) ∧ (0 ≤ b ∧ b ≤ 3)) → Q none (zm (mm_up M.2.1 0 0 1) M.2.2.1)) ∧ ((0 ≤ a ∧ a ≤ 3) ∧ (0 ≤ b ∧ b ≤ 3) → Q none (zm (mm_up (mm_up (mm_up M.2.1 0 0 0) 1 197 a) 1 198 b) M.2.2.1))) else False
  | _ => False

theorem zmX9_begin (l : Launch) (hl : l.stackTraces = false) : mm_Spec l yX9_begin (ws_ yX9_begin cX9_begin 3 none) (mm_rm 2 0 0) (zE zX9_begin) := by
  refine zE_of (mX9_begin l hl) ?_
  rintro as ⟨⟨t_, f⟩, S, L, P⟩ Q X Q' X' hQ hX h
  unfold zX9_begin at h
  split at h
  rotate_left
  · exact h.elim
  rename_i h_ a b
  obtain ⟨e1_, e2_, h⟩ := mm_and2 h (fun q => q)
  cases mm_beq e1_
  cases mm_beq e2_
  try dsimp only at h
  obtain ⟨h1, h2, hq1, hq0⟩ := h
  exact ⟨S, L, a, b, h1, h2, rfl, rfl, fun e => hQ _ _ (hq1 e), fun e => hQ _ _ (hq0 e)⟩
def zX9_fault : zz_Sp := fun as M Q X => match as with
  | [.inr (.inr (some h_))] => bif Nat.beq h_ 0 && Nat.beq M.1.1 1 then (Q (some (vi (M.2.1 0 10))) (zm (mm_up M.2.1 0 0 0) M.2.2.1)) else False
  | _ => False

theorem zmX9_fault (l : Launch) (hl : l.stackTraces = false) : mm_Spec l yX9_fault (ws_ yX9_fault cX9_fault 1 (some .int)) (mm_rm 1 0 0) (zE zX9_fault) := by
  refine zE_of (mX9_fault l hl) ?_
  rintro as ⟨⟨t_, f⟩, S, L, P⟩ Q X Q' X' hQ hX h
  unfold zX9_fault at h
  split at h
  rotate_left
  · exact h.elim
  rename_i h_
  obtain ⟨e1_, e2_, h⟩ := mm_and2 h (fun q => q)
  cases mm_beq e1_
  cases mm_beq e2_
  try dsimp only at h
  exact ⟨S, L, rfl, rfl, hQ _ _ h⟩
def zX9_end : zz_Sp := fun as M Q X => match as with
  | [.inr (.inr (some h_)), .inl n] => bif Nat.beq h_ 0 && Nat.beq M.1.1 1 then (R32 n ∧ R32 (M.2.1 0 6) ∧ (¬ (0 ≤ n ∧ n ≤ M.2.1 0 6) → Q (some (vi 0)) (zm (mm_up M.2.1 0 0 0) M.2.2.1)) ∧ ((0 ≤ n ∧ n ≤ M.2.1 0 6) → Q (some (vi 1)) (zm (mm_up (mm_up M.2.1 0 0 0) 0 6 n) M.2.2.1))) else False
  | _ => False

theorem zmX9_end (l : Launch) (hl : l.stackTraces = false) : mm_Spec l yX9_end (ws_ yX9_end cX9_end 2 (some .boolean)) (mm_rm 2 0 0) (zE zX9_end) := by
  refine zE_of (mX9_end l hl) ?_
  rintro as ⟨⟨t_, f⟩, S, L, P⟩ Q X Q' X' hQ hX h
  unfold zX9_end at h
  split at h
  rotate_left
  · exact h.elim
  rename_i h_ n
  obtain ⟨e1_, e2_, h⟩ := mm_and2 h (fun q => q)
  cases mm_beq e1_
  cases mm_beq e2_
  try dsimp only at h
  obtain ⟨h1, h2, hq1, hq0⟩ := h
  exact ⟨S, L, n, h1, h2, rfl, rfl, fun e => hQ _ _ (hq1 e), fun e => hQ _ _ (hq0 e)⟩
def zX9_stands : zz_Sp := fun as M Q X => match as with
  | [.inr (.inr (some h_)), .inl k] => bif Nat.beq h_ 0 && Nat.beq M.1.1 1 then (R32 k ∧ bx (tkS M.2.1 6) ∧ (¬ (0 ≤ k ∧ k ≤ 9) → Q (some (vi 0)) (zm (mm_up M.2.1 0 0 1) M.2.2.1)) ∧ ((0 ≤ k ∧ k ≤ 9) → Q (some (vi (tdR (tkS M.2.1 6) k))) (zm (tkS (mm_up M.2.1 0 0 0)) M.2.2.1))) else False
  | _ => False

theorem zmX9_stands (l : Launch) (hl : l.stackTraces = false) : mm_Spec l yX9_stands (ws_ yX9_stands cX9_stands 2 (some .int)) (mm_rm 3 0 0) (zE zX9_stands) := by
  refine zE_of (mX9_stands l hl) ?_
  rintro as ⟨⟨t_, f⟩, S, L, P⟩ Q X Q' X' hQ hX h
  unfold zX9_stands at h
  split at h
  rotate_left
  · exact h.elim
  rename_i h_ k
  obtain ⟨e1_, e2_, h⟩ := mm_and2 h (fun q => q)
  cases mm_beq e1_
  cases mm_beq e2_
  try dsimp only at h
  obtain ⟨h1, h2, hq1, hq0⟩ := h
  exact ⟨S, L, k, h1, rfl, rfl, h2, fun e => hQ _ _ (hq1 e), fun e => hQ _ _ (hq0 e)⟩
def zX9_score : zz_Sp := fun as M Q X => match as with
  | [.inr (.inr (some h_)), .inl a, .inl b, .inl s] => bif Nat.beq h_ 0 && Nat.beq M.1.1 1 then (R32 a ∧ R32 b ∧ R32 s ∧ (¬ (0 ≤ s ∧ s ≤ 1) → Q none (zm (mm_up M.2.1 0 0 1) M.2.2.1)) ∧ ((0 ≤ s ∧ s ≤ 1) → ¬ isP a b → Q none (zm (mm_up M.2.1 0 0 2) M.2.2.1)) ∧ ((0 ≤ s ∧ s ≤ 1) → isP a b → Q none (zm (scS M.2.1 a b s) M.2.2.1))) else False
  | _ => False

theorem zmX9_score (l : Launch) (hl : l.stackTraces = false) : mm_Spec l yX9_score (ws_ yX9_score cX9_score 5 none) (mm_rm 3 0 0) (zE zX9_score) := by
  refine zE_of (mX9_score l hl) ?_
  rintro as ⟨⟨t_, f⟩, S, L, P⟩ Q X Q' X' hQ hX h
  unfold zX9_score at h
  split at h
  rotate_left
  · exact h.elim
  rename_i h_ a b s
  obtain ⟨e1_, e2_, h⟩ := mm_and2 h (fun q => q)
  cases mm_beq e1_
  cases mm_beq e2_
  try dsimp only at h
  obtain ⟨h1, h2, h3, hq1, hq2, hq3⟩ := h
  exact ⟨S, L, a, b, s, h1, h2, h3, rfl, rfl, fun e => hQ _ _ (hq1 e), fun e e2 => hQ _ _ (hq2 e e2), fun e e2 => hQ _ _ (hq3 e e2)⟩
def zX9_rally : zz_Sp := fun as M Q X => match as with
  | [.inr (.inr (some h_)), .inl how, .inl line] => bif Nat.beq h_ 0 && Nat.beq M.1.1 1 then (R32 how ∧ R32 line ∧ by5 (tkS M.2.1 6) ∧ bw (M.2.1 1) ∧ (tkS M.2.1 6 2 = 0 ∨ tkS M.2.1 6 2 = 1) ∧ (raT (M.2.1 1) (tkS M.2.1 6) how line ≠ 0 → Q (some (vi 0)) (zm (mm_up (tkS M.2.1) 0 0 (raT (M.2.1 1) (tkS M.2.1 6) how line)) M.2.2.1)) ∧ (raT (M.2.1 1) (tkS M.2.1 6) how line = 0 → Q (some (vi (raO (M.2.1 1) (tkS M.2.1 6) (raH how line)))) (zm (raS M.2.1 (raH how line)) M.2.2.1))) else False
  | _ => False

theorem zmX9_rally (l : Launch) (hl : l.stackTraces = false) : mm_Spec l yX9_rally (ws_ yX9_rally cX9_rally 4 (some .int)) (mm_rm 4 0 0) (zE zX9_rally) := by
  refine zE_of (mX9_rally l hl) ?_
  rintro as ⟨⟨t_, f⟩, S, L, P⟩ Q X Q' X' hQ hX h
  unfold zX9_rally at h
  split at h
  rotate_left
  · exact h.elim
  rename_i h_ how line
  obtain ⟨e1_, e2_, h⟩ := mm_and2 h (fun q => q)
  cases mm_beq e1_
  cases mm_beq e2_
  try dsimp only at h
  obtain ⟨h1, h2, h3, h4, h5, hq1, hq0⟩ := h
  exact ⟨S, L, how, line, h1, h2, rfl, rfl, h3, h4, h5, fun e => hQ _ _ (hq1 e), fun e => hQ _ _ (hq0 e)⟩
def zX9_bisque : zz_Sp := fun as M Q X => match as with
  | [.inr (.inr (some h_)), .inl p] => bif Nat.beq h_ 0 && Nat.beq M.1.1 1 then (R32 p ∧ by5 (tkS M.2.1 6) ∧ bw (M.2.1 1) ∧ (bqT (M.2.1 1) (tkS M.2.1 6) p ≠ 0 → Q (some (vi 0)) (zm (mm_up (tkS M.2.1) 0 0 (bqT (M.2.1 1) (tkS M.2.1 6) p)) M.2.2.1)) ∧ (bqT (M.2.1 1) (tkS M.2.1 6) p = 0 → (ptw (tkS M.2.1 6) p.toNat = true → Q (some (vi 1)) (zm (bqS M.2.1 p.toNat) M.2.2.1)) ∧ (ptw (tkS M.2.1 6) p.toNat = false → Q (some (vi 0)) (zm (bqS M.2.1 p.toNat) M.2.2.1)))) else False
  | _ => False

theorem zmX9_bisque (l : Launch) (hl : l.stackTraces = false) : mm_Spec l yX9_bisque (ws_ yX9_bisque cX9_bisque 2 (some .boolean)) (mm_rm 4 0 0) (zE zX9_bisque) := by
  refine zE_of (mX9_bisque l hl) ?_
  rintro as ⟨⟨t_, f⟩, S, L, P⟩ Q X Q' X' hQ hX h
  unfold zX9_bisque at h
  split at h
  rotate_left
  · exact h.elim
  rename_i h_ p
  obtain ⟨e1_, e2_, h⟩ := mm_and2 h (fun q => q)
  cases mm_beq e1_
  cases mm_beq e2_
  try dsimp only at h
  obtain ⟨h1, h2, h3, hq1, hq0⟩ := h
  exact ⟨S, L, p, h1, rfl, rfl, h2, h3, fun e => hQ _ _ (hq1 e), fun e => evb1 (fun e2 => hQ _ _ ((hq0 e).1 e2)) (fun e2 => hQ _ _ ((hq0 e).2 e2))⟩
def zX9_count : zz_Sp := fun as M Q X => match as with
  | [.inr (.inr (some h_)), .inl k] => bif Nat.beq h_ 0 && Nat.beq M.1.1 1 then (R32 k ∧ Q (some (vi (ctR (M.2.1 1) k))) (zm (mm_up M.2.1 0 0 0) M.2.2.1)) else False
  | _ => False

theorem zmX9_count (l : Launch) (hl : l.stackTraces = false) : mm_Spec l yX9_count (ws_ yX9_count cX9_count 2 (some .int)) (mm_rm 1 0 0) (zE zX9_count) := by
  refine zE_of (mX9_count l hl) ?_
  rintro as ⟨⟨t_, f⟩, S, L, P⟩ Q X Q' X' hQ hX h
  unfold zX9_count at h
  split at h
  rotate_left
  · exact h.elim
  rename_i h_ k
  obtain ⟨e1_, e2_, h⟩ := mm_and2 h (fun q => q)
  cases mm_beq e1_
  cases mm_beq e2_
  try dsimp only at h
  obtain ⟨h1, hq⟩ := h
  exact ⟨S, L, k, h1, rfl, rfl, hQ _ _ hq⟩
def zX9_image : zz_Sp := fun as M Q X => match as with
  | [.inr (.inr (some h_))] => bif Nat.beq h_ 0 && Nat.beq M.1.1 1 then (Q none (zm (imS M.2.1) M.2.2.1)) else False
  | _ => False

theorem zmX9_image (l : Launch) (hl : l.stackTraces = false) : mm_Spec l yX9_image (ws_ yX9_image cX9_image 2 none) (mm_rm 1 0 0) (zE zX9_image) := by
  refine zE_of (mX9_image l hl) ?_
  rintro as ⟨⟨t_, f⟩, S, L, P⟩ Q X Q' X' hQ hX h
  unfold zX9_image at h
  split at h
  rotate_left
  · exact h.elim
  rename_i h_
  obtain ⟨e1_, e2_, h⟩ := mm_and2 h (fun q => q)
  cases mm_beq e1_
  cases mm_beq e2_
  try dsimp only at h
  exact ⟨S, L, rfl, rfl, hQ _ _ h⟩
def zX9_back : zz_Sp := fun as M Q X => match as with
  | [.inr (.inr (some h_))] => bif Nat.beq h_ 0 && Nat.beq M.1.1 1 then (R32 (M.2.1 0 3) ∧ (M.2.1 0 3 = 0 → Q (some (vi 0)) (zm (mm_up M.2.1 0 0 0) M.2.2.1)) ∧ (M.2.1 0 3 ≠ 0 → Q (some (vi 1)) (zm (bkS M.2.1) M.2.2.1))) else False
  | _ => False

theorem zmX9_back (l : Launch) (hl : l.stackTraces = false) : mm_Spec l yX9_back (ws_ yX9_back cX9_back 2 (some .boolean)) (mm_rm 1 0 0) (zE zX9_back) := by
  refine zE_of (mX9_back l hl) ?_
  rintro as ⟨⟨t_, f⟩, S, L, P⟩ Q X Q' X' hQ hX h
  unfold zX9_back at h
  split at h
  rotate_left
  · exact h.elim
  rename_i h_
  obtain ⟨e1_, e2_, h⟩ := mm_and2 h (fun q => q)
  cases mm_beq e1_
  cases mm_beq e2_
  try dsimp only at h
  obtain ⟨h1, hq1, hq0⟩ := h
  exact ⟨S, L, rfl, rfl, h1, fun e => hQ _ _ (hq1 e), fun e => hQ _ _ (hq0 e)⟩
