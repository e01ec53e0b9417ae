/-! ===== the model's contracts by whole numbers ===== -/
set_option maxRecDepth 100000
theorem evb1 {Q' : Option Value → mm_M → Prop} {M : mm_M} {b : Bool} (h1 : b = true → Q' (some (.int (zI 1))) M) (h0 : b = false → Q' (some (.int (zI 0))) M) : Q' (some (.int (bz b))) M := by
  cases b with
  | true => exact h1 rfl
  | false => exact h0 rfl
def zX9_isIn : zz_Sp := fun as M Q X => match as with
  | [.inl v, .inl lo, .inl hi] => R32 v ∧ R32 lo ∧ R32 hi ∧ ((lo ≤ v ∧ v ≤ hi) → Q (some (vi 1)) M) ∧ (¬ (lo ≤ v ∧ v ≤ hi) → Q (some (vi 0)) M)
  | _ => False

theorem zmX9_isIn (l : Launch) (hl : l.stackTraces = false) : mm_Spec l yX9_isIn (ws_ yX9_isIn cX9_isIn 3 (some .boolean)) (mm_rm 1 0 0) (zE zX9_isIn) := by
  refine zE_of (mX9_isIn l hl) ?_
  rintro as M Q X Q' X' hQ hX h
  unfold zX9_isIn at h
  split at h
  rotate_left
  · exact h.elim
  rename_i v lo hi
  obtain ⟨h1, h2, h3, hq1, hq0⟩ := h
  refine ⟨zI v, zI lo, zI hi, rfl, evb1 (fun e => ?_) (fun e => ?_)⟩
  · rw [Bool.and_eq_true, decide_eq_true_eq, decide_eq_true_eq, zI_le h2.1 h2.2 h1.1 h1.2, zI_le h1.1 h1.2 h3.1 h3.2] at e
    exact hQ _ _ (hq1 e)
  · rw [← Bool.not_eq_true, Bool.and_eq_true, decide_eq_true_eq, decide_eq_true_eq, zI_le h2.1 h2.2 h1.1 h1.2, zI_le h1.1 h1.2 h3.1 h3.2] at e
    exact hQ _ _ (hq0 e)
def zX9_isPlayer : zz_Sp := fun as M Q X => match as with
  | [.inl v] => R32 v ∧ ((0 ≤ v ∧ v ≤ 1) → Q (some (vi 1)) M) ∧ (¬ (0 ≤ v ∧ v ≤ 1) → Q (some (vi 0)) M)
  | _ => False

theorem zmX9_isPlayer (l : Launch) (hl : l.stackTraces = false) : mm_Spec l yX9_isPlayer (ws_ yX9_isPlayer cX9_isPlayer 1 (some .boolean)) (mm_rm 2 0 0) (zE zX9_isPlayer) := by
  refine zE_of (mX9_isPlayer l hl) ?_
  rintro as M Q X Q' X' hQ hX h
  unfold zX9_isPlayer at h
  split at h
  rotate_left
  · exact h.elim
  rename_i v
  obtain ⟨h1, hq1, hq0⟩ := h
  have z0 : (0 : Int32) ≤ zI v ↔ 0 ≤ v := by rw [zI_n, zI_le (by decide) (by decide) h1.1 h1.2]
  have z1 : zI v ≤ (1 : Int32) ↔ v ≤ 1 := by rw [zI_n, zI_le h1.1 h1.2 (by decide) (by decide)]
  refine ⟨zI v, rfl, evb1 (fun e => ?_) (fun e => ?_)⟩
  · rw [Bool.and_eq_true, decide_eq_true_eq, decide_eq_true_eq, z0, z1] at e
    exact hQ _ _ (hq1 e)
  · rw [← Bool.not_eq_true, Bool.and_eq_true, decide_eq_true_eq, decide_eq_true_eq, z0, z1] at e
    exact hQ _ _ (hq0 e)
def zX9_takes : zz_Sp := fun as M Q X => match as with
  | [.inr (.inr (some h_))] => bif Nat.beq h_ 0 && Nat.beq M.1.1 1 then (Q none (zm (tkS M.2.1) M.2.2.1)) else False
  | _ => False

theorem zmX9_takes (l : Launch) (hl : l.stackTraces = false) : mm_Spec l yX9_takes (ws_ yX9_takes cX9_takes 2 none) (mm_rm 1 0 0) (zE zX9_takes) := by
  refine zE_of (mX9_takes l hl) ?_
  rintro as ⟨⟨t_, f⟩, S, L, P⟩ Q X Q' X' hQ hX h
  unfold zX9_takes at h
  split at h
  rotate_left
  · exact h.elim
  rename_i h_
  obtain ⟨e1_, e2_, h⟩ := mm_and2 h (fun q => q)
  cases mm_beq e1_
  cases mm_beq e2_
  try dsimp only at h
  exact ⟨S, L, rfl, rfl, hQ _ _ h⟩
def zX9_isOver : zz_Sp := fun as M Q X => match as with
  | [.inr (.inr (some h_))] => bif Nat.beq h_ 0 && Nat.beq M.1.1 1 then (bx (M.2.1 6) ∧ (-100 ≤ M.2.1 1 194 ∧ M.2.1 1 194 ≤ 100) ∧ (ovR (M.2.1 1 194) (M.2.1 6) = true → Q (some (vi 1)) (zm M.2.1 M.2.2.1)) ∧ (ovR (M.2.1 1 194) (M.2.1 6) = false → Q (some (vi 0)) (zm M.2.1 M.2.2.1))) else False
  | _ => False

theorem zmX9_isOver (l : Launch) (hl : l.stackTraces = false) : mm_Spec l yX9_isOver (ws_ yX9_isOver cX9_isOver 1 (some .boolean)) (mm_rm 1 0 0) (zE zX9_isOver) := by
  refine zE_of (mX9_isOver l hl) ?_
  rintro as ⟨⟨t_, f⟩, S, L, P⟩ Q X Q' X' hQ hX h
  unfold zX9_isOver at h
  split at h
  rotate_left
  · exact h.elim
  rename_i h_
  obtain ⟨e1_, e2_, h⟩ := mm_and2 h (fun q => q)
  cases mm_beq e1_
  cases mm_beq e2_
  try dsimp only at h
  obtain ⟨h1, h2, hq1, hq0⟩ := h
  exact ⟨S, L, rfl, rfl, h1, h2.1, h2.2, evb1 (fun e => hQ _ _ (hq1 e)) (fun e => hQ _ _ (hq0 e))⟩
def zX9_takesBisque : zz_Sp := fun as M Q X => match as with
  | [.inr (.inr (some h_)), .inl p] => bif Nat.beq h_ 0 && Nat.beq M.1.1 1 then ((0 ≤ p ∧ p < 2) ∧ by5 (M.2.1 6) ∧ bw (M.2.1 1) ∧ Q none (zm (sx M.2.1 (bqR (M.2.1 1) (M.2.1 6) p.toNat) (if ptw (M.2.1 6) p.toNat then p else -1) p) M.2.2.1)) else False
  | _ => False

theorem zmX9_takesBisque (l : Launch) (hl : l.stackTraces = false) : mm_Spec l yX9_takesBisque (ws_ yX9_takesBisque cX9_takesBisque 3 none) (mm_rm 3 0 0) (zE zX9_takesBisque) := by
  refine zE_of (mX9_takesBisque l hl) ?_
  rintro as ⟨⟨t_, f⟩, S, L, P⟩ Q X Q' X' hQ hX h
  unfold zX9_takesBisque at h
  split at h
  rotate_left
  · exact h.elim
  rename_i h_ p
  obtain ⟨e1_, e2_, h⟩ := mm_and2 h (fun q => q)
  cases mm_beq e1_
  cases mm_beq e2_
  try dsimp only at h
  obtain ⟨h1, h2, h3, hq⟩ := h
  have e : p = (p.toNat : Int) := by omega
  refine ⟨S, L, p.toNat, by omega, ?_, rfl, h2, h3, ?_⟩
  · rw [← e]; rfl
  · rw [← e]; exact hQ _ _ hq
def zX9_number : zz_Sp := fun as M Q X => match as with
  | [.inr (.inr (some h_))] => bif Nat.beq h_ 0 && Nat.beq M.1.1 1 then (bx (M.2.1 6) ∧ Q (some (vi (nuR (M.2.1 6)))) (zm M.2.1 M.2.2.1)) else False
  | _ => False

theorem zmX9_number (l : Launch) (hl : l.stackTraces = false) : mm_Spec l yX9_number (ws_ yX9_number cX9_number 2 (some .int)) (mm_rm 1 0 0) (zE zX9_number) := by
  refine zE_of (mX9_number l hl) ?_
  rintro as ⟨⟨t_, f⟩, S, L, P⟩ Q X Q' X' hQ hX h
  unfold zX9_number at h
  split at h
  rotate_left
  · exact h.elim
  rename_i h_
  obtain ⟨e1_, e2_, h⟩ := mm_and2 h (fun q => q)
  cases mm_beq e1_
  cases mm_beq e2_
  try dsimp only at h
  exact ⟨S, L, rfl, rfl, h.1, hQ _ _ h.2⟩
def zX9_unnumber : zz_Sp := fun as M Q X => match as with
  | [.inr (.inr (some h_)), .inl k] => bif Nat.beq h_ 0 && Nat.beq M.1.1 1 then ((0 ≤ k ∧ k < 100000000) ∧ Q none (zm (sx M.2.1 (unR (M.2.1 1) (M.2.1 6) k) (M.2.1 0 17) (M.2.1 0 18)) M.2.2.1)) else False
  | _ => False

theorem zmX9_unnumber (l : Launch) (hl : l.stackTraces = false) : mm_Spec l yX9_unnumber (ws_ yX9_unnumber cX9_unnumber 3 none) (mm_rm 1 0 0) (zE zX9_unnumber) := by
  refine zE_of (mX9_unnumber l hl) ?_
  rintro as ⟨⟨t_, f⟩, S, L, P⟩ Q X Q' X' hQ hX h
  unfold zX9_unnumber at h
  split at h
  rotate_left
  · exact h.elim
  rename_i h_ k
  obtain ⟨e1_, e2_, h⟩ := mm_and2 h (fun q => q)
  cases mm_beq e1_
  cases mm_beq e2_
  try dsimp only at h
  exact ⟨S, L, k, h.1.1, h.1.2, rfl, rfl, hQ _ _ h.2⟩
def zX9_rallies : zz_Sp := fun as M Q X => match as with
  | [.inr (.inr (some h_)), .inl how] => bif Nat.beq h_ 0 && Nat.beq M.1.1 1 then ((0 ≤ how ∧ how ≤ 14) ∧ by5 (M.2.1 6) ∧ bw (M.2.1 1) ∧ (M.2.1 6 2 = 0 ∨ M.2.1 6 2 = 1) ∧ Q none (zm (sx M.2.1 (rlR (M.2.1 1) (M.2.1 6) how) (rlN (M.2.1 1) (M.2.1 6) how) (rlW (M.2.1 1) (M.2.1 6) how)) M.2.2.1)) else False
  | _ => False

theorem zmX9_rallies (l : Launch) (hl : l.stackTraces = false) : mm_Spec l yX9_rallies (ws_ yX9_rallies cX9_rallies 5 none) (mm_rm 3 0 0) (zE zX9_rallies) := by
  refine zE_of (mX9_rallies l hl) ?_
  rintro as ⟨⟨t_, f⟩, S, L, P⟩ Q X Q' X' hQ hX h
  unfold zX9_rallies at h
  split at h
  rotate_left
  · exact h.elim
  rename_i h_ how
  obtain ⟨e1_, e2_, h⟩ := mm_and2 h (fun q => q)
  cases mm_beq e1_
  cases mm_beq e2_
  try dsimp only at h
  obtain ⟨h1, h2, h3, h4, hq⟩ := h
  exact ⟨S, L, how, h1.1, h1.2, rfl, rfl, h2, h3, h4, hQ _ _ hq⟩
def zX9_told : zz_Sp := fun as M Q X => match as with
  | [.inr (.inr (some h_)), .inl k] => bif Nat.beq h_ 0 && Nat.beq M.1.1 1 then ((0 ≤ k ∧ k ≤ 9) ∧ bx (M.2.1 6) ∧ Q (some (vi (tdR (M.2.1 6) k))) (zm M.2.1 M.2.2.1)) else False
  | _ => False

theorem zmX9_told (l : Launch) (hl : l.stackTraces = false) : mm_Spec l yX9_told (ws_ yX9_told cX9_told 2 (some .int)) (mm_rm 2 0 0) (zE zX9_told) := by
  refine zE_of (mX9_told l hl) ?_
  rintro as ⟨⟨t_, f⟩, S, L, P⟩ Q X Q' X' hQ hX h
  unfold zX9_told at h
  split at h
  rotate_left
  · exact h.elim
  rename_i h_ k
  obtain ⟨e1_, e2_, h⟩ := mm_and2 h (fun q => q)
  cases mm_beq e1_
  cases mm_beq e2_
  try dsimp only at h
  exact ⟨S, L, k, h.1.1, h.1.2, rfl, rfl, h.2.1, hQ _ _ h.2.2⟩
def zX9_atNow : zz_Sp := fun as M Q X => match as with
  | [.inr (.inr (some h_))] => bif Nat.beq h_ 0 && Nat.beq M.1.1 1 then (bx (tkS M.2.1 6) ∧ Q (some (vi (nuR (tkS M.2.1 6)))) (zm (tkS M.2.1) M.2.2.1)) else False
  | _ => False

theorem zmX9_atNow (l : Launch) (hl : l.stackTraces = false) : mm_Spec l yX9_atNow (ws_ yX9_atNow cX9_atNow 1 (some .int)) (mm_rm 2 0 0) (zE zX9_atNow) := by
  refine zE_of (mX9_atNow l hl) ?_
  rintro as ⟨⟨t_, f⟩, S, L, P⟩ Q X Q' X' hQ hX h
  unfold zX9_atNow at h
  split at h
  rotate_left
  · exact h.elim
  rename_i h_
  obtain ⟨e1_, e2_, h⟩ := mm_and2 h (fun q => q)
  cases mm_beq e1_
  cases mm_beq e2_
  try dsimp only at h
  exact ⟨S, L, rfl, rfl, h.1, hQ _ _ h.2⟩
def zX9_refuses : zz_Sp := fun as M Q X => match as with
  | [.inr (.inr (some h_)), .inl p, .inl n] => bif Nat.beq h_ 0 && Nat.beq M.1.1 1 then (R32 p ∧ R32 n ∧ bx (tkS M.2.1 6) ∧ (-100 ≤ M.2.1 1 194 ∧ M.2.1 1 194 ≤ 100) ∧ Q (some (vi (rfR (M.2.1 1) (tkS M.2.1 6) p n))) (zm (tkS M.2.1) M.2.2.1)) else False
  | _ => False

theorem zmX9_refuses (l : Launch) (hl : l.stackTraces = false) : mm_Spec l yX9_refuses (ws_ yX9_refuses cX9_refuses 3 (some .int)) (mm_rm 3 0 0) (zE zX9_refuses) := by
  refine zE_of (mX9_refuses l hl) ?_
  rintro as ⟨⟨t_, f⟩, S, L, P⟩ Q X Q' X' hQ hX h
  unfold zX9_refuses at h
  split at h
  rotate_left
  · exact h.elim
  rename_i h_ p n
  obtain ⟨e1_, e2_, h⟩ := mm_and2 h (fun q => q)
  cases mm_beq e1_
  cases mm_beq e2_
  try dsimp only at h
  obtain ⟨h1, h2, h3, h4, hq⟩ := h
  exact ⟨S, L, p, n, h1, h2, rfl, rfl, h3, h4.1, h4.2, hQ _ _ hq⟩
def zX9_whole : zz_Sp := fun as M Q X => match as with
  | [.inr (.inr (some h_))] => bif Nat.beq h_ 0 && Nat.beq M.1.1 1 then (bx (M.2.1 6) ∧ Q (some (vi (whR (M.2.1 6)))) (zm M.2.1 M.2.2.1)) else False
  | _ => False

theorem zmX9_whole (l : Launch) (hl : l.stackTraces = false) : mm_Spec l yX9_whole (ws_ yX9_whole cX9_whole 1 (some .int)) (mm_rm 2 0 0) (zE zX9_whole) := by
  refine zE_of (mX9_whole l hl) ?_
  rintro as ⟨⟨t_, f⟩, S, L, P⟩ Q X Q' X' hQ hX h
  unfold zX9_whole at h
  split at h
  rotate_left
  · exact h.elim
  rename_i h_
  obtain ⟨e1_, e2_, h⟩ := mm_and2 h (fun q => q)
  cases mm_beq e1_
  cases mm_beq e2_
  try dsimp only at h
  exact ⟨S, L, rfl, rfl, h.1, hQ _ _ h.2⟩
def zX9_unwhole : zz_Sp := fun as M Q X => match as with
  | [.inr (.inr (some h_)), .inl k] => bif Nat.beq h_ 0 && Nat.beq M.1.1 1 then ((0 ≤ k ∧ k < 100000000) ∧ Q none (zm (sx M.2.1 (uwR (M.2.1 1) (M.2.1 6) k) (M.2.1 0 17) (M.2.1 0 18)) M.2.2.1)) else False
  | _ => False

theorem zmX9_unwhole (l : Launch) (hl : l.stackTraces = false) : mm_Spec l yX9_unwhole (ws_ yX9_unwhole cX9_unwhole 2 none) (mm_rm 2 0 0) (zE zX9_unwhole) := by
  refine zE_of (mX9_unwhole l hl) ?_
  rintro as ⟨⟨t_, f⟩, S, L, P⟩ Q X Q' X' hQ hX h
  unfold zX9_unwhole at h
  split at h
  rotate_left
  · exact h.elim
  rename_i h_ k
  obtain ⟨e1_, e2_, h⟩ := mm_and2 h (fun q => q)
  cases mm_beq e1_
  cases mm_beq e2_
  try dsimp only at h
  exact ⟨S, L, k, h.1.1, h.1.2, rfl, rfl, hQ _ _ h.2⟩
def zX9_canBe : zz_Sp := fun as M Q X => match as with
  | [.inl k] => (0 ≤ k ∧ k < 100000000) ∧ (cbR k = true → Q (some (vi 1)) M) ∧ (cbR k = false → Q (some (vi 0)) M)
  | _ => False

theorem zmX9_canBe (l : Launch) (hl : l.stackTraces = false) : mm_Spec l yX9_canBe (ws_ yX9_canBe cX9_canBe 3 (some .boolean)) (mm_rm 1 0 0) (zE zX9_canBe) := by
  refine zE_of (mX9_canBe l hl) ?_
  rintro as M Q X Q' X' hQ hX h
  unfold zX9_canBe at h
  split at h
  rotate_left
  · exact h.elim
  rename_i k
  obtain ⟨h1, hq1, hq0⟩ := h
  exact ⟨k, h1.1, h1.2, rfl, evb1 (fun e => hQ _ _ (hq1 e)) (fun e => hQ _ _ (hq0 e))⟩
def zX9_letter : zz_Sp := fun as M Q X => match as with
  | [.inr (.inr (some h_)), .inl k] => bif Nat.beq h_ 0 && Nat.beq M.1.1 1 then (∃ (tx_ : Nat → Int) (n_ : Nat), mT M.2.1 tx_ n_ ∧ (0 ≤ k ∧ k < n_) ∧ Q (some (vi (tx_ k.toNat))) (zm M.2.1 M.2.2.1)) else False
  | _ => False

theorem zmX9_letter (l : Launch) (hl : l.stackTraces = false) : mm_Spec l yX9_letter (ws_ yX9_letter cX9_letter 2 (some .int)) (mm_rm 1 0 0) (zE zX9_letter) := by
  refine zE_of (mX9_letter l hl) ?_
  rintro as ⟨⟨t_, f⟩, S, L, P⟩ Q X Q' X' hQ hX h
  unfold zX9_letter at h
  split at h
  rotate_left
  · exact h.elim
  rename_i h_ k
  obtain ⟨e1_, e2_, h⟩ := mm_and2 h (fun q => q)
  cases mm_beq e1_
  cases mm_beq e2_
  try dsimp only at h
  obtain ⟨tx, n, hT, hk, hq⟩ := h
  have e : k = (k.toNat : Int) := by omega
  refine ⟨S, L, tx, n, k.toNat, ?_, rfl, hT, by omega, hQ _ _ hq⟩
  rw [← e]; rfl
theorem pS_up9 (S : Nat → Nat → Int) (v : Int) : mm_up S 0 9 v = pS S v (S 0 10) (S 0 11) := by
  funext h k
  grind [up_eq, pS_at]
theorem pS_up10 (S : Nat → Nat → Int) (v : Int) : mm_up S 0 10 v = pS S (S 0 9) v (S 0 11) := by
  funext h k
  grind [up_eq, pS_at]
def zX9_skip : zz_Sp := fun as M Q X => match as with
  | [.inr (.inr (some h_))] => bif Nat.beq h_ 0 && Nat.beq M.1.1 1 then (∃ (tx_ : Nat → Int) (n_ a_ : Nat), mT M.2.1 tx_ n_ ∧ M.2.1 0 9 = a_ ∧ a_ ≤ n_ + 1000 ∧ Q none (zm (mm_up M.2.1 0 9 ((rn (qB tx_) n_ a_ : Nat) : Int)) M.2.2.1)) else False
  | _ => False

theorem zm_c {S S' L L' : Nat → Nat → Int} (e : S = S') (e2 : L = L') : zm S L = zm S' L' := by rw [e, e2]
theorem up_same {S : Nat → Nat → Int} {h k : Nat} {v : Int} (e : S h k = v) : mm_up S h k v = S := by
  funext a b
  grind [up_eq]
theorem up_up (S : Nat → Nat → Int) (h k : Nat) (v w : Int) : mm_up (mm_up S h k v) h k w = mm_up S h k w := by
  funext a b
  grind [up_eq]
def zpX9_skip : zz_P := [(0, zo_ald 1 0), (1, zo_get 4 8 0 9), (4, zo_ald 5 0), (5, zo_get 8 8 0 8), (8, zo_cge false false 11 37), (11, zo_ald 12 0), (12, zo_ald 13 0), (13, zo_get 16 8 0 9), (16, zo_callv 19 2 8 zX9_letter), (19, zo_c 21 (vi 32)), (21, zo_cne false true 24 37), (24, zo_ald 25 0), (25, zo_dup 26), (26, zo_get 29 8 0 9), (29, zo_c 30 (vi 1)), (30, zo_iadd 31), (31, zo_puti 34 8 9), (34, zo_goto 0), (37, zo_vret)]
theorem ztX9_skip {C : mm_C} (G : mm_G C RX9 cX9_skip none 1 (mm_rm 2 0 0)) (hnh : mm_nh C) : zz_OKs C zpX9_skip :=
  ⟨zz_of (ok_aload_n G dX9_skip_0 rfl rfl) (z_ald _ _),
   zz_of (ok_get G (nx := 4) (ci := 8) (kd := 0) (k := 9) (RX9, TX9, 32) rfl (by decide) rfl q1814 dX9_skip_1 rfl) (z_get _ _ _ _),
   zz_of (ok_aload_n G dX9_skip_4 rfl rfl) (z_ald _ _),
   zz_of (ok_get G (nx := 8) (ci := 8) (kd := 0) (k := 8) (RX9, TX9, 32) rfl (by decide) rfl q1813 dX9_skip_5 rfl) (z_get _ _ _ _),
   zz_of (ok_cge G dX9_skip_8 rfl rfl) (z_cge _ _ _ _),
   zz_of (ok_aload_n G dX9_skip_11 rfl rfl) (z_ald _ _),
   zz_of (ok_aload_n G dX9_skip_12 rfl rfl) (z_ald _ _),
   zz_of (ok_get G (nx := 16) (ci := 8) (kd := 0) (k := 9) (RX9, TX9, 32) rfl (by decide) rfl q1814 dX9_skip_13 rfl) (z_get _ _ _ _),
   zz_of (ok_callv G hnh (zmX9_letter _ G.hst) rfl rfl (RX9, TX9, 32) rfl q1929 q1931 qs42 q93 q1932 (by decide +kernel) ⟨by decide, by decide⟩ dX9_skip_16 rfl) (z_callv _ _ _ _),
   zz_of (ok_bipush G (v := 32) dX9_skip_19 (by decide) rfl) (z_cn 21 32),
   zz_of (ok_cne G dX9_skip_21 rfl rfl) (z_cne _ _ _ _),
   zz_of (ok_aload_n G dX9_skip_24 rfl rfl) (z_ald _ _),
   zz_of (ok_dup G dX9_skip_25 rfl) (z_dup _),
   zz_of (ok_get G (nx := 29) (ci := 8) (kd := 0) (k := 9) (RX9, TX9, 32) rfl (by decide) rfl q1814 dX9_skip_26 rfl) (z_get _ _ _ _),
   zz_of (ok_iconst G (v := 1) dX9_skip_29 (by decide) rfl) (z_cn 30 1),
   zz_of (ok_iadd G dX9_skip_30 rfl) (z_iadd _),
   zz_of (ok_puti G (nx := 34) (idx := 80) (ci := 8) (k := 9) (RX9, TX9, 32) rfl (by decide) rfl (mm_pw G (ci := 8) (k := 9) (RX9, TX9, 32) rfl (by decide) rfl q1814 dX9_skip_31) rfl) (z_puti _ _ _),
   zz_of (ok_goto G dX9_skip_34 rfl) (z_goto _),
   zz_of (ok_vret G dX9_skip_37) (z_vret), trivial⟩

theorem zwX9_skip_0 {Q : Option zv → zz_M → Prop} {X : Nat → zz_M → Prop} {S L : Nat → Nat → Int}  (h : R32 (S 0 9) ∧ (R32 (S 0 8) ∧ (((S 0 8) ≤ (S 0 9) → Q none (zm S L)) ∧ (¬ (S 0 8) ≤ (S 0 9) → (∃ (tx_1 : Nat → Int) (n_1 : Nat), mT S tx_1 n_1 ∧ (0 ≤ (S 0 9) ∧ (S 0 9) < n_1) ∧ (R32 (tx_1 (S 0 9).toNat) ∧ ((¬ (tx_1 (S 0 9).toNat) = 32 → Q none (zm S L)) ∧ ((tx_1 (S 0 9).toNat) = 32 → zz_J zpX9_skip (zz_ret Q X 0 0) 0 [some (vr 0)] [] (zm (mm_up S 0 9 ((S 0 9) + 1)) L) (0, 0))))))))) : zz_J zpX9_skip (zz_ret Q X 0 0) 0 [some (vr 0)] [] (zm S L) (0, 0) := zz_J.go [(0, [])] 400 h

theorem zmX9_skip (l : Launch) (hl : l.stackTraces = false) : mm_Spec l yX9_skip (ws_ yX9_skip cX9_skip 1 none) (mm_rm 2 0 0) (zE zX9_skip) := by
  refine zz_Met.J hl (by decide) (fun C G hnh => ztX9_skip G hnh) ?_
  rintro as ⟨⟨t_, f⟩, S, L, P⟩ Q X h
  unfold zX9_skip at h
  split at h
  rotate_left
  · exact h.elim
  rename_i h_
  obtain ⟨e1_, e2_, h⟩ := mm_and2 h (fun q => q)
  cases mm_beq e1_
  cases mm_beq e2_
  try dsimp only at h
  refine ⟨rfl, ?_⟩
  refine zz_Jev (M' := zm S L) rfl rfl rfl ?_
  obtain ⟨tx, n, a, hT, ha, han, hq⟩ := h
  have hn := hT.1
  have h8 := hT.2.1
  have lp : ∀ (j a : Nat) (S' : Nat → Nat → Int), n - a = j → a ≤ n + 1000 → S' = mm_up S 0 9 a → Q none (zm (mm_up S 0 9 ((rn (qB tx) n a : Nat) : Int)) L) → zz_J zpX9_skip (zz_ret Q X 0 0) 0 [some (vr 0)] [] (zm S' L) (0, 0) := by
    intro j
    induction j with
    | zero =>
      intro a S' hj han hS hq
      have e9 : S' 0 9 = a := by rw [hS]; simp [up_eq]
      have e8 : S' 0 8 = n := by rw [hS]; simpa [up_eq] using h8
      have e : rn (qB tx) n a = a := rn_f (fun h => by omega)
      rw [e, ← hS] at hq
      refine zwX9_skip_0 ⟨by omega, by omega, fun _ => hq, fun c => ?_⟩
      omega
    | succ j ih =>
      intro a S' hj han hS hq
      have e9 : S' 0 9 = a := by rw [hS]; simp [up_eq]
      have e8 : S' 0 8 = n := by rw [hS]; simpa [up_eq] using h8
      have hx := hT.2.2.1 a (by omega)
      have hT' : mT S' tx n := by rw [hS, pS_up9]; exact hT.pS _ _ _
      refine zwX9_skip_0 ⟨by omega, by omega, fun c => by omega, fun c => ⟨tx, n, hT', by omega, ?_⟩⟩
      rw [e9, Int.toNat_natCast]
      refine ⟨by omega, fun c2 => ?_, fun c2 => ?_⟩
      · have e : rn (qB tx) n a = a := rn_f (fun _ => by unfold qB; exact decide_eq_false c2)
        rw [e, ← hS] at hq
        exact hq
      · have e : rn (qB tx) n a = rn (qB tx) n (a + 1) := rn_t (by omega) (by unfold qB; exact decide_eq_true c2)
        rw [e] at hq
        exact ih (a + 1) _ (by omega) (by omega) (by rw [hS, up_up]; rfl) hq
  exact lp _ a S rfl han (up_same ha).symm hq
def zX9_isSign : zz_Sp := fun as M Q X => match as with
  | [.inr (.inr (some h_)), .inl c] => bif Nat.beq h_ 0 && Nat.beq M.1.1 1 then (∃ (tx_ : Nat → Int) (n_ a_ : Nat), R32 c ∧ mT M.2.1 tx_ n_ ∧ M.2.1 0 9 = a_ ∧ a_ ≤ n_ ∧ (isSg tx_ n_ (rn (qB tx_) n_ a_) c = true → Q (some (vi 1)) (zm (mm_up M.2.1 0 9 ((rn (qB tx_) n_ a_ : Nat) : Int)) M.2.2.1)) ∧ (isSg tx_ n_ (rn (qB tx_) n_ a_) c = false → Q (some (vi 0)) (zm (mm_up M.2.1 0 9 ((rn (qB tx_) n_ a_ : Nat) : Int)) M.2.2.1))) else False
  | _ => False

theorem zmX9_isSign (l : Launch) (hl : l.stackTraces = false) : mm_Spec l yX9_isSign (ws_ yX9_isSign cX9_isSign 2 (some .boolean)) (mm_rm 3 0 0) (zE zX9_isSign) := by
  refine zE_of (mX9_isSign l hl) ?_
  rintro as ⟨⟨t_, f⟩, S, L, P⟩ Q X Q' X' hQ hX h
  unfold zX9_isSign at h
  split at h
  rotate_left
  · exact h.elim
  rename_i h_ c
  obtain ⟨e1_, e2_, h⟩ := mm_and2 h (fun q => q)
  cases mm_beq e1_
  cases mm_beq e2_
  try dsimp only at h
  obtain ⟨tx, n, a, hc, hT, ha, han, hq1, hq0⟩ := h
  rw [pS_up9] at hq1 hq0
  refine ⟨S, L, tx, n, a, S 0 10, S 0 11, c, hc, rfl, ?_, hT, han, evb1 (fun e => hQ _ _ (hq1 e)) (fun e => hQ _ _ (hq0 e))⟩
  rw [← ha, pS_id]; rfl
def zX9_wrong : zz_Sp := fun as M Q X => match as with
  | [.inr (.inr (some h_)), .inl w] => bif Nat.beq h_ 0 && Nat.beq M.1.1 1 then (R32 (M.2.1 0 10) ∧ Q none (zm (mm_up M.2.1 0 10 (wrF (M.2.1 0 10) w)) M.2.2.1)) else False
  | _ => False

theorem zmX9_wrong (l : Launch) (hl : l.stackTraces = false) : mm_Spec l yX9_wrong (ws_ yX9_wrong cX9_wrong 2 none) (mm_rm 1 0 0) (zE zX9_wrong) := by
  refine zE_of (mX9_wrong l hl) ?_
  rintro as ⟨⟨t_, f⟩, S, L, P⟩ Q X Q' X' hQ hX h
  unfold zX9_wrong at h
  split at h
  rotate_left
  · exact h.elim
  rename_i h_ w
  obtain ⟨e1_, e2_, h⟩ := mm_and2 h (fun q => q)
  cases mm_beq e1_
  cases mm_beq e2_
  try dsimp only at h
  obtain ⟨h1, hq⟩ := h
  rw [pS_up10] at hq
  refine ⟨S, L, S 0 9, S 0 10, S 0 11, w, h1, rfl, ?_, hQ _ _ hq⟩
  rw [pS_id]; rfl
def zX9_has : zz_Sp := fun as M Q X => match as with
  | [.inr (.inr (some h_)), .inr (.inr (some w))] => bif Nat.beq h_ 0 && Nat.beq M.1.1 1 then (∃ (tx_ : Nat → Int) (n_ a_ j_ : Nat), w = 1000 + j_ ∧ j_ < 18 ∧ mT M.2.1 tx_ n_ ∧ M.2.1 0 9 = a_ ∧ a_ ≤ n_ ∧ (hsW tx_ n_ (rn (qB tx_) n_ a_) (wo j_) = true → Q (some (vi 1)) (zm (mm_up M.2.1 0 9 ((rn (qB tx_) n_ a_ + (wo j_).length : Nat) : Int)) M.2.2.1)) ∧ (hsW tx_ n_ (rn (qB tx_) n_ a_) (wo j_) = false → Q (some (vi 0)) (zm (mm_up M.2.1 0 9 ((rn (qB tx_) n_ a_ : Nat) : Int)) M.2.2.1))) else False
  | _ => False

theorem zmX9_has (l : Launch) (hl : l.stackTraces = false) : mm_Spec l yX9_has (ws_ yX9_has cX9_has 4 (some .boolean)) (mm_rm 5 0 0) (zE zX9_has) := by
  refine zE_of (mX9_has l hl) ?_
  rintro as ⟨⟨t_, f⟩, S, L, P⟩ Q X Q' X' hQ hX h
  unfold zX9_has at h
  split at h
  rotate_left
  · exact h.elim
  rename_i h_ w
  obtain ⟨e1_, e2_, h⟩ := mm_and2 h (fun q => q)
  cases mm_beq e1_
  cases mm_beq e2_
  try dsimp only at h
  obtain ⟨tx, n, a, j, rfl, hj, hT, ha, han, hq1, hq0⟩ := h
  rw [pS_up9] at hq1 hq0
  refine ⟨S, L, tx, n, a, j, S 0 10, S 0 11, hj, rfl, ?_, hT, han, evb1 (fun e => ?_) (fun e => ?_)⟩
  · rw [← ha, pS_id]; rfl
  · rw [hsA, e]; exact hQ _ _ (hq1 e)
  · rw [hsA, e]; exact hQ _ _ (hq0 e)
def zX9_figures : zz_Sp := fun as M Q X => match as with
  | [.inr (.inr (some h_)), .inl lo, .inl hi] => bif Nat.beq h_ 0 && Nat.beq M.1.1 1 then (R32 (M.2.1 0 10) ∧ 0 ≤ M.2.1 0 9 ∧ R32 lo ∧ R32 hi ∧ (M.2.1 0 10 ≠ -1 → Q (some (vi 0)) (zm M.2.1 M.2.2.1)) ∧ (M.2.1 0 10 = -1 → ∃ (tx_ : Nat → Int) (n_ a_ : Nat), mT M.2.1 tx_ n_ ∧ M.2.1 0 9 = a_ ∧ a_ ≤ n_ ∧ (fgB tx_ n_ (rn (qB tx_) n_ a_) lo hi = true → ∀ (v_ : Int) (z_ : Nat), z_ ≤ n_ → Q (some (vi v_)) (zm (pS M.2.1 z_ (rn (qB tx_) n_ a_ : Nat) (M.2.1 0 11)) M.2.2.1)) ∧ (fgB tx_ n_ (rn (qB tx_) n_ a_) lo hi = false → Q (some (vi (fgV tx_ (rn (qB tx_) n_ a_) (rn (qD tx_) n_ (rn (qB tx_) n_ a_) - rn (qB tx_) n_ a_)))) (zm (pS M.2.1 (rn (qD tx_) n_ (rn (qB tx_) n_ a_) : Nat) (-1) (M.2.1 0 11)) M.2.2.1)))) else False
  | _ => False

theorem zmX9_figures (l : Launch) (hl : l.stackTraces = false) : mm_Spec l yX9_figures (ws_ yX9_figures cX9_figures 5 (some .int)) (mm_rm 5 0 0) (zE zX9_figures) := by
  refine zE_of (mX9_figures l hl) ?_
  rintro as ⟨⟨t_, f⟩, S, L, P⟩ Q X Q' X' hQ hX h
  unfold zX9_figures at h
  split at h
  rotate_left
  · exact h.elim
  rename_i h_ lo hi
  obtain ⟨e1_, e2_, h⟩ := mm_and2 h (fun q => q)
  cases mm_beq e1_
  cases mm_beq e2_
  try dsimp only at h
  obtain ⟨h1, h9, h2, h3, hq0, hq⟩ := h
  by_cases hf : S 0 10 = -1
  · obtain ⟨tx, n, a, hT, ha, han, hq1, hq2⟩ := hq hf
    refine ⟨S, L, tx, n, a, S 0 10, S 0 11, lo, hi, h1, h2, h3, rfl, ?_, fun h => absurd hf h, fun _ => ⟨hT, han, fun e v a' h' => hQ _ _ (hq1 e v a' h'), fun e => ?_⟩⟩
    · rw [← ha, pS_id]; rfl
    · rw [hf]; exact hQ _ _ (hq2 e)
  · have e : ((S 0 9).toNat : Int) = S 0 9 := by omega
    have e2 : mZ S L = mZ (pS S ((S 0 9).toNat : Int) (S 0 10) (S 0 11)) L := by rw [e, pS_id]
    refine ⟨S, L, fun _ => 0, 0, (S 0 9).toNat, S 0 10, S 0 11, lo, hi, h1, h2, h3, rfl, e2, fun _ => ?_, fun h => absurd h hf⟩
    rw [← e2]
    exact hQ _ _ (hq0 hf)
def zX9_part : zz_Sp := fun as M Q X => match as with
  | [.inr (.inr (some h_))] => bif Nat.beq h_ 0 && Nat.beq M.1.1 1 then (∃ (tx_ : Nat → Int) (n_ a_ : Nat), mT M.2.1 tx_ n_ ∧ M.2.1 0 9 = a_ ∧ M.2.1 0 10 = -1 ∧ a_ ≤ n_ ∧ (∀ w_ : Nat, ptP tx_ n_ a_ = .inl w_ → ∀ (v_ : Int) (z_ : Nat) (d_ : Int), z_ ≤ n_ → Q (some (vi v_)) (zm (pS M.2.1 z_ w_ d_) M.2.2.1)) ∧ (∀ c_ : Nat × (Fc → Int), ptP tx_ n_ a_ = .inr c_ → Q (some (vi (c_.2 (fcS M.2.1)))) (zm (pS M.2.1 c_.1 (-1) (M.2.1 0 11)) M.2.2.1))) else False
  | _ => False

theorem zmX9_part (l : Launch) (hl : l.stackTraces = false) : mm_Spec l yX9_part (ws_ yX9_part cX9_part 2 (some .int)) (mm_rm 6 0 0) (zE zX9_part) := by
  refine zE_of (mX9_part l hl) ?_
  rintro as ⟨⟨t_, f⟩, S, L, P⟩ Q X Q' X' hQ hX h
  unfold zX9_part at h
  split at h
  rotate_left
  · exact h.elim
  rename_i h_
  obtain ⟨e1_, e2_, h⟩ := mm_and2 h (fun q => q)
  cases mm_beq e1_
  cases mm_beq e2_
  try dsimp only at h
  obtain ⟨tx, n, a, hT, ha, hf, han, hq1, hq2⟩ := h
  refine ⟨S, L, tx, n, a, S 0 11, rfl, ?_, hT, han, fun w e v z d hz => hQ _ _ (hq1 w e v z d hz), fun c e => hQ _ _ (hq2 c e)⟩
  rw [← ha, ← hf, pS_id]; rfl
