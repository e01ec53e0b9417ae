/-! ===== the component's chances: rally by rally ===== -/
set_option maxRecDepth 100000
def zJ3_fill : zz_Sp := fun as M Q X => match as with
  | [.inr (.inr (some a)), .inl v] => bif Nat.beq M.1.1 2 then (∃ n_ : Nat, zsh ((2, M.1.2), M.2.1, M.2.2.1, M.2.2.2) a = (2, n_) ∧ n_ ≤ 2147483647 ∧ (∀ S_ : Nat → Nat → Int, (∀ h k, (h ≠ a ∨ n_ ≤ k) → S_ h k = M.2.1 h k) → (∀ k, k < n_ → S_ a k = v) → Q none ((2, M.1.2), S_, M.2.2.1, M.2.2.2))) else False
  | _ => False

def zpJ3_fill : zz_P := [(0, zo_c 1 (vi 0)), (1, zo_ist 2 2), (2, zo_ald 3 0), (3, zo_alenp 4), (4, zo_ist 5 3), (5, zo_ild 6 2), (6, zo_ild 7 3), (7, zo_cge false false 10 20), (10, zo_ald 11 0), (11, zo_ild 12 2), (12, zo_ild 13 1), (13, zo_iasp 14), (14, zo_inc 17 2 1), (17, zo_goto 5), (20, zo_vret)]
theorem ztJ3_fill {C : mm_C} (G : mm_G C RJ3 cJ3_fill none 4 (mm_rm 1 0 0)) (hnh : mm_nh C) : zz_OKs C zpJ3_fill :=
  ⟨zz_of (ok_iconst G (v := 0) dJ3_fill_0 (by decide) rfl) (z_cn 1 0),
   zz_of (ok_istore_n G dJ3_fill_1 rfl rfl (by decide)) (z_ist _ _),
   zz_of (ok_aload_n G dJ3_fill_2 rfl rfl) (z_ald _ _),
   zz_of (ok_alen G dJ3_fill_3 rfl) (z_alenp _),
   zz_of (ok_istore_n G dJ3_fill_4 rfl rfl (by decide)) (z_ist _ _),
   zz_of (ok_iload_n G dJ3_fill_5 rfl rfl) (z_ild _ _),
   zz_of (ok_iload_n G dJ3_fill_6 rfl rfl) (z_ild _ _),
   zz_of (ok_cge G dJ3_fill_7 rfl rfl) (z_cge _ _ _ _),
   zz_of (ok_aload_n G dJ3_fill_10 rfl rfl) (z_ald _ _),
   zz_of (ok_iload_n G dJ3_fill_11 rfl rfl) (z_ild _ _),
   zz_of (ok_iload_n G dJ3_fill_12 rfl rfl) (z_ild _ _),
   zz_of (ok_iast G dJ3_fill_13 rfl) (z_iasp _),
   zz_of (ok_iinc G (v := 1) dJ3_fill_14 (by decide) rfl (by decide)) (z_incn 17 2 1),
   zz_of (ok_goto G dJ3_fill_17 rfl) (z_goto _),
   zz_of (ok_vret G dJ3_fill_20) (z_vret), trivial⟩

theorem zwJ3_fill_0 {Q : Option zv → zz_M → Prop} {X : Nat → zz_M → Prop} {f : Nat → Nat × Nat} {S L : Nat → Nat → Int} {P : Nat → Nat → Option Nat} {a : Nat} {v : Int} (h : ∃ (t_ n1 : Nat), zsh ((2, f), S, L, P) a = (t_, n1) ∧ (2 ≤ t_ % 16 ∧ t_ % 16 ≤ 8 ∧ t_ ≤ 31) ∧ (zz_J zpJ3_fill (zz_ret Q X 0 0) 5 [some (vr a), some (vi v), some (vi 0), some (vi (n1 : Int))] [] ((2, f), S, L, P) (0, 0))) : zz_J zpJ3_fill (zz_ret Q X 0 0) 0 [some (vr a), some (vi v), none, none] [] ((2, f), S, L, P) (0, 0) := zz_J.go [(5, [])] 400 h
theorem zwJ3_fill_5 {Q : Option zv → zz_M → Prop} {X : Nat → zz_M → Prop} {f : Nat → Nat × Nat} {S L : Nat → Nat → Int} {P : Nat → Nat → Option Nat} {h0 : Nat} {x1 : Int} {x2 : Int} {x3 : Int} (h : R32 x2 ∧ (R32 x3 ∧ ((x3 ≤ x2 → Q none ((2, f), S, L, P)) ∧ (¬ x3 ≤ x2 → ∃ n_ : Nat, zsh ((2, f), S, L, P) h0 = (2, n_) ∧ (n_ : Int) ≤ 2147483647 ∧ (0 ≤ x2 ∧ x2 < (n_ : Int)) ∧ (zz_J zpJ3_fill (zz_ret Q X 0 0) 5 [some (vr h0), some (vi x1), some (vi (x2 + 1)), some (vi x3)] [] ((2, f), mm_up S h0 x2.toNat x1, L, P) (0, 0)))))) : zz_J zpJ3_fill (zz_ret Q X 0 0) 5 [some (vr h0), some (vi x1), some (vi x2), some (vi x3)] [] ((2, f), S, L, P) (0, 0) := zz_J.go [(5, [])] 400 h

theorem zmJ3_fill (l : Launch) (hl : l.stackTraces = false) : mm_Spec l yJ3_fill (ws_ yJ3_fill cJ3_fill 4 none) (mm_rm 1 0 0) (zE zJ3_fill) := by
  refine zz_Met.J hl (by decide) (fun C G hnh => ztJ3_fill G hnh) ?_
  rintro as ⟨⟨t_, f⟩, S, L, P⟩ Q X h
  unfold zJ3_fill at h
  split at h
  rotate_left
  · exact h.elim
  rename_i a v
  obtain ⟨e2_, h⟩ := mm_bif h (fun q => q)
  cases mm_beq e2_
  try dsimp only at h
  refine ⟨rfl, ?_⟩
  obtain ⟨n, hsh, hn, hq⟩ := h
  have t5 : ∀ (m i : Nat) (T : Nat → Nat → Int), i + m = n → (∀ h k, (h ≠ a ∨ i ≤ k) → T h k = S h k) → (∀ k, k < i → T a k = v) → zz_J zpJ3_fill (zz_ret Q X 0 0) 5 [some (vr a), some (vi v), some (vi (i : Int)), some (vi (n : Int))] [] ((2, f), T, L, P) (0, 0) := by
    intro m
    induction m with
    | zero =>
      intro i T hi h1 h2
      exact zwJ3_fill_5 ⟨by omega, by omega, fun _ => hq T (fun h k c => h1 h k (by omega)) (fun k hk => h2 k (by omega)), fun c => absurd c (by omega)⟩
    | succ m ih =>
      intro i T hi h1 h2
      refine zwJ3_fill_5 ⟨by omega, by omega, fun c => absurd c (by omega), fun _ => ⟨n, hsh, by omega, ⟨by omega, by omega⟩, ?_⟩⟩
      rw [Int.toNat_natCast]
      refine ih (i + 1) _ (by omega) (fun h k c => ?_) (fun k hk => ?_)
      · rw [up_eq, if_neg (by omega)]
        exact h1 h k (by omega)
      · by_cases e : k = i
        · rw [up_eq, if_pos ⟨rfl, e⟩]
        · rw [up_eq, if_neg (by omega)]
          exact h2 k (by omega)
  exact zwJ3_fill_0 ⟨2, n, hsh, by decide, t5 n 0 S (by omega) (fun _ _ _ => rfl) (fun k hk => absurd hk (by omega))⟩
/-- styles of who serves and of the other one -/
def styE (S : Nat → Nat → Int) (st : Nat → Int) : Prop := ∀ c : Nat, c < 15488 → cbR (c : Int) = true → S 107 c = 4 * st (2 * c + c / 121 % 2) + st (2 * c + 1 - c / 121 % 2)
theorem bsF_2 {tb w st : Nat → Int} {k p : Nat} (ht : tbG tb) (hm : mG w) (hwh : whB w 16 = true) (hst : stG st) (hk : k < 15488) (hcb : cbR k = true) (hp : p < 2) : ∀ s, s ≤ 4 → (s = 0 → (bsF tb w st k p s).2 = -1) ∧ (0 < s → 0 ≤ (bsF tb w st k p s).2 ∧ (bsF tb w st k p s).2 ≤ 3 ∧ bsV tb w st k p (bsF tb w st k p s).2 = (bsF tb w st k p s).1)
  | 0, _ => ⟨fun _ => rfl, fun h => absurd h (by decide)⟩
  | s + 1, h => by
    have ih := bsF_2 ht hm hwh hst hk hcb hp s (by omega)
    have hb := bsF_in ht hm hwh hst hk hcb hp s (by omega)
    have hv := bsV_in ht hm hwh hst hk hcb hp (s := (s : Int)) (by omega)
    refine ⟨fun c => by omega, fun _ => ?_⟩
    unfold bsF
    split
    · next hle =>
      by_cases e : s = 0
      · subst e
        have e1 : (bsF tb w st k p 0).1 = -1 := rfl
        omega
      · exact ih.2 (by omega)
    · exact ⟨by show (0 : Int) ≤ (s : Int); omega, by show (s : Int) ≤ 3; omega, rfl⟩
def zX6_begins_116 : zz_Sp := fun as M Q X => match as with
  | [.inr (.inr (some h_)), .inl ch] => bif Nat.beq h_ 116 && Nat.beq M.1.1 2 then (∃ a_ : Nat, cN M.2.2.2 116 a_ ∧ (∀ S_ : Nat → Nat → Int, (∀ h k, h ≠ a_ → ¬ (h = 116 ∧ k = 3) → S_ h k = M.2.1 h k) → S_ 116 3 = ch → (∀ k, k < 15488 → S_ a_ k = 0) → Q (some (vr 116)) ((2, M.1.2), S_, M.2.2.1, M.2.2.2))) else False
  | _ => False

def zpX6_begins_116 : zz_P := [(0, zo_ald 1 0), (1, zo_ild 2 1), (2, zo_puti 5 5 3), (5, zo_ald 6 0), (6, zo_getq 9 5 0), (9, zo_c 10 (vi 0)), (10, zo_calls 13 2 zJ3_fill), (13, zo_ald 14 0), (14, zo_aret)]
theorem ztX6_begins_116 {C : mm_C} (G : mm_G C RX6 cX6_begins (some (.object "ChaseCourt$Chances")) 2 (mm_rm 2 0 0)) (hnh : mm_nh C) : zz_OKs C zpX6_begins_116 :=
  ⟨zz_of (ok_aload_n G dX6_begins_0 rfl rfl) (z_ald _ _),
   zz_of (ok_iload_n G dX6_begins_1 rfl rfl) (z_ild _ _),
   zz_of (ok_puti G (nx := 5) (idx := 25) (ci := 5) (k := 3) (RX6, TX6, 5) rfl (by decide) rfl (mm_pw G (ci := 5) (k := 3) (RX6, TX6, 5) rfl (by decide) rfl q329 dX6_begins_2) rfl) (z_puti _ _ _),
   zz_of (ok_aload_n G dX6_begins_5 rfl rfl) (z_ald _ _),
   zz_of (ok_get G (nx := 9) (ci := 5) (kd := 2) (k := 0) (RX6, TX6, 5) rfl (by decide) rfl q324 dX6_begins_6 rfl) (z_getq _ _ _),
   zz_of (ok_iconst G (v := 0) dX6_begins_9 (by decide) rfl) (z_cn 10 0),
   zz_of (ok_calls G hnh (zmJ3_fill _ G.hst) rfl rfl q1614 q1615 q95 q1616 (by decide +kernel) ⟨by decide, by decide⟩ dX6_begins_10 rfl) (z_calls _ _ _),
   zz_of (ok_aload_n G dX6_begins_13 rfl rfl) (z_ald _ _),
   zz_of (ok_aret G (Or.inl ⟨_, rfl⟩) dX6_begins_14) (z_aret), trivial⟩

theorem zwX6_begins_116_0 {Q : Option zv → zz_M → Prop} {X : Nat → zz_M → Prop} {f : Nat → Nat × Nat} {S L : Nat → Nat → Int} {P : Nat → Nat → Option Nat} {ch : Int} (h : zsh ((2, f), mm_up S 116 3 ch, L, P) 116 = (1, 5) ∧ (∀ b1 : Nat, zpt ((2, f), mm_up S 116 3 ch, L, P) 116 0 = some b1 → (∃ n_2 : Nat, zsh ((2, f), (mm_up S 116 3 ch), L, P) b1 = (2, n_2) ∧ n_2 ≤ 2147483647 ∧ (∀ S_2 : Nat → Nat → Int, (∀ h k, (h ≠ b1 ∨ n_2 ≤ k) → S_2 h k = (mm_up S 116 3 ch) h k) → (∀ k, k < n_2 → S_2 b1 k = (0 : Int)) → (Q (some (vr 116)) ((2, f), S_2, L, P))))) ∧ (zpt ((2, f), mm_up S 116 3 ch, L, P) 116 0 = none → (False))) : zz_J zpX6_begins_116 (zz_ret Q X 0 0) 0 [some (vr 116), some (vi ch)] [] ((2, f), S, L, P) (0, 0) := zz_J.go [] 400 h

theorem zmX6_begins_116 (l : Launch) (hl : l.stackTraces = false) : mm_Spec l yX6_begins (ws_ yX6_begins cX6_begins 2 (some (.object "ChaseCourt$Chances"))) (mm_rm 2 0 0) (zE zX6_begins_116) := by
  refine zz_Met.J hl (by decide) (fun C G hnh => ztX6_begins_116 G hnh) ?_
  rintro as ⟨⟨t_, f⟩, S, L, P⟩ Q X h
  unfold zX6_begins_116 at h
  split at h
  rotate_left
  · exact h.elim
  rename_i h_ ch
  obtain ⟨e1_, e2_, h⟩ := mm_and2 h (fun q => q)
  cases mm_beq e1_
  cases mm_beq e2_
  try dsimp only at h
  refine ⟨rfl, ?_⟩
  obtain ⟨a, ⟨ha1, ha2, -⟩, hq⟩ := h
  have hsh : zsh ((2, f), mm_up S 116 3 ch, L, P) a = (2, 15488) := by rcases ha1 with e | e <;> subst e <;> rfl
  refine zwX6_begins_116_0 ⟨rfl, fun b e => ?_, fun e => ?_⟩
  · have e2 : P 116 0 = some b := e
    rw [ha2] at e2
    cases e2
    refine ⟨15488, hsh, by decide, fun S2 h1 h2 => hq S2 (fun h k c d => ?_) ?_ h2⟩
    · rw [h1 h k (Or.inl c), up_eq, if_neg d]
    · rw [h1 116 3 (Or.inl (by omega)), up_eq, if_pos ⟨rfl, rfl⟩]
  · have e2 : P 116 0 = none := e
    rw [ha2] at e2
    cases e2
def zX6_wins_116 : zz_Sp := fun as M Q X => match as with
  | [.inr (.inr (some h_)), .inl p] => bif Nat.beq h_ 116 && Nat.beq M.1.1 2 then ((p = 0 ∨ p = 1) ∧ ∃ a_ : Nat, cN M.2.2.2 116 a_ ∧ (∀ S_ : Nat → Nat → Int, (∀ h k, h ≠ a_ → ¬ (h = 116 ∧ k = 3) → ¬ (h = 119 ∧ k < 4) → S_ h k = M.2.1 h k) → S_ 116 3 = -1 → enE S_ 116 p (-1) → (∀ k, k < 15488 → S_ a_ k = 0) → Q (some (vr 116)) ((2, M.1.2), S_, M.2.2.1, M.2.2.2))) else False
  | _ => False

def zpX6_wins_116 : zz_P := [(0, zo_c 1 (vi 0)), (1, zo_ist 2 2), (2, zo_ild 3 2), (3, zo_c 4 (vi 4)), (4, zo_cge false true 7 32), (7, zo_ald 8 0), (8, zo_get 11 5 2 2), (11, zo_ild 12 2), (12, zo_ild 13 2), (13, zo_c 14 (vi 2)), (14, zo_idiv 15), (15, zo_ild 16 1), (16, zo_cne false false 19 24), (19, zo_c 21 (vi 1000000000)), (21, zo_goto 25), (24, zo_c 25 (vi 0)), (25, zo_iasd 26), (26, zo_inc 29 2 1), (29, zo_goto 2), (32, zo_ald 33 0), (33, zo_c 34 (vi (-1))), (34, zo_callv 37 2 5 zX6_begins_116), (37, zo_aret)]
theorem ztX6_wins_116 {C : mm_C} (G : mm_G C RX6 cX6_wins (some (.object "ChaseCourt$Chances")) 3 (mm_rm 3 0 0)) (hnh : mm_nh C) : zz_OKs C zpX6_wins_116 :=
  ⟨zz_of (ok_iconst G (v := 0) dX6_wins_0 (by decide) rfl) (z_cn 1 0),
   zz_of (ok_istore_n G dX6_wins_1 rfl rfl (by decide)) (z_ist _ _),
   zz_of (ok_iload_n G dX6_wins_2 rfl rfl) (z_ild _ _),
   zz_of (ok_iconst G (v := 4) dX6_wins_3 (by decide) rfl) (z_cn 4 4),
   zz_of (ok_cge G dX6_wins_4 rfl rfl) (z_cge _ _ _ _),
   zz_of (ok_aload_n G dX6_wins_7 rfl rfl) (z_ald _ _),
   zz_of (ok_get G (nx := 11) (ci := 5) (kd := 2) (k := 2) (RX6, TX6, 5) rfl (by decide) rfl q326 dX6_wins_8 rfl) (z_get _ _ _ _),
   zz_of (ok_iload_n G dX6_wins_11 rfl rfl) (z_ild _ _),
   zz_of (ok_iload_n G dX6_wins_12 rfl rfl) (z_ild _ _),
   zz_of (ok_iconst G (v := 2) dX6_wins_13 (by decide) rfl) (z_cn 14 2),
   zz_of (ok_idiv G dX6_wins_14 rfl) (z_idiv _),
   zz_of (ok_iload_n G dX6_wins_15 rfl rfl) (z_ild _ _),
   zz_of (ok_cne G dX6_wins_16 rfl rfl) (z_cne _ _ _ _),
   zz_of (ok_ldc G (v := 1000000000) q1609 dX6_wins_19 rfl) (z_cn 21 1000000000),
   zz_of (ok_goto G dX6_wins_21 rfl) (z_goto _),
   zz_of (ok_iconst G (v := 0) dX6_wins_24 (by decide) rfl) (z_cn 25 0),
   zz_of (ok_iast G dX6_wins_25 rfl) (z_iasd _),
   zz_of (ok_iinc G (v := 1) dX6_wins_26 (by decide) rfl (by decide)) (z_incn 29 2 1),
   zz_of (ok_goto G dX6_wins_29 rfl) (z_goto _),
   zz_of (ok_aload_n G dX6_wins_32 rfl rfl) (z_ald _ _),
   zz_of (ok_iconst G (v := (zI (-1))) dX6_wins_33 (by decide) rfl) (z_cz 34 (-1)),
   zz_of (ok_callv G hnh (zmX6_begins_116 _ G.hst) rfl rfl (RX6, TX6, 5) rfl q1610 q1611 q1612 q90 q1613 (by decide +kernel) ⟨by decide, by decide⟩ dX6_wins_34 rfl) (z_callv _ _ _ _),
   zz_of (ok_aret G (Or.inl ⟨_, rfl⟩) dX6_wins_37) (z_aret), trivial⟩

theorem zwX6_wins_116_0 {Q : Option zv → zz_M → Prop} {X : Nat → zz_M → Prop} {f : Nat → Nat × Nat} {S L : Nat → Nat → Int} {P : Nat → Nat → Option Nat} {p : Int} (h : zz_J zpX6_wins_116 (zz_ret Q X 0 0) 2 [some (vr 116), some (vi p), some (vi 0)] [] ((2, f), S, L, P) (0, 0)) : zz_J zpX6_wins_116 (zz_ret Q X 0 0) 0 [some (vr 116), some (vi p), none] [] ((2, f), S, L, P) (0, 0) := zz_J.go [(2, [])] 400 h
theorem zwX6_wins_116_2 {Q : Option zv → zz_M → Prop} {X : Nat → zz_M → Prop} {f : Nat → Nat × Nat} {S L : Nat → Nat → Int} {P : Nat → Nat → Option Nat} {x1 : Int} {x2 : Int} (h : R32 x2 ∧ ((4 ≤ x2 → (∃ a_1 : Nat, cN P 116 a_1 ∧ (∀ S_1 : Nat → Nat → Int, (∀ h k, h ≠ a_1 → ¬ (h = 116 ∧ k = 3) → S_1 h k = S h k) → S_1 116 3 = (-1) → (∀ k, k < 15488 → S_1 a_1 k = 0) → (Q (some (vr 116)) ((2, f), S_1, L, P))))) ∧ (¬ 4 ≤ x2 → (0 ≤ x2 ∧ x2 < 2147483648) ∧ (R32 (x2 / 2) ∧ (R32 x1 ∧ ((¬ (x2 / 2) = x1 → (0 ≤ x2 ∧ x2 < 4) ∧ (zz_J zpX6_wins_116 (zz_ret Q X 0 0) 2 [some (vr 116), some (vi x1), some (vi (x2 + 1))] [] ((2, f), mm_up S 119 x2.toNat 0, L, P) (0, 0))) ∧ ((x2 / 2) = x1 → (0 ≤ x2 ∧ x2 < 4) ∧ (zz_J zpX6_wins_116 (zz_ret Q X 0 0) 2 [some (vr 116), some (vi x1), some (vi (x2 + 1))] [] ((2, f), mm_up S 119 x2.toNat 1000000000, L, P) (0, 0))))))))) : zz_J zpX6_wins_116 (zz_ret Q X 0 0) 2 [some (vr 116), some (vi x1), some (vi x2)] [] ((2, f), S, L, P) (0, 0) := zz_J.go [(2, [])] 400 h

theorem zmX6_wins_116 (l : Launch) (hl : l.stackTraces = false) : mm_Spec l yX6_wins (ws_ yX6_wins cX6_wins 3 (some (.object "ChaseCourt$Chances"))) (mm_rm 3 0 0) (zE zX6_wins_116) := by
  refine zz_Met.J hl (by decide) (fun C G hnh => ztX6_wins_116 G hnh) ?_
  rintro as ⟨⟨t_, f⟩, S, L, P⟩ Q X h
  unfold zX6_wins_116 at h
  split at h
  rotate_left
  · exact h.elim
  rename_i h_ p
  obtain ⟨e1_, e2_, h⟩ := mm_and2 h (fun q => q)
  cases mm_beq e1_
  cases mm_beq e2_
  try dsimp only at h
  refine ⟨rfl, ?_⟩
  obtain ⟨hp, a, ha, hq⟩ := h
  have ha1 := ha.1
  have t2 : ∀ (m i : Nat) (T : Nat → Nat → Int), i + m = 4 → (∀ h k, ¬ (h = 119 ∧ k < 4) → T h k = S h k) → (∀ k, k < i → T 119 k = enV4 p (-1) k) → zz_J zpX6_wins_116 (zz_ret Q X 0 0) 2 [some (vr 116), some (vi p), some (vi (i : Int))] [] ((2, f), T, L, P) (0, 0) := by
    intro m
    induction m with
    | zero =>
      intro i T hi h1 h2
      refine zwX6_wins_116_2 ⟨by omega, fun _ => ⟨a, ha, fun S2 g1 g2 g3 => hq S2 (fun h k c d e => ?_) g2 (fun j hj => ?_) g3⟩, fun c => absurd c (by omega)⟩
      · rw [g1 h k c d]
        exact h1 h k e
      · rw [g1 _ _ (by omega) (by omega)]
        exact h2 j (by omega)
    | succ m ih =>
      intro i T hi h1 h2
      have nx : ∀ v : Int, v = enV4 p (-1) i → zz_J zpX6_wins_116 (zz_ret Q X 0 0) 2 [some (vr 116), some (vi p), some (vi ((i : Int) + 1))] [] ((2, f), mm_up T 119 i v, L, P) (0, 0) := by
        intro v hv
        refine ih (i + 1) _ (by omega) (fun h k c => ?_) (fun k hk => ?_)
        · rw [up_eq, if_neg (by omega)]
          exact h1 h k c
        · by_cases e : k = i
          · rw [up_eq, if_pos ⟨rfl, e⟩, hv, e]
          · rw [up_eq, if_neg (by omega)]
            exact h2 k (by omega)
      refine zwX6_wins_116_2 ⟨by omega, fun c => absurd c (by omega), fun _ => ⟨by omega, by omega, by omega, fun c => ⟨by omega, ?_⟩, fun c => ⟨by omega, ?_⟩⟩⟩
      · rw [Int.toNat_natCast]
        refine nx _ ?_
        unfold enV4
        rw [if_neg (fun d => c (by omega))]
      · rw [Int.toNat_natCast]
        refine nx _ ?_
        unfold enV4
        rw [if_pos ⟨by omega, Or.inl rfl⟩]
  exact zwX6_wins_116_0 (t2 4 0 S rfl (fun _ _ _ => rfl) (fun k hk => absurd hk (by omega)))
def zX6_with_116 : zz_Sp := fun as M Q X => match as with
  | [.inr (.inr (some h_)), .inl code, .inl serves, .inl s] => bif Nat.beq h_ 116 && Nat.beq M.1.1 2 then ((0 ≤ code ∧ code < 15488) ∧ (0 ≤ M.2.1 107 code.toNat ∧ M.2.1 107 code.toNat ≤ 15) ∧ (serves = 0 ∨ serves = 1) ∧ (serves = 1 → Q (some (vi (4 * s + M.2.1 107 code.toNat % 4))) ((2, M.1.2), M.2.1, M.2.2.1, M.2.2.2)) ∧ (serves = 0 → Q (some (vi (4 * (M.2.1 107 code.toNat / 4) + s))) ((2, M.1.2), M.2.1, M.2.2.1, M.2.2.2))) else False
  | _ => False

def zpX6_with_116 : zz_P := [(0, zo_ild 1 2), (1, zo_ifeq false 4 22), (4, zo_c 5 (vi 4)), (5, zo_ild 6 3), (6, zo_imul 7), (7, zo_ald 8 0), (8, zo_get 11 5 2 4), (11, zo_get 14 0 2 7), (14, zo_ild 15 1), (15, zo_bald 16), (16, zo_c 17 (vi 4)), (17, zo_irem 18), (18, zo_iadd 19), (19, zo_goto 37), (22, zo_ald 23 0), (23, zo_get 26 5 2 4), (26, zo_get 29 0 2 7), (29, zo_ild 30 1), (30, zo_bald 31), (31, zo_c 32 (vi 4)), (32, zo_idiv 33), (33, zo_c 34 (vi 4)), (34, zo_imul 35), (35, zo_ild 36 3), (36, zo_iadd 37), (37, zo_iret)]
theorem ztX6_with_116 {C : mm_C} (G : mm_G C RX6 cX6_with (some .int) 4 (mm_rm 1 0 0)) (hnh : mm_nh C) : zz_OKs C zpX6_with_116 :=
  ⟨zz_of (ok_iload_n G dX6_with_0 rfl rfl) (z_ild _ _),
   zz_of (ok_ifeq G dX6_with_1 rfl rfl) (z_ifeq _ _ _),
   zz_of (ok_iconst G (v := 4) dX6_with_4 (by decide) rfl) (z_cn 5 4),
   zz_of (ok_iload_n G dX6_with_5 rfl rfl) (z_ild _ _),
   zz_of (ok_imul G dX6_with_6 rfl) (z_imul _),
   zz_of (ok_aload_n G dX6_with_7 rfl rfl) (z_ald _ _),
   zz_of (ok_get G (nx := 11) (ci := 5) (kd := 2) (k := 4) (RX6, TX6, 5) rfl (by decide) rfl q330 dX6_with_8 rfl) (z_get _ _ _ _),
   zz_of (ok_getN G (nx := 14) (ci := 0) (kd := 2) (k := 7) (RX1, TX1, 19) rfl (by decide) rfl q416 dX6_with_11 rfl) (z_get _ _ _ _),
   zz_of (ok_iload_n G dX6_with_14 rfl rfl) (z_ild _ _),
   zz_of (ok_bald G dX6_with_15 rfl) (z_bald _),
   zz_of (ok_iconst G (v := 4) dX6_with_16 (by decide) rfl) (z_cn 17 4),
   zz_of (ok_irem G dX6_with_17 rfl) (z_irem _),
   zz_of (ok_iadd G dX6_with_18 rfl) (z_iadd _),
   zz_of (ok_goto G dX6_with_19 rfl) (z_goto _),
   zz_of (ok_aload_n G dX6_with_22 rfl rfl) (z_ald _ _),
   zz_of (ok_get G (nx := 26) (ci := 5) (kd := 2) (k := 4) (RX6, TX6, 5) rfl (by decide) rfl q330 dX6_with_23 rfl) (z_get _ _ _ _),
   zz_of (ok_getN G (nx := 29) (ci := 0) (kd := 2) (k := 7) (RX1, TX1, 19) rfl (by decide) rfl q416 dX6_with_26 rfl) (z_get _ _ _ _),
   zz_of (ok_iload_n G dX6_with_29 rfl rfl) (z_ild _ _),
   zz_of (ok_bald G dX6_with_30 rfl) (z_bald _),
   zz_of (ok_iconst G (v := 4) dX6_with_31 (by decide) rfl) (z_cn 32 4),
   zz_of (ok_idiv G dX6_with_32 rfl) (z_idiv _),
   zz_of (ok_iconst G (v := 4) dX6_with_33 (by decide) rfl) (z_cn 34 4),
   zz_of (ok_imul G dX6_with_34 rfl) (z_imul _),
   zz_of (ok_iload_n G dX6_with_35 rfl rfl) (z_ild _ _),
   zz_of (ok_iadd G dX6_with_36 rfl) (z_iadd _),
   zz_of (ok_iret G dX6_with_37) (z_iret), trivial⟩

theorem zwX6_with_116_0 {Q : Option zv → zz_M → Prop} {X : Nat → zz_M → Prop} {f : Nat → Nat × Nat} {S L : Nat → Nat → Int} {P : Nat → Nat → Option Nat} {code : Int} {serves : Int} {s : Int} (h : R32 serves ∧ ((serves = 0 → (0 ≤ code ∧ code < 15488) ∧ ((0 ≤ (S 107 code.toNat) ∧ (S 107 code.toNat) < 2147483648) ∧ (Q (some (vi ((((S 107 code.toNat) / 4) * 4) + s))) ((2, f), S, L, P)))) ∧ (¬ serves = 0 → (0 ≤ code ∧ code < 15488) ∧ ((0 ≤ (S 107 code.toNat) ∧ (S 107 code.toNat) < 2147483648) ∧ (Q (some (vi ((4 * s) + ((S 107 code.toNat) % 4)))) ((2, f), S, L, P)))))) : zz_J zpX6_with_116 (zz_ret Q X 0 0) 0 [some (vr 116), some (vi code), some (vi serves), some (vi s)] [] ((2, f), S, L, P) (0, 0) := zz_J.go [] 400 h

theorem zmX6_with_116 (l : Launch) (hl : l.stackTraces = false) : mm_Spec l yX6_with (ws_ yX6_with cX6_with 4 (some .int)) (mm_rm 1 0 0) (zE zX6_with_116) := by
  refine zz_Met.J hl (by decide) (fun C G hnh => ztX6_with_116 G hnh) ?_
  rintro as ⟨⟨t_, f⟩, S, L, P⟩ Q X h
  unfold zX6_with_116 at h
  split at h
  rotate_left
  · exact h.elim
  rename_i h_ code serves s
  obtain ⟨e1_, e2_, h⟩ := mm_and2 h (fun q => q)
  cases mm_beq e1_
  cases mm_beq e2_
  try dsimp only at h
  refine ⟨rfl, ?_⟩
  obtain ⟨hk, hs, h01, q1, q2⟩ := h
  have e : S 107 code.toNat / 4 * 4 = 4 * (S 107 code.toNat / 4) := by omega
  refine zwX6_with_116_0 ⟨by omega, fun c => ⟨hk, by omega, ?_⟩, fun c => ⟨hk, by omega, q1 (by omega)⟩⟩
  rw [e]
  exact q2 c
def zX6_bestStyle_116 : zz_Sp := fun as M Q X => match as with
  | [.inr (.inr (some h_)), .inl code] => bif Nat.beq h_ 116 && Nat.beq M.1.1 2 then ((0 ≤ code ∧ code < 15488) ∧ cbR code = true ∧ ∃ (w_ tb_ st_ : Nat → Int) (a_ p_ : Nat), p_ < 2 ∧ M.2.1 116 3 = p_ ∧ styE M.2.1 st_ ∧ stG st_ ∧ cN M.2.2.2 116 a_ ∧ tbE M.2.1 a_ tb_ ∧ tbG tb_ ∧ enE M.2.1 116 p_ (-1) ∧ rwE M.2.1 w_ ∧ lT M.2.1 w_ ∧ mG w_ ∧ whB w_ 16 = true ∧ Q (some (vi (bsF tb_ w_ st_ code.toNat p_ 4).2)) ((2, M.1.2), M.2.1, M.2.2.1, M.2.2.2)) else False
  | _ => False

def zpX6_bestStyle_116 : zz_P := [(0, zo_ild 1 1), (1, zo_c 3 (vi 121)), (3, zo_idiv 4), (4, zo_c 5 (vi 2)), (5, zo_irem 6), (6, zo_ald 7 0), (7, zo_get 10 5 0 3), (10, zo_cne false false 13 17), (13, zo_c 14 (vi 1)), (14, zo_goto 18), (17, zo_c 18 (vi 0)), (18, zo_ist 19 2), (19, zo_c 20 (vi (-1))), (20, zo_ist 21 3), (21, zo_c 22 (vi 0)), (22, zo_ist 24 4), (24, zo_c 25 (vi 0)), (25, zo_ist 27 5), (27, zo_ild 29 5), (29, zo_c 30 (vi 4)), (30, zo_cge false true 33 76), (33, zo_ald 34 0), (34, zo_ild 35 1), (35, zo_ald 36 0), (36, zo_ild 37 1), (37, zo_ild 38 2), (38, zo_ild 40 5), (40, zo_callv 43 4 5 zX6_with_116), (43, zo_callv 46 3 5 zX6_by_116), (46, zo_ist 48 6), (48, zo_ild 49 3), (49, zo_c 50 (vi (-1))), (50, zo_ceq false true 53 63), (53, zo_ild 55 6), (55, zo_ild 57 4), (57, zo_cgt false false 60 63), (60, zo_goto 70), (63, zo_ild 65 5), (65, zo_ist 66 3), (66, zo_ild 68 6), (68, zo_ist 70 4), (70, zo_inc 73 5 1), (73, zo_goto 27), (76, zo_ild 77 3), (77, zo_iret)]
theorem ztX6_bestStyle_116 {C : mm_C} (G : mm_G C RX6 cX6_bestStyle (some .int) 7 (mm_rm 3 0 0)) (hnh : mm_nh C) : zz_OKs C zpX6_bestStyle_116 :=
  ⟨zz_of (ok_iload_n G dX6_bestStyle_0 rfl rfl) (z_ild _ _),
   zz_of (ok_bipush G (v := 121) dX6_bestStyle_1 (by decide) rfl) (z_cn 3 121),
   zz_of (ok_idiv G dX6_bestStyle_3 rfl) (z_idiv _),
   zz_of (ok_iconst G (v := 2) dX6_bestStyle_4 (by decide) rfl) (z_cn 5 2),
   zz_of (ok_irem G dX6_bestStyle_5 rfl) (z_irem _),
   zz_of (ok_aload_n G dX6_bestStyle_6 rfl rfl) (z_ald _ _),
   zz_of (ok_get G (nx := 10) (ci := 5) (kd := 0) (k := 3) (RX6, TX6, 5) rfl (by decide) rfl q329 dX6_bestStyle_7 rfl) (z_get _ _ _ _),
   zz_of (ok_cne G dX6_bestStyle_10 rfl rfl) (z_cne _ _ _ _),
   zz_of (ok_iconst G (v := 1) dX6_bestStyle_13 (by decide) rfl) (z_cn 14 1),
   zz_of (ok_goto G dX6_bestStyle_14 rfl) (z_goto _),
   zz_of (ok_iconst G (v := 0) dX6_bestStyle_17 (by decide) rfl) (z_cn 18 0),
   zz_of (ok_istore_n G dX6_bestStyle_18 rfl rfl (by decide)) (z_ist _ _),
   zz_of (ok_iconst G (v := (zI (-1))) dX6_bestStyle_19 (by decide) rfl) (z_cz 20 (-1)),
   zz_of (ok_istore_n G dX6_bestStyle_20 rfl rfl (by decide)) (z_ist _ _),
   zz_of (ok_iconst G (v := 0) dX6_bestStyle_21 (by decide) rfl) (z_cn 22 0),
   zz_of (ok_istore G dX6_bestStyle_22 rfl (by decide)) (z_ist _ _),
   zz_of (ok_iconst G (v := 0) dX6_bestStyle_24 (by decide) rfl) (z_cn 25 0),
   zz_of (ok_istore G dX6_bestStyle_25 rfl (by decide)) (z_ist _ _),
   zz_of (ok_iload G dX6_bestStyle_27 rfl) (z_ild _ _),
   zz_of (ok_iconst G (v := 4) dX6_bestStyle_29 (by decide) rfl) (z_cn 30 4),
   zz_of (ok_cge G dX6_bestStyle_30 rfl rfl) (z_cge _ _ _ _),
   zz_of (ok_aload_n G dX6_bestStyle_33 rfl rfl) (z_ald _ _),
   zz_of (ok_iload_n G dX6_bestStyle_34 rfl rfl) (z_ild _ _),
   zz_of (ok_aload_n G dX6_bestStyle_35 rfl rfl) (z_ald _ _),
   zz_of (ok_iload_n G dX6_bestStyle_36 rfl rfl) (z_ild _ _),
   zz_of (ok_iload_n G dX6_bestStyle_37 rfl rfl) (z_ild _ _),
   zz_of (ok_iload G dX6_bestStyle_38 rfl) (z_ild _ _),
   zz_of (ok_callv G hnh (zmX6_with_116 _ G.hst) rfl rfl (RX6, TX6, 5) rfl q1642 q1644 qs29 q90 q1645 (by decide +kernel) ⟨by decide, by decide⟩ dX6_bestStyle_40 rfl) (z_callv _ _ _ _),
   zz_of (ok_callv G hnh (zmX6_by_116 _ G.hst) rfl rfl (RX6, TX6, 5) rfl q1629 q1631 qs28 q90 q1632 (by decide +kernel) ⟨by decide, by decide⟩ dX6_bestStyle_43 rfl) (z_callv _ _ _ _),
   zz_of (ok_istore G dX6_bestStyle_46 rfl (by decide)) (z_ist _ _),
   zz_of (ok_iload_n G dX6_bestStyle_48 rfl rfl) (z_ild _ _),
   zz_of (ok_iconst G (v := (zI (-1))) dX6_bestStyle_49 (by decide) rfl) (z_cz 50 (-1)),
   zz_of (ok_ceq G dX6_bestStyle_50 rfl rfl) (z_ceq _ _ _ _),
   zz_of (ok_iload G dX6_bestStyle_53 rfl) (z_ild _ _),
   zz_of (ok_iload G dX6_bestStyle_55 rfl) (z_ild _ _),
   zz_of (ok_cgt G dX6_bestStyle_57 rfl rfl) (z_cgt _ _ _ _),
   zz_of (ok_goto G dX6_bestStyle_60 rfl) (z_goto _),
   zz_of (ok_iload G dX6_bestStyle_63 rfl) (z_ild _ _),
   zz_of (ok_istore_n G dX6_bestStyle_65 rfl rfl (by decide)) (z_ist _ _),
   zz_of (ok_iload G dX6_bestStyle_66 rfl) (z_ild _ _),
   zz_of (ok_istore G dX6_bestStyle_68 rfl (by decide)) (z_ist _ _),
   zz_of (ok_iinc G (v := 1) dX6_bestStyle_70 (by decide) rfl (by decide)) (z_incn 73 5 1),
   zz_of (ok_goto G dX6_bestStyle_73 rfl) (z_goto _),
   zz_of (ok_iload_n G dX6_bestStyle_76 rfl rfl) (z_ild _ _),
   zz_of (ok_iret G dX6_bestStyle_77) (z_iret), trivial⟩

theorem zwX6_bestStyle_116_0 {Q : Option zv → zz_M → Prop} {X : Nat → zz_M → Prop} {f : Nat → Nat × Nat} {S L : Nat → Nat → Int} {P : Nat → Nat → Option Nat} {code : Int} (h : (0 ≤ code ∧ code < 2147483648) ∧ ((0 ≤ (code / 121) ∧ (code / 121) < 2147483648) ∧ (R32 ((code / 121) % 2) ∧ (R32 (S 116 3) ∧ ((¬ ((code / 121) % 2) = (S 116 3) → zz_J zpX6_bestStyle_116 (zz_ret Q X 0 0) 18 [some (vr 116), some (vi code), none, none, none, none, none] [vi 0] ((2, f), S, L, P) (0, 0)) ∧ (((code / 121) % 2) = (S 116 3) → zz_J zpX6_bestStyle_116 (zz_ret Q X 0 0) 18 [some (vr 116), some (vi code), none, none, none, none, none] [vi 1] ((2, f), S, L, P) (0, 0))))))) : zz_J zpX6_bestStyle_116 (zz_ret Q X 0 0) 0 [some (vr 116), some (vi code), none, none, none, none, none] [] ((2, f), S, L, P) (0, 0) := zz_J.go [(18, [2, 3, 4, 5, 6]), (27, [6])] 400 h
theorem zwX6_bestStyle_116_18 {Q : Option zv → zz_M → Prop} {X : Nat → zz_M → Prop} {f : Nat → Nat × Nat} {S L : Nat → Nat → Int} {P : Nat → Nat → Option Nat} {x1 : Int} {t0 : Int} (h : zz_J zpX6_bestStyle_116 (zz_ret Q X 0 0) 27 [some (vr 116), some (vi x1), some (vi t0), some (vi (-1)), some (vi 0), some (vi 0), none] [] ((2, f), S, L, P) (0, 0)) : zz_J zpX6_bestStyle_116 (zz_ret Q X 0 0) 18 [some (vr 116), some (vi x1), none, none, none, none, none] [vi t0] ((2, f), S, L, P) (0, 0) := zz_J.go [(18, [2, 3, 4, 5, 6]), (27, [6])] 400 h
theorem zwX6_bestStyle_116_27 {Q : Option zv → zz_M → Prop} {X : Nat → zz_M → Prop} {f : Nat → Nat × Nat} {S L : Nat → Nat → Int} {P : Nat → Nat → Option Nat} {x1 : Int} {x2 : Int} {x3 : Int} {x4 : Int} {x5 : Int} (h : R32 x5 ∧ ((4 ≤ x5 → Q (some (vi x3)) ((2, f), S, L, P)) ∧ (¬ 4 ≤ x5 → ((0 ≤ x1 ∧ x1 < 15488) ∧ (0 ≤ S 107 x1.toNat ∧ S 107 x1.toNat ≤ 15) ∧ (x2 = 0 ∨ x2 = 1) ∧ (x2 = 1 → (((0 ≤ x1 ∧ x1 < 15488) ∧ cbR x1 = true ∧ (0 ≤ (4 * x5 + S 107 x1.toNat % 4) ∧ (4 * x5 + S 107 x1.toNat % 4) < 16) ∧ ∃ (w_2 tb_2 : Nat → Int) (a_2 : Nat) (p_2 th_2 : Int), cN P 116 a_2 ∧ tbE S a_2 tb_2 ∧ tbG tb_2 ∧ enE S 116 p_2 th_2 ∧ rwE S w_2 ∧ lT S w_2 ∧ mG w_2 ∧ whB w_2 16 = true ∧ (R32 x3 ∧ ((x3 = (-1) → zz_J zpX6_bestStyle_116 (zz_ret Q X 0 0) 27 [some (vr 116), some (vi x1), some (vi x2), some (vi x5), some (vi (hdR tb_2 w_2 x1 (12 * (4 * x5 + S 107 x1.toNat % 4)).toNat p_2 th_2)), some (vi (x5 + 1)), none] [] ((2, f), S, L, P) (0, 0)) ∧ (¬ x3 = (-1) → R32 (hdR tb_2 w_2 x1 (12 * (4 * x5 + S 107 x1.toNat % 4)).toNat p_2 th_2) ∧ (R32 x4 ∧ ((x4 < (hdR tb_2 w_2 x1 (12 * (4 * x5 + S 107 x1.toNat % 4)).toNat p_2 th_2) → zz_J zpX6_bestStyle_116 (zz_ret Q X 0 0) 27 [some (vr 116), some (vi x1), some (vi x2), some (vi x5), some (vi (hdR tb_2 w_2 x1 (12 * (4 * x5 + S 107 x1.toNat % 4)).toNat p_2 th_2)), some (vi (x5 + 1)), none] [] ((2, f), S, L, P) (0, 0)) ∧ (¬ x4 < (hdR tb_2 w_2 x1 (12 * (4 * x5 + S 107 x1.toNat % 4)).toNat p_2 th_2) → zz_J zpX6_bestStyle_116 (zz_ret Q X 0 0) 27 [some (vr 116), some (vi x1), some (vi x2), some (vi x3), some (vi x4), some (vi (x5 + 1)), none] [] ((2, f), S, L, P) (0, 0)))))))))) ∧ (x2 = 0 → (((0 ≤ x1 ∧ x1 < 15488) ∧ cbR x1 = true ∧ (0 ≤ (4 * (S 107 x1.toNat / 4) + x5) ∧ (4 * (S 107 x1.toNat / 4) + x5) < 16) ∧ ∃ (w_3 tb_3 : Nat → Int) (a_3 : Nat) (p_3 th_3 : Int), cN P 116 a_3 ∧ tbE S a_3 tb_3 ∧ tbG tb_3 ∧ enE S 116 p_3 th_3 ∧ rwE S w_3 ∧ lT S w_3 ∧ mG w_3 ∧ whB w_3 16 = true ∧ (R32 x3 ∧ ((x3 = (-1) → zz_J zpX6_bestStyle_116 (zz_ret Q X 0 0) 27 [some (vr 116), some (vi x1), some (vi x2), some (vi x5), some (vi (hdR tb_3 w_3 x1 (12 * (4 * (S 107 x1.toNat / 4) + x5)).toNat p_3 th_3)), some (vi (x5 + 1)), none] [] ((2, f), S, L, P) (0, 0)) ∧ (¬ x3 = (-1) → R32 (hdR tb_3 w_3 x1 (12 * (4 * (S 107 x1.toNat / 4) + x5)).toNat p_3 th_3) ∧ (R32 x4 ∧ ((x4 < (hdR tb_3 w_3 x1 (12 * (4 * (S 107 x1.toNat / 4) + x5)).toNat p_3 th_3) → zz_J zpX6_bestStyle_116 (zz_ret Q X 0 0) 27 [some (vr 116), some (vi x1), some (vi x2), some (vi x5), some (vi (hdR tb_3 w_3 x1 (12 * (4 * (S 107 x1.toNat / 4) + x5)).toNat p_3 th_3)), some (vi (x5 + 1)), none] [] ((2, f), S, L, P) (0, 0)) ∧ (¬ x4 < (hdR tb_3 w_3 x1 (12 * (4 * (S 107 x1.toNat / 4) + x5)).toNat p_3 th_3) → zz_J zpX6_bestStyle_116 (zz_ret Q X 0 0) 27 [some (vr 116), some (vi x1), some (vi x2), some (vi x3), some (vi x4), some (vi (x5 + 1)), none] [] ((2, f), S, L, P) (0, 0)))))))))))))) : zz_J zpX6_bestStyle_116 (zz_ret Q X 0 0) 27 [some (vr 116), some (vi x1), some (vi x2), some (vi x3), some (vi x4), some (vi x5), none] [] ((2, f), S, L, P) (0, 0) := zz_J.go [(18, [2, 3, 4, 5, 6]), (27, [6])] 400 h

theorem zmX6_bestStyle_116 (l : Launch) (hl : l.stackTraces = false) : mm_Spec l yX6_bestStyle (ws_ yX6_bestStyle cX6_bestStyle 7 (some .int)) (mm_rm 3 0 0) (zE zX6_bestStyle_116) := by
  refine zz_Met.J hl (by decide) (fun C G hnh => ztX6_bestStyle_116 G hnh) ?_
  rintro as ⟨⟨t_, f⟩, S, L, P⟩ Q X h
  unfold zX6_bestStyle_116 at h
  split at h
  rotate_left
  · exact h.elim
  rename_i h_ code
  obtain ⟨e1_, e2_, h⟩ := mm_and2 h (fun q => q)
  cases mm_beq e1_
  cases mm_beq e2_
  try dsimp only at h
  refine ⟨rfl, ?_⟩
  obtain ⟨hk, hcb, w, tb, st, a, p, hp, h3, hsy, hst, ha, htb, hG, hen, hrw, hl, hm, hwh, hq⟩ := h
  obtain ⟨k, rfl⟩ : ∃ k : Nat, code = (k : Int) := ⟨code.toNat, by omega⟩
  have hk2 : k < 15488 := by omega
  rw [Int.toNat_natCast] at hq
  have s7 := hsy k hk2 hcb
  have sA := hst (2 * k + k / 121 % 2) (by omega)
  have sB := hst (2 * k + 1 - k / 121 % 2) (by omega)
  have s15 : 0 ≤ S 107 k ∧ S 107 k ≤ 15 := by omega
  have t27 : ∀ (n s : Nat), s + n = 4 → ∀ sv : Int, sv = (if k / 121 % 2 = p then 1 else 0) → zz_J zpX6_bestStyle_116 (zz_ret Q X 0 0) 27 [some (vr 116), some (vi (k : Int)), some (vi sv), some (vi (bsF tb w st k p s).2), some (vi (if s = 0 then 0 else (bsF tb w st k p s).1)), some (vi (s : Int)), none] [] ((2, f), S, L, P) (0, 0) := by
    intro n
    induction n with
    | zero =>
      intro s hs sv hsv
      have e : s = 4 := by omega
      subst e
      exact zwX6_bestStyle_116_27 ⟨by omega, fun _ => hq, fun c => absurd c (by omega)⟩
    | succ n ih =>
      intro s hs sv hsv
      have nx := ih (s + 1) (by omega) sv hsv
      have hb := bsF_in (p := p) hG hm hwh hst hk2 hcb hp s (by omega)
      have h2 := bsF_2 (tb := tb) (w := w) (st := st) (k := k) (p := p) hG hm hwh hst hk2 hcb hp s (by omega)
      have hv := bsV_in hG hm hwh hst hk2 hcb hp (s := (s : Int)) (by omega)
      have es : bsF tb w st k p (s + 1) = if bsV tb w st k p s ≤ (bsF tb w st k p s).1 then bsF tb w st k p s else (bsV tb w st k p s, (s : Int)) := rfl
      have yes : (bsF tb w st k p s).1 < bsV tb w st k p s → zz_J zpX6_bestStyle_116 (zz_ret Q X 0 0) 27 [some (vr 116), some (vi (k : Int)), some (vi sv), some (vi (s : Int)), some (vi (bsV tb w st k p s)), some (vi ((s : Int) + 1)), none] [] ((2, f), S, L, P) (0, 0) := by
        intro c
        rw [es, if_neg (by omega), if_neg (by omega)] at nx
        exact nx
      have no : ¬ (bsF tb w st k p s).1 < bsV tb w st k p s → s ≠ 0 → zz_J zpX6_bestStyle_116 (zz_ret Q X 0 0) 27 [some (vr 116), some (vi (k : Int)), some (vi sv), some (vi (bsF tb w st k p s).2), some (vi (if s = 0 then 0 else (bsF tb w st k p s).1)), some (vi ((s : Int) + 1)), none] [] ((2, f), S, L, P) (0, 0) := by
        intro c d
        rw [es, if_pos (by omega), if_neg (by omega)] at nx
        rw [if_neg d]
        exact nx
      have fin : ∀ style : Int, (12 * style).toNat = bsI st k p s → ((0 ≤ (k : Int) ∧ (k : Int) < 15488) ∧ cbR (k : Int) = true ∧ True) := fun _ _ => ⟨hk, hcb, trivial⟩
      have v0 : s = 0 → (bsF tb w st k p s).2 = -1 ∧ (bsF tb w st k p s).1 = -1 := fun e => by subst e; exact ⟨rfl, rfl⟩
      refine zwX6_bestStyle_116_27 ⟨by omega, fun c => absurd c (by omega), fun _ => ⟨hk, by rw [Int.toNat_natCast]; exact s15, by rw [hsv]; split <;> decide, fun c => ?_, fun c => ?_⟩⟩
      · rw [Int.toNat_natCast]
        have hpp : k / 121 % 2 = p := by
          rw [hsv] at c
          by_cases e : k / 121 % 2 = p
          · exact e
          · rw [if_neg e] at c
            cases c
        have ei : (12 * (4 * (s : Int) + S 107 k % 4)).toNat = bsI st k p s := by
          unfold bsI
          rw [if_pos hpp]
          have : S 107 k % 4 = st (2 * k + 1 - p) := by rw [← hpp]; omega
          rw [this]
        rw [ei]
        refine ⟨hk, hcb, by omega, w, tb, a, (p : Int), -1, ha, htb, hG, hen, hrw, hl, hm, hwh, ?_⟩
        show R32 _ ∧ (_ → _) ∧ (_ → R32 (bsV tb w st k p s) ∧ R32 _ ∧ (_ → _) ∧ (_ → _))
        refine ⟨by omega, fun d => yes ?_, fun d => ⟨by omega, by split <;> omega, fun e => yes ?_, fun e => no ?_ ?_⟩⟩
        · by_cases e0 : s = 0
          · have := v0 e0
            omega
          · omega
        · show (bsF tb w st k p s).1 < bsV tb w st k p s
          have e' : (if s = 0 then 0 else (bsF tb w st k p s).1) < bsV tb w st k p s := e
          have e0 : s ≠ 0 := fun e0 => d (v0 e0).1
          rw [if_neg e0] at e'
          exact e'
        · intro f'
          have e0 : s ≠ 0 := fun e0 => d (v0 e0).1
          have e' : ¬ (if s = 0 then 0 else (bsF tb w st k p s).1) < bsV tb w st k p s := e
          rw [if_neg e0] at e'
          exact e' f'
        · exact fun e0 => d (v0 e0).1
      · rw [Int.toNat_natCast]
        have hpp : ¬ k / 121 % 2 = p := by
          rw [hsv] at c
          by_cases e : k / 121 % 2 = p
          · rw [if_pos e] at c
            cases c
          · exact e
        have ei : (12 * (4 * (S 107 k / 4) + (s : Int))).toNat = bsI st k p s := by
          unfold bsI
          rw [if_neg hpp]
          have e9 : 2 * k + k / 121 % 2 = 2 * k + 1 - p := by omega
          rw [e9] at s7 sA
          have : S 107 k / 4 = st (2 * k + 1 - p) := by omega
          rw [this]
        rw [ei]
        refine ⟨hk, hcb, by omega, w, tb, a, (p : Int), -1, ha, htb, hG, hen, hrw, hl, hm, hwh, ?_⟩
        show R32 _ ∧ (_ → _) ∧ (_ → R32 (bsV tb w st k p s) ∧ R32 _ ∧ (_ → _) ∧ (_ → _))
        refine ⟨by omega, fun d => yes ?_, fun d => ⟨by omega, by split <;> omega, fun e => yes ?_, fun e => no ?_ ?_⟩⟩
        · by_cases e0 : s = 0
          · have := v0 e0
            omega
          · omega
        · show (bsF tb w st k p s).1 < bsV tb w st k p s
          have e' : (if s = 0 then 0 else (bsF tb w st k p s).1) < bsV tb w st k p s := e
          have e0 : s ≠ 0 := fun e0 => d (v0 e0).1
          rw [if_neg e0] at e'
          exact e'
        · intro f'
          have e0 : s ≠ 0 := fun e0 => d (v0 e0).1
          have e' : ¬ (if s = 0 then 0 else (bsF tb w st k p s).1) < bsV tb w st k p s := e
          rw [if_neg e0] at e'
          exact e' f'
        · exact fun e0 => d (v0 e0).1
  have c2 : (k : Int) / 121 % 2 = ((k / 121 % 2 : Nat) : Int) := by omega
  refine zwX6_bestStyle_116_0 ⟨by omega, by omega, by omega, by omega, fun c => ?_, fun c => ?_⟩
  · exact zwX6_bestStyle_116_18 (t27 4 0 rfl 0 (by rw [if_neg (fun e => c (by omega))]))
  · exact zwX6_bestStyle_116_18 (t27 4 0 rfl 1 (by rw [if_pos (by omega)]))
