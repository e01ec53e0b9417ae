/-! ===== the model's texts told: feed, style, rule, court ===== -/
set_option maxRecDepth 100000
def fdV (a b c d e : Int) (k : Nat) : Int := if k < 4 then a else if k < 8 then b else if k < 12 then c else if k < 16 then d else e
/-- the byte that is told, as the model has it -/
def fdM (a b c d e : Int) (k : Nat) : Int := zand (zushr (fdV a b c d e k) (24 - 8 * ((k : Int) % 4))) 255
def fdS (S : Nat → Nat → Int) (n k : Nat) (f : Nat → Int) : Nat → Nat → Int := fun h j => if h = 0 ∧ j = 6 then (n + k : Nat) else if h = 4 ∧ n ≤ j ∧ j < n + k then f (j - n) else S h j
theorem fdS_at (S : Nat → Nat → Int) (n k : Nat) (f : Nat → Int) (h j : Nat) : fdS S n k f h j = if h = 0 ∧ j = 6 then ((n + k : Nat) : Int) else if h = 4 ∧ n ≤ j ∧ j < n + k then f (j - n) else S h j := rfl
theorem fdS_step (S : Nat → Nat → Int) (n k : Nat) (f : Nat → Int) (v : Int) (hv : v = (n + (k + 1) : Nat)) : mm_up (mm_up (fdS S n k f) 4 (n + k) (f k)) 0 6 v = fdS S n (k + 1) f := by
  funext h j
  rw [up_eq, up_eq, fdS_at, fdS_at, hv]
  by_cases h0 : h = 0 ∧ j = 6
  · simp only [h0, and_self, if_true]
  · simp only [h0, if_false]
    by_cases h4 : h = 4 ∧ j = n + k
    · have e : j - n = k := by omega
      have e2 : h = 4 ∧ n ≤ j ∧ j < n + (k + 1) := by omega
      rw [if_pos h4, if_pos e2, e]
    · have e2 : (h = 4 ∧ n ≤ j ∧ j < n + (k + 1)) ↔ (h = 4 ∧ n ≤ j ∧ j < n + k) := by omega
      simp only [h4, if_false, e2]
def zX9_feed : zz_Sp := fun as M Q X => match as with
  | [.inr (.inr (some h_)), .inl a, .inl b, .inl c, .inl d, .inl e] => bif Nat.beq h_ 0 && Nat.beq M.1.1 1 then (∃ n_ : Nat, M.2.1 0 6 = n_ ∧ n_ ≤ 400 ∧ (400 < n_ + 20 → Q (some (vi (-1))) (zm (mm_up M.2.1 0 0 0) M.2.2.1)) ∧ (n_ + 20 ≤ 400 → Q (some (vi (n_ + 20 : Nat))) (zm (fdS (mm_up M.2.1 0 0 0) n_ 20 (fdM a b c d e)) M.2.2.1))) else False
  | _ => False

def zpX9_feed : zz_P := [(0, zo_ald 1 0), (1, zo_c 2 (vi 0)), (2, zo_puti 5 8 0), (5, zo_ald 6 0), (6, zo_get 9 8 0 6), (9, zo_c 11 (vi 20)), (11, zo_iadd 12), (12, zo_c 15 (vi 400)), (15, zo_cle false true 18 20), (18, zo_c 19 (vi (-1))), (19, zo_iret), (20, zo_c 21 (vi 0)), (21, zo_ist 23 6), (23, zo_ild 25 6), (25, zo_c 27 (vi 20)), (27, zo_cge false true 30 120), (30, zo_ild 32 6), (32, zo_c 33 (vi 4)), (33, zo_cge false true 36 40), (36, zo_ild 37 1), (37, zo_goto 76), (40, zo_ild 42 6), (42, zo_c 44 (vi 8)), (44, zo_cge false true 47 51), (47, zo_ild 48 2), (48, zo_goto 76), (51, zo_ild 53 6), (53, zo_c 55 (vi 12)), (55, zo_cge false true 58 62), (58, zo_ild 59 3), (59, zo_goto 76), (62, zo_ild 64 6), (64, zo_c 66 (vi 16)), (66, zo_cge false true 69 74), (69, zo_ild 71 4), (71, zo_goto 76), (74, zo_ild 76 5), (76, zo_ist 78 7), (78, zo_ald 79 0), (79, zo_get 82 8 2 5), (82, zo_ald 83 0), (83, zo_get 86 8 0 6), (86, zo_ild 88 7), (88, zo_c 90 (vi 24)), (90, zo_c 92 (vi 8)), (92, zo_ild 94 6), (94, zo_c 95 (vi 4)), (95, zo_irem 96), (96, zo_imul 97), (97, zo_isub 98), (98, zo_iushr 99), (99, zo_c 102 (vi 255)), (102, zo_iand 103), (103, zo_iasd 104), (104, zo_ald 105 0), (105, zo_dup 106), (106, zo_get 109 8 0 6), (109, zo_c 110 (vi 1)), (110, zo_iadd 111), (111, zo_puti 114 8 6), (114, zo_inc 117 6 1), (117, zo_goto 23), (120, zo_ald 121 0), (121, zo_get 124 8 0 6), (124, zo_iret)]
theorem ztX9_feed {C : mm_C} (G : mm_G C RX9 cX9_feed (some .int) 8 (mm_rm 1 0 0)) (hnh : mm_nh C) : zz_OKs C zpX9_feed :=
  ⟨zz_of (ok_aload_n G dX9_feed_0 rfl rfl) (z_ald _ _),
   zz_of (ok_iconst G (v := 0) dX9_feed_1 (by decide) rfl) (z_cn 2 0),
   zz_of (ok_puti G (nx := 5) (idx := 67) (ci := 8) (k := 0) (RX9, TX9, 32) rfl (by decide) rfl (mm_pw G (ci := 8) (k := 0) (RX9, TX9, 32) rfl (by decide) rfl q1805 dX9_feed_2) rfl) (z_puti _ _ _),
   zz_of (ok_aload_n G dX9_feed_5 rfl rfl) (z_ald _ _),
   zz_of (ok_get G (nx := 9) (ci := 8) (kd := 0) (k := 6) (RX9, TX9, 32) rfl (by decide) rfl q1811 dX9_feed_6 rfl) (z_get _ _ _ _),
   zz_of (ok_bipush G (v := 20) dX9_feed_9 (by decide) rfl) (z_cn 11 20),
   zz_of (ok_iadd G dX9_feed_11 rfl) (z_iadd _),
   zz_of (ok_sipush G (v := 400) dX9_feed_12 (by decide) rfl) (z_cn 15 400),
   zz_of (ok_cle G dX9_feed_15 rfl rfl) (z_cle _ _ _ _),
   zz_of (ok_iconst G (v := (zI (-1))) dX9_feed_18 (by decide) rfl) (z_cz 19 (-1)),
   zz_of (ok_iret G dX9_feed_19) (z_iret),
   zz_of (ok_iconst G (v := 0) dX9_feed_20 (by decide) rfl) (z_cn 21 0),
   zz_of (ok_istore G dX9_feed_21 rfl (by decide)) (z_ist _ _),
   zz_of (ok_iload G dX9_feed_23 rfl) (z_ild _ _),
   zz_of (ok_bipush G (v := 20) dX9_feed_25 (by decide) rfl) (z_cn 27 20),
   zz_of (ok_cge G dX9_feed_27 rfl rfl) (z_cge _ _ _ _),
   zz_of (ok_iload G dX9_feed_30 rfl) (z_ild _ _),
   zz_of (ok_iconst G (v := 4) dX9_feed_32 (by decide) rfl) (z_cn 33 4),
   zz_of (ok_cge G dX9_feed_33 rfl rfl) (z_cge _ _ _ _),
   zz_of (ok_iload_n G dX9_feed_36 rfl rfl) (z_ild _ _),
   zz_of (ok_goto G dX9_feed_37 rfl) (z_goto _),
   zz_of (ok_iload G dX9_feed_40 rfl) (z_ild _ _),
   zz_of (ok_bipush G (v := 8) dX9_feed_42 (by decide) rfl) (z_cn 44 8),
   zz_of (ok_cge G dX9_feed_44 rfl rfl) (z_cge _ _ _ _),
   zz_of (ok_iload_n G dX9_feed_47 rfl rfl) (z_ild _ _),
   zz_of (ok_goto G dX9_feed_48 rfl) (z_goto _),
   zz_of (ok_iload G dX9_feed_51 rfl) (z_ild _ _),
   zz_of (ok_bipush G (v := 12) dX9_feed_53 (by decide) rfl) (z_cn 55 12),
   zz_of (ok_cge G dX9_feed_55 rfl rfl) (z_cge _ _ _ _),
   zz_of (ok_iload_n G dX9_feed_58 rfl rfl) (z_ild _ _),
   zz_of (ok_goto G dX9_feed_59 rfl) (z_goto _),
   zz_of (ok_iload G dX9_feed_62 rfl) (z_ild _ _),
   zz_of (ok_bipush G (v := 16) dX9_feed_64 (by decide) rfl) (z_cn 66 16),
   zz_of (ok_cge G dX9_feed_66 rfl rfl) (z_cge _ _ _ _),
   zz_of (ok_iload G dX9_feed_69 rfl) (z_ild _ _),
   zz_of (ok_goto G dX9_feed_71 rfl) (z_goto _),
   zz_of (ok_iload G dX9_feed_74 rfl) (z_ild _ _),
   zz_of (ok_istore G dX9_feed_76 rfl (by decide)) (z_ist _ _),
   zz_of (ok_aload_n G dX9_feed_78 rfl rfl) (z_ald _ _),
   zz_of (ok_get G (nx := 82) (ci := 8) (kd := 2) (k := 5) (RX9, TX9, 32) rfl (by decide) rfl q1810 dX9_feed_79 rfl) (z_get _ _ _ _),
   zz_of (ok_aload_n G dX9_feed_82 rfl rfl) (z_ald _ _),
   zz_of (ok_get G (nx := 86) (ci := 8) (kd := 0) (k := 6) (RX9, TX9, 32) rfl (by decide) rfl q1811 dX9_feed_83 rfl) (z_get _ _ _ _),
   zz_of (ok_iload G dX9_feed_86 rfl) (z_ild _ _),
   zz_of (ok_bipush G (v := 24) dX9_feed_88 (by decide) rfl) (z_cn 90 24),
   zz_of (ok_bipush G (v := 8) dX9_feed_90 (by decide) rfl) (z_cn 92 8),
   zz_of (ok_iload G dX9_feed_92 rfl) (z_ild _ _),
   zz_of (ok_iconst G (v := 4) dX9_feed_94 (by decide) rfl) (z_cn 95 4),
   zz_of (ok_irem G dX9_feed_95 rfl) (z_irem _),
   zz_of (ok_imul G dX9_feed_96 rfl) (z_imul _),
   zz_of (ok_isub G dX9_feed_97 rfl) (z_isub _),
   zz_of (ok_iushr G dX9_feed_98 rfl) (z_iushr _),
   zz_of (ok_sipush G (v := 255) dX9_feed_99 (by decide) rfl) (z_cn 102 255),
   zz_of (ok_iand G dX9_feed_102 rfl) (z_iand _),
   zz_of (ok_iast G dX9_feed_103 rfl) (z_iasd _),
   zz_of (ok_aload_n G dX9_feed_104 rfl rfl) (z_ald _ _),
   zz_of (ok_dup G dX9_feed_105 rfl) (z_dup _),
   zz_of (ok_get G (nx := 109) (ci := 8) (kd := 0) (k := 6) (RX9, TX9, 32) rfl (by decide) rfl q1811 dX9_feed_106 rfl) (z_get _ _ _ _),
   zz_of (ok_iconst G (v := 1) dX9_feed_109 (by decide) rfl) (z_cn 110 1),
   zz_of (ok_iadd G dX9_feed_110 rfl) (z_iadd _),
   zz_of (ok_puti G (nx := 114) (idx := 74) (ci := 8) (k := 6) (RX9, TX9, 32) rfl (by decide) rfl (mm_pw G (ci := 8) (k := 6) (RX9, TX9, 32) rfl (by decide) rfl q1811 dX9_feed_111) rfl) (z_puti _ _ _),
   zz_of (ok_iinc G (v := 1) dX9_feed_114 (by decide) rfl (by decide)) (z_incn 117 6 1),
   zz_of (ok_goto G dX9_feed_117 rfl) (z_goto _),
   zz_of (ok_aload_n G dX9_feed_120 rfl rfl) (z_ald _ _),
   zz_of (ok_get G (nx := 124) (ci := 8) (kd := 0) (k := 6) (RX9, TX9, 32) rfl (by decide) rfl q1811 dX9_feed_121 rfl) (z_get _ _ _ _),
   zz_of (ok_iret G dX9_feed_124) (z_iret), trivial⟩

theorem zwX9_feed_0 {Q : Option zv → zz_M → Prop} {X : Nat → zz_M → Prop} {S L : Nat → Nat → Int} {a : Int} {b : Int} {c : Int} {d : Int} {e : Int} (h : R32 ((S 0 6) + 20) ∧ ((((S 0 6) + 20) ≤ 400 → zz_J zpX9_feed (zz_ret Q X 0 0) 23 [some (vr 0), some (vi a), some (vi b), some (vi c), some (vi d), some (vi e), some (vi 0), none] [] (zm (mm_up S 0 0 0) L) (0, 0)) ∧ (¬ ((S 0 6) + 20) ≤ 400 → Q (some (vi (-1))) (zm (mm_up S 0 0 0) L)))) : zz_J zpX9_feed (zz_ret Q X 0 0) 0 [some (vr 0), some (vi a), some (vi b), some (vi c), some (vi d), some (vi e), none, none] [] (zm S L) (0, 0) := zz_J.go [(23, [7]), (78, [])] 400 h
theorem zwX9_feed_23 {Q : Option zv → zz_M → Prop} {X : Nat → zz_M → Prop} {S L : Nat → Nat → Int} {x1 : Int} {x2 : Int} {x3 : Int} {x4 : Int} {x5 : Int} {x6 : Int} (h : R32 x6 ∧ ((20 ≤ x6 → Q (some (vi (S 0 6))) (zm S L)) ∧ (¬ 20 ≤ x6 → R32 x6 ∧ ((4 ≤ x6 → R32 x6 ∧ ((8 ≤ x6 → R32 x6 ∧ ((12 ≤ x6 → R32 x6 ∧ ((16 ≤ x6 → zz_J zpX9_feed (zz_ret Q X 0 0) 78 [some (vr 0), some (vi x1), some (vi x2), some (vi x3), some (vi x4), some (vi x5), some (vi x6), some (vi x5)] [] (zm S L) (0, 0)) ∧ (¬ 16 ≤ x6 → zz_J zpX9_feed (zz_ret Q X 0 0) 78 [some (vr 0), some (vi x1), some (vi x2), some (vi x3), some (vi x4), some (vi x5), some (vi x6), some (vi x4)] [] (zm S L) (0, 0)))) ∧ (¬ 12 ≤ x6 → zz_J zpX9_feed (zz_ret Q X 0 0) 78 [some (vr 0), some (vi x1), some (vi x2), some (vi x3), some (vi x4), some (vi x5), some (vi x6), some (vi x3)] [] (zm S L) (0, 0)))) ∧ (¬ 8 ≤ x6 → zz_J zpX9_feed (zz_ret Q X 0 0) 78 [some (vr 0), some (vi x1), some (vi x2), some (vi x3), some (vi x4), some (vi x5), some (vi x6), some (vi x2)] [] (zm S L) (0, 0)))) ∧ (¬ 4 ≤ x6 → zz_J zpX9_feed (zz_ret Q X 0 0) 78 [some (vr 0), some (vi x1), some (vi x2), some (vi x3), some (vi x4), some (vi x5), some (vi x6), some (vi x1)] [] (zm S L) (0, 0)))))) : zz_J zpX9_feed (zz_ret Q X 0 0) 23 [some (vr 0), some (vi x1), some (vi x2), some (vi x3), some (vi x4), some (vi x5), some (vi x6), none] [] (zm S L) (0, 0) := zz_J.go [(23, [7]), (78, [])] 400 h
theorem zwX9_feed_78 {Q : Option zv → zz_M → Prop} {X : Nat → zz_M → Prop} {S L : Nat → Nat → Int} {x1 : Int} {x2 : Int} {x3 : Int} {x4 : Int} {x5 : Int} {x6 : Int} {x7 : Int} (h : (0 ≤ x6 ∧ x6 < 2147483648) ∧ ((0 ≤ (S 0 6) ∧ (S 0 6) < 400) ∧ (zz_J zpX9_feed (zz_ret Q X 0 0) 23 [some (vr 0), some (vi x1), some (vi x2), some (vi x3), some (vi x4), some (vi x5), some (vi (x6 + 1)), none] [] (zm (mm_up (mm_up S 4 ((S 0 6).toNat) (zand (zushr x7 (24 - (8 * (x6 % 4)))) 255)) 0 6 ((S 0 6) + 1)) L) (0, 0)))) : zz_J zpX9_feed (zz_ret Q X 0 0) 78 [some (vr 0), some (vi x1), some (vi x2), some (vi x3), some (vi x4), some (vi x5), some (vi x6), some (vi x7)] [] (zm S L) (0, 0) := zz_J.go [(23, [7]), (78, [])] 400 h

theorem zmX9_feed (l : Launch) (hl : l.stackTraces = false) : mm_Spec l yX9_feed (ws_ yX9_feed cX9_feed 8 (some .int)) (mm_rm 1 0 0) (zE zX9_feed) := by
  refine zz_Met.J hl (by decide) (fun C G hnh => ztX9_feed G hnh) ?_
  rintro as ⟨⟨t_, f⟩, S, L, P⟩ Q X h
  unfold zX9_feed at h
  split at h
  rotate_left
  · exact h.elim
  rename_i h_ a b c d e
  obtain ⟨e1_, e2_, h⟩ := mm_and2 h (fun q => q)
  cases mm_beq e1_
  cases mm_beq e2_
  try dsimp only at h
  refine ⟨rfl, ?_⟩
  refine zz_Jev (M' := zm S L) rfl rfl rfl ?_
  obtain ⟨n, h6, hn, hq1, hq2⟩ := h
  have lp : ∀ (r k : Nat), k + r = 20 → n + 20 ≤ 400 → zz_J zpX9_feed (zz_ret Q X 0 0) 23 [some (vr 0), some (vi a), some (vi b), some (vi c), some (vi d), some (vi e), some (vi k), none] [] (zm (fdS (mm_up S 0 0 0) n k (fdM a b c d e)) L) (0, 0) := by
    intro r
    induction r with
    | zero =>
      intro k hk h20
      have ek : k = 20 := by omega
      subst ek
      refine zwX9_feed_23 ?_
      have e6 : fdS (mm_up S 0 0 0) n 20 (fdM a b c d e) 0 6 = (n + 20 : Nat) := by simp [fdS]
      rw [e6]
      refine ⟨by omega, fun _ => hq2 h20, fun h => absurd h (by decide)⟩
    | succ r ih =>
      intro k hk h20
      have e6 : fdS (mm_up S 0 0 0) n k (fdM a b c d e) 0 6 = (n + k : Nat) := by simp [fdS]
      have fin : ∀ v : Int, v = fdV a b c d e k → zz_J zpX9_feed (zz_ret Q X 0 0) 78 [some (vr 0), some (vi a), some (vi b), some (vi c), some (vi d), some (vi e), some (vi k), some (vi v)] [] (zm (fdS (mm_up S 0 0 0) n k (fdM a b c d e)) L) (0, 0) := by
        intro v hv
        refine zwX9_feed_78 ?_
        rw [e6]
        refine ⟨by omega, by omega, ?_⟩
        have h1 := ih (k + 1) (by omega) h20
        refine zz_Jm (zm_c ?_ rfl) h1
        rw [Int.toNat_natCast]
        have e7 : zand (zushr v (24 - 8 * ((k : Int) % 4))) 255 = fdM a b c d e k := by rw [hv]; rfl
        rw [e7]
        have e8 : (mm_up (fdS (mm_up S 0 0 0) n k (fdM a b c d e)) 4 (n + k) (fdM a b c d e k)) 0 6 = (n + k : Nat) := by simp [up_eq, fdS]
        exact fdS_step _ n k _ _ (by omega)
      refine zwX9_feed_23 ?_
      refine ⟨by omega, fun h => by omega, fun _ => ⟨by omega, fun g1 => ⟨by omega, fun g2 => ⟨by omega, fun g3 => ⟨by omega, fun g4 => fin _ ?_, fun g4 => fin _ ?_⟩, fun g3 => fin _ ?_⟩, fun g2 => fin _ ?_⟩, fun g1 => fin _ ?_⟩⟩
      all_goals (unfold fdV; grind)
  have f0 : fdS (mm_up S 0 0 0) n 0 (fdM a b c d e) = mm_up S 0 0 0 := by
    funext h j
    grind [up_eq, fdS_at]
  refine zwX9_feed_0 ?_
  rw [h6]
  refine ⟨by omega, fun h => ?_, fun h => hq1 (by omega)⟩
  have := lp 20 0 (by decide) (by omega)
  rw [f0] at this
  exact this
def zX9_style : zz_Sp := fun as M Q X => match as with
  | [.inr (.inr (some h_)), .inl p] => bif Nat.beq h_ 0 && Nat.beq M.1.1 1 then (R32 p ∧ by5 (tkS M.2.1 6) ∧ (∀ u_, u_ < 2 → plG (M.2.1 1) u_) ∧ gdF M.2.1 ∧ R32 (M.2.1 0 10) ∧ (¬ (0 ≤ p ∧ p ≤ 1) → Q (some (vi 0)) (zm (mm_up M.2.1 0 0 1) M.2.2.1)) ∧ ((0 ≤ p ∧ p ≤ 1) → ∀ S_ : Nat → Nat → Int, sc (tkS (mm_up M.2.1 0 0 0)) S_ → Q (some (vi (stR (M.2.1 1) (tkS M.2.1 6) p.toNat))) (zm S_ M.2.2.1))) else False
  | _ => False

theorem tkS_up0 (S : Nat → Nat → Int) (v : Int) : tkS (mm_up S 0 0 v) 6 = tkS S 6 := by
  funext k
  grind [tkS, up_eq]
def zpX9_style : zz_P := [(0, zo_ald 1 0), (1, zo_ild 2 1), (2, zo_calls 5 1 zX9_isPlayer), (5, zo_zifne 8 12), (8, zo_c 9 (vi 1)), (9, zo_goto 13), (12, zo_c 13 (vi 0)), (13, zo_puti 16 8 0), (16, zo_ald 17 0), (17, zo_get 20 8 0 0), (20, zo_ifle false 23 25), (23, zo_c 24 (vi 0)), (24, zo_iret), (25, zo_ald 26 0), (26, zo_callv 29 1 8 zX9_takes), (29, zo_ald 30 0), (30, zo_ild 31 1), (31, zo_callv 34 2 8 zX9_styleOf), (34, zo_iret)]
theorem ztX9_style {C : mm_C} (G : mm_G C RX9 cX9_style (some .int) 2 (mm_rm 34 0 0)) (hnh : mm_nh C) : zz_OKs C zpX9_style :=
  ⟨zz_of (ok_aload_n G dX9_style_0 rfl rfl) (z_ald _ _),
   zz_of (ok_iload_n G dX9_style_1 rfl rfl) (z_ild _ _),
   zz_of (ok_calls G hnh (zmX9_isPlayer _ G.hst) rfl rfl q2027 q2028 q93 q2029 (by decide +kernel) ⟨by decide, by decide⟩ dX9_style_2 rfl) (z_calls _ _ _),
   zz_of (ok_ifne G dX9_style_5 rfl rfl) (z_zifne _ _),
   zz_of (ok_iconst G (v := 1) dX9_style_8 (by decide) rfl) (z_cn 9 1),
   zz_of (ok_goto G dX9_style_9 rfl) (z_goto _),
   zz_of (ok_iconst G (v := 0) dX9_style_12 (by decide) rfl) (z_cn 13 0),
   zz_of (ok_puti G (nx := 16) (idx := 67) (ci := 8) (k := 0) (RX9, TX9, 32) rfl (by decide) rfl (mm_pw G (ci := 8) (k := 0) (RX9, TX9, 32) rfl (by decide) rfl q1805 dX9_style_13) rfl) (z_puti _ _ _),
   zz_of (ok_aload_n G dX9_style_16 rfl rfl) (z_ald _ _),
   zz_of (ok_get G (nx := 20) (ci := 8) (kd := 0) (k := 0) (RX9, TX9, 32) rfl (by decide) rfl q1805 dX9_style_17 rfl) (z_get _ _ _ _),
   zz_of (ok_ifle G dX9_style_20 rfl rfl) (z_ifle _ _ _),
   zz_of (ok_iconst G (v := 0) dX9_style_23 (by decide) rfl) (z_cn 24 0),
   zz_of (ok_iret G dX9_style_24) (z_iret),
   zz_of (ok_aload_n G dX9_style_25 rfl rfl) (z_ald _ _),
   zz_of (ok_callv G hnh (zmX9_takes _ G.hst) rfl rfl (RX9, TX9, 32) rfl q2034 q2036 qs55 q93 q2037 (by decide +kernel) ⟨by decide, by decide⟩ dX9_style_26 rfl) (z_callv _ _ _ _),
   zz_of (ok_aload_n G dX9_style_29 rfl rfl) (z_ald _ _),
   zz_of (ok_iload_n G dX9_style_30 rfl rfl) (z_ild _ _),
   zz_of (ok_callv G hnh (zmX9_styleOf _ G.hst) rfl rfl (RX9, TX9, 32) rfl q2038 q2040 qs56 q93 q2041 (by decide +kernel) ⟨by decide, by decide⟩ dX9_style_31 rfl) (z_callv _ _ _ _),
   zz_of (ok_iret G dX9_style_34) (z_iret), trivial⟩

theorem zwX9_style_0 {Q : Option zv → zz_M → Prop} {X : Nat → zz_M → Prop} {S L : Nat → Nat → Int} {p : Int} (h : (R32 p ∧ ((0 ≤ p ∧ p ≤ 1) → (R32 0 ∧ (((0 : Int) ≤ 0 → ((((p = 0 ∨ p = 1) ∧ by5 ((tkS (mm_up S 0 0 0)) 6) ∧ plG ((tkS (mm_up S 0 0 0)) 1) p.toNat ∧ gdF (tkS (mm_up S 0 0 0)) ∧ R32 ((tkS (mm_up S 0 0 0)) 0 10) ∧ (∀ S_3 : Nat → Nat → Int, sc (tkS (mm_up S 0 0 0)) S_3 → (Q (some (vi (stR ((tkS (mm_up S 0 0 0)) 1) ((tkS (mm_up S 0 0 0)) 6) p.toNat))) (zm S_3 L))))))) ∧ (¬ (0 : Int) ≤ 0 → Q (some (vi 0)) (zm (mm_up S 0 0 0) L))))) ∧ (¬ (0 ≤ p ∧ p ≤ 1) → (R32 1 ∧ (((1 : Int) ≤ 0 → ((((p = 0 ∨ p = 1) ∧ by5 ((tkS (mm_up S 0 0 1)) 6) ∧ plG ((tkS (mm_up S 0 0 1)) 1) p.toNat ∧ gdF (tkS (mm_up S 0 0 1)) ∧ R32 ((tkS (mm_up S 0 0 1)) 0 10) ∧ (∀ S_5 : Nat → Nat → Int, sc (tkS (mm_up S 0 0 1)) S_5 → (Q (some (vi (stR ((tkS (mm_up S 0 0 1)) 1) ((tkS (mm_up S 0 0 1)) 6) p.toNat))) (zm S_5 L))))))) ∧ (¬ (1 : Int) ≤ 0 → Q (some (vi 0)) (zm (mm_up S 0 0 1) L))))))) : zz_J zpX9_style (zz_ret Q X 0 0) 0 [some (vr 0), some (vi p)] [] (zm S L) (0, 0) := zz_J.go [] 400 h

theorem zmX9_style (l : Launch) (hl : l.stackTraces = false) : mm_Spec l yX9_style (ws_ yX9_style cX9_style 2 (some .int)) (mm_rm 34 0 0) (zE zX9_style) := by
  refine zz_Met.J hl (by decide) (fun C G hnh => ztX9_style G hnh) ?_
  rintro as ⟨⟨t_, f⟩, S, L, P⟩ Q X h
  unfold zX9_style at h
  split at h
  rotate_left
  · exact h.elim
  rename_i h_ p
  obtain ⟨e1_, e2_, h⟩ := mm_and2 h (fun q => q)
  cases mm_beq e1_
  cases mm_beq e2_
  try dsimp only at h
  refine ⟨rfl, ?_⟩
  refine zz_Jev (M' := zm S L) rfl rfl rfl ?_
  obtain ⟨hp, hb, hpl, hg, hR, hq1, hq2⟩ := h
  refine zwX9_style_0 ⟨hp, fun c => ?_, fun c => ?_⟩
  · refine ⟨by omega, fun _ => ?_, fun h => absurd h (by decide)⟩
    have e6 := tkS_up0 S 0
    have e1 : tkS (mm_up S 0 0 0) 1 = S 1 := by
      funext k
      simp [tkS, up_eq]
    have e10 : tkS (mm_up S 0 0 0) 0 10 = S 0 10 := by simp [tkS, up_eq]
    rw [e6, e1, e10]
    refine ⟨by omega, hb, hpl _ (by omega), ?_, hR, hq2 c⟩
    have ef : fcS (tkS (mm_up S 0 0 0)) = fcS S := by
      funext k
      grind [fcS, tkS, up_eq]
    unfold gdF at hg ⊢
    rw [ef]
    simpa [tkS, up_eq] using hg
  · exact ⟨by omega, fun h => absurd h (by decide), fun _ => hq1 c⟩
/-- a rule is kept -/
def ruS (S : Nat → Nat → Int) (n i : Nat) : Nat → Nat → Int := fun h k => if h = 1 ∧ k = 210 + 401 * (S 1 193).toNat then (n : Int) else if h = 1 ∧ 211 + 401 * (S 1 193).toNat ≤ k ∧ k < 211 + 401 * (S 1 193).toNat + i then S 4 (k - (211 + 401 * (S 1 193).toNat)) else if h = 0 ∧ k = 0 then 0 else if h = 0 ∧ k = 6 then 0 else if h = 0 ∧ k = 10 then -1 else S h k
theorem ruS_at (S : Nat → Nat → Int) (n i h k : Nat) : ruS S n i h k = if h = 1 ∧ k = 210 + 401 * (S 1 193).toNat then (n : Int) else if h = 1 ∧ 211 + 401 * (S 1 193).toNat ≤ k ∧ k < 211 + 401 * (S 1 193).toNat + i then S 4 (k - (211 + 401 * (S 1 193).toNat)) else if h = 0 ∧ k = 0 then 0 else if h = 0 ∧ k = 6 then 0 else if h = 0 ∧ k = 10 then -1 else S h k := rfl
theorem ruS_step (S : Nat → Nat → Int) (n i : Nat) (T : Nat → Nat → Int) {a b : Nat} (h0 : T a b = ruS S n i a b) : mm_up T 1 (211 + 401 * (S 1 193).toNat + i) (S 4 i) a b = ruS S n (i + 1) a b := by
  rw [up_eq, h0, ruS_at, ruS_at]
  generalize (S 1 193).toNat = t
  by_cases h1 : a = 1 ∧ b = 211 + 401 * t + i
  · have e1 : ¬ (a = 1 ∧ b = 210 + 401 * t) := by omega
    have e2 : a = 1 ∧ 211 + 401 * t ≤ b ∧ b < 211 + 401 * t + (i + 1) := by omega
    rw [if_pos h1, if_neg e1, if_pos e2]
    congr 1
    omega
  · have e2 : (a = 1 ∧ 211 + 401 * t ≤ b ∧ b < 211 + 401 * t + (i + 1)) ↔ (a = 1 ∧ 211 + 401 * t ≤ b ∧ b < 211 + 401 * t + i) := by omega
    simp only [h1, if_false, e2]
def zX9_rule : zz_Sp := fun as M Q X => match as with
  | [.inr (.inr (some h_))] => bif Nat.beq h_ 0 && Nat.beq M.1.1 1 then (∃ n_ : Nat, M.2.1 0 6 = n_ ∧ n_ ≤ 400 ∧ (∀ k_, k_ < n_ → 0 ≤ M.2.1 4 k_ ∧ M.2.1 4 k_ ≤ 255) ∧ (0 ≤ M.2.1 1 193 ∧ M.2.1 1 193 ≤ 6) ∧ gdF M.2.1 ∧ (∀ w_ : Nat, ruP (M.2.1 4) n_ = .inl w_ → ∀ S_ : Nat → Nat → Int, sc (mm_up (mm_up (mm_up M.2.1 0 0 1) 0 6 0) 0 10 w_) S_ → Q (some (vi 0)) (zm S_ M.2.2.1)) ∧ (∀ c_ : Nat × (Fc → Option Int), ruP (M.2.1 4) n_ = .inr c_ → (M.2.1 1 193 = 6 → ∀ S_ : Nat → Nat → Int, sc (mm_up (mm_up (mm_up M.2.1 0 0 2) 0 6 0) 0 10 (-1)) S_ → Q (some (vi 0)) (zm S_ M.2.2.1)) ∧ (M.2.1 1 193 < 6 → ∀ S_ : Nat → Nat → Int, sc (mm_up (ruS M.2.1 n_ n_) 1 193 (M.2.1 1 193 + 1)) S_ → Q (some (vi (M.2.1 1 193))) (zm S_ M.2.2.1)))) else False
  | _ => False

def zpX9_rule : zz_P := [(0, zo_ald 1 0), (1, zo_c 2 (vi (-1))), (2, zo_puti 5 8 10), (5, zo_ald 6 0), (6, zo_c 7 (vi (-1))), (7, zo_puti 10 8 7), (10, zo_ald 11 0), (11, zo_ald 12 0), (12, zo_get 15 8 0 6), (15, zo_puti 18 8 8), (18, zo_ald 19 0), (19, zo_c 20 (vi (-1))), (20, zo_puti 23 8 15), (23, zo_ald 24 0), (24, zo_c 25 (vi 1)), (25, zo_callv 28 2 8 zX9_lines_r), (28, zo_ald 29 0), (29, zo_get 32 8 0 6), (32, zo_ist 33 1), (33, zo_ald 34 0), (34, zo_c 35 (vi 0)), (35, zo_puti 38 8 6), (38, zo_ald 39 0), (39, zo_ald 40 0), (40, zo_get 43 8 0 10), (43, zo_c 44 (vi (-1))), (44, zo_ceq false true 47 51), (47, zo_c 48 (vi 1)), (48, zo_goto 69), (51, zo_ald 52 0), (52, zo_get 55 8 2 1), (55, zo_c 58 (vi 193)), (58, zo_ialc 59 193), (59, zo_c 61 (vi 6)), (61, zo_cne false true 64 68), (64, zo_c 65 (vi 2)), (65, zo_goto 69), (68, zo_c 69 (vi 0)), (69, zo_puti 72 8 0), (72, zo_ald 73 0), (73, zo_get 76 8 0 0), (76, zo_ifle false 79 81), (79, zo_c 80 (vi 0)), (80, zo_iret), (81, zo_c 84 (vi 210)), (84, zo_c 87 (vi 401)), (87, zo_ald 88 0), (88, zo_get 91 8 2 1), (91, zo_c 94 (vi 193)), (94, zo_ialc 95 193), (95, zo_imul 96), (96, zo_iadd 97), (97, zo_ist 98 2), (98, zo_ald 99 0), (99, zo_get 102 8 2 1), (102, zo_ild 103 2), (103, zo_ild 104 1), (104, zo_iasd 105), (105, zo_c 106 (vi 0)), (106, zo_ist 107 3), (107, zo_ild 108 3), (108, zo_ild 109 1), (109, zo_cge false false 112 134), (112, zo_ald 113 0), (113, zo_get 116 8 2 1), (116, zo_ild 117 2), (117, zo_c 118 (vi 1)), (118, zo_iadd 119), (119, zo_ild 120 3), (120, zo_iadd 121), (121, zo_ald 122 0), (122, zo_get 125 8 2 5), (125, zo_ild 126 3), (126, zo_iald 127), (127, zo_iasd 128), (128, zo_inc 131 3 1), (131, zo_goto 107), (134, zo_ald 135 0), (135, zo_get 138 8 2 1), (138, zo_c 141 (vi 193)), (141, zo_dup2 142), (142, zo_ialc 143 193), (143, zo_c 144 (vi 1)), (144, zo_iadd 145), (145, zo_iasc 146 193), (146, zo_ald 147 0), (147, zo_get 150 8 2 1), (150, zo_c 153 (vi 193)), (153, zo_ialc 154 193), (154, zo_c 155 (vi 1)), (155, zo_isub 156), (156, zo_iret)]
theorem ztX9_rule {C : mm_C} (G : mm_G C RX9 cX9_rule (some .int) 4 (mm_rm 33 0 0)) (hnh : mm_nh C) : zz_OKs C zpX9_rule :=
  ⟨zz_of (ok_aload_n G dX9_rule_0 rfl rfl) (z_ald _ _),
   zz_of (ok_iconst G (v := (zI (-1))) dX9_rule_1 (by decide) rfl) (z_cz 2 (-1)),
   zz_of (ok_puti G (nx := 5) (idx := 22) (ci := 8) (k := 10) (RX9, TX9, 32) rfl (by decide) rfl (mm_pw G (ci := 8) (k := 10) (RX9, TX9, 32) rfl (by decide) rfl q1815 dX9_rule_2) rfl) (z_puti _ _ _),
   zz_of (ok_aload_n G dX9_rule_5 rfl rfl) (z_ald _ _),
   zz_of (ok_iconst G (v := (zI (-1))) dX9_rule_6 (by decide) rfl) (z_cz 7 (-1)),
   zz_of (ok_puti G (nx := 10) (idx := 77) (ci := 8) (k := 7) (RX9, TX9, 32) rfl (by decide) rfl (mm_pw G (ci := 8) (k := 7) (RX9, TX9, 32) rfl (by decide) rfl q1812 dX9_rule_7) rfl) (z_puti _ _ _),
   zz_of (ok_aload_n G dX9_rule_10 rfl rfl) (z_ald _ _),
   zz_of (ok_aload_n G dX9_rule_11 rfl rfl) (z_ald _ _),
   zz_of (ok_get G (nx := 15) (ci := 8) (kd := 0) (k := 6) (RX9, TX9, 32) rfl (by decide) rfl q1811 dX9_rule_12 rfl) (z_get _ _ _ _),
   zz_of (ok_puti G (nx := 18) (idx := 83) (ci := 8) (k := 8) (RX9, TX9, 32) rfl (by decide) rfl (mm_pw G (ci := 8) (k := 8) (RX9, TX9, 32) rfl (by decide) rfl q1813 dX9_rule_15) rfl) (z_puti _ _ _),
   zz_of (ok_aload_n G dX9_rule_18 rfl rfl) (z_ald _ _),
   zz_of (ok_iconst G (v := (zI (-1))) dX9_rule_19 (by decide) rfl) (z_cz 20 (-1)),
   zz_of (ok_puti G (nx := 23) (idx := 194) (ci := 8) (k := 15) (RX9, TX9, 32) rfl (by decide) rfl (mm_pw G (ci := 8) (k := 15) (RX9, TX9, 32) rfl (by decide) rfl q1820 dX9_rule_20) rfl) (z_puti _ _ _),
   zz_of (ok_aload_n G dX9_rule_23 rfl rfl) (z_ald _ _),
   zz_of (ok_iconst G (v := 1) dX9_rule_24 (by decide) rfl) (z_cn 25 1),
   zz_of (ok_callv G hnh (zmX9_lines_r _ G.hst) rfl rfl (RX9, TX9, 32) rfl q1921 q1923 qs40 q93 q1924 (by decide +kernel) ⟨by decide, by decide⟩ dX9_rule_25 rfl) (z_callv _ _ _ _),
   zz_of (ok_aload_n G dX9_rule_28 rfl rfl) (z_ald _ _),
   zz_of (ok_get G (nx := 32) (ci := 8) (kd := 0) (k := 6) (RX9, TX9, 32) rfl (by decide) rfl q1811 dX9_rule_29 rfl) (z_get _ _ _ _),
   zz_of (ok_istore_n G dX9_rule_32 rfl rfl (by decide)) (z_ist _ _),
   zz_of (ok_aload_n G dX9_rule_33 rfl rfl) (z_ald _ _),
   zz_of (ok_iconst G (v := 0) dX9_rule_34 (by decide) rfl) (z_cn 35 0),
   zz_of (ok_puti G (nx := 38) (idx := 74) (ci := 8) (k := 6) (RX9, TX9, 32) rfl (by decide) rfl (mm_pw G (ci := 8) (k := 6) (RX9, TX9, 32) rfl (by decide) rfl q1811 dX9_rule_35) rfl) (z_puti _ _ _),
   zz_of (ok_aload_n G dX9_rule_38 rfl rfl) (z_ald _ _),
   zz_of (ok_aload_n G dX9_rule_39 rfl rfl) (z_ald _ _),
   zz_of (ok_get G (nx := 43) (ci := 8) (kd := 0) (k := 10) (RX9, TX9, 32) rfl (by decide) rfl q1815 dX9_rule_40 rfl) (z_get _ _ _ _),
   zz_of (ok_iconst G (v := (zI (-1))) dX9_rule_43 (by decide) rfl) (z_cz 44 (-1)),
   zz_of (ok_ceq G dX9_rule_44 rfl rfl) (z_ceq _ _ _ _),
   zz_of (ok_iconst G (v := 1) dX9_rule_47 (by decide) rfl) (z_cn 48 1),
   zz_of (ok_goto G dX9_rule_48 rfl) (z_goto _),
   zz_of (ok_aload_n G dX9_rule_51 rfl rfl) (z_ald _ _),
   zz_of (ok_get G (nx := 55) (ci := 8) (kd := 2) (k := 1) (RX9, TX9, 32) rfl (by decide) rfl q1806 dX9_rule_52 rfl) (z_get _ _ _ _),
   zz_of (ok_sipush G (v := 193) dX9_rule_55 (by decide) rfl) (z_cn 58 193),
   zz_of (ok_iald G dX9_rule_58 rfl) (z_ialc _ _),
   zz_of (ok_bipush G (v := 6) dX9_rule_59 (by decide) rfl) (z_cn 61 6),
   zz_of (ok_cne G dX9_rule_61 rfl rfl) (z_cne _ _ _ _),
   zz_of (ok_iconst G (v := 2) dX9_rule_64 (by decide) rfl) (z_cn 65 2),
   zz_of (ok_goto G dX9_rule_65 rfl) (z_goto _),
   zz_of (ok_iconst G (v := 0) dX9_rule_68 (by decide) rfl) (z_cn 69 0),
   zz_of (ok_puti G (nx := 72) (idx := 67) (ci := 8) (k := 0) (RX9, TX9, 32) rfl (by decide) rfl (mm_pw G (ci := 8) (k := 0) (RX9, TX9, 32) rfl (by decide) rfl q1805 dX9_rule_69) rfl) (z_puti _ _ _),
   zz_of (ok_aload_n G dX9_rule_72 rfl rfl) (z_ald _ _),
   zz_of (ok_get G (nx := 76) (ci := 8) (kd := 0) (k := 0) (RX9, TX9, 32) rfl (by decide) rfl q1805 dX9_rule_73 rfl) (z_get _ _ _ _),
   zz_of (ok_ifle G dX9_rule_76 rfl rfl) (z_ifle _ _ _),
   zz_of (ok_iconst G (v := 0) dX9_rule_79 (by decide) rfl) (z_cn 80 0),
   zz_of (ok_iret G dX9_rule_80) (z_iret),
   zz_of (ok_sipush G (v := 210) dX9_rule_81 (by decide) rfl) (z_cn 84 210),
   zz_of (ok_sipush G (v := 401) dX9_rule_84 (by decide) rfl) (z_cn 87 401),
   zz_of (ok_aload_n G dX9_rule_87 rfl rfl) (z_ald _ _),
   zz_of (ok_get G (nx := 91) (ci := 8) (kd := 2) (k := 1) (RX9, TX9, 32) rfl (by decide) rfl q1806 dX9_rule_88 rfl) (z_get _ _ _ _),
   zz_of (ok_sipush G (v := 193) dX9_rule_91 (by decide) rfl) (z_cn 94 193),
   zz_of (ok_iald G dX9_rule_94 rfl) (z_ialc _ _),
   zz_of (ok_imul G dX9_rule_95 rfl) (z_imul _),
   zz_of (ok_iadd G dX9_rule_96 rfl) (z_iadd _),
   zz_of (ok_istore_n G dX9_rule_97 rfl rfl (by decide)) (z_ist _ _),
   zz_of (ok_aload_n G dX9_rule_98 rfl rfl) (z_ald _ _),
   zz_of (ok_get G (nx := 102) (ci := 8) (kd := 2) (k := 1) (RX9, TX9, 32) rfl (by decide) rfl q1806 dX9_rule_99 rfl) (z_get _ _ _ _),
   zz_of (ok_iload_n G dX9_rule_102 rfl rfl) (z_ild _ _),
   zz_of (ok_iload_n G dX9_rule_103 rfl rfl) (z_ild _ _),
   zz_of (ok_iast G dX9_rule_104 rfl) (z_iasd _),
   zz_of (ok_iconst G (v := 0) dX9_rule_105 (by decide) rfl) (z_cn 106 0),
   zz_of (ok_istore_n G dX9_rule_106 rfl rfl (by decide)) (z_ist _ _),
   zz_of (ok_iload_n G dX9_rule_107 rfl rfl) (z_ild _ _),
   zz_of (ok_iload_n G dX9_rule_108 rfl rfl) (z_ild _ _),
   zz_of (ok_cge G dX9_rule_109 rfl rfl) (z_cge _ _ _ _),
   zz_of (ok_aload_n G dX9_rule_112 rfl rfl) (z_ald _ _),
   zz_of (ok_get G (nx := 116) (ci := 8) (kd := 2) (k := 1) (RX9, TX9, 32) rfl (by decide) rfl q1806 dX9_rule_113 rfl) (z_get _ _ _ _),
   zz_of (ok_iload_n G dX9_rule_116 rfl rfl) (z_ild _ _),
   zz_of (ok_iconst G (v := 1) dX9_rule_117 (by decide) rfl) (z_cn 118 1),
   zz_of (ok_iadd G dX9_rule_118 rfl) (z_iadd _),
   zz_of (ok_iload_n G dX9_rule_119 rfl rfl) (z_ild _ _),
   zz_of (ok_iadd G dX9_rule_120 rfl) (z_iadd _),
   zz_of (ok_aload_n G dX9_rule_121 rfl rfl) (z_ald _ _),
   zz_of (ok_get G (nx := 125) (ci := 8) (kd := 2) (k := 5) (RX9, TX9, 32) rfl (by decide) rfl q1810 dX9_rule_122 rfl) (z_get _ _ _ _),
   zz_of (ok_iload_n G dX9_rule_125 rfl rfl) (z_ild _ _),
   zz_of (ok_iald G dX9_rule_126 rfl) (z_iald _),
   zz_of (ok_iast G dX9_rule_127 rfl) (z_iasd _),
   zz_of (ok_iinc G (v := 1) dX9_rule_128 (by decide) rfl (by decide)) (z_incn 131 3 1),
   zz_of (ok_goto G dX9_rule_131 rfl) (z_goto _),
   zz_of (ok_aload_n G dX9_rule_134 rfl rfl) (z_ald _ _),
   zz_of (ok_get G (nx := 138) (ci := 8) (kd := 2) (k := 1) (RX9, TX9, 32) rfl (by decide) rfl q1806 dX9_rule_135 rfl) (z_get _ _ _ _),
   zz_of (ok_sipush G (v := 193) dX9_rule_138 (by decide) rfl) (z_cn 141 193),
   zz_of (ok_dup2 G dX9_rule_141 rfl) (z_dup2 _),
   zz_of (ok_iald G dX9_rule_142 rfl) (z_ialc _ _),
   zz_of (ok_iconst G (v := 1) dX9_rule_143 (by decide) rfl) (z_cn 144 1),
   zz_of (ok_iadd G dX9_rule_144 rfl) (z_iadd _),
   zz_of (ok_iast G dX9_rule_145 rfl) (z_iasc _ _),
   zz_of (ok_aload_n G dX9_rule_146 rfl rfl) (z_ald _ _),
   zz_of (ok_get G (nx := 150) (ci := 8) (kd := 2) (k := 1) (RX9, TX9, 32) rfl (by decide) rfl q1806 dX9_rule_147 rfl) (z_get _ _ _ _),
   zz_of (ok_sipush G (v := 193) dX9_rule_150 (by decide) rfl) (z_cn 153 193),
   zz_of (ok_iald G dX9_rule_153 rfl) (z_ialc _ _),
   zz_of (ok_iconst G (v := 1) dX9_rule_154 (by decide) rfl) (z_cn 155 1),
   zz_of (ok_isub G dX9_rule_155 rfl) (z_isub _),
   zz_of (ok_iret G dX9_rule_156) (z_iret), trivial⟩

theorem zwX9_rule_0 {Q : Option zv → zz_M → Prop} {X : Nat → zz_M → Prop} {S L : Nat → Nat → Int}  (h : (∃ (tx_1 : Nat → Int) (n_1 : Nat), mT (mm_up (mm_up (mm_up (mm_up S 0 10 (-1)) 0 7 (-1)) 0 8 (S 0 6)) 0 15 (-1)) tx_1 n_1 ∧ (1 : Int) = 1 ∧ (mm_up (mm_up (mm_up (mm_up S 0 10 (-1)) 0 7 (-1)) 0 8 (S 0 6)) 0 15 (-1)) 0 10 = -1 ∧ bF (fcS (mm_up (mm_up (mm_up (mm_up S 0 10 (-1)) 0 7 (-1)) 0 8 (S 0 6)) 0 15 (-1))) ∧ ((mm_up (mm_up (mm_up (mm_up S 0 10 (-1)) 0 7 (-1)) 0 8 (S 0 6)) 0 15 (-1)) 0 13 = 0 ∨ (mm_up (mm_up (mm_up (mm_up S 0 10 (-1)) 0 7 (-1)) 0 8 (S 0 6)) 0 15 (-1)) 0 13 = 1) ∧ ((mm_up (mm_up (mm_up (mm_up S 0 10 (-1)) 0 7 (-1)) 0 8 (S 0 6)) 0 15 (-1)) 0 14 = 0 ∨ (mm_up (mm_up (mm_up (mm_up S 0 10 (-1)) 0 7 (-1)) 0 8 (S 0 6)) 0 15 (-1)) 0 14 = 1) ∧ (mm_up (mm_up (mm_up (mm_up S 0 10 (-1)) 0 7 (-1)) 0 8 (S 0 6)) 0 15 (-1)) 0 15 = -1 ∧ (∀ w_1 : Nat, ruP tx_1 n_1 = .inl w_1 → ∀ (z_1 : Nat) (d_1 s_1 : Int), z_1 ≤ n_1 + 6 → (zz_J zpX9_rule (zz_ret Q X 0 0) 28 [some (vr 0), none, none, none] [] (zm (pS (mm_up (mm_up (mm_up (mm_up (mm_up S 0 10 (-1)) 0 7 (-1)) 0 8 (S 0 6)) 0 15 (-1)) 0 15 s_1) z_1 w_1 d_1) L) (0, 0))) ∧ (∀ c_1 : Nat × (Fc → Option Int), ruP tx_1 n_1 = .inr c_1 → (zz_J zpX9_rule (zz_ret Q X 0 0) 28 [some (vr 0), none, none, none] [] (zm (pS (mm_up (mm_up (mm_up (mm_up (mm_up S 0 10 (-1)) 0 7 (-1)) 0 8 (S 0 6)) 0 15 (-1)) 0 15 ((c_1.2 (fcS (mm_up (mm_up (mm_up (mm_up S 0 10 (-1)) 0 7 (-1)) 0 8 (S 0 6)) 0 15 (-1)))).getD (-1))) n_1 (-1) 0) L) (0, 0))))) : zz_J zpX9_rule (zz_ret Q X 0 0) 0 [some (vr 0), none, none, none] [] (zm S L) (0, 0) := zz_J.go [(28, [1, 2, 3]), (81, [2, 3]), (107, [])] 400 h
theorem zwX9_rule_28 {Q : Option zv → zz_M → Prop} {X : Nat → zz_M → Prop} {S L : Nat → Nat → Int}  (h : R32 (S 0 10) ∧ (((S 0 10) = (-1) → R32 (S 1 193) ∧ ((¬ (S 1 193) = 6 → R32 0 ∧ (((0 : Int) ≤ 0 → zz_J zpX9_rule (zz_ret Q X 0 0) 81 [some (vr 0), some (vi (S 0 6)), none, none] [] (zm (mm_up (mm_up S 0 6 0) 0 0 0) L) (0, 0)) ∧ (¬ (0 : Int) ≤ 0 → Q (some (vi 0)) (zm (mm_up (mm_up S 0 6 0) 0 0 0) L)))) ∧ ((S 1 193) = 6 → R32 2 ∧ (((2 : Int) ≤ 0 → zz_J zpX9_rule (zz_ret Q X 0 0) 81 [some (vr 0), some (vi (S 0 6)), none, none] [] (zm (mm_up (mm_up S 0 6 0) 0 0 2) L) (0, 0)) ∧ (¬ (2 : Int) ≤ 0 → Q (some (vi 0)) (zm (mm_up (mm_up S 0 6 0) 0 0 2) L)))))) ∧ (¬ (S 0 10) = (-1) → R32 1 ∧ (((1 : Int) ≤ 0 → zz_J zpX9_rule (zz_ret Q X 0 0) 81 [some (vr 0), some (vi (S 0 6)), none, none] [] (zm (mm_up (mm_up S 0 6 0) 0 0 1) L) (0, 0)) ∧ (¬ (1 : Int) ≤ 0 → Q (some (vi 0)) (zm (mm_up (mm_up S 0 6 0) 0 0 1) L)))))) : zz_J zpX9_rule (zz_ret Q X 0 0) 28 [some (vr 0), none, none, none] [] (zm S L) (0, 0) := zz_J.go [(28, [1, 2, 3]), (81, [2, 3]), (107, [])] 400 h
theorem zwX9_rule_81 {Q : Option zv → zz_M → Prop} {X : Nat → zz_M → Prop} {S L : Nat → Nat → Int} {x1 : Int} (h : (0 ≤ (210 + (401 * (S 1 193))) ∧ (210 + (401 * (S 1 193))) < 2616) ∧ (zz_J zpX9_rule (zz_ret Q X 0 0) 107 [some (vr 0), some (vi x1), some (vi (210 + (401 * (S 1 193)))), some (vi 0)] [] (zm (mm_up S 1 ((210 + (401 * (S 1 193))).toNat) x1) L) (0, 0))) : zz_J zpX9_rule (zz_ret Q X 0 0) 81 [some (vr 0), some (vi x1), none, none] [] (zm S L) (0, 0) := zz_J.go [(28, [1, 2, 3]), (81, [2, 3]), (107, [])] 400 h
theorem zwX9_rule_107 {Q : Option zv → zz_M → Prop} {X : Nat → zz_M → Prop} {S L : Nat → Nat → Int} {x1 : Int} {x2 : Int} {x3 : Int} (h : R32 x3 ∧ (R32 x1 ∧ ((x1 ≤ x3 → Q (some (vi (((S 1 193) + 1) - 1))) (zm (mm_up S 1 193 ((S 1 193) + 1)) L)) ∧ (¬ x1 ≤ x3 → (0 ≤ x3 ∧ x3 < 400) ∧ ((0 ≤ ((x2 + 1) + x3) ∧ ((x2 + 1) + x3) < 2616) ∧ (zz_J zpX9_rule (zz_ret Q X 0 0) 107 [some (vr 0), some (vi x1), some (vi x2), some (vi (x3 + 1))] [] (zm (mm_up S 1 (((x2 + 1) + x3).toNat) (S 4 x3.toNat)) L) (0, 0))))))) : zz_J zpX9_rule (zz_ret Q X 0 0) 107 [some (vr 0), some (vi x1), some (vi x2), some (vi x3)] [] (zm S L) (0, 0) := zz_J.go [(28, [1, 2, 3]), (81, [2, 3]), (107, [])] 400 h

theorem fcS_up {S : Nat → Nat → Int} {h k : Nat} (v : Int) (h5 : h ≠ 5) (h0 : h = 0 → k ≠ 13 ∧ k ≠ 14) : fcS (mm_up S h k v) = fcS S := by
  funext j
  unfold fcS
  grind [up_eq]
theorem gdF.up {S : Nat → Nat → Int} {h k : Nat} (v : Int) (h5 : h ≠ 5) (h0 : h = 0 → k ≠ 13 ∧ k ≠ 14) (hg : gdF S) : gdF (mm_up S h k v) := by
  unfold gdF at hg ⊢
  rw [fcS_up v h5 h0]
  refine ⟨hg.1, ?_, ?_⟩
  · rw [up_eq, if_neg (fun q => (h0 q.1.symm).1 q.2.symm)]; exact hg.2.1
  · rw [up_eq, if_neg (fun q => (h0 q.1.symm).2 q.2.symm)]; exact hg.2.2
theorem gdF.pS {S : Nat → Nat → Int} (a f d : Int) (hg : gdF S) : gdF (pS S a f d) := by
  unfold gdF at hg ⊢
  rw [fcS_pS]
  exact hg
theorem zmX9_rule (l : Launch) (hl : l.stackTraces = false) : mm_Spec l yX9_rule (ws_ yX9_rule cX9_rule 4 (some .int)) (mm_rm 33 0 0) (zE zX9_rule) := by
  refine zz_Met.J hl (by decide) (fun C G hnh => ztX9_rule G hnh) ?_
  rintro as ⟨⟨t_, f⟩, S, L, P⟩ Q X h
  unfold zX9_rule at h
  split at h
  rotate_left
  · exact h.elim
  rename_i h_
  obtain ⟨e1_, e2_, h⟩ := mm_and2 h (fun q => q)
  cases mm_beq e1_
  cases mm_beq e2_
  try dsimp only at h
  refine ⟨rfl, ?_⟩
  refine zz_Jev (M' := zm S L) rfl rfl rfl ?_
  obtain ⟨n, h6, hn, htx, h193, hg, hq1, hq2⟩ := h
  -- behind the text
  have t107 : ∀ (r i : Nat) (T : Nat → Nat → Int), i + r = n → S 1 193 < 6 → scE (ruS S n i) T → gdF T → (∀ c, ruP (S 4) n = .inr c → True) → (∃ c, ruP (S 4) n = .inr c) → zz_J zpX9_rule (zz_ret Q X 0 0) 107 [some (vr 0), some (vi n), some (vi (210 + 401 * S 1 193)), some (vi i)] [] (zm T L) (0, 0) := by
    intro r
    induction r with
    | zero =>
      intro i T hi h6' hT gT _ hc
      have ei : i = n := by omega
      subst ei
      obtain ⟨c, hc⟩ := hc
      have t193 : T 1 193 = S 1 193 := by rw [hT 1 193 (by simp [scr])]; simp [ruS]; omega
      refine zwX9_rule_107 ?_
      refine ⟨by omega, by omega, fun _ => ?_, fun h => absurd (Int.le_refl _) h⟩
      rw [t193]
      have := (hq2 c hc).2 h6' (mm_up T 1 193 (S 1 193 + 1)) ⟨fun a b hab => ?_, gT.up _ (by decide) (by omega)⟩
      · rw [show S 1 193 + 1 - 1 = S 1 193 by omega]
        exact this
      · rw [up_eq, up_eq]
        split
        · rfl
        · exact hT a b hab
    | succ r ih =>
      intro i T hi h6' hT gT _ hc
      have t4 : T 4 i = S 4 i := by rw [hT 4 i (by simp [scr])]; simp [ruS]
      refine zwX9_rule_107 ?_
      refine ⟨by omega, by omega, fun h => by omega, fun _ => ⟨by omega, by omega, ?_⟩⟩
      rw [Int.toNat_natCast, t4]
      have e1 : ((210 : Int) + 401 * S 1 193 + 1 + i).toNat = 211 + 401 * (S 1 193).toNat + i := by omega
      rw [e1]
      refine ih (i + 1) _ (by omega) h6' ?_ (gT.up _ (by decide) (by omega)) (fun _ _ => trivial) hc
      intro a b hab
      have h0 := hT a b hab
      exact ruS_step S n i T h0
  have t81 : ∀ T : Nat → Nat → Int, S 1 193 < 6 → scE (mm_up (mm_up (mm_up S 0 0 0) 0 6 0) 0 10 (-1)) T → gdF T → (∃ c, ruP (S 4) n = .inr c) → zz_J zpX9_rule (zz_ret Q X 0 0) 81 [some (vr 0), some (vi n), none, none] [] (zm T L) (0, 0) := by
    intro T h6' hT gT hc
    have t193 : T 1 193 = S 1 193 := by rw [hT 1 193 (by simp [scr])]; simp [up_eq]
    refine zwX9_rule_81 ?_
    rw [t193]
    refine ⟨by omega, ?_⟩
    have e1 : ((210 : Int) + 401 * S 1 193).toNat = 210 + 401 * (S 1 193).toNat := by omega
    rw [e1]
    refine t107 n 0 _ (by omega) h6' ?_ (gT.up _ (by decide) (by omega)) (fun _ _ => trivial) hc
    intro a b hab
    have h0 := hT a b hab
    grind [up_eq, ruS_at]
  have e15 : ∀ T : Nat → Nat → Int, T = mm_up (mm_up (mm_up (mm_up S 0 10 (-1)) 0 7 (-1)) 0 8 (S 0 6)) 0 15 (-1) → mT T (S 4) n := by
    intro T hT
    refine ⟨hn, by rw [hT]; simp [up_eq, h6], htx, Or.inl ⟨by rw [hT]; simp [up_eq], fun k _ => by rw [hT]; simp [up_eq]⟩⟩
  have t28 : ∀ (T : Nat → Nat → Int) (f : Int), scE (mm_up S 0 10 f) T → gdF T → T 0 10 = f → ((∃ w : Nat, f = w ∧ w ≤ n ∧ ruP (S 4) n = .inl w) ∨ f = -1 ∧ ∃ c, ruP (S 4) n = .inr c) → zz_J zpX9_rule (zz_ret Q X 0 0) 28 [some (vr 0), none, none, none] [] (zm T L) (0, 0) := by
    intro T f hT gT hf hcase
    have t6 : T 0 6 = n := by rw [hT 0 6 (by simp [scr])]; simpa [up_eq] using h6
    have t193 : T 1 193 = S 1 193 := by rw [hT 1 193 (by simp [scr])]; simp [up_eq]
    have sc0 : ∀ v : Int, scE (mm_up (mm_up (mm_up S 0 0 v) 0 6 0) 0 10 f) (mm_up (mm_up T 0 6 0) 0 0 v) := by
      intro v a b hab
      have h0 := hT a b hab
      grind [up_eq]
    have gd0 : ∀ v : Int, gdF (mm_up (mm_up T 0 6 0) 0 0 v) := fun v => (gT.up _ (by decide) (by omega)).up _ (by decide) (by omega)
    refine zwX9_rule_28 ?_
    rw [hf, t193, t6]
    rcases hcase with ⟨w, rfl, hw, e⟩ | ⟨rfl, hc⟩
    · refine ⟨by omega, fun h => by omega, fun _ => ⟨by omega, fun h => absurd h (by decide), fun _ => ?_⟩⟩
      exact hq1 w e _ ⟨sc0 1, gd0 1⟩
    · obtain ⟨c, hc⟩ := hc
      refine ⟨by decide, fun _ => ⟨by omega, fun h => ⟨by omega, fun _ => ?_, fun h => absurd h (by decide)⟩, fun h => ⟨by omega, fun h => absurd h (by decide), fun _ => ?_⟩⟩, fun h => absurd rfl h⟩
      · exact t81 _ (by omega) (sc0 0) (gd0 0) ⟨c, hc⟩
      · exact (hq2 c hc).1 h _ ⟨sc0 2, gd0 2⟩
  refine zwX9_rule_0 ?_
  generalize hT0 : mm_up (mm_up (mm_up (mm_up S 0 10 (-1)) 0 7 (-1)) 0 8 (S 0 6)) 0 15 (-1) = T
  have gT : gdF T := by
    rw [← hT0]
    exact (((hg.up _ (by decide) (by omega)).up _ (by decide) (by omega)).up _ (by decide) (by omega)).up _ (by decide) (by omega)
  have cT : scE (mm_up S 0 10 (-1)) T := by
    rw [← hT0]
    exact ((scE.rf.up _ (by simp [scr])).up _ (by simp [scr])).up _ (by simp [scr])
  refine ⟨S 4, n, e15 _ hT0.symm, rfl, by rw [← hT0]; simp [up_eq], gT.1, gT.2.1, gT.2.2, by rw [← hT0]; simp [up_eq], fun w e z d s hz => ?_, fun c e => ?_⟩
  · have hw : w ≤ n := by
      have hx : ∀ k, k < n → 0 ≤ S 4 k ∧ S 4 k ≤ 255 := htx
      have hok := rlP_ok hx
      unfold ruP liP at e
      split at e
      · cases e
      · have key : ∀ (r a : Nat) (g : Fc → Option Int), a ≤ n → liF (S 4) n (rlP (S 4) n) (fun g h F => (g F).or (h F)) r a g = .inl w → w ≤ n := by
          intro r
          induction r with
          | zero => intro a g ha h; unfold liF at h; cases h; exact rn_le ha
          | succ r ih =>
            intro a g ha h
            unfold liF at h
            have hb := rn_le (q := qB (S 4)) ha
            cases hp : rlP (S 4) n (rn (qB (S 4)) n a) with
            | inl w' => rw [hp] at h; cases h; exact (hok _ hb).2 _ hp
            | inr c =>
              have hc := (hok _ hb).1 _ hp
              have g2 := rn_le (q := qB (S 4)) hc.2
              rw [hp] at h
              dsimp only at h
              split at h
              · cases h
              · split at h
                · next sg => exact ih _ _ (by have := (isSg_t.mp sg).1; omega) h
                · cases h; exact g2
        exact key _ _ _ (Nat.zero_le _) e
    refine t28 _ w ?_ ?_ (by simp [pS_at]) (Or.inl ⟨w, rfl, hw, e⟩)
    · intro a b hab
      have h0 := cT a b hab
      rw [scr_f] at hab
      simp only [pS_at, up_eq] at h0 ⊢
      grind
    · exact (gT.up _ (by decide) (by omega)).pS _ _ _
  · refine t28 _ (-1) ?_ ?_ (by simp [pS_at]) (Or.inr ⟨rfl, c, e⟩)
    · intro a b hab
      have h0 := cT a b hab
      rw [scr_f] at hab
      simp only [pS_at, up_eq] at h0 ⊢
      grind
    · exact (gT.up _ (by decide) (by omega)).pS _ _ _
