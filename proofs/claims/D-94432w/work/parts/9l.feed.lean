/-! ===== the component: bytes are told ===== -/
set_option maxRecDepth 100000
/-- k bytes more are told behind the first n -/
def fdC (S : Nat → Nat → Int) (n k : Nat) (g : Nat → Int) : Nat → Nat → Int := fun h j => if h = 101 ∧ j = 1 then ((n + k : Nat) : Int) else if h = 102 ∧ n ≤ j ∧ j < n + k then g (j - n) else S h j
theorem fdC_o {S : Nat → Nat → Int} {n k : Nat} {g : Nat → Int} {h : Nat} (h1 : h ≠ 101) (h2 : h ≠ 102) : fdC S n k g h = S h := by
  funext j
  unfold fdC
  rw [if_neg (fun c => h1 c.1), if_neg (fun c => h2 c.1)]
theorem fdC_0 {S : Nat → Nat → Int} {n : Nat} {g : Nat → Int} (e : S 101 1 = (n : Int)) : fdC S n 0 g = S := by
  funext h j
  unfold fdC
  by_cases c : h = 101 ∧ j = 1
  · rw [if_pos c, c.1, c.2, e]; rfl
  · rw [if_neg c, if_neg (by omega)]
theorem fdC_1 {S : Nat → Nat → Int} {n k : Nat} {g : Nat → Int} : fdC S n k g 101 1 = ((n + k : Nat) : Int) := by
  unfold fdC
  rw [if_pos ⟨rfl, rfl⟩]
theorem fdC_s {S : Nat → Nat → Int} {n k : Nat} {g : Nat → Int} : mm_up (mm_up (fdC S n k g) 102 (n + k) (g k)) 101 1 (((n + k : Nat) : Int) + 1) = fdC S n (k + 1) g := by
  funext h j
  rw [up_eq, up_eq]
  unfold fdC
  by_cases c : h = 101 ∧ j = 1
  · rw [if_pos c, if_pos c]
    omega
  · rw [if_neg c]
    by_cases d : h = 102 ∧ j = n + k
    · rw [if_pos d, if_neg c, if_pos (show h = 102 ∧ n ≤ j ∧ j < n + (k + 1) by omega), show j - n = k by omega]
    · rw [if_neg d, if_neg c, if_neg c]
      by_cases e : h = 102 ∧ n ≤ j ∧ j < n + k
      · rw [if_pos e, if_pos (by omega)]
      · rw [if_neg e, if_neg (by omega)]
theorem zbyte_r (x : Int) : -128 ≤ zbyte x ∧ zbyte x ≤ 127 := by
  unfold zbyte
  rw [Int8.toInt_toInt32]
  exact ⟨Int8.le_toInt _, by have := Int8.toInt_lt (zI x).toInt8; omega⟩
def zX4_add : zz_Sp := fun as M Q X => match as with
  | [.inr (.inr (some h_)), .inr (.inr (some a))] => bif Nat.beq h_ 101 && Nat.beq M.1.1 2 then (∃ (n_ : Nat) (g_ : Nat → Int), M.2.1 101 1 = (n_ : Int) ∧ n_ ≤ 400 ∧ 2000 ≤ a ∧ M.1.2 a = (2, 5) ∧ (∀ i, i < 5 → R32 (M.2.1 a i)) ∧ (∀ i j, i < 5 → j < 4 → g_ (4 * i + j) = zbyte (zshr (M.2.1 a i) (24 - 8 * (j : Int)))) ∧ (400 < n_ + 20 → Q (some (vi (-1))) ((2, M.1.2), M.2.1, M.2.2.1, M.2.2.2)) ∧ (n_ + 20 ≤ 400 → Q (some (vi ((n_ + 20 : Nat) : Int))) ((2, M.1.2), fdC M.2.1 n_ 20 g_, M.2.2.1, M.2.2.2))) else False
  | _ => False

def zpX4_add : zz_P := [(0, zo_ald 1 0), (1, zo_get 4 3 0 1), (4, zo_c 6 (vi 20)), (6, zo_iadd 7), (7, zo_c 10 (vi 400)), (10, zo_cle false true 13 15), (13, zo_c 14 (vi (-1))), (14, zo_iret), (15, zo_ald 16 1), (16, zo_ast 17 2), (17, zo_ald 18 2), (18, zo_alenp 19), (19, zo_ist 20 3), (20, zo_c 21 (vi 0)), (21, zo_ist 23 4), (23, zo_ild 25 4), (25, zo_ild 26 3), (26, zo_cge false false 29 81), (29, zo_ald 30 2), (30, zo_ild 32 4), (32, zo_ialp 33), (33, zo_ist 35 5), (35, zo_c 37 (vi 24)), (37, zo_ist 39 6), (39, zo_ild 41 6), (41, zo_iflt false 44 75), (44, zo_ald 45 0), (45, zo_get 48 3 2 0), (48, zo_ald 49 0), (49, zo_get 52 3 0 1), (52, zo_ild 54 5), (54, zo_ild 56 6), (56, zo_ishr 57), (57, zo_i2b 58), (58, zo_bast 59), (59, zo_ald 60 0), (60, zo_dup 61), (61, zo_get 64 3 0 1), (64, zo_c 65 (vi 1)), (65, zo_iadd 66), (66, zo_puti 69 3 1), (69, zo_inc 72 6 (-8)), (72, zo_goto 39), (75, zo_inc 78 4 1), (78, zo_goto 23), (81, zo_ald 82 0), (82, zo_get 85 3 0 1), (85, zo_iret)]
theorem ztX4_add {C : mm_C} (G : mm_G C RX4 cX4_add (some .int) 7 (mm_rm 2 0 0)) (hnh : mm_nh C) : zz_OKs C zpX4_add :=
  ⟨zz_of (ok_aload_n G dX4_add_0 rfl rfl) (z_ald _ _),
   zz_of (ok_get G (nx := 4) (ci := 3) (kd := 0) (k := 1) (RX4, TX4, 7) rfl (by decide) rfl q273 dX4_add_1 rfl) (z_get _ _ _ _),
   zz_of (ok_bipush G (v := 20) dX4_add_4 (by decide) rfl) (z_cn 6 20),
   zz_of (ok_iadd G dX4_add_6 rfl) (z_iadd _),
   zz_of (ok_sipush G (v := 400) dX4_add_7 (by decide) rfl) (z_cn 10 400),
   zz_of (ok_cle G dX4_add_10 rfl rfl) (z_cle _ _ _ _),
   zz_of (ok_iconst G (v := (zI (-1))) dX4_add_13 (by decide) rfl) (z_cz 14 (-1)),
   zz_of (ok_iret G dX4_add_14) (z_iret),
   zz_of (ok_aload_n G dX4_add_15 rfl rfl) (z_ald _ _),
   zz_of (ok_astore_n G dX4_add_16 rfl rfl (by decide)) (z_ast _ _),
   zz_of (ok_aload_n G dX4_add_17 rfl rfl) (z_ald _ _),
   zz_of (ok_alen G dX4_add_18 rfl) (z_alenp _),
   zz_of (ok_istore_n G dX4_add_19 rfl rfl (by decide)) (z_ist _ _),
   zz_of (ok_iconst G (v := 0) dX4_add_20 (by decide) rfl) (z_cn 21 0),
   zz_of (ok_istore G dX4_add_21 rfl (by decide)) (z_ist _ _),
   zz_of (ok_iload G dX4_add_23 rfl) (z_ild _ _),
   zz_of (ok_iload_n G dX4_add_25 rfl rfl) (z_ild _ _),
   zz_of (ok_cge G dX4_add_26 rfl rfl) (z_cge _ _ _ _),
   zz_of (ok_aload_n G dX4_add_29 rfl rfl) (z_ald _ _),
   zz_of (ok_iload G dX4_add_30 rfl) (z_ild _ _),
   zz_of (ok_iald G dX4_add_32 rfl) (z_ialp _),
   zz_of (ok_istore G dX4_add_33 rfl (by decide)) (z_ist _ _),
   zz_of (ok_bipush G (v := 24) dX4_add_35 (by decide) rfl) (z_cn 37 24),
   zz_of (ok_istore G dX4_add_37 rfl (by decide)) (z_ist _ _),
   zz_of (ok_iload G dX4_add_39 rfl) (z_ild _ _),
   zz_of (ok_iflt G dX4_add_41 rfl rfl) (z_iflt _ _ _),
   zz_of (ok_aload_n G dX4_add_44 rfl rfl) (z_ald _ _),
   zz_of (ok_get G (nx := 48) (ci := 3) (kd := 2) (k := 0) (RX4, TX4, 7) rfl (by decide) rfl q271 dX4_add_45 rfl) (z_get _ _ _ _),
   zz_of (ok_aload_n G dX4_add_48 rfl rfl) (z_ald _ _),
   zz_of (ok_get G (nx := 52) (ci := 3) (kd := 0) (k := 1) (RX4, TX4, 7) rfl (by decide) rfl q273 dX4_add_49 rfl) (z_get _ _ _ _),
   zz_of (ok_iload G dX4_add_52 rfl) (z_ild _ _),
   zz_of (ok_iload G dX4_add_54 rfl) (z_ild _ _),
   zz_of (ok_ishr G dX4_add_56 rfl) (z_ishr _),
   zz_of (ok_i2b G dX4_add_57 rfl) (z_i2b _),
   zz_of (ok_bast G dX4_add_58 rfl) (z_bast _),
   zz_of (ok_aload_n G dX4_add_59 rfl rfl) (z_ald _ _),
   zz_of (ok_dup G dX4_add_60 rfl) (z_dup _),
   zz_of (ok_get G (nx := 64) (ci := 3) (kd := 0) (k := 1) (RX4, TX4, 7) rfl (by decide) rfl q273 dX4_add_61 rfl) (z_get _ _ _ _),
   zz_of (ok_iconst G (v := 1) dX4_add_64 (by decide) rfl) (z_cn 65 1),
   zz_of (ok_iadd G dX4_add_65 rfl) (z_iadd _),
   zz_of (ok_puti G (nx := 69) (idx := 19) (ci := 3) (k := 1) (RX4, TX4, 7) rfl (by decide) rfl (mm_pw G (ci := 3) (k := 1) (RX4, TX4, 7) rfl (by decide) rfl q273 dX4_add_66) rfl) (z_puti _ _ _),
   zz_of (ok_iinc G (v := (zI (-8))) dX4_add_69 (by decide) rfl (by decide)) (z_incz 72 6 (-8)),
   zz_of (ok_goto G dX4_add_72 rfl) (z_goto _),
   zz_of (ok_iinc G (v := 1) dX4_add_75 (by decide) rfl (by decide)) (z_incn 78 4 1),
   zz_of (ok_goto G dX4_add_78 rfl) (z_goto _),
   zz_of (ok_aload_n G dX4_add_81 rfl rfl) (z_ald _ _),
   zz_of (ok_get G (nx := 85) (ci := 3) (kd := 0) (k := 1) (RX4, TX4, 7) rfl (by decide) rfl q273 dX4_add_82 rfl) (z_get _ _ _ _),
   zz_of (ok_iret G dX4_add_85) (z_iret), trivial⟩

theorem zwX4_add_0 {Q : Option zv → zz_M → Prop} {X : Nat → zz_M → Prop} {f : Nat → Nat × Nat} {S L : Nat → Nat → Int} {P : Nat → Nat → Option Nat} {a : Nat} (h : R32 ((S 101 1) + 20) ∧ ((((S 101 1) + 20) ≤ 400 → ∃ (t_ n1 : Nat), zsh ((2, f), S, L, P) a = (t_, n1) ∧ (2 ≤ t_ % 16 ∧ t_ % 16 ≤ 8 ∧ t_ ≤ 31) ∧ (zz_J zpX4_add (zz_ret Q X 0 0) 23 [some (vr 101), none, some (vr a), some (vi (n1 : Int)), some (vi 0), none, none] [] ((2, f), S, L, P) (0, 0))) ∧ (¬ ((S 101 1) + 20) ≤ 400 → Q (some (vi (-1))) ((2, f), S, L, P)))) : zz_J zpX4_add (zz_ret Q X 0 0) 0 [some (vr 101), some (vr a), none, none, none, none, none] [] ((2, f), S, L, P) (0, 0) := zz_J.go [(23, [1, 5, 6]), (39, [1])] 400 h
theorem zwX4_add_23 {Q : Option zv → zz_M → Prop} {X : Nat → zz_M → Prop} {f : Nat → Nat × Nat} {S L : Nat → Nat → Int} {P : Nat → Nat → Option Nat} {h2 : Nat} {x3 : Int} {x4 : Int} (h : R32 x4 ∧ (R32 x3 ∧ ((x3 ≤ x4 → Q (some (vi (S 101 1))) ((2, f), S, L, P)) ∧ (¬ x3 ≤ x4 → ∃ n_ : Nat, zsh ((2, f), S, L, P) h2 = (2, n_) ∧ (n_ : Int) ≤ 2147483647 ∧ (0 ≤ x4 ∧ x4 < (n_ : Int)) ∧ (zz_J zpX4_add (zz_ret Q X 0 0) 39 [some (vr 101), none, some (vr h2), some (vi x3), some (vi x4), some (vi (S h2 x4.toNat)), some (vi 24)] [] ((2, f), S, L, P) (0, 0)))))) : zz_J zpX4_add (zz_ret Q X 0 0) 23 [some (vr 101), none, some (vr h2), some (vi x3), some (vi x4), none, none] [] ((2, f), S, L, P) (0, 0) := zz_J.go [(23, [1, 5, 6]), (39, [1])] 400 h
theorem zwX4_add_39 {Q : Option zv → zz_M → Prop} {X : Nat → zz_M → Prop} {f : Nat → Nat × Nat} {S L : Nat → Nat → Int} {P : Nat → Nat → Option Nat} {h2 : Nat} {x3 : Int} {x4 : Int} {x5 : Int} {x6 : Int} (h : R32 x6 ∧ ((x6 < 0 → zz_J zpX4_add (zz_ret Q X 0 0) 23 [some (vr 101), none, some (vr h2), some (vi x3), some (vi (x4 + 1)), none, none] [] ((2, f), S, L, P) (0, 0)) ∧ (¬ x6 < 0 → (-128 ≤ (zbyte (zshr x5 x6)) ∧ (zbyte (zshr x5 x6)) ≤ 127) ∧ (0 ≤ (S 101 1) ∧ (S 101 1) < 400) ∧ (zz_J zpX4_add (zz_ret Q X 0 0) 39 [some (vr 101), none, some (vr h2), some (vi x3), some (vi x4), some (vi x5), some (vi (x6 + (-8)))] [] ((2, f), mm_up (mm_up S 102 ((S 101 1).toNat) (zbyte (zshr x5 x6))) 101 1 ((S 101 1) + 1), L, P) (0, 0))))) : zz_J zpX4_add (zz_ret Q X 0 0) 39 [some (vr 101), none, some (vr h2), some (vi x3), some (vi x4), some (vi x5), some (vi x6)] [] ((2, f), S, L, P) (0, 0) := zz_J.go [(23, [1, 5, 6]), (39, [1])] 400 h

theorem zmX4_add (l : Launch) (hl : l.stackTraces = false) : mm_Spec l yX4_add (ws_ yX4_add cX4_add 7 (some .int)) (mm_rm 2 0 0) (zE zX4_add) := by
  refine zz_Met.J hl (by decide) (fun C G hnh => ztX4_add G hnh) ?_
  rintro as ⟨⟨t_, f⟩, S, L, P⟩ Q X h
  unfold zX4_add at h
  split at h
  rotate_left
  · exact h.elim
  rename_i h_ a
  obtain ⟨e1_, e2_, h⟩ := mm_and2 h (fun q => q)
  cases mm_beq e1_
  cases mm_beq e2_
  try dsimp only at h
  refine ⟨rfl, ?_⟩
  obtain ⟨n, g, hn, n400, h2, hf, hR, hg, q0, q1⟩ := h
  have hz : zsh ((2, f), S, L, P) a = (2, 5) := (zsh_hi h2).trans hf
  have t39 : ∀ (m j i : Nat), j + m = 4 → i < 5 → n + 20 ≤ 400 → (zz_J zpX4_add (zz_ret Q X 0 0) 23 [some (vr 101), none, some (vr a), some (vi ((5 : Nat) : Int)), some (vi (((i + 1 : Nat) : Int))), none, none] [] ((2, f), fdC S n (4 * (i + 1)) g, L, P) (0, 0)) → zz_J zpX4_add (zz_ret Q X 0 0) 39 [some (vr 101), none, some (vr a), some (vi ((5 : Nat) : Int)), some (vi ((i : Nat) : Int)), some (vi (S a i)), some (vi (24 - 8 * (j : Int)))] [] ((2, f), fdC S n (4 * i + j) g, L, P) (0, 0) := by
    intro m
    induction m with
    | zero =>
      intro j i hj hi hle hk
      have e4 : j = 4 := by omega
      subst e4
      refine zwX4_add_39 ⟨by decide, fun _ => ?_, fun c => absurd (by decide) c⟩
      rw [show (i : Int) + 1 = ((i + 1 : Nat) : Int) by omega]
      rw [show 4 * (i + 1) = 4 * i + 4 by omega] at hk
      exact hk
    | succ m ih =>
      intro j i hj hi hle hk
      have nx := ih (j + 1) i (by omega) hi hle hk
      refine zwX4_add_39 ⟨by omega, fun c => absurd c (by omega), fun _ => ?_⟩
      rw [← hg i j hi (by omega), fdC_1]
      have hb : -128 ≤ g (4 * i + j) ∧ g (4 * i + j) ≤ 127 := by
        rw [hg i j hi (by omega)]
        exact zbyte_r _
      refine ⟨hb, by omega, ?_⟩
      rw [Int.toNat_natCast, fdC_s, show (24 : Int) - 8 * (j : Int) + -8 = 24 - 8 * ((j + 1 : Nat) : Int) by omega]
      exact nx
  have t23 : ∀ (m i : Nat), i + m = 5 → n + 20 ≤ 400 → zz_J zpX4_add (zz_ret Q X 0 0) 23 [some (vr 101), none, some (vr a), some (vi ((5 : Nat) : Int)), some (vi ((i : Nat) : Int)), none, none] [] ((2, f), fdC S n (4 * i) g, L, P) (0, 0) := by
    intro m
    induction m with
    | zero =>
      intro i hi hle
      have e5 : i = 5 := by omega
      subst e5
      refine zwX4_add_23 ⟨by decide, by decide, fun _ => ?_, fun c => absurd (Int.le_refl _) c⟩
      rw [fdC_1]
      exact q1 hle
    | succ m ih =>
      intro i hi hle
      refine zwX4_add_23 ⟨by omega, by decide, fun c => absurd c (by omega), fun _ => ⟨5, hz, by decide, by omega, ?_⟩⟩
      rw [Int.toNat_natCast, fdC_o (by omega) (by omega)]
      exact t39 4 0 i rfl (by omega) hle (ih (i + 1) (by omega) hle)
  refine zwX4_add_0 ?_
  rw [hn]
  refine ⟨by omega, fun c => ⟨2, 5, hz, by decide, ?_⟩, fun c => q0 (by omega)⟩
  have := t23 5 0 rfl (by omega)
  rw [show 4 * 0 = 0 from rfl, fdC_0 hn] at this
  exact this
def zX1_feed : zz_Sp := fun as M Q X => match as with
  | [.inr (.inr (some h_)), .inl a, .inl b, .inl c, .inl d, .inl e] => bif Nat.beq h_ 100 && Nat.beq M.1.1 2 then (∃ (n_ t_ : Nat), M.2.1 101 1 = (n_ : Int) ∧ n_ ≤ 400 ∧ frF M.1.2 t_ ∧ (R32 a ∧ R32 b ∧ R32 c ∧ R32 d ∧ R32 e) ∧ (400 < n_ + 20 → ∀ (S_ L_ : Nat → Nat → Int) (P_ : Nat → Nat → Option Nat) (f_ : Nat → Nat × Nat), frF f_ (t_ + 1) → (∀ h, h < t_ → f_ h = M.1.2 h ∧ L_ h = M.2.2.1 h ∧ P_ h = M.2.2.2 h) → (∀ h, h < t_ → S_ h = M.2.1 h) → Q (some (vi (-1))) ((2, f_), S_, L_, P_)) ∧ (n_ + 20 ≤ 400 → ∀ (S_ L_ : Nat → Nat → Int) (P_ : Nat → Nat → Option Nat) (f_ : Nat → Nat × Nat), frF f_ (t_ + 1) → (∀ h, h < t_ → f_ h = M.1.2 h ∧ L_ h = M.2.2.1 h ∧ P_ h = M.2.2.2 h) → (∀ h, h < t_ → S_ h = fdC M.2.1 n_ 20 (fun k => cby (fdM a b c d e k)) h) → Q (some (vi ((n_ + 20 : Nat) : Int))) ((2, f_), S_, L_, P_))) else False
  | _ => False

def zpX1_feed : zz_P := [(0, zo_ald 1 0), (1, zo_get 4 0 2 2), (4, zo_c 5 (vi 5)), (5, zo_newa (mm_rm 3 1 5) 7 2 4), (7, zo_dup 8), (8, zo_c 9 (vi 0)), (9, zo_ild 10 1), (10, zo_iasp 11), (11, zo_dup 12), (12, zo_c 13 (vi 1)), (13, zo_ild 14 2), (14, zo_iasp 15), (15, zo_dup 16), (16, zo_c 17 (vi 2)), (17, zo_ild 18 3), (18, zo_iasp 19), (19, zo_dup 20), (20, zo_c 21 (vi 3)), (21, zo_ild 23 4), (23, zo_iasp 24), (24, zo_dup 25), (25, zo_c 26 (vi 4)), (26, zo_ild 28 5), (28, zo_iasp 29), (29, zo_callv 32 2 3 zX4_add), (32, zo_iret)]
theorem ztX1_feed {C : mm_C} (G : mm_G C RX1 cX1_feed (some .int) 6 (mm_rm 3 1 5)) (hnh : mm_nh C) : zz_OKs C zpX1_feed :=
  ⟨zz_of (ok_aload_n G dX1_feed_0 rfl rfl) (z_ald _ _),
   zz_of (ok_get G (nx := 4) (ci := 0) (kd := 2) (k := 2) (RX1, TX1, 19) rfl (by decide) rfl q404 dX1_feed_1 rfl) (z_get _ _ _ _),
   zz_of (ok_iconst G (v := 5) dX1_feed_4 (by decide) rfl) (z_cn 5 5),
   zz_of (ok_newa G (t := 2) (ty := .int) rfl rfl q169 rfl (by decide) (by decide) (fun h => h) (fun M h n j ad => by rw [mm_al_ea]; rfl) dX1_feed_5 rfl) (z_newa _ _ _ _),
   zz_of (ok_dup G dX1_feed_7 rfl) (z_dup _),
   zz_of (ok_iconst G (v := 0) dX1_feed_8 (by decide) rfl) (z_cn 9 0),
   zz_of (ok_iload_n G dX1_feed_9 rfl rfl) (z_ild _ _),
   zz_of (ok_iast G dX1_feed_10 rfl) (z_iasp _),
   zz_of (ok_dup G dX1_feed_11 rfl) (z_dup _),
   zz_of (ok_iconst G (v := 1) dX1_feed_12 (by decide) rfl) (z_cn 13 1),
   zz_of (ok_iload_n G dX1_feed_13 rfl rfl) (z_ild _ _),
   zz_of (ok_iast G dX1_feed_14 rfl) (z_iasp _),
   zz_of (ok_dup G dX1_feed_15 rfl) (z_dup _),
   zz_of (ok_iconst G (v := 2) dX1_feed_16 (by decide) rfl) (z_cn 17 2),
   zz_of (ok_iload_n G dX1_feed_17 rfl rfl) (z_ild _ _),
   zz_of (ok_iast G dX1_feed_18 rfl) (z_iasp _),
   zz_of (ok_dup G dX1_feed_19 rfl) (z_dup _),
   zz_of (ok_iconst G (v := 3) dX1_feed_20 (by decide) rfl) (z_cn 21 3),
   zz_of (ok_iload G dX1_feed_21 rfl) (z_ild _ _),
   zz_of (ok_iast G dX1_feed_23 rfl) (z_iasp _),
   zz_of (ok_dup G dX1_feed_24 rfl) (z_dup _),
   zz_of (ok_iconst G (v := 4) dX1_feed_25 (by decide) rfl) (z_cn 26 4),
   zz_of (ok_iload G dX1_feed_26 rfl) (z_ild _ _),
   zz_of (ok_iast G dX1_feed_28 rfl) (z_iasp _),
   zz_of (ok_callv G hnh (zmX4_add _ G.hst) rfl rfl (RX4, TX4, 7) rfl q473 q474 q475 q88 q476 (by decide +kernel) ⟨by decide, by decide⟩ dX1_feed_29 rfl) (z_callv _ _ _ _),
   zz_of (ok_iret G dX1_feed_32) (z_iret), trivial⟩

theorem zwX1_feed_0 {Q : Option zv → zz_M → Prop} {X : Nat → zz_M → Prop} {f : Nat → Nat × Nat} {S L : Nat → Nat → Int} {P : Nat → Nat → Option Nat} {a : Int} {b : Int} {c : Int} {d : Int} {e : Int} (h : ∃ h1_ : Nat, zfree ((2, f), S, L, P) h1_ ∧ (0 ≤ (5 : Int) ∧ (5 : Int) < 2147483648 ∧ (5 : Int).toNat * 4 ≤ 536870912) ∧ (0 + 1 ≤ 1 ∧ 0 + ((5 : Int).toNat) ≤ 5) ∧ (∃ n_ : Nat, zsh ((2, zrw f h1_ (2, (5 : Int).toNat)), zrw S h1_ (fun _ => 0), zrw L h1_ (fun _ => 0), zrw P h1_ (fun _ => none)) h1_ = (2, n_) ∧ (n_ : Int) ≤ 2147483647 ∧ (0 ≤ (0 : Int) ∧ 0 < (n_ : Int)) ∧ (∃ n_ : Nat, zsh ((2, zrw f h1_ (2, (5 : Int).toNat)), mm_up (zrw S h1_ (fun _ => 0)) h1_ ((0 : Int).toNat) a, zrw L h1_ (fun _ => 0), zrw P h1_ (fun _ => none)) h1_ = (2, n_) ∧ (n_ : Int) ≤ 2147483647 ∧ (0 ≤ (1 : Int) ∧ 1 < (n_ : Int)) ∧ (∃ n_ : Nat, zsh ((2, zrw f h1_ (2, (5 : Int).toNat)), mm_up (mm_up (zrw S h1_ (fun _ => 0)) h1_ ((0 : Int).toNat) a) h1_ ((1 : Int).toNat) b, zrw L h1_ (fun _ => 0), zrw P h1_ (fun _ => none)) h1_ = (2, n_) ∧ (n_ : Int) ≤ 2147483647 ∧ (0 ≤ (2 : Int) ∧ 2 < (n_ : Int)) ∧ (∃ n_ : Nat, zsh ((2, zrw f h1_ (2, (5 : Int).toNat)), mm_up (mm_up (mm_up (zrw S h1_ (fun _ => 0)) h1_ ((0 : Int).toNat) a) h1_ ((1 : Int).toNat) b) h1_ ((2 : Int).toNat) c, zrw L h1_ (fun _ => 0), zrw P h1_ (fun _ => none)) h1_ = (2, n_) ∧ (n_ : Int) ≤ 2147483647 ∧ (0 ≤ (3 : Int) ∧ 3 < (n_ : Int)) ∧ (∃ n_ : Nat, zsh ((2, zrw f h1_ (2, (5 : Int).toNat)), mm_up (mm_up (mm_up (mm_up (zrw S h1_ (fun _ => 0)) h1_ ((0 : Int).toNat) a) h1_ ((1 : Int).toNat) b) h1_ ((2 : Int).toNat) c) h1_ ((3 : Int).toNat) d, zrw L h1_ (fun _ => 0), zrw P h1_ (fun _ => none)) h1_ = (2, n_) ∧ (n_ : Int) ≤ 2147483647 ∧ (0 ≤ (4 : Int) ∧ 4 < (n_ : Int)) ∧ ((∃ (n_2 : Nat) (g_2 : Nat → Int), (mm_up (mm_up (mm_up (mm_up (mm_up (zrw S h1_ (fun _ => 0)) h1_ ((0 : Int).toNat) a) h1_ ((1 : Int).toNat) b) h1_ ((2 : Int).toNat) c) h1_ ((3 : Int).toNat) d) h1_ ((4 : Int).toNat) e) 101 1 = (n_2 : Int) ∧ n_2 ≤ 400 ∧ 2000 ≤ h1_ ∧ (zrw f h1_ (2, (5 : Int).toNat)) h1_ = (2, 5) ∧ (∀ i, i < 5 → R32 ((mm_up (mm_up (mm_up (mm_up (mm_up (zrw S h1_ (fun _ => 0)) h1_ ((0 : Int).toNat) a) h1_ ((1 : Int).toNat) b) h1_ ((2 : Int).toNat) c) h1_ ((3 : Int).toNat) d) h1_ ((4 : Int).toNat) e) h1_ i)) ∧ (∀ i j, i < 5 → j < 4 → g_2 (4 * i + j) = zbyte (zshr ((mm_up (mm_up (mm_up (mm_up (mm_up (zrw S h1_ (fun _ => 0)) h1_ ((0 : Int).toNat) a) h1_ ((1 : Int).toNat) b) h1_ ((2 : Int).toNat) c) h1_ ((3 : Int).toNat) d) h1_ ((4 : Int).toNat) e) h1_ i) (24 - 8 * (j : Int)))) ∧ (400 < n_2 + 20 → (Q (some (vi (-1))) ((2, zrw f h1_ (2, (5 : Int).toNat)), mm_up (mm_up (mm_up (mm_up (mm_up (zrw S h1_ (fun _ => 0)) h1_ ((0 : Int).toNat) a) h1_ ((1 : Int).toNat) b) h1_ ((2 : Int).toNat) c) h1_ ((3 : Int).toNat) d) h1_ ((4 : Int).toNat) e, zrw L h1_ (fun _ => 0), zrw P h1_ (fun _ => none)))) ∧ (n_2 + 20 ≤ 400 → (Q (some (vi ((n_2 + 20 : Nat) : Int))) ((2, zrw f h1_ (2, (5 : Int).toNat)), fdC (mm_up (mm_up (mm_up (mm_up (mm_up (zrw S h1_ (fun _ => 0)) h1_ ((0 : Int).toNat) a) h1_ ((1 : Int).toNat) b) h1_ ((2 : Int).toNat) c) h1_ ((3 : Int).toNat) d) h1_ ((4 : Int).toNat) e) n_2 20 g_2, zrw L h1_ (fun _ => 0), zrw P h1_ (fun _ => none)))))))))))) : zz_J zpX1_feed (zz_ret Q X 1 5) 0 [some (vr 100), some (vi a), some (vi b), some (vi c), some (vi d), some (vi e)] [] ((2, f), S, L, P) (0, 0) := zz_J.go [] 400 h

theorem zmX1_feed (l : Launch) (hl : l.stackTraces = false) : mm_Spec l yX1_feed (ws_ yX1_feed cX1_feed 6 (some .int)) (mm_rm 3 1 5) (zE zX1_feed) := by
  refine zz_Met.J hl (by decide) (fun C G hnh => ztX1_feed G hnh) ?_
  rintro as ⟨⟨t_, f⟩, S, L, P⟩ Q X h
  unfold zX1_feed at h
  split at h
  rotate_left
  · exact h.elim
  rename_i h_ a b c d e
  obtain ⟨e1_, e2_, h⟩ := mm_and2 h (fun q => q)
  cases mm_beq e1_
  cases mm_beq e2_
  try dsimp only at h
  refine ⟨rfl, ?_⟩
  obtain ⟨n, t, hn, n400, hf, ⟨ra, rb, rc, rd, re⟩, q0, q1⟩ := h
  have t2 := hf.1
  have hz : ∀ S' : Nat → Nat → Int, zsh ((2, zrw f t (2, (5 : Int).toNat)), S', zrw L t (fun _ => 0), zrw P t (fun _ => none)) t = (2, 5) := fun S' => (zsh_hi t2).trans (zrw_s _ _ _)
  obtain ⟨T, hT⟩ : ∃ T, mm_up (mm_up (mm_up (mm_up (mm_up (zrw S t (fun _ => 0)) t ((0 : Int).toNat) a) t ((1 : Int).toNat) b) t ((2 : Int).toNat) c) t ((3 : Int).toNat) d) t ((4 : Int).toNat) e = T := ⟨_, rfl⟩
  have To : ∀ h, h < t → T h = S h := fun h hh => by
    rw [← hT]
    funext k
    simp only [up_eq, show h ≠ t by omega, false_and, if_false]
    rw [zrw_n _ _ (by omega)]
  have Ti : ∀ i, i < 5 → T t i = fdV a b c d e (4 * i) := fun i hi => by
    rw [← hT]
    have : i = 0 ∨ i = 1 ∨ i = 2 ∨ i = 3 ∨ i = 4 := by omega
    rcases this with h | h | h | h | h <;> subst h <;> simp [up_eq, fdV]
  have hTR : ∀ i, i < 5 → R32 (T t i) := fun i hi => by
    rw [Ti i hi]
    unfold fdV
    repeat' split
    all_goals assumption
  have hg : ∀ i j, i < 5 → j < 4 → cby (fdM a b c d e (4 * i + j)) = zbyte (zshr (T t i) (24 - 8 * (j : Int))) := fun i j hi hj => by
    rw [Ti i hi, show (24 : Int) - 8 * (j : Int) = ((24 - 8 * j : Nat) : Int) by omega, byte_sh _ (by omega)]
    unfold fdM
    have e1 : fdV a b c d e (4 * i + j) = fdV a b c d e (4 * i) := by
      unfold fdV
      have : i = 0 ∨ i = 1 ∨ i = 2 ∨ i = 3 ∨ i = 4 := by omega
      rcases this with h | h | h | h | h <;> subst h <;> grind
    rw [e1, show (24 : Int) - 8 * (((4 * i + j : Nat) : Int) % 4) = ((24 - 8 * j : Nat) : Int) by omega]
  have hs : ∀ k, ∀ h, h < t → fdC T n k (fun k => cby (fdM a b c d e k)) h = fdC S n k (fun k => cby (fdM a b c d e k)) h := fun k h hh => by
    funext j
    unfold fdC
    rw [To h hh]
  have hfr : frF (zrw f t (2, (5 : Int).toNat)) (t + 1) := ⟨by omega, fun h hh => by rw [zrw_n _ _ (by omega)]; exact hf.2 h (by omega)⟩
  have hkp : ∀ h, h < t → zrw f t (2, (5 : Int).toNat) h = f h ∧ zrw L t (fun _ => 0) h = L h ∧ zrw P t (fun _ => none) h = P h := fun h hh => ⟨zrw_n _ _ (by omega), zrw_n _ _ (by omega), zrw_n _ _ (by omega)⟩
  refine zwX1_feed_0 ⟨t, hf.z (Nat.le_refl _), by decide, by decide, 5, hz _, by decide, by decide, 5, hz _, by decide, by decide, 5, hz _, by decide, by decide, 5, hz _, by decide, by decide, 5, hz _, by decide, by decide, n, fun k => cby (fdM a b c d e k), ?_⟩
  rw [hT]
  refine ⟨by rw [To 101 (by omega)]; exact hn, n400, t2, zrw_s _ _ _, hTR, hg, fun c => q0 c _ _ _ _ hfr hkp (fun h hh => To h hh), fun c => q1 c _ _ _ _ hfr hkp (fun h hh => hs 20 h hh)⟩
