/-! ===== the component's calls otherwise ===== -/
set_option maxRecDepth 100000
/-- a score's number by the component's count of games -/
def kC (c : Int) : Int := c / 64 * 256 + c / 8 % 8 * 16 + c % 8
theorem kC_d {c : Int} (h : 0 ≤ c) : kC c / 256 = c / 64 ∧ kC c / 16 % 16 = c / 8 % 8 ∧ kC c % 16 = c % 8 := by
  unfold kC
  omega
theorem kC_i {c d : Int} (hc : 0 ≤ c) (hd : 0 ≤ d) (e : kC c = kC d) : c = d := by
  have h1 := kC_d hc
  have h2 := kC_d hd
  rw [e] at h1
  have e1 : c / 64 = d / 64 := h1.1.symm.trans h2.1
  have e2 : c / 8 % 8 = d / 8 % 8 := h1.2.1.symm.trans h2.2.1
  have e3 : c % 8 = d % 8 := h1.2.2.symm.trans h2.2.2
  omega
theorem kC_wh {y : Nat → Int} (h7 : 0 ≤ y 7 ∧ y 7 ≤ 7) (h8 : 0 ≤ y 8 ∧ y 8 ≤ 7) : kC (whR y) = (nuR y * 16 + y 7) * 16 + y 8 := by
  unfold kC whR
  omega
theorem kC_r {c : Int} (h0 : 0 ≤ c) (h1 : c < 991232) : 0 ≤ kC c ∧ kC c < 3965000 := by
  unfold kC
  omega
theorem wcX_w (w v : Nat → Int) (c : Int) : wcX w c = wcX v c := by
  funext j
  unfold wcX uwR
  by_cases h7 : j = 7
  · rw [if_pos h7, if_pos h7]
  · rw [if_neg h7, if_neg h7]
    by_cases h8 : j = 8
    · rw [if_pos h8, if_pos h8]
    · rw [if_neg h8, if_neg h8]
      unfold unR
      simp only [if_neg h7, if_neg h8]
def zX8_key : zz_Sp := fun as M Q X => match as with
  | [.inr (.inr (some h_)), .inr (.inr (some s))] => bif Nat.beq h_ 134 && Nat.beq M.1.1 2 && Nat.beq s 108 then (scV (cx M.2.1 108) ∧ Q (some (vi ((nuR (cx M.2.1 108) * 16 + cx M.2.1 108 7) * 16 + cx M.2.1 108 8))) ((2, M.1.2), M.2.1, M.2.2.1, M.2.2.2)) else False
  | _ => False

def zpX8_key : zz_P := [(0, zo_ald 1 1), (1, zo_callv 4 1 2 zX3_code_108), (4, zo_c 6 (vi 16)), (6, zo_imul 7), (7, zo_ald 8 1), (8, zo_get 11 2 2 1), (11, zo_c 12 (vi 0)), (12, zo_ialc 13 0), (13, zo_iadd 14), (14, zo_c 16 (vi 16)), (16, zo_imul 17), (17, zo_ald 18 1), (18, zo_get 21 2 2 1), (21, zo_c 22 (vi 1)), (22, zo_ialc 23 1), (23, zo_iadd 24), (24, zo_iret)]
theorem ztX8_key {C : mm_C} (G : mm_G C RX8 cX8_key (some .int) 2 (mm_rm 2 0 0)) (hnh : mm_nh C) : zz_OKs C zpX8_key :=
  ⟨zz_of (ok_aload_n G dX8_key_0 rfl rfl) (z_ald _ _),
   zz_of (ok_callv G hnh (zmX3_code_108 _ G.hst) rfl rfl (RX3, TX3, 7) rfl q1757 q1598 q1599 q87 q1600 (by decide +kernel) ⟨by decide, by decide⟩ dX8_key_1 rfl) (z_callv _ _ _ _),
   zz_of (ok_bipush G (v := 16) dX8_key_4 (by decide) rfl) (z_cn 6 16),
   zz_of (ok_imul G dX8_key_6 rfl) (z_imul _),
   zz_of (ok_aload_n G dX8_key_7 rfl rfl) (z_ald _ _),
   zz_of (ok_getN G (nx := 11) (ci := 2) (kd := 2) (k := 1) (RX3, TX3, 7) rfl (by decide) rfl q181 dX8_key_8 rfl) (z_get _ _ _ _),
   zz_of (ok_iconst G (v := 0) dX8_key_11 (by decide) rfl) (z_cn 12 0),
   zz_of (ok_iald G dX8_key_12 rfl) (z_ialc _ _),
   zz_of (ok_iadd G dX8_key_13 rfl) (z_iadd _),
   zz_of (ok_bipush G (v := 16) dX8_key_14 (by decide) rfl) (z_cn 16 16),
   zz_of (ok_imul G dX8_key_16 rfl) (z_imul _),
   zz_of (ok_aload_n G dX8_key_17 rfl rfl) (z_ald _ _),
   zz_of (ok_getN G (nx := 21) (ci := 2) (kd := 2) (k := 1) (RX3, TX3, 7) rfl (by decide) rfl q181 dX8_key_18 rfl) (z_get _ _ _ _),
   zz_of (ok_iconst G (v := 1) dX8_key_21 (by decide) rfl) (z_cn 22 1),
   zz_of (ok_iald G dX8_key_22 rfl) (z_ialc _ _),
   zz_of (ok_iadd G dX8_key_23 rfl) (z_iadd _),
   zz_of (ok_iret G dX8_key_24) (z_iret), trivial⟩

theorem zwX8_key_0 {Q : Option zv → zz_M → Prop} {X : Nat → zz_M → Prop} {f : Nat → Nat × Nat} {S L : Nat → Nat → Int} {P : Nat → Nat → Option Nat}  (h : (scV (cx S 108) ∧ (Q (some (vi (((((nuR (cx S 108)) * 16) + (S 110 0)) * 16) + (S 110 1)))) ((2, f), S, L, P)))) : zz_J zpX8_key (zz_ret Q X 0 0) 0 [some (vr 134), some (vr 108)] [] ((2, f), S, L, P) (0, 0) := zz_J.go [] 400 h

theorem zmX8_key (l : Launch) (hl : l.stackTraces = false) : mm_Spec l yX8_key (ws_ yX8_key cX8_key 2 (some .int)) (mm_rm 2 0 0) (zE zX8_key) := by
  refine zz_Met.J hl (by decide) (fun C G hnh => ztX8_key G hnh) ?_
  rintro as ⟨⟨t_, f⟩, S, L, P⟩ Q X h
  unfold zX8_key at h
  split at h
  rotate_left
  · exact h.elim
  rename_i h_ s
  obtain ⟨e12_, e3_, h⟩ := mm_and2 h (fun q => q)
  rw [Bool.and_eq_true] at e12_
  cases mm_beq e12_.1
  cases mm_beq e12_.2
  cases mm_beq e3_
  try dsimp only at h
  refine ⟨rfl, ?_⟩
  obtain ⟨hv, hq⟩ := h
  exact zwX8_key_0 ⟨hv, hq⟩
def zX8_open : zz_Sp := fun as M Q X => match as with
  | [.inr (.inr (some h_)), .inl k, .inr (.inr (some s))] => bif Nat.beq h_ 134 && Nat.beq M.1.1 2 && Nat.beq s 108 then (∃ c_ : Int, k = kC c_ ∧ cV c_ ∧ Q none ((2, M.1.2), cxW M.2.1 108 (wcX (fun _ => 0) c_), M.2.2.1, M.2.2.2)) else False
  | _ => False

def zpX8_open : zz_P := [(0, zo_ald 1 2), (1, zo_ild 2 1), (2, zo_c 5 (vi 256)), (5, zo_idiv 6), (6, zo_callv 9 2 2 zX3_is_108), (9, zo_pop 10), (10, zo_ald 11 2), (11, zo_get 14 2 2 1), (14, zo_c 15 (vi 0)), (15, zo_ild 16 1), (16, zo_c 18 (vi 16)), (18, zo_idiv 19), (19, zo_c 21 (vi 16)), (21, zo_irem 22), (22, zo_iasc 23 0), (23, zo_ald 24 2), (24, zo_get 27 2 2 1), (27, zo_c 28 (vi 1)), (28, zo_ild 29 1), (29, zo_c 31 (vi 16)), (31, zo_irem 32), (32, zo_iasc 33 1), (33, zo_vret)]
theorem ztX8_open {C : mm_C} (G : mm_G C RX8 cX8_open none 3 (mm_rm 4 0 0)) (hnh : mm_nh C) : zz_OKs C zpX8_open :=
  ⟨zz_of (ok_aload_n G dX8_open_0 rfl rfl) (z_ald _ _),
   zz_of (ok_iload_n G dX8_open_1 rfl rfl) (z_ild _ _),
   zz_of (ok_sipush G (v := 256) dX8_open_2 (by decide) rfl) (z_cn 5 256),
   zz_of (ok_idiv G dX8_open_5 rfl) (z_idiv _),
   zz_of (ok_callv G hnh (zmX3_is_108 _ G.hst) rfl rfl (RX3, TX3, 7) rfl q1766 q1587 q1588 q87 q1589 (by decide +kernel) ⟨by decide, by decide⟩ dX8_open_6 rfl) (z_callv _ _ _ _),
   zz_of (ok_pop G dX8_open_9 rfl) (z_pop _),
   zz_of (ok_aload_n G dX8_open_10 rfl rfl) (z_ald _ _),
   zz_of (ok_getN G (nx := 14) (ci := 2) (kd := 2) (k := 1) (RX3, TX3, 7) rfl (by decide) rfl q181 dX8_open_11 rfl) (z_get _ _ _ _),
   zz_of (ok_iconst G (v := 0) dX8_open_14 (by decide) rfl) (z_cn 15 0),
   zz_of (ok_iload_n G dX8_open_15 rfl rfl) (z_ild _ _),
   zz_of (ok_bipush G (v := 16) dX8_open_16 (by decide) rfl) (z_cn 18 16),
   zz_of (ok_idiv G dX8_open_18 rfl) (z_idiv _),
   zz_of (ok_bipush G (v := 16) dX8_open_19 (by decide) rfl) (z_cn 21 16),
   zz_of (ok_irem G dX8_open_21 rfl) (z_irem _),
   zz_of (ok_iast G dX8_open_22 rfl) (z_iasc _ _),
   zz_of (ok_aload_n G dX8_open_23 rfl rfl) (z_ald _ _),
   zz_of (ok_getN G (nx := 27) (ci := 2) (kd := 2) (k := 1) (RX3, TX3, 7) rfl (by decide) rfl q181 dX8_open_24 rfl) (z_get _ _ _ _),
   zz_of (ok_iconst G (v := 1) dX8_open_27 (by decide) rfl) (z_cn 28 1),
   zz_of (ok_iload_n G dX8_open_28 rfl rfl) (z_ild _ _),
   zz_of (ok_bipush G (v := 16) dX8_open_29 (by decide) rfl) (z_cn 31 16),
   zz_of (ok_irem G dX8_open_31 rfl) (z_irem _),
   zz_of (ok_iast G dX8_open_32 rfl) (z_iasc _ _),
   zz_of (ok_vret G dX8_open_33) (z_vret), trivial⟩

theorem zwX8_open_0 {Q : Option zv → zz_M → Prop} {X : Nat → zz_M → Prop} {f : Nat → Nat × Nat} {S L : Nat → Nat → Int} {P : Nat → Nat → Option Nat} {k : Int} (h : (0 ≤ k ∧ k < 2147483648) ∧ (((0 ≤ (k / 256) ∧ (k / 256) < 15488) ∧ (cbR (k / 256) = true → ((0 ≤ k ∧ k < 2147483648) ∧ ((0 ≤ (k / 16) ∧ (k / 16) < 2147483648) ∧ ((0 ≤ k ∧ k < 2147483648) ∧ (Q none ((2, f), mm_up (mm_up (cxW S 108 (isX (cx S 108) (k / 256))) 110 0 ((k / 16) % 16)) 110 1 (k % 16), L, P)))))) ∧ (cbR (k / 256) = false → ((0 ≤ k ∧ k < 2147483648) ∧ ((0 ≤ (k / 16) ∧ (k / 16) < 2147483648) ∧ ((0 ≤ k ∧ k < 2147483648) ∧ (Q none ((2, f), mm_up (mm_up (cxW S 108 (isX (cx S 108) (k / 256))) 110 0 ((k / 16) % 16)) 110 1 (k % 16), L, P))))))))) : zz_J zpX8_open (zz_ret Q X 0 0) 0 [some (vr 134), some (vi k), some (vr 108)] [] ((2, f), S, L, P) (0, 0) := zz_J.go [] 400 h

theorem zmX8_open (l : Launch) (hl : l.stackTraces = false) : mm_Spec l yX8_open (ws_ yX8_open cX8_open 3 none) (mm_rm 4 0 0) (zE zX8_open) := by
  refine zz_Met.J hl (by decide) (fun C G hnh => ztX8_open G hnh) ?_
  rintro as ⟨⟨t_, f⟩, S, L, P⟩ Q X h
  unfold zX8_open at h
  split at h
  rotate_left
  · exact h.elim
  rename_i h_ k s
  obtain ⟨e12_, e3_, h⟩ := mm_and2 h (fun q => q)
  rw [Bool.and_eq_true] at e12_
  cases mm_beq e12_.1
  cases mm_beq e12_.2
  cases mm_beq e3_
  try dsimp only at h
  refine ⟨rfl, ?_⟩
  obtain ⟨c, rfl, ⟨⟨c0, c1⟩, cb, c7, c8⟩, hq⟩ := h
  obtain ⟨k1, k2, k3⟩ := kC_d c0
  have kr := kC_r c0 c1
  have e : mm_up (mm_up (cxW S 108 (isX (cx S 108) (kC c / 256))) 110 0 (kC c / 16 % 16)) 110 1 (kC c % 16) = cxW S 108 (wcX (fun _ => 0) c) := by
    rw [k1, k2, k3]
    refine (congrArg (fun T => mm_up T 110 1 (c % 8)) (cxW_7 S 108 _ _)).trans ((cxW_8 S 108 _ _).trans (congrArg (cxW S 108) (funext fun j => ?_)))
    unfold ru wcX uwR isX
    by_cases h8 : j = 8
    · rw [if_pos h8, if_neg (by omega), if_pos h8]
    · rw [if_neg h8]
      by_cases h7 : j = 7
      · rw [if_pos h7, if_pos h7]
      · rw [if_neg h7, if_neg h7, if_neg h8, if_neg h7, if_neg h8]
  refine zwX8_open_0 ⟨by omega, by omega, fun _ => ⟨by omega, by omega, by omega, ?_⟩, fun z => ?_⟩
  · rw [e]
    exact hq
  · rw [k1, cb] at z
    cases z
def zX8_comes : zz_Sp := fun as M Q X => match as with
  | [.inr (.inr (some h_)), .inl key, .inl its, .inr (.inl how)] => bif Nat.beq h_ 134 && Nat.beq M.1.1 2 then (∃ N_ : Nat, M.2.1 134 7 = (N_ : Int) ∧ N_ ≤ 4000 ∧ R32 key ∧ (0 ≤ its ∧ its ≤ 1000) ∧ (∀ s_, s_ < N_ → R32 (M.2.1 137 s_) ∧ R32 (M.2.1 138 s_)) ∧ (∀ k_, k_ < N_ → M.2.1 137 k_ = key → (M.2.1 138 k_ < its → Q none ((2, M.1.2), M.2.1, M.2.2.1, M.2.2.2)) ∧ (its < M.2.1 138 k_ → Q none ((2, M.1.2), mm_up M.2.1 138 k_ its, mm_up M.2.2.1 140 k_ how, M.2.2.2)) ∧ (its = M.2.1 138 k_ → Q none ((2, M.1.2), mm_up M.2.1 138 k_ its, mm_up M.2.2.1 140 k_ (M.2.2.1 140 k_ + how), M.2.2.2))) ∧ ((∀ s_, s_ < N_ → M.2.1 137 s_ ≠ key) → N_ < 4000 ∧ Q none ((2, M.1.2), mm_up (mm_up (mm_up M.2.1 134 7 ((N_ : Int) + 1)) 137 N_ key) 138 N_ its, mm_up M.2.2.1 140 N_ how, M.2.2.2))) else False
  | _ => False

def zpX8_comes : zz_P := [(0, zo_c 1 (vi 0)), (1, zo_ist 3 5), (3, zo_ild 5 5), (5, zo_ald 6 0), (6, zo_get 9 7 0 7), (9, zo_cge false false 12 29), (12, zo_ald 13 0), (13, zo_get 16 7 2 2), (16, zo_ild 18 5), (18, zo_iald 19), (19, zo_ild 20 1), (20, zo_ceq false false 23 29), (23, zo_inc 26 5 1), (26, zo_goto 3), (29, zo_ild 31 5), (31, zo_ald 32 0), (32, zo_get 35 7 0 7), (35, zo_cne false false 38 72), (38, zo_ald 39 0), (39, zo_dup 40), (40, zo_get 43 7 0 7), (43, zo_c 44 (vi 1)), (44, zo_iadd 45), (45, zo_puti 48 7 7), (48, zo_ald 49 0), (49, zo_get 52 7 2 2), (52, zo_ild 54 5), (54, zo_ild 55 1), (55, zo_iasd 56), (56, zo_ald 57 0), (57, zo_get 60 7 2 3), (60, zo_ild 62 5), (62, zo_ild 63 2), (63, zo_iasd 64), (64, zo_ald 65 0), (65, zo_get 68 7 2 5), (68, zo_ild 70 5), (70, zo_c 71 (vl 0)), (71, zo_lasd 72), (72, zo_ild 73 2), (73, zo_ald 74 0), (74, zo_get 77 7 2 3), (77, zo_ild 79 5), (79, zo_iald 80), (80, zo_cle false false 83 84), (83, zo_vret), (84, zo_ald 85 0), (85, zo_get 88 7 2 5), (88, zo_ild 90 5), (90, zo_ild 91 2), (91, zo_ald 92 0), (92, zo_get 95 7 2 3), (95, zo_ild 97 5), (97, zo_iald 98), (98, zo_cge false false 101 105), (101, zo_lld 102 3), (102, zo_goto 114), (105, zo_ald 106 0), (106, zo_get 109 7 2 5), (109, zo_ild 111 5), (111, zo_lald 112), (112, zo_lld 113 3), (113, zo_ladd 114), (114, zo_lasd 115), (115, zo_ald 116 0), (116, zo_get 119 7 2 3), (119, zo_ild 121 5), (121, zo_ild 122 2), (122, zo_iasd 123), (123, zo_vret)]
theorem ztX8_comes {C : mm_C} (G : mm_G C RX8 cX8_comes none 6 (mm_rm 1 0 0)) (hnh : mm_nh C) : zz_OKs C zpX8_comes :=
  ⟨zz_of (ok_iconst G (v := 0) dX8_comes_0 (by decide) rfl) (z_cn 1 0),
   zz_of (ok_istore G dX8_comes_1 rfl (by decide)) (z_ist _ _),
   zz_of (ok_iload G dX8_comes_3 rfl) (z_ild _ _),
   zz_of (ok_aload_n G dX8_comes_5 rfl rfl) (z_ald _ _),
   zz_of (ok_get G (nx := 9) (ci := 7) (kd := 0) (k := 7) (RX8, TX8, 9) rfl (by decide) rfl q377 dX8_comes_6 rfl) (z_get _ _ _ _),
   zz_of (ok_cge G dX8_comes_9 rfl rfl) (z_cge _ _ _ _),
   zz_of (ok_aload_n G dX8_comes_12 rfl rfl) (z_ald _ _),
   zz_of (ok_get G (nx := 16) (ci := 7) (kd := 2) (k := 2) (RX8, TX8, 9) rfl (by decide) rfl q372 dX8_comes_13 rfl) (z_get _ _ _ _),
   zz_of (ok_iload G dX8_comes_16 rfl) (z_ild _ _),
   zz_of (ok_iald G dX8_comes_18 rfl) (z_iald _),
   zz_of (ok_iload_n G dX8_comes_19 rfl rfl) (z_ild _ _),
   zz_of (ok_ceq G dX8_comes_20 rfl rfl) (z_ceq _ _ _ _),
   zz_of (ok_iinc G (v := 1) dX8_comes_23 (by decide) rfl (by decide)) (z_incn 26 5 1),
   zz_of (ok_goto G dX8_comes_26 rfl) (z_goto _),
   zz_of (ok_iload G dX8_comes_29 rfl) (z_ild _ _),
   zz_of (ok_aload_n G dX8_comes_31 rfl rfl) (z_ald _ _),
   zz_of (ok_get G (nx := 35) (ci := 7) (kd := 0) (k := 7) (RX8, TX8, 9) rfl (by decide) rfl q377 dX8_comes_32 rfl) (z_get _ _ _ _),
   zz_of (ok_cne G dX8_comes_35 rfl rfl) (z_cne _ _ _ _),
   zz_of (ok_aload_n G dX8_comes_38 rfl rfl) (z_ald _ _),
   zz_of (ok_dup G dX8_comes_39 rfl) (z_dup _),
   zz_of (ok_get G (nx := 43) (ci := 7) (kd := 0) (k := 7) (RX8, TX8, 9) rfl (by decide) rfl q377 dX8_comes_40 rfl) (z_get _ _ _ _),
   zz_of (ok_iconst G (v := 1) dX8_comes_43 (by decide) rfl) (z_cn 44 1),
   zz_of (ok_iadd G dX8_comes_44 rfl) (z_iadd _),
   zz_of (ok_puti G (nx := 48) (idx := 48) (ci := 7) (k := 7) (RX8, TX8, 9) rfl (by decide) rfl (mm_pw G (ci := 7) (k := 7) (RX8, TX8, 9) rfl (by decide) rfl q377 dX8_comes_45) rfl) (z_puti _ _ _),
   zz_of (ok_aload_n G dX8_comes_48 rfl rfl) (z_ald _ _),
   zz_of (ok_get G (nx := 52) (ci := 7) (kd := 2) (k := 2) (RX8, TX8, 9) rfl (by decide) rfl q372 dX8_comes_49 rfl) (z_get _ _ _ _),
   zz_of (ok_iload G dX8_comes_52 rfl) (z_ild _ _),
   zz_of (ok_iload_n G dX8_comes_54 rfl rfl) (z_ild _ _),
   zz_of (ok_iast G dX8_comes_55 rfl) (z_iasd _),
   zz_of (ok_aload_n G dX8_comes_56 rfl rfl) (z_ald _ _),
   zz_of (ok_get G (nx := 60) (ci := 7) (kd := 2) (k := 3) (RX8, TX8, 9) rfl (by decide) rfl q373 dX8_comes_57 rfl) (z_get _ _ _ _),
   zz_of (ok_iload G dX8_comes_60 rfl) (z_ild _ _),
   zz_of (ok_iload_n G dX8_comes_62 rfl rfl) (z_ild _ _),
   zz_of (ok_iast G dX8_comes_63 rfl) (z_iasd _),
   zz_of (ok_aload_n G dX8_comes_64 rfl rfl) (z_ald _ _),
   zz_of (ok_get G (nx := 68) (ci := 7) (kd := 2) (k := 5) (RX8, TX8, 9) rfl (by decide) rfl q375 dX8_comes_65 rfl) (z_get _ _ _ _),
   zz_of (ok_iload G dX8_comes_68 rfl) (z_ild _ _),
   zz_of (ok_lconst G (v := 0) dX8_comes_70 (by decide) rfl) (z_cl 71 0),
   zz_of (ok_last G dX8_comes_71 rfl) (z_lasd _),
   zz_of (ok_iload_n G dX8_comes_72 rfl rfl) (z_ild _ _),
   zz_of (ok_aload_n G dX8_comes_73 rfl rfl) (z_ald _ _),
   zz_of (ok_get G (nx := 77) (ci := 7) (kd := 2) (k := 3) (RX8, TX8, 9) rfl (by decide) rfl q373 dX8_comes_74 rfl) (z_get _ _ _ _),
   zz_of (ok_iload G dX8_comes_77 rfl) (z_ild _ _),
   zz_of (ok_iald G dX8_comes_79 rfl) (z_iald _),
   zz_of (ok_cle G dX8_comes_80 rfl rfl) (z_cle _ _ _ _),
   zz_of (ok_vret G dX8_comes_83) (z_vret),
   zz_of (ok_aload_n G dX8_comes_84 rfl rfl) (z_ald _ _),
   zz_of (ok_get G (nx := 88) (ci := 7) (kd := 2) (k := 5) (RX8, TX8, 9) rfl (by decide) rfl q375 dX8_comes_85 rfl) (z_get _ _ _ _),
   zz_of (ok_iload G dX8_comes_88 rfl) (z_ild _ _),
   zz_of (ok_iload_n G dX8_comes_90 rfl rfl) (z_ild _ _),
   zz_of (ok_aload_n G dX8_comes_91 rfl rfl) (z_ald _ _),
   zz_of (ok_get G (nx := 95) (ci := 7) (kd := 2) (k := 3) (RX8, TX8, 9) rfl (by decide) rfl q373 dX8_comes_92 rfl) (z_get _ _ _ _),
   zz_of (ok_iload G dX8_comes_95 rfl) (z_ild _ _),
   zz_of (ok_iald G dX8_comes_97 rfl) (z_iald _),
   zz_of (ok_cge G dX8_comes_98 rfl rfl) (z_cge _ _ _ _),
   zz_of (ok_lload_n G dX8_comes_101 rfl rfl) (z_lld _ _),
   zz_of (ok_goto G dX8_comes_102 rfl) (z_goto _),
   zz_of (ok_aload_n G dX8_comes_105 rfl rfl) (z_ald _ _),
   zz_of (ok_get G (nx := 109) (ci := 7) (kd := 2) (k := 5) (RX8, TX8, 9) rfl (by decide) rfl q375 dX8_comes_106 rfl) (z_get _ _ _ _),
   zz_of (ok_iload G dX8_comes_109 rfl) (z_ild _ _),
   zz_of (ok_lald G dX8_comes_111 rfl) (z_lald _),
   zz_of (ok_lload_n G dX8_comes_112 rfl rfl) (z_lld _ _),
   zz_of (ok_ladd G dX8_comes_113 rfl) (z_ladd _),
   zz_of (ok_last G dX8_comes_114 rfl) (z_lasd _),
   zz_of (ok_aload_n G dX8_comes_115 rfl rfl) (z_ald _ _),
   zz_of (ok_get G (nx := 119) (ci := 7) (kd := 2) (k := 3) (RX8, TX8, 9) rfl (by decide) rfl q373 dX8_comes_116 rfl) (z_get _ _ _ _),
   zz_of (ok_iload G dX8_comes_119 rfl) (z_ild _ _),
   zz_of (ok_iload_n G dX8_comes_121 rfl rfl) (z_ild _ _),
   zz_of (ok_iast G dX8_comes_122 rfl) (z_iasd _),
   zz_of (ok_vret G dX8_comes_123) (z_vret), trivial⟩

theorem zwX8_comes_0 {Q : Option zv → zz_M → Prop} {X : Nat → zz_M → Prop} {f : Nat → Nat × Nat} {S L : Nat → Nat → Int} {P : Nat → Nat → Option Nat} {key : Int} {its : Int} {how : Int} (h : zz_J zpX8_comes (zz_ret Q X 0 0) 3 [some (vr 134), some (vi key), some (vi its), some (vl how), none, some (vi 0)] [] ((2, f), S, L, P) (0, 0)) : zz_J zpX8_comes (zz_ret Q X 0 0) 0 [some (vr 134), some (vi key), some (vi its), some (vl how), none, none] [] ((2, f), S, L, P) (0, 0) := zz_J.go [(3, [4]), (29, [4]), (72, [1, 4])] 400 h
theorem zwX8_comes_3 {Q : Option zv → zz_M → Prop} {X : Nat → zz_M → Prop} {f : Nat → Nat × Nat} {S L : Nat → Nat → Int} {P : Nat → Nat → Option Nat} {x1 : Int} {x2 : Int} {x3 : Int} {x5 : Int} (h : R32 x5 ∧ (R32 (S 134 7) ∧ (((S 134 7) ≤ x5 → zz_J zpX8_comes (zz_ret Q X 0 0) 29 [some (vr 134), some (vi x1), some (vi x2), some (vl x3), none, some (vi x5)] [] ((2, f), S, L, P) (0, 0)) ∧ (¬ (S 134 7) ≤ x5 → (0 ≤ x5 ∧ x5 < 4096) ∧ (R32 (S 137 x5.toNat) ∧ (R32 x1 ∧ (((S 137 x5.toNat) = x1 → zz_J zpX8_comes (zz_ret Q X 0 0) 29 [some (vr 134), some (vi x1), some (vi x2), some (vl x3), none, some (vi x5)] [] ((2, f), S, L, P) (0, 0)) ∧ (¬ (S 137 x5.toNat) = x1 → zz_J zpX8_comes (zz_ret Q X 0 0) 3 [some (vr 134), some (vi x1), some (vi x2), some (vl x3), none, some (vi (x5 + 1))] [] ((2, f), S, L, P) (0, 0))))))))) : zz_J zpX8_comes (zz_ret Q X 0 0) 3 [some (vr 134), some (vi x1), some (vi x2), some (vl x3), none, some (vi x5)] [] ((2, f), S, L, P) (0, 0) := zz_J.go [(3, [4]), (29, [4]), (72, [1, 4])] 400 h
theorem zwX8_comes_29 {Q : Option zv → zz_M → Prop} {X : Nat → zz_M → Prop} {f : Nat → Nat × Nat} {S L : Nat → Nat → Int} {P : Nat → Nat → Option Nat} {x1 : Int} {x2 : Int} {x3 : Int} {x5 : Int} (h : R32 x5 ∧ (R32 (S 134 7) ∧ ((¬ x5 = (S 134 7) → zz_J zpX8_comes (zz_ret Q X 0 0) 72 [some (vr 134), none, some (vi x2), some (vl x3), none, some (vi x5)] [] ((2, f), S, L, P) (0, 0)) ∧ (x5 = (S 134 7) → (0 ≤ x5 ∧ x5 < 4096) ∧ ((0 ≤ x5 ∧ x5 < 4096) ∧ ((0 ≤ x5 ∧ x5 < 4096) ∧ (zz_J zpX8_comes (zz_ret Q X 0 0) 72 [some (vr 134), none, some (vi x2), some (vl x3), none, some (vi x5)] [] ((2, f), mm_up (mm_up (mm_up S 134 7 ((S 134 7) + 1)) 137 x5.toNat x1) 138 x5.toNat x2, mm_up L 140 x5.toNat 0, P) (0, 0)))))))) : zz_J zpX8_comes (zz_ret Q X 0 0) 29 [some (vr 134), some (vi x1), some (vi x2), some (vl x3), none, some (vi x5)] [] ((2, f), S, L, P) (0, 0) := zz_J.go [(3, [4]), (29, [4]), (72, [1, 4])] 400 h
theorem zwX8_comes_72 {Q : Option zv → zz_M → Prop} {X : Nat → zz_M → Prop} {f : Nat → Nat × Nat} {S L : Nat → Nat → Int} {P : Nat → Nat → Option Nat} {x2 : Int} {x3 : Int} {x5 : Int} (h : (0 ≤ x5 ∧ x5 < 4096) ∧ (R32 x2 ∧ (R32 (S 138 x5.toNat) ∧ ((x2 ≤ (S 138 x5.toNat) → (0 ≤ x5 ∧ x5 < 4096) ∧ (R32 x2 ∧ (R32 (S 138 x5.toNat) ∧ (((S 138 x5.toNat) ≤ x2 → (0 ≤ x5 ∧ x5 < 4096) ∧ ((0 ≤ x5 ∧ x5 < 4096) ∧ ((0 ≤ x5 ∧ x5 < 4096) ∧ (Q none ((2, f), mm_up S 138 x5.toNat x2, mm_up L 140 x5.toNat ((L 140 x5.toNat) + x3), P))))) ∧ (¬ (S 138 x5.toNat) ≤ x2 → (0 ≤ x5 ∧ x5 < 4096) ∧ ((0 ≤ x5 ∧ x5 < 4096) ∧ (Q none ((2, f), mm_up S 138 x5.toNat x2, mm_up L 140 x5.toNat x3, P)))))))) ∧ (¬ x2 ≤ (S 138 x5.toNat) → Q none ((2, f), S, L, P)))))) : zz_J zpX8_comes (zz_ret Q X 0 0) 72 [some (vr 134), none, some (vi x2), some (vl x3), none, some (vi x5)] [] ((2, f), S, L, P) (0, 0) := zz_J.go [(3, [4]), (29, [4]), (72, [1, 4])] 400 h

theorem zmX8_comes (l : Launch) (hl : l.stackTraces = false) : mm_Spec l yX8_comes (ws_ yX8_comes cX8_comes 6 none) (mm_rm 1 0 0) (zE zX8_comes) := by
  refine zz_Met.J hl (by decide) (fun C G hnh => ztX8_comes G hnh) ?_
  rintro as ⟨⟨t_, f⟩, S, L, P⟩ Q X h
  unfold zX8_comes at h
  split at h
  rotate_left
  · exact h.elim
  rename_i h_ key its how
  obtain ⟨e1_, e2_, h⟩ := mm_and2 h (fun q => q)
  cases mm_beq e1_
  cases mm_beq e2_
  try dsimp only at h
  refine ⟨rfl, ?_⟩
  obtain ⟨N, hN, hN4, hR, hi, hs, qf, qn⟩ := h
  have t3 : ∀ (r k : Nat), k + r = N → (∀ s, s < k → S 137 s ≠ key) → zz_J zpX8_comes (zz_ret Q X 0 0) 3 [some (vr 134), some (vi key), some (vi its), some (vl how), none, some (vi (k : Int))] [] ((2, f), S, L, P) (0, 0) := by
    intro r
    induction r with
    | zero =>
      intro k hk hn
      have ek : k = N := by omega
      subst ek
      obtain ⟨hlt, hq⟩ := qn hn
      refine zwX8_comes_3 ⟨by omega, by rw [hN]; omega, fun _ => ?_, fun c => absurd (by rw [hN]; exact Int.le_refl _) c⟩
      refine zwX8_comes_29 ⟨by omega, by rw [hN]; omega, fun c => absurd hN.symm c, fun _ => ⟨by omega, by omega, by omega, ?_⟩⟩
      rw [hN, Int.toNat_natCast]
      have e8 : mm_up (mm_up (mm_up S 134 7 ((k : Int) + 1)) 137 k key) 138 k its 138 k = its := by rw [up_eq, if_pos ⟨rfl, rfl⟩]
      refine zwX8_comes_72 ⟨by omega, by omega, by rw [Int.toNat_natCast, e8]; omega, fun _ => ⟨by omega, by omega, by rw [Int.toNat_natCast, e8]; omega, fun _ => ⟨by omega, by omega, by omega, ?_⟩, fun c => absurd (by rw [Int.toNat_natCast, e8]; exact Int.le_refl _) c⟩, fun c => absurd (by rw [Int.toNat_natCast, e8]; exact Int.le_refl _) c⟩
      have eS : mm_up (mm_up (mm_up (mm_up S 134 7 ((k : Int) + 1)) 137 k key) 138 k its) 138 k its = mm_up (mm_up (mm_up S 134 7 ((k : Int) + 1)) 137 k key) 138 k its := up_same e8
      have eL : mm_up (mm_up L 140 k 0) 140 k (mm_up L 140 k 0 140 k + how) = mm_up L 140 k how := by
        funext h j
        have v : mm_up L 140 k 0 140 k = 0 := by rw [up_eq, if_pos ⟨rfl, rfl⟩]
        rw [v, up_eq, up_eq, up_eq]
        by_cases c : h = 140 ∧ j = k
        · rw [if_pos c, if_pos c, Int.zero_add]
        · rw [if_neg c, if_neg c, if_neg c]
      rw [Int.toNat_natCast, eS, eL]
      exact hq
    | succ r ih =>
      intro k hk hn
      have hsk := hs k (by omega)
      refine zwX8_comes_3 ⟨by omega, by rw [hN]; omega, fun c => absurd c (by rw [hN]; omega), fun _ => ⟨by omega, by rw [Int.toNat_natCast]; exact hsk.1, hR, fun e => ?_, fun ne => ?_⟩⟩
      · rw [Int.toNat_natCast] at e
        obtain ⟨q1, q2, q3⟩ := qf k (by omega) e
        refine zwX8_comes_29 ⟨by omega, by rw [hN]; omega, fun _ => ?_, fun c => absurd c (by rw [hN]; omega)⟩
        refine zwX8_comes_72 ⟨by omega, by omega, by rw [Int.toNat_natCast]; exact hsk.2, fun c1 => ⟨by omega, by omega, by rw [Int.toNat_natCast]; exact hsk.2, fun c2 => ⟨by omega, by omega, by omega, ?_⟩, fun c2 => ⟨by omega, by omega, ?_⟩⟩, fun c1 => ?_⟩
        · rw [Int.toNat_natCast] at c1 c2 ⊢
          exact q3 (by omega)
        · rw [Int.toNat_natCast] at c1 c2 ⊢
          exact q2 (by omega)
        · rw [Int.toNat_natCast] at c1
          exact q1 (by omega)
      · rw [Int.toNat_natCast] at ne
        have := ih (k + 1) (by omega) (fun s hs' => by
          by_cases e : s = k
          · rw [e]; exact ne
          · exact hn s (by omega))
        rw [show ((k + 1 : Nat) : Int) = (k : Int) + 1 by omega] at this
        exact this
  exact zwX8_comes_0 (t3 N 0 (by omega) (fun s h => absurd h (Nat.not_lt_zero _)))
def zX8_begins : zz_Sp := fun as M Q X => match as with
  | [.inr (.inr (some h_)), .inr (.inr (some s))] => bif Nat.beq h_ 134 && Nat.beq M.1.1 2 && Nat.beq s 108 then (scV (cx M.2.1 108) ∧ Q none ((2, M.1.2), mm_up (mm_up (mm_up M.2.1 134 6 1) 135 0 ((nuR (cx M.2.1 108) * 16 + cx M.2.1 108 7) * 16 + cx M.2.1 108 8)) 136 0 0, mm_up M.2.2.1 139 0 1, M.2.2.2)) else False
  | _ => False

def zpX8_begins : zz_P := [(0, zo_ald 1 0), (1, zo_c 2 (vi 1)), (2, zo_puti 5 7 6), (5, zo_ald 6 0), (6, zo_get 9 7 2 0), (9, zo_c 10 (vi 0)), (10, zo_ald 11 0), (11, zo_ald 12 1), (12, zo_callv 15 2 7 zX8_key), (15, zo_iasc 16 0), (16, zo_ald 17 0), (17, zo_get 20 7 2 1), (20, zo_c 21 (vi 0)), (21, zo_c 22 (vi 0)), (22, zo_iasc 23 0), (23, zo_ald 24 0), (24, zo_get 27 7 2 4), (27, zo_c 28 (vi 0)), (28, zo_c 29 (vl 1)), (29, zo_lasc 30 0), (30, zo_vret)]
theorem ztX8_begins {C : mm_C} (G : mm_G C RX8 cX8_begins none 2 (mm_rm 3 0 0)) (hnh : mm_nh C) : zz_OKs C zpX8_begins :=
  ⟨zz_of (ok_aload_n G dX8_begins_0 rfl rfl) (z_ald _ _),
   zz_of (ok_iconst G (v := 1) dX8_begins_1 (by decide) rfl) (z_cn 2 1),
   zz_of (ok_puti G (nx := 5) (idx := 52) (ci := 7) (k := 6) (RX8, TX8, 9) rfl (by decide) rfl (mm_pw G (ci := 7) (k := 6) (RX8, TX8, 9) rfl (by decide) rfl q376 dX8_begins_2) rfl) (z_puti _ _ _),
   zz_of (ok_aload_n G dX8_begins_5 rfl rfl) (z_ald _ _),
   zz_of (ok_get G (nx := 9) (ci := 7) (kd := 2) (k := 0) (RX8, TX8, 9) rfl (by decide) rfl q370 dX8_begins_6 rfl) (z_get _ _ _ _),
   zz_of (ok_iconst G (v := 0) dX8_begins_9 (by decide) rfl) (z_cn 10 0),
   zz_of (ok_aload_n G dX8_begins_10 rfl rfl) (z_ald _ _),
   zz_of (ok_aload_n G dX8_begins_11 rfl rfl) (z_ald _ _),
   zz_of (ok_callv G hnh (zmX8_key _ G.hst) rfl rfl (RX8, TX8, 9) rfl q1753 q1755 qs35 q92 q1756 (by decide +kernel) ⟨by decide, by decide⟩ dX8_begins_12 rfl) (z_callv _ _ _ _),
   zz_of (ok_iast G dX8_begins_15 rfl) (z_iasc _ _),
   zz_of (ok_aload_n G dX8_begins_16 rfl rfl) (z_ald _ _),
   zz_of (ok_get G (nx := 20) (ci := 7) (kd := 2) (k := 1) (RX8, TX8, 9) rfl (by decide) rfl q371 dX8_begins_17 rfl) (z_get _ _ _ _),
   zz_of (ok_iconst G (v := 0) dX8_begins_20 (by decide) rfl) (z_cn 21 0),
   zz_of (ok_iconst G (v := 0) dX8_begins_21 (by decide) rfl) (z_cn 22 0),
   zz_of (ok_iast G dX8_begins_22 rfl) (z_iasc _ _),
   zz_of (ok_aload_n G dX8_begins_23 rfl rfl) (z_ald _ _),
   zz_of (ok_get G (nx := 27) (ci := 7) (kd := 2) (k := 4) (RX8, TX8, 9) rfl (by decide) rfl q374 dX8_begins_24 rfl) (z_get _ _ _ _),
   zz_of (ok_iconst G (v := 0) dX8_begins_27 (by decide) rfl) (z_cn 28 0),
   zz_of (ok_lconst G (v := 1) dX8_begins_28 (by decide) rfl) (z_cl 29 1),
   zz_of (ok_last G dX8_begins_29 rfl) (z_lasc _ _),
   zz_of (ok_vret G dX8_begins_30) (z_vret), trivial⟩

theorem zwX8_begins_0 {Q : Option zv → zz_M → Prop} {X : Nat → zz_M → Prop} {f : Nat → Nat × Nat} {S L : Nat → Nat → Int} {P : Nat → Nat → Option Nat}  (h : (scV (cx (mm_up S 134 6 1) 108) ∧ (Q none ((2, f), mm_up (mm_up (mm_up S 134 6 1) 135 0 ((nuR (cx (mm_up S 134 6 1) 108) * 16 + cx (mm_up S 134 6 1) 108 7) * 16 + cx (mm_up S 134 6 1) 108 8)) 136 0 0, mm_up L 139 0 1, P)))) : zz_J zpX8_begins (zz_ret Q X 0 0) 0 [some (vr 134), some (vr 108)] [] ((2, f), S, L, P) (0, 0) := zz_J.go [] 400 h

theorem zmX8_begins (l : Launch) (hl : l.stackTraces = false) : mm_Spec l yX8_begins (ws_ yX8_begins cX8_begins 2 none) (mm_rm 3 0 0) (zE zX8_begins) := by
  refine zz_Met.J hl (by decide) (fun C G hnh => ztX8_begins G hnh) ?_
  rintro as ⟨⟨t_, f⟩, S, L, P⟩ Q X h
  unfold zX8_begins at h
  split at h
  rotate_left
  · exact h.elim
  rename_i h_ s
  obtain ⟨e12_, e3_, h⟩ := mm_and2 h (fun q => q)
  rw [Bool.and_eq_true] at e12_
  cases mm_beq e12_.1
  cases mm_beq e12_.2
  cases mm_beq e3_
  try dsimp only at h
  refine ⟨rfl, ?_⟩
  obtain ⟨hv, hq⟩ := h
  have e : cx (mm_up S 134 6 1) 108 = cx S 108 := cx_eqS fun j h1 h2 => by
    funext k
    rw [up_eq, if_neg (by omega)]
  refine zwX8_begins_0 ?_
  rw [e]
  exact ⟨hv, hq⟩
def zJ16_signum : zz_Sp := fun as M Q X => match as with
  | [.inl x] => (-100 ≤ x ∧ x ≤ 100) ∧ Q (some (vi (if x < 0 then -1 else if x = 0 then 0 else 1))) M
  | _ => False

def zpJ16_signum : zz_P := [(0, zo_ild 1 0), (1, zo_c 3 (vi 31)), (3, zo_ishr 4), (4, zo_ild 5 0), (5, zo_ineg 6), (6, zo_c 8 (vi 31)), (8, zo_iushr 9), (9, zo_ior 10), (10, zo_iret)]
theorem ztJ16_signum {C : mm_C} (G : mm_G C RJ16 cJ16_signum (some .int) 1 (mm_rm 1 0 0)) (hnh : mm_nh C) : zz_OKs C zpJ16_signum :=
  ⟨zz_of (ok_iload_n G dJ16_signum_0 rfl rfl) (z_ild _ _),
   zz_of (ok_bipush G (v := 31) dJ16_signum_1 (by decide) rfl) (z_cn 3 31),
   zz_of (ok_ishr G dJ16_signum_3 rfl) (z_ishr _),
   zz_of (ok_iload_n G dJ16_signum_4 rfl rfl) (z_ild _ _),
   zz_of (ok_ineg G dJ16_signum_5 rfl) (z_ineg _),
   zz_of (ok_bipush G (v := 31) dJ16_signum_6 (by decide) rfl) (z_cn 8 31),
   zz_of (ok_iushr G dJ16_signum_8 rfl) (z_iushr _),
   zz_of (ok_ior G dJ16_signum_9 rfl) (z_ior _),
   zz_of (ok_iret G dJ16_signum_10) (z_iret), trivial⟩

theorem zwJ16_signum_0 {Q : Option zv → zz_M → Prop} {X : Nat → zz_M → Prop} {M : zz_M} {x : Int} (h : Q (some (vi (zor (zshr x 31) (zushr (-x) 31)))) M) : zz_J zpJ16_signum (zz_ret Q X 0 0) 0 [some (vi x)] [] M (0, 0) := zz_J.go [] 400 h

theorem sgn_e {x : Int} (h0 : -100 ≤ x) (h1 : x ≤ 100) : zor (zshr x 31) (zushr (-x) 31) = if x < 0 then -1 else if x = 0 then 0 else 1 := by
  have := (by decide +kernel : ∀ i : Fin 201, zor (zshr ((i.val : Int) - 100) 31) (zushr (-((i.val : Int) - 100)) 31) = if ((i.val : Int) - 100) < 0 then -1 else if ((i.val : Int) - 100) = 0 then 0 else 1) ⟨(x + 100).toNat, by omega⟩
  have e : (((⟨(x + 100).toNat, by omega⟩ : Fin 201).val : Nat) : Int) - 100 = x := by
    show (((x + 100).toNat : Nat) : Int) - 100 = x
    omega
  rw [e] at this
  exact this
theorem zmJ16_signum (l : Launch) (hl : l.stackTraces = false) : mm_Spec l yJ16_signum (ws_ yJ16_signum cJ16_signum 1 (some .int)) (mm_rm 1 0 0) (zE zJ16_signum) := by
  refine zz_Met.JF hl (by decide +kernel) (fun C G hnh => ztJ16_signum G hnh) ?_
  rintro as M Q X h
  unfold zJ16_signum at h
  split at h
  rotate_left
  · exact h.elim
  rename_i x
  refine ⟨rfl, ?_⟩
  obtain ⟨⟨h0, h1⟩, hq⟩ := h
  refine zwJ16_signum_0 ?_
  rw [sgn_e h0 h1]
  exact hq
