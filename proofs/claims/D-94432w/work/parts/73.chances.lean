/-! ===== the component's chances ===== -/
set_option maxRecDepth 100000
/-- which of both rows is the one of now -/
def cN (P : Nat → Nat → Option Nat) (q a : Nat) : Prop := (a = q + 1 ∨ a = q + 2) ∧ P q 0 = some a ∧ P q 1 = some (2 * q + 3 - a)
def tbE (S : Nat → Nat → Int) (a : Nat) (tb : Nat → Int) : Prop := ∀ c : Nat, c < 15488 → cbR (c : Int) = true → S a c = tb c
def enV4 (p th : Int) (j : Nat) : Int := if ((j / 2 : Nat) : Int) = p ∧ (th = -1 ∨ ((j % 2 : Nat) : Int) = th) then 1000000000 else 0
def enE (S : Nat → Nat → Int) (q : Nat) (p th : Int) : Prop := ∀ j : Nat, j < 4 → S (q + 3) j = enV4 p th j
def rwE (S : Nat → Nat → Int) (w : Nat → Int) : Prop := ∀ i k : Nat, i < 16 → k < 12 → S (210 + i) k = w (12 * i + k)
/-- what is to be had by a number of what comes behind -/
def atV (tb : Nat → Int) (p th z : Int) : Int := if z < 0 then enV4 p th (-1 - z).toNat else tb z.toNat
theorem atV_bh {tb w : Nat → Int} {p th c : Int} {o : Nat} (h0 : 0 ≤ c) (h1 : c < 15488) (hc : cbR c = true) (hw : wV w) (ho : o < 12) : (-4 ≤ bhV w c (o : Int) ∧ bhV w c (o : Int) < 15488) ∧ (0 ≤ bhV w c (o : Int) → cbR (bhV w c (o : Int)) = true) ∧ atV tb p th (bhV w c (o : Int)) = hdT tb w (scX w c) p th (o : Int) := by
  have hX : scV (scX w c) := unR_V h0 h1 hc
  have hR : scV (rlR w (scX w c) (o : Int)) := rlR_V hw hX (by omega) (by omega) (fun _ => by omega)
  have hn := nuR_in hR
  have hcb := nuR_cb hR
  have e := bhV_at (w := w) (o : Int) h0
  have g := rl_g (w := w) (x := scX w c) (how := (o : Int)) hX.2.1
  have r2 := hR.2.1
  unfold hdT
  by_cases hN : rlN w (scX w c) (o : Int) = -1
  · rw [if_pos hN] at e ⊢
    rw [e]
    refine ⟨by omega, fun _ => hcb, ?_⟩
    unfold atV
    rw [if_neg (by omega)]
  · rw [if_neg hN] at e ⊢
    rw [e]
    have hN01 : rlN w (scX w c) (o : Int) = 0 ∨ rlN w (scX w c) (o : Int) = 1 := by omega
    refine ⟨by omega, fun _ => by omega, ?_⟩
    unfold atV enV4
    rw [if_pos (by omega)]
    have e1 : (-1 - (-1 - (2 * rlN w (scX w c) (o : Int) + rlR w (scX w c) (o : Int) 2))).toNat / 2 = (rlN w (scX w c) (o : Int)).toNat := by omega
    have e2 : (-1 - (-1 - (2 * rlN w (scX w c) (o : Int) + rlR w (scX w c) (o : Int) 2))).toNat % 2 = (rlR w (scX w c) (o : Int) 2).toNat := by omega
    rw [e1, e2]
    have e3 : (((rlN w (scX w c) (o : Int)).toNat : Nat) : Int) = rlN w (scX w c) (o : Int) := by omega
    have e4 : (((rlR w (scX w c) (o : Int) 2).toNat : Nat) : Int) = rlR w (scX w c) (o : Int) 2 := by omega
    rw [e3, e4]
def zX6_at_116 : zz_Sp := fun as M Q X => match as with
  | [.inr (.inr (some h_)), .inl code] => bif Nat.beq h_ 116 && Nat.beq M.1.1 2 then (∃ a_ : Nat, cN M.2.2.2 116 a_ ∧ (code < 0 → -4 ≤ code ∧ Q (some (vi (M.2.1 119 (-1 - code).toNat))) ((2, M.1.2), M.2.1, M.2.2.1, M.2.2.2)) ∧ (0 ≤ code → code < 15488 ∧ Q (some (vi (M.2.1 a_ code.toNat))) ((2, M.1.2), M.2.1, M.2.2.1, M.2.2.2))) else False
  | _ => False

def zpX6_at_116 : zz_P := [(0, zo_ild 1 1), (1, zo_ifge false 4 15), (4, zo_ald 5 0), (5, zo_get 8 5 2 2), (8, zo_c 9 (vi (-1))), (9, zo_ild 10 1), (10, zo_isub 11), (11, zo_iald 12), (12, zo_goto 21), (15, zo_ald 16 0), (16, zo_getq 19 5 0), (19, zo_ild 20 1), (20, zo_ialp 21), (21, zo_iret)]
theorem ztX6_at_116 {C : mm_C} (G : mm_G C RX6 cX6_at (some .int) 2 (mm_rm 1 0 0)) (hnh : mm_nh C) : zz_OKs C zpX6_at_116 :=
  ⟨zz_of (ok_iload_n G dX6_at_0 rfl rfl) (z_ild _ _),
   zz_of (ok_ifge G dX6_at_1 rfl rfl) (z_ifge _ _ _),
   zz_of (ok_aload_n G dX6_at_4 rfl rfl) (z_ald _ _),
   zz_of (ok_get G (nx := 8) (ci := 5) (kd := 2) (k := 2) (RX6, TX6, 5) rfl (by decide) rfl q326 dX6_at_5 rfl) (z_get _ _ _ _),
   zz_of (ok_iconst G (v := (zI (-1))) dX6_at_8 (by decide) rfl) (z_cz 9 (-1)),
   zz_of (ok_iload_n G dX6_at_9 rfl rfl) (z_ild _ _),
   zz_of (ok_isub G dX6_at_10 rfl) (z_isub _),
   zz_of (ok_iald G dX6_at_11 rfl) (z_iald _),
   zz_of (ok_goto G dX6_at_12 rfl) (z_goto _),
   zz_of (ok_aload_n G dX6_at_15 rfl rfl) (z_ald _ _),
   zz_of (ok_get G (nx := 19) (ci := 5) (kd := 2) (k := 0) (RX6, TX6, 5) rfl (by decide) rfl q324 dX6_at_16 rfl) (z_getq _ _ _),
   zz_of (ok_iload_n G dX6_at_19 rfl rfl) (z_ild _ _),
   zz_of (ok_iald G dX6_at_20 rfl) (z_ialp _),
   zz_of (ok_iret G dX6_at_21) (z_iret), trivial⟩

theorem zwX6_at_116_0 {Q : Option zv → zz_M → Prop} {X : Nat → zz_M → Prop} {f : Nat → Nat × Nat} {S L : Nat → Nat → Int} {P : Nat → Nat → Option Nat} {code : Int} (h : R32 code ∧ ((0 ≤ code → zsh ((2, f), S, L, P) 116 = (1, 5) ∧ (∀ b1 : Nat, zpt ((2, f), S, L, P) 116 0 = some b1 → ∃ n_ : Nat, zsh ((2, f), S, L, P) b1 = (2, n_) ∧ (n_ : Int) ≤ 2147483647 ∧ (0 ≤ code ∧ code < (n_ : Int)) ∧ (Q (some (vi (S b1 code.toNat))) ((2, f), S, L, P))) ∧ (zpt ((2, f), S, L, P) 116 0 = none → False)) ∧ (¬ 0 ≤ code → (0 ≤ ((-1) - code) ∧ ((-1) - code) < 4) ∧ (Q (some (vi (S 119 (((-1) - code).toNat)))) ((2, f), S, L, P))))) : zz_J zpX6_at_116 (zz_ret Q X 0 0) 0 [some (vr 116), some (vi code)] [] ((2, f), S, L, P) (0, 0) := zz_J.go [] 400 h

theorem zmX6_at_116 (l : Launch) (hl : l.stackTraces = false) : mm_Spec l yX6_at (ws_ yX6_at cX6_at 2 (some .int)) (mm_rm 1 0 0) (zE zX6_at_116) := by
  refine zz_Met.J hl (by decide) (fun C G hnh => ztX6_at_116 G hnh) ?_
  rintro as ⟨⟨t_, f⟩, S, L, P⟩ Q X h
  unfold zX6_at_116 at h
  split at h
  rotate_left
  · exact h.elim
  rename_i h_ code
  obtain ⟨e1_, e2_, h⟩ := mm_and2 h (fun q => q)
  cases mm_beq e1_
  cases mm_beq e2_
  try dsimp only at h
  refine ⟨rfl, ?_⟩
  obtain ⟨a, ⟨ha1, ha2, -⟩, q1, q2⟩ := h
  refine zwX6_at_116_0 ⟨?_, fun c => ⟨rfl, fun b e => ?_, fun e => ?_⟩, fun c => ⟨?_, (q1 (by omega)).2⟩⟩
  · by_cases c : code < 0
    · have := (q1 c).1
      omega
    · have := (q2 (by omega)).1
      omega
  · have e2 : P 116 0 = some b := e
    rw [ha2] at e2
    cases e2
    have := q2 c
    exact ⟨15488, by rcases ha1 with e | e <;> subst e <;> rfl, by decide, ⟨c, by omega⟩, this.2⟩
  · have e2 : P 116 0 = none := e
    rw [ha2] at e2
    cases e2
  · have := (q1 (by omega)).1
    omega
def zX6_by_116 : zz_Sp := fun as M Q X => match as with
  | [.inr (.inr (some h_)), .inl code, .inl style] => bif Nat.beq h_ 116 && Nat.beq M.1.1 2 then ((0 ≤ code ∧ code < 15488) ∧ cbR code = true ∧ (0 ≤ style ∧ style < 16) ∧ ∃ (w_ tb_ : Nat → Int) (a_ : Nat) (p_ th_ : Int), cN M.2.2.2 116 a_ ∧ tbE M.2.1 a_ tb_ ∧ tbG tb_ ∧ enE M.2.1 116 p_ th_ ∧ rwE M.2.1 w_ ∧ lT M.2.1 w_ ∧ mG w_ ∧ whB w_ 16 = true ∧ Q (some (vi (hdR tb_ w_ code (12 * style).toNat p_ th_))) ((2, M.1.2), M.2.1, M.2.2.1, M.2.2.2)) else False
  | _ => False

def zpX6_by_116 : zz_P := [(0, zo_ald 1 0), (1, zo_get 4 5 2 4), (4, zo_get 7 0 2 0), (7, zo_get 10 1 2 6), (10, zo_ild 11 2), (11, zo_aald 12), (12, zo_ast 13 3), (13, zo_c 14 (vl 0)), (14, zo_lst 16 4), (16, zo_c 17 (vi 0)), (17, zo_ist 19 6), (19, zo_ild 21 6), (21, zo_c 23 (vi 12)), (23, zo_cge false true 26 70), (26, zo_ald 27 3), (27, zo_ild 29 6), (29, zo_ialp 30), (30, zo_ifle false 33 64), (33, zo_lld 35 4), (35, zo_ald 36 3), (36, zo_ild 38 6), (38, zo_ialp 39), (39, zo_i2l 40), (40, zo_ald 41 0), (41, zo_ald 42 0), (42, zo_get 45 5 2 4), (45, zo_get 48 0 2 4), (48, zo_c 50 (vi 12)), (50, zo_ild 51 1), (51, zo_imul 52), (52, zo_ild 54 6), (54, zo_iadd 55), (55, zo_iald 56), (56, zo_callv 59 2 5 zX6_at_116), (59, zo_i2l 60), (60, zo_lmul 61), (61, zo_ladd 62), (62, zo_lst 64 4), (64, zo_inc 67 6 1), (67, zo_goto 19), (70, zo_lld 72 4), (72, zo_c 75 (vl 100)), (75, zo_ldiv 76), (76, zo_l2i 77), (77, zo_iret)]
theorem ztX6_by_116 {C : mm_C} (G : mm_G C RX6 cX6_by (some .int) 7 (mm_rm 2 0 0)) (hnh : mm_nh C) : zz_OKs C zpX6_by_116 :=
  ⟨zz_of (ok_aload_n G dX6_by_0 rfl rfl) (z_ald _ _),
   zz_of (ok_get G (nx := 4) (ci := 5) (kd := 2) (k := 4) (RX6, TX6, 5) rfl (by decide) rfl q330 dX6_by_1 rfl) (z_get _ _ _ _),
   zz_of (ok_getN G (nx := 7) (ci := 0) (kd := 2) (k := 0) (RX1, TX1, 19) rfl (by decide) rfl q402 dX6_by_4 rfl) (z_get _ _ _ _),
   zz_of (ok_getN G (nx := 10) (ci := 1) (kd := 2) (k := 6) (RX2, TX2, 11) rfl (by decide) rfl q233 dX6_by_7 rfl) (z_get _ _ _ _),
   zz_of (ok_iload_n G dX6_by_10 rfl rfl) (z_ild _ _),
   zz_of (ok_aald G dX6_by_11 rfl) (z_aald _),
   zz_of (ok_astore_n G dX6_by_12 rfl rfl (by decide)) (z_ast _ _),
   zz_of (ok_lconst G (v := 0) dX6_by_13 (by decide) rfl) (z_cl 14 0),
   zz_of (ok_lstore G dX6_by_14 rfl (by decide)) (z_lst _ _),
   zz_of (ok_iconst G (v := 0) dX6_by_16 (by decide) rfl) (z_cn 17 0),
   zz_of (ok_istore G dX6_by_17 rfl (by decide)) (z_ist _ _),
   zz_of (ok_iload G dX6_by_19 rfl) (z_ild _ _),
   zz_of (ok_bipush G (v := 12) dX6_by_21 (by decide) rfl) (z_cn 23 12),
   zz_of (ok_cge G dX6_by_23 rfl rfl) (z_cge _ _ _ _),
   zz_of (ok_aload_n G dX6_by_26 rfl rfl) (z_ald _ _),
   zz_of (ok_iload G dX6_by_27 rfl) (z_ild _ _),
   zz_of (ok_iald G dX6_by_29 rfl) (z_ialp _),
   zz_of (ok_ifle G dX6_by_30 rfl rfl) (z_ifle _ _ _),
   zz_of (ok_lload G dX6_by_33 rfl) (z_lld _ _),
   zz_of (ok_aload_n G dX6_by_35 rfl rfl) (z_ald _ _),
   zz_of (ok_iload G dX6_by_36 rfl) (z_ild _ _),
   zz_of (ok_iald G dX6_by_38 rfl) (z_ialp _),
   zz_of (ok_i2l G dX6_by_39 rfl) (z_i2l _),
   zz_of (ok_aload_n G dX6_by_40 rfl rfl) (z_ald _ _),
   zz_of (ok_aload_n G dX6_by_41 rfl rfl) (z_ald _ _),
   zz_of (ok_get G (nx := 45) (ci := 5) (kd := 2) (k := 4) (RX6, TX6, 5) rfl (by decide) rfl q330 dX6_by_42 rfl) (z_get _ _ _ _),
   zz_of (ok_getN G (nx := 48) (ci := 0) (kd := 2) (k := 4) (RX1, TX1, 19) rfl (by decide) rfl q408 dX6_by_45 rfl) (z_get _ _ _ _),
   zz_of (ok_bipush G (v := 12) dX6_by_48 (by decide) rfl) (z_cn 50 12),
   zz_of (ok_iload_n G dX6_by_50 rfl rfl) (z_ild _ _),
   zz_of (ok_imul G dX6_by_51 rfl) (z_imul _),
   zz_of (ok_iload G dX6_by_52 rfl) (z_ild _ _),
   zz_of (ok_iadd G dX6_by_54 rfl) (z_iadd _),
   zz_of (ok_iald G dX6_by_55 rfl) (z_iald _),
   zz_of (ok_callv G hnh (zmX6_at_116 _ G.hst) rfl rfl (RX6, TX6, 5) rfl q1633 q1634 q1635 q90 q1636 (by decide +kernel) ⟨by decide, by decide⟩ dX6_by_56 rfl) (z_callv _ _ _ _),
   zz_of (ok_i2l G dX6_by_59 rfl) (z_i2l _),
   zz_of (ok_lmul G dX6_by_60 rfl) (z_lmul _),
   zz_of (ok_ladd G dX6_by_61 rfl) (z_ladd _),
   zz_of (ok_lstore G dX6_by_62 rfl (by decide)) (z_lst _ _),
   zz_of (ok_iinc G (v := 1) dX6_by_64 (by decide) rfl (by decide)) (z_incn 67 6 1),
   zz_of (ok_goto G dX6_by_67 rfl) (z_goto _),
   zz_of (ok_lload G dX6_by_70 rfl) (z_lld _ _),
   zz_of (ok_ldc2 G (v := 100) q1637 dX6_by_72 rfl) (z_cl 75 100),
   zz_of (ok_ldiv G dX6_by_75 rfl) (z_ldiv _),
   zz_of (ok_l2i G dX6_by_76 rfl) (z_l2i _),
   zz_of (ok_iret G dX6_by_77) (z_iret), trivial⟩

theorem zwX6_by_116_0 {Q : Option zv → zz_M → Prop} {X : Nat → zz_M → Prop} {f : Nat → Nat × Nat} {S L : Nat → Nat → Int} {P : Nat → Nat → Option Nat} {code : Int} {style : Int} (h : ∃ t_ n_ : Nat, zsh ((2, f), S, L, P) 201 = (t_, n_) ∧ (t_ = 6 ∨ t_ = 7 ∨ t_ = 8) ∧ (n_ : Int) ≤ 2147483647 ∧ (0 ≤ style ∧ style < (n_ : Int)) ∧ (∀ b1 : Nat, zpt ((2, f), S, L, P) 201 style.toNat = some b1 → zz_J zpX6_by_116 (zz_ret Q X 0 0) 19 [some (vr 116), some (vi code), none, some (vr b1), some (vl 0), none, some (vi 0)] [] ((2, f), S, L, P) (0, 0)) ∧ (zpt ((2, f), S, L, P) 201 style.toNat = none → zz_J zpX6_by_116 (zz_ret Q X 0 0) 19 [some (vr 116), some (vi code), none, some (vn), some (vl 0), none, some (vi 0)] [] ((2, f), S, L, P) (0, 0))) : zz_J zpX6_by_116 (zz_ret Q X 0 0) 0 [some (vr 116), some (vi code), some (vi style), none, none, none, none] [] ((2, f), S, L, P) (0, 0) := zz_J.go [(19, [2, 5])] 400 h
theorem zwX6_by_116_19 {Q : Option zv → zz_M → Prop} {X : Nat → zz_M → Prop} {f : Nat → Nat × Nat} {S L : Nat → Nat → Int} {P : Nat → Nat → Option Nat} {x1 : Int} {h3 : Nat} {x4 : Int} {x6 : Int} (h : R32 x6 ∧ ((12 ≤ x6 → (0 ≤ x4 ∧ x4 < 9223372036854775808) ∧ (R64 (x4 / 100) ∧ (Q (some (vi (x4 / 100))) ((2, f), S, L, P)))) ∧ (¬ 12 ≤ x6 → ∃ n_ : Nat, zsh ((2, f), S, L, P) h3 = (2, n_) ∧ (n_ : Int) ≤ 2147483647 ∧ (0 ≤ x6 ∧ x6 < (n_ : Int)) ∧ (R32 (S h3 x6.toNat) ∧ (((S h3 x6.toNat) ≤ 0 → zz_J zpX6_by_116 (zz_ret Q X 0 0) 19 [some (vr 116), some (vi x1), none, some (vr h3), some (vl x4), none, some (vi (x6 + 1))] [] ((2, f), S, L, P) (0, 0)) ∧ (¬ (S h3 x6.toNat) ≤ 0 → ∃ n_ : Nat, zsh ((2, f), S, L, P) h3 = (2, n_) ∧ (n_ : Int) ≤ 2147483647 ∧ (0 ≤ x6 ∧ x6 < (n_ : Int)) ∧ (R32 (S h3 x6.toNat) ∧ ((0 ≤ ((12 * x1) + x6) ∧ ((12 * x1) + x6) < 185856) ∧ ((∃ a_1 : Nat, cN P 116 a_1 ∧ ((S 104 (((12 * x1) + x6).toNat)) < 0 → -4 ≤ (S 104 (((12 * x1) + x6).toNat)) ∧ (R32 (S 119 (-1 - (S 104 (((12 * x1) + x6).toNat))).toNat) ∧ (zz_J zpX6_by_116 (zz_ret Q X 0 0) 19 [some (vr 116), some (vi x1), none, some (vr h3), some (vl (x4 + ((S h3 x6.toNat) * (S 119 (-1 - (S 104 (((12 * x1) + x6).toNat))).toNat)))), none, some (vi (x6 + 1))] [] ((2, f), S, L, P) (0, 0)))) ∧ (0 ≤ (S 104 (((12 * x1) + x6).toNat)) → (S 104 (((12 * x1) + x6).toNat)) < 15488 ∧ (R32 (S a_1 (S 104 (((12 * x1) + x6).toNat)).toNat) ∧ (zz_J zpX6_by_116 (zz_ret Q X 0 0) 19 [some (vr 116), some (vi x1), none, some (vr h3), some (vl (x4 + ((S h3 x6.toNat) * (S a_1 (S 104 (((12 * x1) + x6).toNat)).toNat)))), none, some (vi (x6 + 1))] [] ((2, f), S, L, P) (0, 0)))))))))))))) : zz_J zpX6_by_116 (zz_ret Q X 0 0) 19 [some (vr 116), some (vi x1), none, some (vr h3), some (vl x4), none, some (vi x6)] [] ((2, f), S, L, P) (0, 0) := zz_J.go [(19, [2, 5])] 400 h

theorem zmX6_by_116 (l : Launch) (hl : l.stackTraces = false) : mm_Spec l yX6_by (ws_ yX6_by cX6_by 7 (some .int)) (mm_rm 2 0 0) (zE zX6_by_116) := by
  refine zz_Met.J hl (by decide) (fun C G hnh => ztX6_by_116 G hnh) ?_
  rintro as ⟨⟨t_, f⟩, S, L, P⟩ Q X h
  unfold zX6_by_116 at h
  split at h
  rotate_left
  · exact h.elim
  rename_i h_ code style
  obtain ⟨e1_, e2_, h⟩ := mm_and2 h (fun q => q)
  cases mm_beq e1_
  cases mm_beq e2_
  try dsimp only at h
  refine ⟨rfl, ?_⟩
  obtain ⟨hk, hcb, hs, w, tb, a, p, th, ha, htb, hG, hen, hrw, hl, hm, hwh, hq⟩ := h
  obtain ⟨k, rfl⟩ : ∃ k : Nat, code = (k : Int) := ⟨code.toNat, by omega⟩
  obtain ⟨sn, rfl⟩ : ∃ sn : Nat, style = (sn : Int) := ⟨style.toNat, by omega⟩
  have hX : scV (scX w (k : Int)) := unR_V hk.1 hk.2 hcb
  have ei : (12 * (sn : Int)).toNat = 12 * sn := by omega
  unfold hdR at hq
  rw [ei] at hq
  have hlk := (hl k (by omega)).2 hcb
  have t19 : ∀ (n o : Nat), o + n = 12 → zz_J zpX6_by_116 (zz_ret Q X 0 0) 19 [some (vr 116), some (vi (k : Int)), none, some (vr (210 + sn)), some (vl (hdS tb w (scX w (k : Int)) (12 * sn) p th o)), none, some (vi (o : Int))] [] ((2, f), S, L, P) (0, 0) := by
    intro n
    induction n with
    | zero =>
      intro o ho
      have e : o = 12 := by omega
      subst e
      have hb := hdS_in (p := p) (th := th) (ix := 12 * sn) hG hm.1 hm.2.1 hX (by omega) 12 (by decide)
      exact zwX6_by_116_19 ⟨by decide, fun _ => ⟨by omega, by omega, hq⟩, fun c => absurd c (by decide)⟩
    | succ n ih =>
      intro o ho
      have hc := hm.1.1 (12 * sn + o) (by omega)
      have er : S (210 + sn) o = w (12 * sn + o) := hrw sn o (by omega) (by omega)
      have ej : ((12 * (k : Int)) + (o : Int)).toNat = 12 * k + o := by omega
      have eb : S 104 (12 * k + o) = bhV w (k : Int) (o : Int) := hlk.1 o (by omega)
      obtain ⟨z1, z2, z3⟩ := atV_bh (tb := tb) (p := p) (th := th) (o := o) hk.1 hk.2 hcb hm.2.1 (by omega)
      have ht := hdT_in (p := p) (th := th) (how := (o : Int)) hG hm.2.1 hX (by omega) (by omega)
      have hsh : zsh ((2, f), S, L, P) (210 + sn) = (2, 12) := row_sh (by omega)
      have nx := ih (o + 1) (by omega)
      have es : hdS tb w (scX w (k : Int)) (12 * sn) p th (o + 1) = hdS tb w (scX w (k : Int)) (12 * sn) p th o + w (12 * sn + o) * hdT tb w (scX w (k : Int)) p th (o : Int) := rfl
      rw [es] at nx
      refine zwX6_by_116_19 ⟨by omega, fun c => absurd c (by omega), fun _ => ⟨12, hsh, by decide, ⟨by omega, by omega⟩, ?_⟩⟩
      rw [Int.toNat_natCast, er]
      refine ⟨by omega, fun c => ?_, fun c => ⟨12, hsh, by decide, ⟨by omega, by omega⟩, by omega, ⟨by omega, by omega⟩, a, ha, ?_⟩⟩
      · have e0 : w (12 * sn + o) = 0 := by omega
        rw [e0, Int.zero_mul, Int.add_zero] at nx
        exact nx
      · rw [ej, eb]
        refine ⟨fun d => ⟨z1.1, ?_⟩, fun d => ⟨z1.2, ?_⟩⟩
        · have ev : S (119) (-1 - bhV w (k : Int) (o : Int)).toNat = hdT tb w (scX w (k : Int)) p th (o : Int) := by
            rw [← z3]
            unfold atV
            rw [if_pos d]
            exact hen _ (by omega)
          rw [ev]
          exact ⟨by omega, nx⟩
        · have ev : S a (bhV w (k : Int) (o : Int)).toNat = hdT tb w (scX w (k : Int)) p th (o : Int) := by
            rw [← z3]
            unfold atV
            rw [if_neg (by omega)]
            refine htb _ (by omega) ?_
            have en : (((bhV w (k : Int) (o : Int)).toNat : Nat) : Int) = bhV w (k : Int) (o : Int) := by omega
            rw [en]
            exact z2 d
          rw [ev]
          exact ⟨by omega, nx⟩
  refine zwX6_by_116_0 (row_go hs.1 hs.2 ?_)
  rw [Int.toNat_natCast]
  exact t19 12 0 rfl
