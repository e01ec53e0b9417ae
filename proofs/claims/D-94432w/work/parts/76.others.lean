/-! ===== the other chances (120) ===== -/
set_option maxRecDepth 100000
def zX6_at_120 : zz_Sp := fun as M Q X => match as with
  | [.inr (.inr (some h_)), .inl code] => bif Nat.beq h_ 120 && Nat.beq M.1.1 2 then (∃ a_ : Nat, cN M.2.2.2 120 a_ ∧ (code < 0 → -4 ≤ code ∧ Q (some (vi (M.2.1 123 (-1 - code).toNat))) ((2, M.1.2), M.2.1, M.2.2.1, M.2.2.2)) ∧ (0 ≤ code → code < 15488 ∧ Q (some (vi (M.2.1 a_ code.toNat))) ((2, M.1.2), M.2.1, M.2.2.1, M.2.2.2))) else False
  | _ => False

def zpX6_at_120 : zz_P := [(0, zo_ild 1 1), (1, zo_ifge false 4 15), (4, zo_ald 5 0), (5, zo_get 8 5 2 2), (8, zo_c 9 (vi (-1))), (9, zo_ild 10 1), (10, zo_isub 11), (11, zo_iald 12), (12, zo_goto 21), (15, zo_ald 16 0), (16, zo_getq 19 5 0), (19, zo_ild 20 1), (20, zo_ialp 21), (21, zo_iret)]
theorem ztX6_at_120 {C : mm_C} (G : mm_G C RX6 cX6_at (some .int) 2 (mm_rm 1 0 0)) (hnh : mm_nh C) : zz_OKs C zpX6_at_120 :=
  ⟨zz_of (ok_iload_n G dX6_at_0 rfl rfl) (z_ild _ _),
   zz_of (ok_ifge G dX6_at_1 rfl rfl) (z_ifge _ _ _),
   zz_of (ok_aload_n G dX6_at_4 rfl rfl) (z_ald _ _),
   zz_of (ok_get G (nx := 8) (ci := 5) (kd := 2) (k := 2) (RX6, TX6, 5) rfl (by decide) rfl q326 dX6_at_5 rfl) (z_get _ _ _ _),
   zz_of (ok_iconst G (v := (zI (-1))) dX6_at_8 (by decide) rfl) (z_cz 9 (-1)),
   zz_of (ok_iload_n G dX6_at_9 rfl rfl) (z_ild _ _),
   zz_of (ok_isub G dX6_at_10 rfl) (z_isub _),
   zz_of (ok_iald G dX6_at_11 rfl) (z_iald _),
   zz_of (ok_goto G dX6_at_12 rfl) (z_goto _),
   zz_of (ok_aload_n G dX6_at_15 rfl rfl) (z_ald _ _),
   zz_of (ok_get G (nx := 19) (ci := 5) (kd := 2) (k := 0) (RX6, TX6, 5) rfl (by decide) rfl q324 dX6_at_16 rfl) (z_getq _ _ _),
   zz_of (ok_iload_n G dX6_at_19 rfl rfl) (z_ild _ _),
   zz_of (ok_iald G dX6_at_20 rfl) (z_ialp _),
   zz_of (ok_iret G dX6_at_21) (z_iret), trivial⟩

theorem zwX6_at_120_0 {Q : Option zv → zz_M → Prop} {X : Nat → zz_M → Prop} {f : Nat → Nat × Nat} {S L : Nat → Nat → Int} {P : Nat → Nat → Option Nat} {code : Int} (h : R32 code ∧ ((0 ≤ code → zsh ((2, f), S, L, P) 120 = (1, 5) ∧ (∀ b1 : Nat, zpt ((2, f), S, L, P) 120 0 = some b1 → ∃ n_ : Nat, zsh ((2, f), S, L, P) b1 = (2, n_) ∧ (n_ : Int) ≤ 2147483647 ∧ (0 ≤ code ∧ code < (n_ : Int)) ∧ (Q (some (vi (S b1 code.toNat))) ((2, f), S, L, P))) ∧ (zpt ((2, f), S, L, P) 120 0 = none → False)) ∧ (¬ 0 ≤ code → (0 ≤ ((-1) - code) ∧ ((-1) - code) < 4) ∧ (Q (some (vi (S 123 (((-1) - code).toNat)))) ((2, f), S, L, P))))) : zz_J zpX6_at_120 (zz_ret Q X 0 0) 0 [some (vr 120), some (vi code)] [] ((2, f), S, L, P) (0, 0) := zz_J.go [] 400 h

theorem zmX6_at_120 (l : Launch) (hl : l.stackTraces = false) : mm_Spec l yX6_at (ws_ yX6_at cX6_at 2 (some .int)) (mm_rm 1 0 0) (zE zX6_at_120) := by
  refine zz_Met.J hl (by decide) (fun C G hnh => ztX6_at_120 G hnh) ?_
  rintro as ⟨⟨t_, f⟩, S, L, P⟩ Q X h
  unfold zX6_at_120 at h
  split at h
  rotate_left
  · exact h.elim
  rename_i h_ code
  obtain ⟨e1_, e2_, h⟩ := mm_and2 h (fun q => q)
  cases mm_beq e1_
  cases mm_beq e2_
  try dsimp only at h
  refine ⟨rfl, ?_⟩
  obtain ⟨a, ⟨ha1, ha2, -⟩, q1, q2⟩ := h
  refine zwX6_at_120_0 ⟨?_, fun c => ⟨rfl, fun b e => ?_, fun e => ?_⟩, fun c => ⟨?_, (q1 (by omega)).2⟩⟩
  · by_cases c : code < 0
    · have := (q1 c).1
      omega
    · have := (q2 (by omega)).1
      omega
  · have e2 : P 120 0 = some b := e
    rw [ha2] at e2
    cases e2
    have := q2 c
    exact ⟨15488, by rcases ha1 with e | e <;> subst e <;> rfl, by decide, ⟨c, by omega⟩, this.2⟩
  · have e2 : P 120 0 = none := e
    rw [ha2] at e2
    cases e2
  · have := (q1 (by omega)).1
    omega
def zX6_by_120 : zz_Sp := fun as M Q X => match as with
  | [.inr (.inr (some h_)), .inl code, .inl style] => bif Nat.beq h_ 120 && Nat.beq M.1.1 2 then ((0 ≤ code ∧ code < 15488) ∧ cbR code = true ∧ (0 ≤ style ∧ style < 16) ∧ ∃ (w_ tb_ : Nat → Int) (a_ : Nat) (p_ th_ : Int), cN M.2.2.2 120 a_ ∧ tbE M.2.1 a_ tb_ ∧ tbG tb_ ∧ enE M.2.1 120 p_ th_ ∧ rwE M.2.1 w_ ∧ lT M.2.1 w_ ∧ mG w_ ∧ whB w_ 16 = true ∧ Q (some (vi (hdR tb_ w_ code (12 * style).toNat p_ th_))) ((2, M.1.2), M.2.1, M.2.2.1, M.2.2.2)) else False
  | _ => False

def zpX6_by_120 : zz_P := [(0, zo_ald 1 0), (1, zo_get 4 5 2 4), (4, zo_get 7 0 2 0), (7, zo_get 10 1 2 6), (10, zo_ild 11 2), (11, zo_aald 12), (12, zo_ast 13 3), (13, zo_c 14 (vl 0)), (14, zo_lst 16 4), (16, zo_c 17 (vi 0)), (17, zo_ist 19 6), (19, zo_ild 21 6), (21, zo_c 23 (vi 12)), (23, zo_cge false true 26 70), (26, zo_ald 27 3), (27, zo_ild 29 6), (29, zo_ialp 30), (30, zo_ifle false 33 64), (33, zo_lld 35 4), (35, zo_ald 36 3), (36, zo_ild 38 6), (38, zo_ialp 39), (39, zo_i2l 40), (40, zo_ald 41 0), (41, zo_ald 42 0), (42, zo_get 45 5 2 4), (45, zo_get 48 0 2 4), (48, zo_c 50 (vi 12)), (50, zo_ild 51 1), (51, zo_imul 52), (52, zo_ild 54 6), (54, zo_iadd 55), (55, zo_iald 56), (56, zo_callv 59 2 5 zX6_at_120), (59, zo_i2l 60), (60, zo_lmul 61), (61, zo_ladd 62), (62, zo_lst 64 4), (64, zo_inc 67 6 1), (67, zo_goto 19), (70, zo_lld 72 4), (72, zo_c 75 (vl 100)), (75, zo_ldiv 76), (76, zo_l2i 77), (77, zo_iret)]
theorem ztX6_by_120 {C : mm_C} (G : mm_G C RX6 cX6_by (some .int) 7 (mm_rm 2 0 0)) (hnh : mm_nh C) : zz_OKs C zpX6_by_120 :=
  ⟨zz_of (ok_aload_n G dX6_by_0 rfl rfl) (z_ald _ _),
   zz_of (ok_get G (nx := 4) (ci := 5) (kd := 2) (k := 4) (RX6, TX6, 5) rfl (by decide) rfl q330 dX6_by_1 rfl) (z_get _ _ _ _),
   zz_of (ok_getN G (nx := 7) (ci := 0) (kd := 2) (k := 0) (RX1, TX1, 19) rfl (by decide) rfl q402 dX6_by_4 rfl) (z_get _ _ _ _),
   zz_of (ok_getN G (nx := 10) (ci := 1) (kd := 2) (k := 6) (RX2, TX2, 11) rfl (by decide) rfl q233 dX6_by_7 rfl) (z_get _ _ _ _),
   zz_of (ok_iload_n G dX6_by_10 rfl rfl) (z_ild _ _),
   zz_of (ok_aald G dX6_by_11 rfl) (z_aald _),
   zz_of (ok_astore_n G dX6_by_12 rfl rfl (by decide)) (z_ast _ _),
   zz_of (ok_lconst G (v := 0) dX6_by_13 (by decide) rfl) (z_cl 14 0),
   zz_of (ok_lstore G dX6_by_14 rfl (by decide)) (z_lst _ _),
   zz_of (ok_iconst G (v := 0) dX6_by_16 (by decide) rfl) (z_cn 17 0),
   zz_of (ok_istore G dX6_by_17 rfl (by decide)) (z_ist _ _),
   zz_of (ok_iload G dX6_by_19 rfl) (z_ild _ _),
   zz_of (ok_bipush G (v := 12) dX6_by_21 (by decide) rfl) (z_cn 23 12),
   zz_of (ok_cge G dX6_by_23 rfl rfl) (z_cge _ _ _ _),
   zz_of (ok_aload_n G dX6_by_26 rfl rfl) (z_ald _ _),
   zz_of (ok_iload G dX6_by_27 rfl) (z_ild _ _),
   zz_of (ok_iald G dX6_by_29 rfl) (z_ialp _),
   zz_of (ok_ifle G dX6_by_30 rfl rfl) (z_ifle _ _ _),
   zz_of (ok_lload G dX6_by_33 rfl) (z_lld _ _),
   zz_of (ok_aload_n G dX6_by_35 rfl rfl) (z_ald _ _),
   zz_of (ok_iload G dX6_by_36 rfl) (z_ild _ _),
   zz_of (ok_iald G dX6_by_38 rfl) (z_ialp _),
   zz_of (ok_i2l G dX6_by_39 rfl) (z_i2l _),
   zz_of (ok_aload_n G dX6_by_40 rfl rfl) (z_ald _ _),
   zz_of (ok_aload_n G dX6_by_41 rfl rfl) (z_ald _ _),
   zz_of (ok_get G (nx := 45) (ci := 5) (kd := 2) (k := 4) (RX6, TX6, 5) rfl (by decide) rfl q330 dX6_by_42 rfl) (z_get _ _ _ _),
   zz_of (ok_getN G (nx := 48) (ci := 0) (kd := 2) (k := 4) (RX1, TX1, 19) rfl (by decide) rfl q408 dX6_by_45 rfl) (z_get _ _ _ _),
   zz_of (ok_bipush G (v := 12) dX6_by_48 (by decide) rfl) (z_cn 50 12),
   zz_of (ok_iload_n G dX6_by_50 rfl rfl) (z_ild _ _),
   zz_of (ok_imul G dX6_by_51 rfl) (z_imul _),
   zz_of (ok_iload G dX6_by_52 rfl) (z_ild _ _),
   zz_of (ok_iadd G dX6_by_54 rfl) (z_iadd _),
   zz_of (ok_iald G dX6_by_55 rfl) (z_iald _),
   zz_of (ok_callv G hnh (zmX6_at_120 _ G.hst) rfl rfl (RX6, TX6, 5) rfl q1633 q1634 q1635 q90 q1636 (by decide +kernel) ⟨by decide, by decide⟩ dX6_by_56 rfl) (z_callv _ _ _ _),
   zz_of (ok_i2l G dX6_by_59 rfl) (z_i2l _),
   zz_of (ok_lmul G dX6_by_60 rfl) (z_lmul _),
   zz_of (ok_ladd G dX6_by_61 rfl) (z_ladd _),
   zz_of (ok_lstore G dX6_by_62 rfl (by decide)) (z_lst _ _),
   zz_of (ok_iinc G (v := 1) dX6_by_64 (by decide) rfl (by decide)) (z_incn 67 6 1),
   zz_of (ok_goto G dX6_by_67 rfl) (z_goto _),
   zz_of (ok_lload G dX6_by_70 rfl) (z_lld _ _),
   zz_of (ok_ldc2 G (v := 100) q1637 dX6_by_72 rfl) (z_cl 75 100),
   zz_of (ok_ldiv G dX6_by_75 rfl) (z_ldiv _),
   zz_of (ok_l2i G dX6_by_76 rfl) (z_l2i _),
   zz_of (ok_iret G dX6_by_77) (z_iret), trivial⟩

theorem zwX6_by_120_0 {Q : Option zv → zz_M → Prop} {X : Nat → zz_M → Prop} {f : Nat → Nat × Nat} {S L : Nat → Nat → Int} {P : Nat → Nat → Option Nat} {code : Int} {style : Int} (h : ∃ t_ n_ : Nat, zsh ((2, f), S, L, P) 201 = (t_, n_) ∧ (t_ = 6 ∨ t_ = 7 ∨ t_ = 8) ∧ (n_ : Int) ≤ 2147483647 ∧ (0 ≤ style ∧ style < (n_ : Int)) ∧ (∀ b1 : Nat, zpt ((2, f), S, L, P) 201 style.toNat = some b1 → zz_J zpX6_by_120 (zz_ret Q X 0 0) 19 [some (vr 120), some (vi code), none, some (vr b1), some (vl 0), none, some (vi 0)] [] ((2, f), S, L, P) (0, 0)) ∧ (zpt ((2, f), S, L, P) 201 style.toNat = none → zz_J zpX6_by_120 (zz_ret Q X 0 0) 19 [some (vr 120), some (vi code), none, some (vn), some (vl 0), none, some (vi 0)] [] ((2, f), S, L, P) (0, 0))) : zz_J zpX6_by_120 (zz_ret Q X 0 0) 0 [some (vr 120), some (vi code), some (vi style), none, none, none, none] [] ((2, f), S, L, P) (0, 0) := zz_J.go [(19, [2, 5])] 400 h
theorem zwX6_by_120_19 {Q : Option zv → zz_M → Prop} {X : Nat → zz_M → Prop} {f : Nat → Nat × Nat} {S L : Nat → Nat → Int} {P : Nat → Nat → Option Nat} {x1 : Int} {h3 : Nat} {x4 : Int} {x6 : Int} (h : R32 x6 ∧ ((12 ≤ x6 → (0 ≤ x4 ∧ x4 < 9223372036854775808) ∧ (R64 (x4 / 100) ∧ (Q (some (vi (x4 / 100))) ((2, f), S, L, P)))) ∧ (¬ 12 ≤ x6 → ∃ n_ : Nat, zsh ((2, f), S, L, P) h3 = (2, n_) ∧ (n_ : Int) ≤ 2147483647 ∧ (0 ≤ x6 ∧ x6 < (n_ : Int)) ∧ (R32 (S h3 x6.toNat) ∧ (((S h3 x6.toNat) ≤ 0 → zz_J zpX6_by_120 (zz_ret Q X 0 0) 19 [some (vr 120), some (vi x1), none, some (vr h3), some (vl x4), none, some (vi (x6 + 1))] [] ((2, f), S, L, P) (0, 0)) ∧ (¬ (S h3 x6.toNat) ≤ 0 → ∃ n_ : Nat, zsh ((2, f), S, L, P) h3 = (2, n_) ∧ (n_ : Int) ≤ 2147483647 ∧ (0 ≤ x6 ∧ x6 < (n_ : Int)) ∧ (R32 (S h3 x6.toNat) ∧ ((0 ≤ ((12 * x1) + x6) ∧ ((12 * x1) + x6) < 185856) ∧ ((∃ a_1 : Nat, cN P 120 a_1 ∧ ((S 104 (((12 * x1) + x6).toNat)) < 0 → -4 ≤ (S 104 (((12 * x1) + x6).toNat)) ∧ (R32 (S 123 (-1 - (S 104 (((12 * x1) + x6).toNat))).toNat) ∧ (zz_J zpX6_by_120 (zz_ret Q X 0 0) 19 [some (vr 120), some (vi x1), none, some (vr h3), some (vl (x4 + ((S h3 x6.toNat) * (S 123 (-1 - (S 104 (((12 * x1) + x6).toNat))).toNat)))), none, some (vi (x6 + 1))] [] ((2, f), S, L, P) (0, 0)))) ∧ (0 ≤ (S 104 (((12 * x1) + x6).toNat)) → (S 104 (((12 * x1) + x6).toNat)) < 15488 ∧ (R32 (S a_1 (S 104 (((12 * x1) + x6).toNat)).toNat) ∧ (zz_J zpX6_by_120 (zz_ret Q X 0 0) 19 [some (vr 120), some (vi x1), none, some (vr h3), some (vl (x4 + ((S h3 x6.toNat) * (S a_1 (S 104 (((12 * x1) + x6).toNat)).toNat)))), none, some (vi (x6 + 1))] [] ((2, f), S, L, P) (0, 0)))))))))))))) : zz_J zpX6_by_120 (zz_ret Q X 0 0) 19 [some (vr 120), some (vi x1), none, some (vr h3), some (vl x4), none, some (vi x6)] [] ((2, f), S, L, P) (0, 0) := zz_J.go [(19, [2, 5])] 400 h

theorem zmX6_by_120 (l : Launch) (hl : l.stackTraces = false) : mm_Spec l yX6_by (ws_ yX6_by cX6_by 7 (some .int)) (mm_rm 2 0 0) (zE zX6_by_120) := by
  refine zz_Met.J hl (by decide) (fun C G hnh => ztX6_by_120 G hnh) ?_
  rintro as ⟨⟨t_, f⟩, S, L, P⟩ Q X h
  unfold zX6_by_120 at h
  split at h
  rotate_left
  · exact h.elim
  rename_i h_ code style
  obtain ⟨e1_, e2_, h⟩ := mm_and2 h (fun q => q)
  cases mm_beq e1_
  cases mm_beq e2_
  try dsimp only at h
  refine ⟨rfl, ?_⟩
  obtain ⟨hk, hcb, hs, w, tb, a, p, th, ha, htb, hG, hen, hrw, hl, hm, hwh, hq⟩ := h
  obtain ⟨k, rfl⟩ : ∃ k : Nat, code = (k : Int) := ⟨code.toNat, by omega⟩
  obtain ⟨sn, rfl⟩ : ∃ sn : Nat, style = (sn : Int) := ⟨style.toNat, by omega⟩
  have hX : scV (scX w (k : Int)) := unR_V hk.1 hk.2 hcb
  have ei : (12 * (sn : Int)).toNat = 12 * sn := by omega
  unfold hdR at hq
  rw [ei] at hq
  have hlk := (hl k (by omega)).2 hcb
  have t19 : ∀ (n o : Nat), o + n = 12 → zz_J zpX6_by_120 (zz_ret Q X 0 0) 19 [some (vr 120), some (vi (k : Int)), none, some (vr (210 + sn)), some (vl (hdS tb w (scX w (k : Int)) (12 * sn) p th o)), none, some (vi (o : Int))] [] ((2, f), S, L, P) (0, 0) := by
    intro n
    induction n with
    | zero =>
      intro o ho
      have e : o = 12 := by omega
      subst e
      have hb := hdS_in (p := p) (th := th) (ix := 12 * sn) hG hm.1 hm.2.1 hX (by omega) 12 (by decide)
      exact zwX6_by_120_19 ⟨by decide, fun _ => ⟨by omega, by omega, hq⟩, fun c => absurd c (by decide)⟩
    | succ n ih =>
      intro o ho
      have hc := hm.1.1 (12 * sn + o) (by omega)
      have er : S (210 + sn) o = w (12 * sn + o) := hrw sn o (by omega) (by omega)
      have ej : ((12 * (k : Int)) + (o : Int)).toNat = 12 * k + o := by omega
      have eb : S 104 (12 * k + o) = bhV w (k : Int) (o : Int) := hlk.1 o (by omega)
      obtain ⟨z1, z2, z3⟩ := atV_bh (tb := tb) (p := p) (th := th) (o := o) hk.1 hk.2 hcb hm.2.1 (by omega)
      have ht := hdT_in (p := p) (th := th) (how := (o : Int)) hG hm.2.1 hX (by omega) (by omega)
      have hsh : zsh ((2, f), S, L, P) (210 + sn) = (2, 12) := row_sh (by omega)
      have nx := ih (o + 1) (by omega)
      have es : hdS tb w (scX w (k : Int)) (12 * sn) p th (o + 1) = hdS tb w (scX w (k : Int)) (12 * sn) p th o + w (12 * sn + o) * hdT tb w (scX w (k : Int)) p th (o : Int) := rfl
      rw [es] at nx
      refine zwX6_by_120_19 ⟨by omega, fun c => absurd c (by omega), fun _ => ⟨12, hsh, by decide, ⟨by omega, by omega⟩, ?_⟩⟩
      rw [Int.toNat_natCast, er]
      refine ⟨by omega, fun c => ?_, fun c => ⟨12, hsh, by decide, ⟨by omega, by omega⟩, by omega, ⟨by omega, by omega⟩, a, ha, ?_⟩⟩
      · have e0 : w (12 * sn + o) = 0 := by omega
        rw [e0, Int.zero_mul, Int.add_zero] at nx
        exact nx
      · rw [ej, eb]
        refine ⟨fun d => ⟨z1.1, ?_⟩, fun d => ⟨z1.2, ?_⟩⟩
        · have ev : S (123) (-1 - bhV w (k : Int) (o : Int)).toNat = hdT tb w (scX w (k : Int)) p th (o : Int) := by
            rw [← z3]
            unfold atV
            rw [if_pos d]
            exact hen _ (by omega)
          rw [ev]
          exact ⟨by omega, nx⟩
        · have ev : S a (bhV w (k : Int) (o : Int)).toNat = hdT tb w (scX w (k : Int)) p th (o : Int) := by
            rw [← z3]
            unfold atV
            rw [if_neg (by omega)]
            refine htb _ (by omega) ?_
            have en : (((bhV w (k : Int) (o : Int)).toNat : Nat) : Int) = bhV w (k : Int) (o : Int) := by omega
            rw [en]
            exact z2 d
          rw [ev]
          exact ⟨by omega, nx⟩
  refine zwX6_by_120_0 (row_go hs.1 hs.2 ?_)
  rw [Int.toNat_natCast]
  exact t19 12 0 rfl
def zX6_begins_120 : zz_Sp := fun as M Q X => match as with
  | [.inr (.inr (some h_)), .inl ch] => bif Nat.beq h_ 120 && Nat.beq M.1.1 2 then (∃ a_ : Nat, cN M.2.2.2 120 a_ ∧ (∀ S_ : Nat → Nat → Int, (∀ h k, h ≠ a_ → ¬ (h = 120 ∧ k = 3) → S_ h k = M.2.1 h k) → S_ 120 3 = ch → (∀ k, k < 15488 → S_ a_ k = 0) → Q (some (vr 120)) ((2, M.1.2), S_, M.2.2.1, M.2.2.2))) else False
  | _ => False

def zpX6_begins_120 : zz_P := [(0, zo_ald 1 0), (1, zo_ild 2 1), (2, zo_puti 5 5 3), (5, zo_ald 6 0), (6, zo_getq 9 5 0), (9, zo_c 10 (vi 0)), (10, zo_calls 13 2 zJ3_fill), (13, zo_ald 14 0), (14, zo_aret)]
theorem ztX6_begins_120 {C : mm_C} (G : mm_G C RX6 cX6_begins (some (.object "ChaseCourt$Chances")) 2 (mm_rm 2 0 0)) (hnh : mm_nh C) : zz_OKs C zpX6_begins_120 :=
  ⟨zz_of (ok_aload_n G dX6_begins_0 rfl rfl) (z_ald _ _),
   zz_of (ok_iload_n G dX6_begins_1 rfl rfl) (z_ild _ _),
   zz_of (ok_puti G (nx := 5) (idx := 25) (ci := 5) (k := 3) (RX6, TX6, 5) rfl (by decide) rfl (mm_pw G (ci := 5) (k := 3) (RX6, TX6, 5) rfl (by decide) rfl q329 dX6_begins_2) rfl) (z_puti _ _ _),
   zz_of (ok_aload_n G dX6_begins_5 rfl rfl) (z_ald _ _),
   zz_of (ok_get G (nx := 9) (ci := 5) (kd := 2) (k := 0) (RX6, TX6, 5) rfl (by decide) rfl q324 dX6_begins_6 rfl) (z_getq _ _ _),
   zz_of (ok_iconst G (v := 0) dX6_begins_9 (by decide) rfl) (z_cn 10 0),
   zz_of (ok_calls G hnh (zmJ3_fill _ G.hst) rfl rfl q1614 q1615 q95 q1616 (by decide +kernel) ⟨by decide, by decide⟩ dX6_begins_10 rfl) (z_calls _ _ _),
   zz_of (ok_aload_n G dX6_begins_13 rfl rfl) (z_ald _ _),
   zz_of (ok_aret G (Or.inl ⟨_, rfl⟩) dX6_begins_14) (z_aret), trivial⟩

theorem zwX6_begins_120_0 {Q : Option zv → zz_M → Prop} {X : Nat → zz_M → Prop} {f : Nat → Nat × Nat} {S L : Nat → Nat → Int} {P : Nat → Nat → Option Nat} {ch : Int} (h : zsh ((2, f), mm_up S 120 3 ch, L, P) 120 = (1, 5) ∧ (∀ b1 : Nat, zpt ((2, f), mm_up S 120 3 ch, L, P) 120 0 = some b1 → (∃ n_2 : Nat, zsh ((2, f), (mm_up S 120 3 ch), L, P) b1 = (2, n_2) ∧ n_2 ≤ 2147483647 ∧ (∀ S_2 : Nat → Nat → Int, (∀ h k, (h ≠ b1 ∨ n_2 ≤ k) → S_2 h k = (mm_up S 120 3 ch) h k) → (∀ k, k < n_2 → S_2 b1 k = (0 : Int)) → (Q (some (vr 120)) ((2, f), S_2, L, P))))) ∧ (zpt ((2, f), mm_up S 120 3 ch, L, P) 120 0 = none → (False))) : zz_J zpX6_begins_120 (zz_ret Q X 0 0) 0 [some (vr 120), some (vi ch)] [] ((2, f), S, L, P) (0, 0) := zz_J.go [] 400 h

theorem zmX6_begins_120 (l : Launch) (hl : l.stackTraces = false) : mm_Spec l yX6_begins (ws_ yX6_begins cX6_begins 2 (some (.object "ChaseCourt$Chances"))) (mm_rm 2 0 0) (zE zX6_begins_120) := by
  refine zz_Met.J hl (by decide) (fun C G hnh => ztX6_begins_120 G hnh) ?_
  rintro as ⟨⟨t_, f⟩, S, L, P⟩ Q X h
  unfold zX6_begins_120 at h
  split at h
  rotate_left
  · exact h.elim
  rename_i h_ ch
  obtain ⟨e1_, e2_, h⟩ := mm_and2 h (fun q => q)
  cases mm_beq e1_
  cases mm_beq e2_
  try dsimp only at h
  refine ⟨rfl, ?_⟩
  obtain ⟨a, ⟨ha1, ha2, -⟩, hq⟩ := h
  have hsh : zsh ((2, f), mm_up S 120 3 ch, L, P) a = (2, 15488) := by rcases ha1 with e | e <;> subst e <;> rfl
  refine zwX6_begins_120_0 ⟨rfl, fun b e => ?_, fun e => ?_⟩
  · have e2 : P 120 0 = some b := e
    rw [ha2] at e2
    cases e2
    refine ⟨15488, hsh, by decide, fun S2 h1 h2 => hq S2 (fun h k c d => ?_) ?_ h2⟩
    · rw [h1 h k (Or.inl c), up_eq, if_neg d]
    · rw [h1 120 3 (Or.inl (by omega)), up_eq, if_pos ⟨rfl, rfl⟩]
  · have e2 : P 120 0 = none := e
    rw [ha2] at e2
    cases e2
def zX6_wins_120 : zz_Sp := fun as M Q X => match as with
  | [.inr (.inr (some h_)), .inl p] => bif Nat.beq h_ 120 && Nat.beq M.1.1 2 then ((p = 0 ∨ p = 1) ∧ ∃ a_ : Nat, cN M.2.2.2 120 a_ ∧ (∀ S_ : Nat → Nat → Int, (∀ h k, h ≠ a_ → ¬ (h = 120 ∧ k = 3) → ¬ (h = 123 ∧ k < 4) → S_ h k = M.2.1 h k) → S_ 120 3 = -1 → enE S_ 120 p (-1) → (∀ k, k < 15488 → S_ a_ k = 0) → Q (some (vr 120)) ((2, M.1.2), S_, M.2.2.1, M.2.2.2))) else False
  | _ => False

def zpX6_wins_120 : zz_P := [(0, zo_c 1 (vi 0)), (1, zo_ist 2 2), (2, zo_ild 3 2), (3, zo_c 4 (vi 4)), (4, zo_cge false true 7 32), (7, zo_ald 8 0), (8, zo_get 11 5 2 2), (11, zo_ild 12 2), (12, zo_ild 13 2), (13, zo_c 14 (vi 2)), (14, zo_idiv 15), (15, zo_ild 16 1), (16, zo_cne false false 19 24), (19, zo_c 21 (vi 1000000000)), (21, zo_goto 25), (24, zo_c 25 (vi 0)), (25, zo_iasd 26), (26, zo_inc 29 2 1), (29, zo_goto 2), (32, zo_ald 33 0), (33, zo_c 34 (vi (-1))), (34, zo_callv 37 2 5 zX6_begins_120), (37, zo_aret)]
theorem ztX6_wins_120 {C : mm_C} (G : mm_G C RX6 cX6_wins (some (.object "ChaseCourt$Chances")) 3 (mm_rm 3 0 0)) (hnh : mm_nh C) : zz_OKs C zpX6_wins_120 :=
  ⟨zz_of (ok_iconst G (v := 0) dX6_wins_0 (by decide) rfl) (z_cn 1 0),
   zz_of (ok_istore_n G dX6_wins_1 rfl rfl (by decide)) (z_ist _ _),
   zz_of (ok_iload_n G dX6_wins_2 rfl rfl) (z_ild _ _),
   zz_of (ok_iconst G (v := 4) dX6_wins_3 (by decide) rfl) (z_cn 4 4),
   zz_of (ok_cge G dX6_wins_4 rfl rfl) (z_cge _ _ _ _),
   zz_of (ok_aload_n G dX6_wins_7 rfl rfl) (z_ald _ _),
   zz_of (ok_get G (nx := 11) (ci := 5) (kd := 2) (k := 2) (RX6, TX6, 5) rfl (by decide) rfl q326 dX6_wins_8 rfl) (z_get _ _ _ _),
   zz_of (ok_iload_n G dX6_wins_11 rfl rfl) (z_ild _ _),
   zz_of (ok_iload_n G dX6_wins_12 rfl rfl) (z_ild _ _),
   zz_of (ok_iconst G (v := 2) dX6_wins_13 (by decide) rfl) (z_cn 14 2),
   zz_of (ok_idiv G dX6_wins_14 rfl) (z_idiv _),
   zz_of (ok_iload_n G dX6_wins_15 rfl rfl) (z_ild _ _),
   zz_of (ok_cne G dX6_wins_16 rfl rfl) (z_cne _ _ _ _),
   zz_of (ok_ldc G (v := 1000000000) q1609 dX6_wins_19 rfl) (z_cn 21 1000000000),
   zz_of (ok_goto G dX6_wins_21 rfl) (z_goto _),
   zz_of (ok_iconst G (v := 0) dX6_wins_24 (by decide) rfl) (z_cn 25 0),
   zz_of (ok_iast G dX6_wins_25 rfl) (z_iasd _),
   zz_of (ok_iinc G (v := 1) dX6_wins_26 (by decide) rfl (by decide)) (z_incn 29 2 1),
   zz_of (ok_goto G dX6_wins_29 rfl) (z_goto _),
   zz_of (ok_aload_n G dX6_wins_32 rfl rfl) (z_ald _ _),
   zz_of (ok_iconst G (v := (zI (-1))) dX6_wins_33 (by decide) rfl) (z_cz 34 (-1)),
   zz_of (ok_callv G hnh (zmX6_begins_120 _ G.hst) rfl rfl (RX6, TX6, 5) rfl q1610 q1611 q1612 q90 q1613 (by decide +kernel) ⟨by decide, by decide⟩ dX6_wins_34 rfl) (z_callv _ _ _ _),
   zz_of (ok_aret G (Or.inl ⟨_, rfl⟩) dX6_wins_37) (z_aret), trivial⟩

theorem zwX6_wins_120_0 {Q : Option zv → zz_M → Prop} {X : Nat → zz_M → Prop} {f : Nat → Nat × Nat} {S L : Nat → Nat → Int} {P : Nat → Nat → Option Nat} {p : Int} (h : zz_J zpX6_wins_120 (zz_ret Q X 0 0) 2 [some (vr 120), some (vi p), some (vi 0)] [] ((2, f), S, L, P) (0, 0)) : zz_J zpX6_wins_120 (zz_ret Q X 0 0) 0 [some (vr 120), some (vi p), none] [] ((2, f), S, L, P) (0, 0) := zz_J.go [(2, [])] 400 h
theorem zwX6_wins_120_2 {Q : Option zv → zz_M → Prop} {X : Nat → zz_M → Prop} {f : Nat → Nat × Nat} {S L : Nat → Nat → Int} {P : Nat → Nat → Option Nat} {x1 : Int} {x2 : Int} (h : R32 x2 ∧ ((4 ≤ x2 → (∃ a_1 : Nat, cN P 120 a_1 ∧ (∀ S_1 : Nat → Nat → Int, (∀ h k, h ≠ a_1 → ¬ (h = 120 ∧ k = 3) → S_1 h k = S h k) → S_1 120 3 = (-1) → (∀ k, k < 15488 → S_1 a_1 k = 0) → (Q (some (vr 120)) ((2, f), S_1, L, P))))) ∧ (¬ 4 ≤ x2 → (0 ≤ x2 ∧ x2 < 2147483648) ∧ (R32 (x2 / 2) ∧ (R32 x1 ∧ ((¬ (x2 / 2) = x1 → (0 ≤ x2 ∧ x2 < 4) ∧ (zz_J zpX6_wins_120 (zz_ret Q X 0 0) 2 [some (vr 120), some (vi x1), some (vi (x2 + 1))] [] ((2, f), mm_up S 123 x2.toNat 0, L, P) (0, 0))) ∧ ((x2 / 2) = x1 → (0 ≤ x2 ∧ x2 < 4) ∧ (zz_J zpX6_wins_120 (zz_ret Q X 0 0) 2 [some (vr 120), some (vi x1), some (vi (x2 + 1))] [] ((2, f), mm_up S 123 x2.toNat 1000000000, L, P) (0, 0))))))))) : zz_J zpX6_wins_120 (zz_ret Q X 0 0) 2 [some (vr 120), some (vi x1), some (vi x2)] [] ((2, f), S, L, P) (0, 0) := zz_J.go [(2, [])] 400 h

theorem zmX6_wins_120 (l : Launch) (hl : l.stackTraces = false) : mm_Spec l yX6_wins (ws_ yX6_wins cX6_wins 3 (some (.object "ChaseCourt$Chances"))) (mm_rm 3 0 0) (zE zX6_wins_120) := by
  refine zz_Met.J hl (by decide) (fun C G hnh => ztX6_wins_120 G hnh) ?_
  rintro as ⟨⟨t_, f⟩, S, L, P⟩ Q X h
  unfold zX6_wins_120 at h
  split at h
  rotate_left
  · exact h.elim
  rename_i h_ p
  obtain ⟨e1_, e2_, h⟩ := mm_and2 h (fun q => q)
  cases mm_beq e1_
  cases mm_beq e2_
  try dsimp only at h
  refine ⟨rfl, ?_⟩
  obtain ⟨hp, a, ha, hq⟩ := h
  have ha1 := ha.1
  have t2 : ∀ (m i : Nat) (T : Nat → Nat → Int), i + m = 4 → (∀ h k, ¬ (h = 123 ∧ k < 4) → T h k = S h k) → (∀ k, k < i → T 123 k = enV4 p (-1) k) → zz_J zpX6_wins_120 (zz_ret Q X 0 0) 2 [some (vr 120), some (vi p), some (vi (i : Int))] [] ((2, f), T, L, P) (0, 0) := by
    intro m
    induction m with
    | zero =>
      intro i T hi h1 h2
      refine zwX6_wins_120_2 ⟨by omega, fun _ => ⟨a, ha, fun S2 g1 g2 g3 => hq S2 (fun h k c d e => ?_) g2 (fun j hj => ?_) g3⟩, fun c => absurd c (by omega)⟩
      · rw [g1 h k c d]
        exact h1 h k e
      · rw [g1 _ _ (by omega) (by omega)]
        exact h2 j (by omega)
    | succ m ih =>
      intro i T hi h1 h2
      have nx : ∀ v : Int, v = enV4 p (-1) i → zz_J zpX6_wins_120 (zz_ret Q X 0 0) 2 [some (vr 120), some (vi p), some (vi ((i : Int) + 1))] [] ((2, f), mm_up T 123 i v, L, P) (0, 0) := by
        intro v hv
        refine ih (i + 1) _ (by omega) (fun h k c => ?_) (fun k hk => ?_)
        · rw [up_eq, if_neg (by omega)]
          exact h1 h k c
        · by_cases e : k = i
          · rw [up_eq, if_pos ⟨rfl, e⟩, hv, e]
          · rw [up_eq, if_neg (by omega)]
            exact h2 k (by omega)
      refine zwX6_wins_120_2 ⟨by omega, fun c => absurd c (by omega), fun _ => ⟨by omega, by omega, by omega, fun c => ⟨by omega, ?_⟩, fun c => ⟨by omega, ?_⟩⟩⟩
      · rw [Int.toNat_natCast]
        refine nx _ ?_
        unfold enV4
        rw [if_neg (fun d => c (by omega))]
      · rw [Int.toNat_natCast]
        refine nx _ ?_
        unfold enV4
        rw [if_pos ⟨by omega, Or.inl rfl⟩]
  exact zwX6_wins_120_0 (t2 4 0 S rfl (fun _ _ _ => rfl) (fun k hk => absurd hk (by omega)))
def zX6_with_120 : zz_Sp := fun as M Q X => match as with
  | [.inr (.inr (some h_)), .inl code, .inl serves, .inl s] => bif Nat.beq h_ 120 && Nat.beq M.1.1 2 then ((0 ≤ code ∧ code < 15488) ∧ (0 ≤ M.2.1 107 code.toNat ∧ M.2.1 107 code.toNat ≤ 15) ∧ (serves = 0 ∨ serves = 1) ∧ (serves = 1 → Q (some (vi (4 * s + M.2.1 107 code.toNat % 4))) ((2, M.1.2), M.2.1, M.2.2.1, M.2.2.2)) ∧ (serves = 0 → Q (some (vi (4 * (M.2.1 107 code.toNat / 4) + s))) ((2, M.1.2), M.2.1, M.2.2.1, M.2.2.2))) else False
  | _ => False

def zpX6_with_120 : zz_P := [(0, zo_ild 1 2), (1, zo_ifeq false 4 22), (4, zo_c 5 (vi 4)), (5, zo_ild 6 3), (6, zo_imul 7), (7, zo_ald 8 0), (8, zo_get 11 5 2 4), (11, zo_get 14 0 2 7), (14, zo_ild 15 1), (15, zo_bald 16), (16, zo_c 17 (vi 4)), (17, zo_irem 18), (18, zo_iadd 19), (19, zo_goto 37), (22, zo_ald 23 0), (23, zo_get 26 5 2 4), (26, zo_get 29 0 2 7), (29, zo_ild 30 1), (30, zo_bald 31), (31, zo_c 32 (vi 4)), (32, zo_idiv 33), (33, zo_c 34 (vi 4)), (34, zo_imul 35), (35, zo_ild 36 3), (36, zo_iadd 37), (37, zo_iret)]
theorem ztX6_with_120 {C : mm_C} (G : mm_G C RX6 cX6_with (some .int) 4 (mm_rm 1 0 0)) (hnh : mm_nh C) : zz_OKs C zpX6_with_120 :=
  ⟨zz_of (ok_iload_n G dX6_with_0 rfl rfl) (z_ild _ _),
   zz_of (ok_ifeq G dX6_with_1 rfl rfl) (z_ifeq _ _ _),
   zz_of (ok_iconst G (v := 4) dX6_with_4 (by decide) rfl) (z_cn 5 4),
   zz_of (ok_iload_n G dX6_with_5 rfl rfl) (z_ild _ _),
   zz_of (ok_imul G dX6_with_6 rfl) (z_imul _),
   zz_of (ok_aload_n G dX6_with_7 rfl rfl) (z_ald _ _),
   zz_of (ok_get G (nx := 11) (ci := 5) (kd := 2) (k := 4) (RX6, TX6, 5) rfl (by decide) rfl q330 dX6_with_8 rfl) (z_get _ _ _ _),
   zz_of (ok_getN G (nx := 14) (ci := 0) (kd := 2) (k := 7) (RX1, TX1, 19) rfl (by decide) rfl q416 dX6_with_11 rfl) (z_get _ _ _ _),
   zz_of (ok_iload_n G dX6_with_14 rfl rfl) (z_ild _ _),
   zz_of (ok_bald G dX6_with_15 rfl) (z_bald _),
   zz_of (ok_iconst G (v := 4) dX6_with_16 (by decide) rfl) (z_cn 17 4),
   zz_of (ok_irem G dX6_with_17 rfl) (z_irem _),
   zz_of (ok_iadd G dX6_with_18 rfl) (z_iadd _),
   zz_of (ok_goto G dX6_with_19 rfl) (z_goto _),
   zz_of (ok_aload_n G dX6_with_22 rfl rfl) (z_ald _ _),
   zz_of (ok_get G (nx := 26) (ci := 5) (kd := 2) (k := 4) (RX6, TX6, 5) rfl (by decide) rfl q330 dX6_with_23 rfl) (z_get _ _ _ _),
   zz_of (ok_getN G (nx := 29) (ci := 0) (kd := 2) (k := 7) (RX1, TX1, 19) rfl (by decide) rfl q416 dX6_with_26 rfl) (z_get _ _ _ _),
   zz_of (ok_iload_n G dX6_with_29 rfl rfl) (z_ild _ _),
   zz_of (ok_bald G dX6_with_30 rfl) (z_bald _),
   zz_of (ok_iconst G (v := 4) dX6_with_31 (by decide) rfl) (z_cn 32 4),
   zz_of (ok_idiv G dX6_with_32 rfl) (z_idiv _),
   zz_of (ok_iconst G (v := 4) dX6_with_33 (by decide) rfl) (z_cn 34 4),
   zz_of (ok_imul G dX6_with_34 rfl) (z_imul _),
   zz_of (ok_iload_n G dX6_with_35 rfl rfl) (z_ild _ _),
   zz_of (ok_iadd G dX6_with_36 rfl) (z_iadd _),
   zz_of (ok_iret G dX6_with_37) (z_iret), trivial⟩

theorem zwX6_with_120_0 {Q : Option zv → zz_M → Prop} {X : Nat → zz_M → Prop} {f : Nat → Nat × Nat} {S L : Nat → Nat → Int} {P : Nat → Nat → Option Nat} {code : Int} {serves : Int} {s : Int} (h : R32 serves ∧ ((serves = 0 → (0 ≤ code ∧ code < 15488) ∧ ((0 ≤ (S 107 code.toNat) ∧ (S 107 code.toNat) < 2147483648) ∧ (Q (some (vi ((((S 107 code.toNat) / 4) * 4) + s))) ((2, f), S, L, P)))) ∧ (¬ serves = 0 → (0 ≤ code ∧ code < 15488) ∧ ((0 ≤ (S 107 code.toNat) ∧ (S 107 code.toNat) < 2147483648) ∧ (Q (some (vi ((4 * s) + ((S 107 code.toNat) % 4)))) ((2, f), S, L, P)))))) : zz_J zpX6_with_120 (zz_ret Q X 0 0) 0 [some (vr 120), some (vi code), some (vi serves), some (vi s)] [] ((2, f), S, L, P) (0, 0) := zz_J.go [] 400 h

theorem zmX6_with_120 (l : Launch) (hl : l.stackTraces = false) : mm_Spec l yX6_with (ws_ yX6_with cX6_with 4 (some .int)) (mm_rm 1 0 0) (zE zX6_with_120) := by
  refine zz_Met.J hl (by decide) (fun C G hnh => ztX6_with_120 G hnh) ?_
  rintro as ⟨⟨t_, f⟩, S, L, P⟩ Q X h
  unfold zX6_with_120 at h
  split at h
  rotate_left
  · exact h.elim
  rename_i h_ code serves s
  obtain ⟨e1_, e2_, h⟩ := mm_and2 h (fun q => q)
  cases mm_beq e1_
  cases mm_beq e2_
  try dsimp only at h
  refine ⟨rfl, ?_⟩
  obtain ⟨hk, hs, h01, q1, q2⟩ := h
  have e : S 107 code.toNat / 4 * 4 = 4 * (S 107 code.toNat / 4) := by omega
  refine zwX6_with_120_0 ⟨by omega, fun c => ⟨hk, by omega, ?_⟩, fun c => ⟨hk, by omega, q1 (by omega)⟩⟩
  rw [e]
  exact q2 c
def zX6_bestStyle_120 : zz_Sp := fun as M Q X => match as with
  | [.inr (.inr (some h_)), .inl code] => bif Nat.beq h_ 120 && Nat.beq M.1.1 2 then ((0 ≤ code ∧ code < 15488) ∧ cbR code = true ∧ ∃ (w_ tb_ st_ : Nat → Int) (a_ p_ : Nat), p_ < 2 ∧ M.2.1 120 3 = p_ ∧ styE M.2.1 st_ ∧ stG st_ ∧ cN M.2.2.2 120 a_ ∧ tbE M.2.1 a_ tb_ ∧ tbG tb_ ∧ enE M.2.1 120 p_ (-1) ∧ rwE M.2.1 w_ ∧ lT M.2.1 w_ ∧ mG w_ ∧ whB w_ 16 = true ∧ Q (some (vi (bsF tb_ w_ st_ code.toNat p_ 4).2)) ((2, M.1.2), M.2.1, M.2.2.1, M.2.2.2)) else False
  | _ => False

def zpX6_bestStyle_120 : zz_P := [(0, zo_ild 1 1), (1, zo_c 3 (vi 121)), (3, zo_idiv 4), (4, zo_c 5 (vi 2)), (5, zo_irem 6), (6, zo_ald 7 0), (7, zo_get 10 5 0 3), (10, zo_cne false false 13 17), (13, zo_c 14 (vi 1)), (14, zo_goto 18), (17, zo_c 18 (vi 0)), (18, zo_ist 19 2), (19, zo_c 20 (vi (-1))), (20, zo_ist 21 3), (21, zo_c 22 (vi 0)), (22, zo_ist 24 4), (24, zo_c 25 (vi 0)), (25, zo_ist 27 5), (27, zo_ild 29 5), (29, zo_c 30 (vi 4)), (30, zo_cge false true 33 76), (33, zo_ald 34 0), (34, zo_ild 35 1), (35, zo_ald 36 0), (36, zo_ild 37 1), (37, zo_ild 38 2), (38, zo_ild 40 5), (40, zo_callv 43 4 5 zX6_with_120), (43, zo_callv 46 3 5 zX6_by_120), (46, zo_ist 48 6), (48, zo_ild 49 3), (49, zo_c 50 (vi (-1))), (50, zo_ceq false true 53 63), (53, zo_ild 55 6), (55, zo_ild 57 4), (57, zo_cgt false false 60 63), (60, zo_goto 70), (63, zo_ild 65 5), (65, zo_ist 66 3), (66, zo_ild 68 6), (68, zo_ist 70 4), (70, zo_inc 73 5 1), (73, zo_goto 27), (76, zo_ild 77 3), (77, zo_iret)]
theorem ztX6_bestStyle_120 {C : mm_C} (G : mm_G C RX6 cX6_bestStyle (some .int) 7 (mm_rm 3 0 0)) (hnh : mm_nh C) : zz_OKs C zpX6_bestStyle_120 :=
  ⟨zz_of (ok_iload_n G dX6_bestStyle_0 rfl rfl) (z_ild _ _),
   zz_of (ok_bipush G (v := 121) dX6_bestStyle_1 (by decide) rfl) (z_cn 3 121),
   zz_of (ok_idiv G dX6_bestStyle_3 rfl) (z_idiv _),
   zz_of (ok_iconst G (v := 2) dX6_bestStyle_4 (by decide) rfl) (z_cn 5 2),
   zz_of (ok_irem G dX6_bestStyle_5 rfl) (z_irem _),
   zz_of (ok_aload_n G dX6_bestStyle_6 rfl rfl) (z_ald _ _),
   zz_of (ok_get G (nx := 10) (ci := 5) (kd := 0) (k := 3) (RX6, TX6, 5) rfl (by decide) rfl q329 dX6_bestStyle_7 rfl) (z_get _ _ _ _),
   zz_of (ok_cne G dX6_bestStyle_10 rfl rfl) (z_cne _ _ _ _),
   zz_of (ok_iconst G (v := 1) dX6_bestStyle_13 (by decide) rfl) (z_cn 14 1),
   zz_of (ok_goto G dX6_bestStyle_14 rfl) (z_goto _),
   zz_of (ok_iconst G (v := 0) dX6_bestStyle_17 (by decide) rfl) (z_cn 18 0),
   zz_of (ok_istore_n G dX6_bestStyle_18 rfl rfl (by decide)) (z_ist _ _),
   zz_of (ok_iconst G (v := (zI (-1))) dX6_bestStyle_19 (by decide) rfl) (z_cz 20 (-1)),
   zz_of (ok_istore_n G dX6_bestStyle_20 rfl rfl (by decide)) (z_ist _ _),
   zz_of (ok_iconst G (v := 0) dX6_bestStyle_21 (by decide) rfl) (z_cn 22 0),
   zz_of (ok_istore G dX6_bestStyle_22 rfl (by decide)) (z_ist _ _),
   zz_of (ok_iconst G (v := 0) dX6_bestStyle_24 (by decide) rfl) (z_cn 25 0),
   zz_of (ok_istore G dX6_bestStyle_25 rfl (by decide)) (z_ist _ _),
   zz_of (ok_iload G dX6_bestStyle_27 rfl) (z_ild _ _),
   zz_of (ok_iconst G (v := 4) dX6_bestStyle_29 (by decide) rfl) (z_cn 30 4),
   zz_of (ok_cge G dX6_bestStyle_30 rfl rfl) (z_cge _ _ _ _),
   zz_of (ok_aload_n G dX6_bestStyle_33 rfl rfl) (z_ald _ _),
   zz_of (ok_iload_n G dX6_bestStyle_34 rfl rfl) (z_ild _ _),
   zz_of (ok_aload_n G dX6_bestStyle_35 rfl rfl) (z_ald _ _),
   zz_of (ok_iload_n G dX6_bestStyle_36 rfl rfl) (z_ild _ _),
   zz_of (ok_iload_n G dX6_bestStyle_37 rfl rfl) (z_ild _ _),
   zz_of (ok_iload G dX6_bestStyle_38 rfl) (z_ild _ _),
   zz_of (ok_callv G hnh (zmX6_with_120 _ G.hst) rfl rfl (RX6, TX6, 5) rfl q1642 q1644 qs29 q90 q1645 (by decide +kernel) ⟨by decide, by decide⟩ dX6_bestStyle_40 rfl) (z_callv _ _ _ _),
   zz_of (ok_callv G hnh (zmX6_by_120 _ G.hst) rfl rfl (RX6, TX6, 5) rfl q1629 q1631 qs28 q90 q1632 (by decide +kernel) ⟨by decide, by decide⟩ dX6_bestStyle_43 rfl) (z_callv _ _ _ _),
   zz_of (ok_istore G dX6_bestStyle_46 rfl (by decide)) (z_ist _ _),
   zz_of (ok_iload_n G dX6_bestStyle_48 rfl rfl) (z_ild _ _),
   zz_of (ok_iconst G (v := (zI (-1))) dX6_bestStyle_49 (by decide) rfl) (z_cz 50 (-1)),
   zz_of (ok_ceq G dX6_bestStyle_50 rfl rfl) (z_ceq _ _ _ _),
   zz_of (ok_iload G dX6_bestStyle_53 rfl) (z_ild _ _),
   zz_of (ok_iload G dX6_bestStyle_55 rfl) (z_ild _ _),
   zz_of (ok_cgt G dX6_bestStyle_57 rfl rfl) (z_cgt _ _ _ _),
   zz_of (ok_goto G dX6_bestStyle_60 rfl) (z_goto _),
   zz_of (ok_iload G dX6_bestStyle_63 rfl) (z_ild _ _),
   zz_of (ok_istore_n G dX6_bestStyle_65 rfl rfl (by decide)) (z_ist _ _),
   zz_of (ok_iload G dX6_bestStyle_66 rfl) (z_ild _ _),
   zz_of (ok_istore G dX6_bestStyle_68 rfl (by decide)) (z_ist _ _),
   zz_of (ok_iinc G (v := 1) dX6_bestStyle_70 (by decide) rfl (by decide)) (z_incn 73 5 1),
   zz_of (ok_goto G dX6_bestStyle_73 rfl) (z_goto _),
   zz_of (ok_iload_n G dX6_bestStyle_76 rfl rfl) (z_ild _ _),
   zz_of (ok_iret G dX6_bestStyle_77) (z_iret), trivial⟩

theorem zwX6_bestStyle_120_0 {Q : Option zv → zz_M → Prop} {X : Nat → zz_M → Prop} {f : Nat → Nat × Nat} {S L : Nat → Nat → Int} {P : Nat → Nat → Option Nat} {code : Int} (h : (0 ≤ code ∧ code < 2147483648) ∧ ((0 ≤ (code / 121) ∧ (code / 121) < 2147483648) ∧ (R32 ((code / 121) % 2) ∧ (R32 (S 120 3) ∧ ((¬ ((code / 121) % 2) = (S 120 3) → zz_J zpX6_bestStyle_120 (zz_ret Q X 0 0) 18 [some (vr 120), some (vi code), none, none, none, none, none] [vi 0] ((2, f), S, L, P) (0, 0)) ∧ (((code / 121) % 2) = (S 120 3) → zz_J zpX6_bestStyle_120 (zz_ret Q X 0 0) 18 [some (vr 120), some (vi code), none, none, none, none, none] [vi 1] ((2, f), S, L, P) (0, 0))))))) : zz_J zpX6_bestStyle_120 (zz_ret Q X 0 0) 0 [some (vr 120), some (vi code), none, none, none, none, none] [] ((2, f), S, L, P) (0, 0) := zz_J.go [(18, [2, 3, 4, 5, 6]), (27, [6])] 400 h
theorem zwX6_bestStyle_120_18 {Q : Option zv → zz_M → Prop} {X : Nat → zz_M → Prop} {f : Nat → Nat × Nat} {S L : Nat → Nat → Int} {P : Nat → Nat → Option Nat} {x1 : Int} {t0 : Int} (h : zz_J zpX6_bestStyle_120 (zz_ret Q X 0 0) 27 [some (vr 120), some (vi x1), some (vi t0), some (vi (-1)), some (vi 0), some (vi 0), none] [] ((2, f), S, L, P) (0, 0)) : zz_J zpX6_bestStyle_120 (zz_ret Q X 0 0) 18 [some (vr 120), some (vi x1), none, none, none, none, none] [vi t0] ((2, f), S, L, P) (0, 0) := zz_J.go [(18, [2, 3, 4, 5, 6]), (27, [6])] 400 h
theorem zwX6_bestStyle_120_27 {Q : Option zv → zz_M → Prop} {X : Nat → zz_M → Prop} {f : Nat → Nat × Nat} {S L : Nat → Nat → Int} {P : Nat → Nat → Option Nat} {x1 : Int} {x2 : Int} {x3 : Int} {x4 : Int} {x5 : Int} (h : R32 x5 ∧ ((4 ≤ x5 → Q (some (vi x3)) ((2, f), S, L, P)) ∧ (¬ 4 ≤ x5 → ((0 ≤ x1 ∧ x1 < 15488) ∧ (0 ≤ S 107 x1.toNat ∧ S 107 x1.toNat ≤ 15) ∧ (x2 = 0 ∨ x2 = 1) ∧ (x2 = 1 → (((0 ≤ x1 ∧ x1 < 15488) ∧ cbR x1 = true ∧ (0 ≤ (4 * x5 + S 107 x1.toNat % 4) ∧ (4 * x5 + S 107 x1.toNat % 4) < 16) ∧ ∃ (w_2 tb_2 : Nat → Int) (a_2 : Nat) (p_2 th_2 : Int), cN P 120 a_2 ∧ tbE S a_2 tb_2 ∧ tbG tb_2 ∧ enE S 120 p_2 th_2 ∧ rwE S w_2 ∧ lT S w_2 ∧ mG w_2 ∧ whB w_2 16 = true ∧ (R32 x3 ∧ ((x3 = (-1) → zz_J zpX6_bestStyle_120 (zz_ret Q X 0 0) 27 [some (vr 120), some (vi x1), some (vi x2), some (vi x5), some (vi (hdR tb_2 w_2 x1 (12 * (4 * x5 + S 107 x1.toNat % 4)).toNat p_2 th_2)), some (vi (x5 + 1)), none] [] ((2, f), S, L, P) (0, 0)) ∧ (¬ x3 = (-1) → R32 (hdR tb_2 w_2 x1 (12 * (4 * x5 + S 107 x1.toNat % 4)).toNat p_2 th_2) ∧ (R32 x4 ∧ ((x4 < (hdR tb_2 w_2 x1 (12 * (4 * x5 + S 107 x1.toNat % 4)).toNat p_2 th_2) → zz_J zpX6_bestStyle_120 (zz_ret Q X 0 0) 27 [some (vr 120), some (vi x1), some (vi x2), some (vi x5), some (vi (hdR tb_2 w_2 x1 (12 * (4 * x5 + S 107 x1.toNat % 4)).toNat p_2 th_2)), some (vi (x5 + 1)), none] [] ((2, f), S, L, P) (0, 0)) ∧ (¬ x4 < (hdR tb_2 w_2 x1 (12 * (4 * x5 + S 107 x1.toNat % 4)).toNat p_2 th_2) → zz_J zpX6_bestStyle_120 (zz_ret Q X 0 0) 27 [some (vr 120), some (vi x1), some (vi x2), some (vi x3), some (vi x4), some (vi (x5 + 1)), none] [] ((2, f), S, L, P) (0, 0)))))))))) ∧ (x2 = 0 → (((0 ≤ x1 ∧ x1 < 15488) ∧ cbR x1 = true ∧ (0 ≤ (4 * (S 107 x1.toNat / 4) + x5) ∧ (4 * (S 107 x1.toNat / 4) + x5) < 16) ∧ ∃ (w_3 tb_3 : Nat → Int) (a_3 : Nat) (p_3 th_3 : Int), cN P 120 a_3 ∧ tbE S a_3 tb_3 ∧ tbG tb_3 ∧ enE S 120 p_3 th_3 ∧ rwE S w_3 ∧ lT S w_3 ∧ mG w_3 ∧ whB w_3 16 = true ∧ (R32 x3 ∧ ((x3 = (-1) → zz_J zpX6_bestStyle_120 (zz_ret Q X 0 0) 27 [some (vr 120), some (vi x1), some (vi x2), some (vi x5), some (vi (hdR tb_3 w_3 x1 (12 * (4 * (S 107 x1.toNat / 4) + x5)).toNat p_3 th_3)), some (vi (x5 + 1)), none] [] ((2, f), S, L, P) (0, 0)) ∧ (¬ x3 = (-1) → R32 (hdR tb_3 w_3 x1 (12 * (4 * (S 107 x1.toNat / 4) + x5)).toNat p_3 th_3) ∧ (R32 x4 ∧ ((x4 < (hdR tb_3 w_3 x1 (12 * (4 * (S 107 x1.toNat / 4) + x5)).toNat p_3 th_3) → zz_J zpX6_bestStyle_120 (zz_ret Q X 0 0) 27 [some (vr 120), some (vi x1), some (vi x2), some (vi x5), some (vi (hdR tb_3 w_3 x1 (12 * (4 * (S 107 x1.toNat / 4) + x5)).toNat p_3 th_3)), some (vi (x5 + 1)), none] [] ((2, f), S, L, P) (0, 0)) ∧ (¬ x4 < (hdR tb_3 w_3 x1 (12 * (4 * (S 107 x1.toNat / 4) + x5)).toNat p_3 th_3) → zz_J zpX6_bestStyle_120 (zz_ret Q X 0 0) 27 [some (vr 120), some (vi x1), some (vi x2), some (vi x3), some (vi x4), some (vi (x5 + 1)), none] [] ((2, f), S, L, P) (0, 0)))))))))))))) : zz_J zpX6_bestStyle_120 (zz_ret Q X 0 0) 27 [some (vr 120), some (vi x1), some (vi x2), some (vi x3), some (vi x4), some (vi x5), none] [] ((2, f), S, L, P) (0, 0) := zz_J.go [(18, [2, 3, 4, 5, 6]), (27, [6])] 400 h

theorem zmX6_bestStyle_120 (l : Launch) (hl : l.stackTraces = false) : mm_Spec l yX6_bestStyle (ws_ yX6_bestStyle cX6_bestStyle 7 (some .int)) (mm_rm 3 0 0) (zE zX6_bestStyle_120) := by
  refine zz_Met.J hl (by decide) (fun C G hnh => ztX6_bestStyle_120 G hnh) ?_
  rintro as ⟨⟨t_, f⟩, S, L, P⟩ Q X h
  unfold zX6_bestStyle_120 at h
  split at h
  rotate_left
  · exact h.elim
  rename_i h_ code
  obtain ⟨e1_, e2_, h⟩ := mm_and2 h (fun q => q)
  cases mm_beq e1_
  cases mm_beq e2_
  try dsimp only at h
  refine ⟨rfl, ?_⟩
  obtain ⟨hk, hcb, w, tb, st, a, p, hp, h3, hsy, hst, ha, htb, hG, hen, hrw, hl, hm, hwh, hq⟩ := h
  obtain ⟨k, rfl⟩ : ∃ k : Nat, code = (k : Int) := ⟨code.toNat, by omega⟩
  have hk2 : k < 15488 := by omega
  rw [Int.toNat_natCast] at hq
  have s7 := hsy k hk2 hcb
  have sA := hst (2 * k + k / 121 % 2) (by omega)
  have sB := hst (2 * k + 1 - k / 121 % 2) (by omega)
  have s15 : 0 ≤ S 107 k ∧ S 107 k ≤ 15 := by omega
  have t27 : ∀ (n s : Nat), s + n = 4 → ∀ sv : Int, sv = (if k / 121 % 2 = p then 1 else 0) → zz_J zpX6_bestStyle_120 (zz_ret Q X 0 0) 27 [some (vr 120), some (vi (k : Int)), some (vi sv), some (vi (bsF tb w st k p s).2), some (vi (if s = 0 then 0 else (bsF tb w st k p s).1)), some (vi (s : Int)), none] [] ((2, f), S, L, P) (0, 0) := by
    intro n
    induction n with
    | zero =>
      intro s hs sv hsv
      have e : s = 4 := by omega
      subst e
      exact zwX6_bestStyle_120_27 ⟨by omega, fun _ => hq, fun c => absurd c (by omega)⟩
    | succ n ih =>
      intro s hs sv hsv
      have nx := ih (s + 1) (by omega) sv hsv
      have hb := bsF_in (p := p) hG hm hwh hst hk2 hcb hp s (by omega)
      have h2 := bsF_2 (tb := tb) (w := w) (st := st) (k := k) (p := p) hG hm hwh hst hk2 hcb hp s (by omega)
      have hv := bsV_in hG hm hwh hst hk2 hcb hp (s := (s : Int)) (by omega)
      have es : bsF tb w st k p (s + 1) = if bsV tb w st k p s ≤ (bsF tb w st k p s).1 then bsF tb w st k p s else (bsV tb w st k p s, (s : Int)) := rfl
      have yes : (bsF tb w st k p s).1 < bsV tb w st k p s → zz_J zpX6_bestStyle_120 (zz_ret Q X 0 0) 27 [some (vr 120), some (vi (k : Int)), some (vi sv), some (vi (s : Int)), some (vi (bsV tb w st k p s)), some (vi ((s : Int) + 1)), none] [] ((2, f), S, L, P) (0, 0) := by
        intro c
        rw [es, if_neg (by omega), if_neg (by omega)] at nx
        exact nx
      have no : ¬ (bsF tb w st k p s).1 < bsV tb w st k p s → s ≠ 0 → zz_J zpX6_bestStyle_120 (zz_ret Q X 0 0) 27 [some (vr 120), some (vi (k : Int)), some (vi sv), some (vi (bsF tb w st k p s).2), some (vi (if s = 0 then 0 else (bsF tb w st k p s).1)), some (vi ((s : Int) + 1)), none] [] ((2, f), S, L, P) (0, 0) := by
        intro c d
        rw [es, if_pos (by omega), if_neg (by omega)] at nx
        rw [if_neg d]
        exact nx
      have fin : ∀ style : Int, (12 * style).toNat = bsI st k p s → ((0 ≤ (k : Int) ∧ (k : Int) < 15488) ∧ cbR (k : Int) = true ∧ True) := fun _ _ => ⟨hk, hcb, trivial⟩
      have v0 : s = 0 → (bsF tb w st k p s).2 = -1 ∧ (bsF tb w st k p s).1 = -1 := fun e => by subst e; exact ⟨rfl, rfl⟩
      refine zwX6_bestStyle_120_27 ⟨by omega, fun c => absurd c (by omega), fun _ => ⟨hk, by rw [Int.toNat_natCast]; exact s15, by rw [hsv]; split <;> decide, fun c => ?_, fun c => ?_⟩⟩
      · rw [Int.toNat_natCast]
        have hpp : k / 121 % 2 = p := by
          rw [hsv] at c
          by_cases e : k / 121 % 2 = p
          · exact e
          · rw [if_neg e] at c
            cases c
        have ei : (12 * (4 * (s : Int) + S 107 k % 4)).toNat = bsI st k p s := by
          unfold bsI
          rw [if_pos hpp]
          have : S 107 k % 4 = st (2 * k + 1 - p) := by rw [← hpp]; omega
          rw [this]
        rw [ei]
        refine ⟨hk, hcb, by omega, w, tb, a, (p : Int), -1, ha, htb, hG, hen, hrw, hl, hm, hwh, ?_⟩
        show R32 _ ∧ (_ → _) ∧ (_ → R32 (bsV tb w st k p s) ∧ R32 _ ∧ (_ → _) ∧ (_ → _))
        refine ⟨by omega, fun d => yes ?_, fun d => ⟨by omega, by split <;> omega, fun e => yes ?_, fun e => no ?_ ?_⟩⟩
        · by_cases e0 : s = 0
          · have := v0 e0
            omega
          · omega
        · show (bsF tb w st k p s).1 < bsV tb w st k p s
          have e' : (if s = 0 then 0 else (bsF tb w st k p s).1) < bsV tb w st k p s := e
          have e0 : s ≠ 0 := fun e0 => d (v0 e0).1
          rw [if_neg e0] at e'
          exact e'
        · intro f'
          have e0 : s ≠ 0 := fun e0 => d (v0 e0).1
          have e' : ¬ (if s = 0 then 0 else (bsF tb w st k p s).1) < bsV tb w st k p s := e
          rw [if_neg e0] at e'
          exact e' f'
        · exact fun e0 => d (v0 e0).1
      · rw [Int.toNat_natCast]
        have hpp : ¬ k / 121 % 2 = p := by
          rw [hsv] at c
          by_cases e : k / 121 % 2 = p
          · rw [if_pos e] at c
            cases c
          · exact e
        have ei : (12 * (4 * (S 107 k / 4) + (s : Int))).toNat = bsI st k p s := by
          unfold bsI
          rw [if_neg hpp]
          have e9 : 2 * k + k / 121 % 2 = 2 * k + 1 - p := by omega
          rw [e9] at s7 sA
          have : S 107 k / 4 = st (2 * k + 1 - p) := by omega
          rw [this]
        rw [ei]
        refine ⟨hk, hcb, by omega, w, tb, a, (p : Int), -1, ha, htb, hG, hen, hrw, hl, hm, hwh, ?_⟩
        show R32 _ ∧ (_ → _) ∧ (_ → R32 (bsV tb w st k p s) ∧ R32 _ ∧ (_ → _) ∧ (_ → _))
        refine ⟨by omega, fun d => yes ?_, fun d => ⟨by omega, by split <;> omega, fun e => yes ?_, fun e => no ?_ ?_⟩⟩
        · by_cases e0 : s = 0
          · have := v0 e0
            omega
          · omega
        · show (bsF tb w st k p s).1 < bsV tb w st k p s
          have e' : (if s = 0 then 0 else (bsF tb w st k p s).1) < bsV tb w st k p s := e
          have e0 : s ≠ 0 := fun e0 => d (v0 e0).1
          rw [if_neg e0] at e'
          exact e'
        · intro f'
          have e0 : s ≠ 0 := fun e0 => d (v0 e0).1
          have e' : ¬ (if s = 0 then 0 else (bsF tb w st k p s).1) < bsV tb w st k p s := e
          rw [if_neg e0] at e'
          exact e' f'
        · exact fun e0 => d (v0 e0).1
  have c2 : (k : Int) / 121 % 2 = ((k / 121 % 2 : Nat) : Int) := by omega
  refine zwX6_bestStyle_120_0 ⟨by omega, by omega, by omega, by omega, fun c => ?_, fun c => ?_⟩
  · exact zwX6_bestStyle_120_18 (t27 4 0 rfl 0 (by rw [if_neg (fun e => c (by omega))]))
  · exact zwX6_bestStyle_120_18 (t27 4 0 rfl 1 (by rw [if_pos (by omega)]))
def zX6_going_120 : zz_Sp := fun as M Q X => match as with
  | [.inr (.inr (some h_)), .inl code] => bif Nat.beq h_ 120 && Nat.beq M.1.1 2 then ((0 ≤ code ∧ code < 15488) ∧ cbR code = true ∧ ∃ (w_ st_ : Nat → Int) (a_ i_ : Nat) (p_ th_ ch_ : Int), chI M.2.1 M.2.2.2 120 w_ st_ a_ p_ th_ ch_ i_ ∧ Q (some (vi (kT w_ st_ p_ th_ ch_ (i_ + 1) code.toNat))) ((2, M.1.2), M.2.1, M.2.2.1, M.2.2.2)) else False
  | _ => False

def zpX6_going_120 : zz_P := [(0, zo_ald 1 0), (1, zo_get 4 5 0 3), (4, zo_c 5 (vi (-1))), (5, zo_cne false true 8 23), (8, zo_ald 9 0), (9, zo_ild 10 1), (10, zo_ald 11 0), (11, zo_get 14 5 2 4), (14, zo_get 17 0 2 7), (17, zo_ild 18 1), (18, zo_bald 19), (19, zo_callv 22 3 5 zX6_by_120), (22, zo_iret), (23, zo_ald 24 0), (24, zo_ild 25 1), (25, zo_ald 26 0), (26, zo_ild 27 1), (27, zo_ild 28 1), (28, zo_c 30 (vi 121)), (30, zo_idiv 31), (31, zo_c 32 (vi 2)), (32, zo_irem 33), (33, zo_ald 34 0), (34, zo_get 37 5 0 3), (37, zo_cne false false 40 44), (40, zo_c 41 (vi 1)), (41, zo_goto 45), (44, zo_c 45 (vi 0)), (45, zo_ald 46 0), (46, zo_ild 47 1), (47, zo_callv 50 2 5 zX6_bestStyle_120), (50, zo_callv 53 4 5 zX6_with_120), (53, zo_callv 56 3 5 zX6_by_120), (56, zo_iret)]
theorem ztX6_going_120 {C : mm_C} (G : mm_G C RX6 cX6_going (some .int) 2 (mm_rm 4 0 0)) (hnh : mm_nh C) : zz_OKs C zpX6_going_120 :=
  ⟨zz_of (ok_aload_n G dX6_going_0 rfl rfl) (z_ald _ _),
   zz_of (ok_get G (nx := 4) (ci := 5) (kd := 0) (k := 3) (RX6, TX6, 5) rfl (by decide) rfl q329 dX6_going_1 rfl) (z_get _ _ _ _),
   zz_of (ok_iconst G (v := (zI (-1))) dX6_going_4 (by decide) rfl) (z_cz 5 (-1)),
   zz_of (ok_cne G dX6_going_5 rfl rfl) (z_cne _ _ _ _),
   zz_of (ok_aload_n G dX6_going_8 rfl rfl) (z_ald _ _),
   zz_of (ok_iload_n G dX6_going_9 rfl rfl) (z_ild _ _),
   zz_of (ok_aload_n G dX6_going_10 rfl rfl) (z_ald _ _),
   zz_of (ok_get G (nx := 14) (ci := 5) (kd := 2) (k := 4) (RX6, TX6, 5) rfl (by decide) rfl q330 dX6_going_11 rfl) (z_get _ _ _ _),
   zz_of (ok_getN G (nx := 17) (ci := 0) (kd := 2) (k := 7) (RX1, TX1, 19) rfl (by decide) rfl q416 dX6_going_14 rfl) (z_get _ _ _ _),
   zz_of (ok_iload_n G dX6_going_17 rfl rfl) (z_ild _ _),
   zz_of (ok_bald G dX6_going_18 rfl) (z_bald _),
   zz_of (ok_callv G hnh (zmX6_by_120 _ G.hst) rfl rfl (RX6, TX6, 5) rfl q1629 q1631 qs28 q90 q1632 (by decide +kernel) ⟨by decide, by decide⟩ dX6_going_19 rfl) (z_callv _ _ _ _),
   zz_of (ok_iret G dX6_going_22) (z_iret),
   zz_of (ok_aload_n G dX6_going_23 rfl rfl) (z_ald _ _),
   zz_of (ok_iload_n G dX6_going_24 rfl rfl) (z_ild _ _),
   zz_of (ok_aload_n G dX6_going_25 rfl rfl) (z_ald _ _),
   zz_of (ok_iload_n G dX6_going_26 rfl rfl) (z_ild _ _),
   zz_of (ok_iload_n G dX6_going_27 rfl rfl) (z_ild _ _),
   zz_of (ok_bipush G (v := 121) dX6_going_28 (by decide) rfl) (z_cn 30 121),
   zz_of (ok_idiv G dX6_going_30 rfl) (z_idiv _),
   zz_of (ok_iconst G (v := 2) dX6_going_31 (by decide) rfl) (z_cn 32 2),
   zz_of (ok_irem G dX6_going_32 rfl) (z_irem _),
   zz_of (ok_aload_n G dX6_going_33 rfl rfl) (z_ald _ _),
   zz_of (ok_get G (nx := 37) (ci := 5) (kd := 0) (k := 3) (RX6, TX6, 5) rfl (by decide) rfl q329 dX6_going_34 rfl) (z_get _ _ _ _),
   zz_of (ok_cne G dX6_going_37 rfl rfl) (z_cne _ _ _ _),
   zz_of (ok_iconst G (v := 1) dX6_going_40 (by decide) rfl) (z_cn 41 1),
   zz_of (ok_goto G dX6_going_41 rfl) (z_goto _),
   zz_of (ok_iconst G (v := 0) dX6_going_44 (by decide) rfl) (z_cn 45 0),
   zz_of (ok_aload_n G dX6_going_45 rfl rfl) (z_ald _ _),
   zz_of (ok_iload_n G dX6_going_46 rfl rfl) (z_ild _ _),
   zz_of (ok_callv G hnh (zmX6_bestStyle_120 _ G.hst) rfl rfl (RX6, TX6, 5) rfl q1638 q1639 q1640 q90 q1641 (by decide +kernel) ⟨by decide, by decide⟩ dX6_going_47 rfl) (z_callv _ _ _ _),
   zz_of (ok_callv G hnh (zmX6_with_120 _ G.hst) rfl rfl (RX6, TX6, 5) rfl q1642 q1644 qs29 q90 q1645 (by decide +kernel) ⟨by decide, by decide⟩ dX6_going_50 rfl) (z_callv _ _ _ _),
   zz_of (ok_callv G hnh (zmX6_by_120 _ G.hst) rfl rfl (RX6, TX6, 5) rfl q1629 q1631 qs28 q90 q1632 (by decide +kernel) ⟨by decide, by decide⟩ dX6_going_53 rfl) (z_callv _ _ _ _),
   zz_of (ok_iret G dX6_going_56) (z_iret), trivial⟩

theorem zwX6_going_120_0 {Q : Option zv → zz_M → Prop} {X : Nat → zz_M → Prop} {f : Nat → Nat × Nat} {S L : Nat → Nat → Int} {P : Nat → Nat → Option Nat} {code : Int} (h : R32 (S 120 3) ∧ ((¬ (S 120 3) = (-1) → (0 ≤ code ∧ code < 2147483648) ∧ ((0 ≤ (code / 121) ∧ (code / 121) < 2147483648) ∧ (R32 ((code / 121) % 2) ∧ (R32 (S 120 3) ∧ ((¬ ((code / 121) % 2) = (S 120 3) → ((0 ≤ code ∧ code < 15488) ∧ cbR code = true ∧ ∃ (w_1 tb_1 st_1 : Nat → Int) (a_1 p_1 : Nat), p_1 < 2 ∧ S 120 3 = p_1 ∧ styE S st_1 ∧ stG st_1 ∧ cN P 120 a_1 ∧ tbE S a_1 tb_1 ∧ tbG tb_1 ∧ enE S 120 p_1 (-1) ∧ rwE S w_1 ∧ lT S w_1 ∧ mG w_1 ∧ whB w_1 16 = true ∧ (((0 ≤ code ∧ code < 15488) ∧ (0 ≤ S 107 code.toNat ∧ S 107 code.toNat ≤ 15) ∧ ((0 : Int) = 0 ∨ (0 : Int) = 1) ∧ ((0 : Int) = 1 → (((0 ≤ code ∧ code < 15488) ∧ cbR code = true ∧ (0 ≤ (4 * ((bsF tb_1 w_1 st_1 code.toNat p_1 4).2) + S 107 code.toNat % 4) ∧ (4 * ((bsF tb_1 w_1 st_1 code.toNat p_1 4).2) + S 107 code.toNat % 4) < 16) ∧ ∃ (w_3 tb_3 : Nat → Int) (a_3 : Nat) (p_3 th_3 : Int), cN P 120 a_3 ∧ tbE S a_3 tb_3 ∧ tbG tb_3 ∧ enE S 120 p_3 th_3 ∧ rwE S w_3 ∧ lT S w_3 ∧ mG w_3 ∧ whB w_3 16 = true ∧ (Q (some (vi (hdR tb_3 w_3 code (12 * (4 * ((bsF tb_1 w_1 st_1 code.toNat p_1 4).2) + S 107 code.toNat % 4)).toNat p_3 th_3))) ((2, f), S, L, P))))) ∧ ((0 : Int) = 0 → (((0 ≤ code ∧ code < 15488) ∧ cbR code = true ∧ (0 ≤ (4 * (S 107 code.toNat / 4) + ((bsF tb_1 w_1 st_1 code.toNat p_1 4).2)) ∧ (4 * (S 107 code.toNat / 4) + ((bsF tb_1 w_1 st_1 code.toNat p_1 4).2)) < 16) ∧ ∃ (w_4 tb_4 : Nat → Int) (a_4 : Nat) (p_4 th_4 : Int), cN P 120 a_4 ∧ tbE S a_4 tb_4 ∧ tbG tb_4 ∧ enE S 120 p_4 th_4 ∧ rwE S w_4 ∧ lT S w_4 ∧ mG w_4 ∧ whB w_4 16 = true ∧ (Q (some (vi (hdR tb_4 w_4 code (12 * (4 * (S 107 code.toNat / 4) + ((bsF tb_1 w_1 st_1 code.toNat p_1 4).2))).toNat p_4 th_4))) ((2, f), S, L, P))))))))) ∧ (((code / 121) % 2) = (S 120 3) → ((0 ≤ code ∧ code < 15488) ∧ cbR code = true ∧ ∃ (w_5 tb_5 st_5 : Nat → Int) (a_5 p_5 : Nat), p_5 < 2 ∧ S 120 3 = p_5 ∧ styE S st_5 ∧ stG st_5 ∧ cN P 120 a_5 ∧ tbE S a_5 tb_5 ∧ tbG tb_5 ∧ enE S 120 p_5 (-1) ∧ rwE S w_5 ∧ lT S w_5 ∧ mG w_5 ∧ whB w_5 16 = true ∧ (((0 ≤ code ∧ code < 15488) ∧ (0 ≤ S 107 code.toNat ∧ S 107 code.toNat ≤ 15) ∧ ((1 : Int) = 0 ∨ (1 : Int) = 1) ∧ ((1 : Int) = 1 → (((0 ≤ code ∧ code < 15488) ∧ cbR code = true ∧ (0 ≤ (4 * ((bsF tb_5 w_5 st_5 code.toNat p_5 4).2) + S 107 code.toNat % 4) ∧ (4 * ((bsF tb_5 w_5 st_5 code.toNat p_5 4).2) + S 107 code.toNat % 4) < 16) ∧ ∃ (w_7 tb_7 : Nat → Int) (a_7 : Nat) (p_7 th_7 : Int), cN P 120 a_7 ∧ tbE S a_7 tb_7 ∧ tbG tb_7 ∧ enE S 120 p_7 th_7 ∧ rwE S w_7 ∧ lT S w_7 ∧ mG w_7 ∧ whB w_7 16 = true ∧ (Q (some (vi (hdR tb_7 w_7 code (12 * (4 * ((bsF tb_5 w_5 st_5 code.toNat p_5 4).2) + S 107 code.toNat % 4)).toNat p_7 th_7))) ((2, f), S, L, P))))) ∧ ((1 : Int) = 0 → (((0 ≤ code ∧ code < 15488) ∧ cbR code = true ∧ (0 ≤ (4 * (S 107 code.toNat / 4) + ((bsF tb_5 w_5 st_5 code.toNat p_5 4).2)) ∧ (4 * (S 107 code.toNat / 4) + ((bsF tb_5 w_5 st_5 code.toNat p_5 4).2)) < 16) ∧ ∃ (w_8 tb_8 : Nat → Int) (a_8 : Nat) (p_8 th_8 : Int), cN P 120 a_8 ∧ tbE S a_8 tb_8 ∧ tbG tb_8 ∧ enE S 120 p_8 th_8 ∧ rwE S w_8 ∧ lT S w_8 ∧ mG w_8 ∧ whB w_8 16 = true ∧ (Q (some (vi (hdR tb_8 w_8 code (12 * (4 * (S 107 code.toNat / 4) + ((bsF tb_5 w_5 st_5 code.toNat p_5 4).2))).toNat p_8 th_8))) ((2, f), S, L, P)))))))))))))) ∧ ((S 120 3) = (-1) → (0 ≤ code ∧ code < 15488) ∧ (((0 ≤ code ∧ code < 15488) ∧ cbR code = true ∧ (0 ≤ (S 107 code.toNat) ∧ (S 107 code.toNat) < 16) ∧ ∃ (w_9 tb_9 : Nat → Int) (a_9 : Nat) (p_9 th_9 : Int), cN P 120 a_9 ∧ tbE S a_9 tb_9 ∧ tbG tb_9 ∧ enE S 120 p_9 th_9 ∧ rwE S w_9 ∧ lT S w_9 ∧ mG w_9 ∧ whB w_9 16 = true ∧ (Q (some (vi (hdR tb_9 w_9 code (12 * (S 107 code.toNat)).toNat p_9 th_9))) ((2, f), S, L, P))))))) : zz_J zpX6_going_120 (zz_ret Q X 0 0) 0 [some (vr 120), some (vi code)] [] ((2, f), S, L, P) (0, 0) := zz_J.go [] 400 h

theorem zmX6_going_120 (l : Launch) (hl : l.stackTraces = false) : mm_Spec l yX6_going (ws_ yX6_going cX6_going 2 (some .int)) (mm_rm 4 0 0) (zE zX6_going_120) := by
  refine zz_Met.J hl (by decide) (fun C G hnh => ztX6_going_120 G hnh) ?_
  rintro as ⟨⟨t_, f⟩, S, L, P⟩ Q X h
  unfold zX6_going_120 at h
  split at h
  rotate_left
  · exact h.elim
  rename_i h_ code
  obtain ⟨e1_, e2_, h⟩ := mm_and2 h (fun q => q)
  cases mm_beq e1_
  cases mm_beq e2_
  try dsimp only at h
  refine ⟨rfl, ?_⟩
  obtain ⟨hk, hcb, w, st, a, i, p, th, ch, ⟨⟨h3, hch, hp⟩, hsy, hst, ha, htb, hen, hrw, hl, hm, hwh⟩, hq⟩ := h
  obtain ⟨k, rfl⟩ : ∃ k : Nat, code = (k : Int) := ⟨code.toNat, by omega⟩
  have hk2 : k < 15488 := by omega
  rw [Int.toNat_natCast] at hq
  have hG := kT_G (th := th) (ch := ch) hp hm hwh hst i
  have s7 := hsy k hk2 hcb
  have sA := hst (2 * k + k / 121 % 2) (by omega)
  have sB := hst (2 * k + 1 - k / 121 % 2) (by omega)
  obtain ⟨pn, rfl, hpn⟩ : ∃ pn : Nat, p = (pn : Int) ∧ pn < 2 := ⟨p.toNat, by omega, by omega⟩
  have hs15 : 0 ≤ S 107 k ∧ S 107 k ≤ 15 := by omega
  have c2 : (k : Int) / 121 % 2 = ((k / 121 % 2 : Nat) : Int) := by omega
  have hb2 := (bsF_2 (tb := kT w st (pn : Int) th ch i) (p := pn) hG hm hwh hst hk2 hcb hpn 4 (by decide)).2 (by decide)
  refine zwX6_going_120_0 ?_
  rw [h3, Int.toNat_natCast]
  refine ⟨by omega, fun c => ⟨by omega, by omega, by omega, by omega, fun d => ?_, fun d => ?_⟩, fun c => ?_⟩
  · have hth : th = -1 := by omega
    subst hth
    have hchp : ch = (pn : Int) := by omega
    have er : kT w st (pn : Int) (-1) ch (i + 1) k = hdR (kT w st (pn : Int) (-1) ch i) w (k : Int) (bsI st k pn (bsF (kT w st (pn : Int) (-1) ch i) w st k pn 4).2) (pn : Int) (-1) := by
      have e1 : kT w st (pn : Int) (-1) ch (i + 1) k = (bsF (kT w st (pn : Int) (-1) ch i) w st k pn 4).1 := by
        unfold kT
        rw [if_neg c]
        show (if cbR (k : Int) = true then _ else _) = _
        rw [if_pos hcb]
        rfl
      rw [e1, ← hb2.2.2]
      rfl
    rw [er] at hq
    refine ⟨hk, hcb, w, kT w st (pn : Int) (-1) ch i, st, a, pn, hpn, hchp, hsy, hst, ha, htb, hG, hen, hrw, hl, hm, hwh, hk, hs15, by decide, fun e => absurd e (by decide), fun _ => ⟨hk, hcb, by omega, w, kT w st (pn : Int) (-1) ch i, a, (pn : Int), -1, ha, htb, hG, hen, hrw, hl, hm, hwh, ?_⟩⟩
    rw [bsI_0 s7 hst hk2 hpn (fun e => d (by omega))]
    exact hq
  · have hth : th = -1 := by omega
    subst hth
    have hchp : ch = (pn : Int) := by omega
    have er : kT w st (pn : Int) (-1) ch (i + 1) k = hdR (kT w st (pn : Int) (-1) ch i) w (k : Int) (bsI st k pn (bsF (kT w st (pn : Int) (-1) ch i) w st k pn 4).2) (pn : Int) (-1) := by
      have e1 : kT w st (pn : Int) (-1) ch (i + 1) k = (bsF (kT w st (pn : Int) (-1) ch i) w st k pn 4).1 := by
        unfold kT
        rw [if_neg c]
        show (if cbR (k : Int) = true then _ else _) = _
        rw [if_pos hcb]
        rfl
      rw [e1, ← hb2.2.2]
      rfl
    rw [er] at hq
    refine ⟨hk, hcb, w, kT w st (pn : Int) (-1) ch i, st, a, pn, hpn, hchp, hsy, hst, ha, htb, hG, hen, hrw, hl, hm, hwh, hk, hs15, by decide, fun _ => ⟨hk, hcb, by omega, w, kT w st (pn : Int) (-1) ch i, a, (pn : Int), -1, ha, htb, hG, hen, hrw, hl, hm, hwh, ?_⟩, fun e => absurd e (by decide)⟩
    rw [bsI_1 s7 hst hk2 (show k / 121 % 2 = pn by omega)]
    exact hq
  · have er : kT w st (pn : Int) th ch (i + 1) k = hdR (kT w st (pn : Int) th ch i) w (k : Int) (byI st k) (pn : Int) th := by
      unfold kT
      rw [if_pos c]
      show (if cbR (k : Int) = true then _ else _) = _
      rw [if_pos hcb]
      rfl
    rw [er] at hq
    refine ⟨hk, hk, hcb, by omega, w, kT w st (pn : Int) th ch i, a, (pn : Int), th, ha, htb, hG, hen, hrw, hl, hm, hwh, ?_⟩
    rw [byI_s s7]
    exact hq
def zX6_more_120 : zz_Sp := fun as M Q X => match as with
  | [.inr (.inr (some h_))] => bif Nat.beq h_ 120 && Nat.beq M.1.1 2 then (∃ (w_ st_ : Nat → Int) (a_ i_ : Nat) (p_ th_ ch_ : Int), chI M.2.1 M.2.2.2 120 w_ st_ a_ p_ th_ ch_ i_ ∧ (∀ (S_ : Nat → Nat → Int) (P_ : Nat → Nat → Option Nat), (∀ h, h ≠ 2 * 120 + 3 - a_ → S_ h = M.2.1 h) → (∀ h k, ¬ (h = 120 ∧ k < 2) → P_ h k = M.2.2.2 h k) → chI S_ P_ 120 w_ st_ (2 * 120 + 3 - a_) p_ th_ ch_ (i_ + 1) → Q none ((2, M.1.2), S_, M.2.2.1, P_))) else False
  | _ => False

def zpX6_more_120 : zz_P := [(0, zo_c 1 (vi 0)), (1, zo_ist 2 1), (2, zo_ild 3 1), (3, zo_c 6 (vi 15488)), (6, zo_cge false true 9 38), (9, zo_ald 10 0), (10, zo_get 13 5 2 4), (13, zo_get 16 0 2 6), (16, zo_ild 17 1), (17, zo_bald 18), (18, zo_ifeq false 21 32), (21, zo_ald 22 0), (22, zo_getq 25 5 1), (25, zo_ild 26 1), (26, zo_ald 27 0), (27, zo_ild 28 1), (28, zo_callv 31 2 5 zX6_going_120), (31, zo_iasp 32), (32, zo_inc 35 1 1), (35, zo_goto 2), (38, zo_ald 39 0), (39, zo_get 42 5 2 0), (42, zo_ast 43 1), (43, zo_ald 44 0), (44, zo_ald 45 0), (45, zo_get 48 5 2 1), (48, zo_putr 51 5 0), (51, zo_ald 52 0), (52, zo_ald 53 1), (53, zo_putr 56 5 1), (56, zo_vret)]
theorem ztX6_more_120 {C : mm_C} (G : mm_G C RX6 cX6_more none 2 (mm_rm 5 0 0)) (hnh : mm_nh C) : zz_OKs C zpX6_more_120 :=
  ⟨zz_of (ok_iconst G (v := 0) dX6_more_0 (by decide) rfl) (z_cn 1 0),
   zz_of (ok_istore_n G dX6_more_1 rfl rfl (by decide)) (z_ist _ _),
   zz_of (ok_iload_n G dX6_more_2 rfl rfl) (z_ild _ _),
   zz_of (ok_sipush G (v := 15488) dX6_more_3 (by decide) rfl) (z_cn 6 15488),
   zz_of (ok_cge G dX6_more_6 rfl rfl) (z_cge _ _ _ _),
   zz_of (ok_aload_n G dX6_more_9 rfl rfl) (z_ald _ _),
   zz_of (ok_get G (nx := 13) (ci := 5) (kd := 2) (k := 4) (RX6, TX6, 5) rfl (by decide) rfl q330 dX6_more_10 rfl) (z_get _ _ _ _),
   zz_of (ok_getN G (nx := 16) (ci := 0) (kd := 2) (k := 6) (RX1, TX1, 19) rfl (by decide) rfl q413 dX6_more_13 rfl) (z_get _ _ _ _),
   zz_of (ok_iload_n G dX6_more_16 rfl rfl) (z_ild _ _),
   zz_of (ok_bald G dX6_more_17 rfl) (z_bald _),
   zz_of (ok_ifeq G dX6_more_18 rfl rfl) (z_ifeq _ _ _),
   zz_of (ok_aload_n G dX6_more_21 rfl rfl) (z_ald _ _),
   zz_of (ok_get G (nx := 25) (ci := 5) (kd := 2) (k := 1) (RX6, TX6, 5) rfl (by decide) rfl q325 dX6_more_22 rfl) (z_getq _ _ _),
   zz_of (ok_iload_n G dX6_more_25 rfl rfl) (z_ild _ _),
   zz_of (ok_aload_n G dX6_more_26 rfl rfl) (z_ald _ _),
   zz_of (ok_iload_n G dX6_more_27 rfl rfl) (z_ild _ _),
   zz_of (ok_callv G hnh (zmX6_going_120 _ G.hst) rfl rfl (RX6, TX6, 5) rfl q1625 q1627 qs27 q90 q1628 (by decide +kernel) ⟨by decide, by decide⟩ dX6_more_28 rfl) (z_callv _ _ _ _),
   zz_of (ok_iast G dX6_more_31 rfl) (z_iasp _),
   zz_of (ok_iinc G (v := 1) dX6_more_32 (by decide) rfl (by decide)) (z_incn 35 1 1),
   zz_of (ok_goto G dX6_more_35 rfl) (z_goto _),
   zz_of (ok_aload_n G dX6_more_38 rfl rfl) (z_ald _ _),
   zz_of (ok_get G (nx := 42) (ci := 5) (kd := 2) (k := 0) (RX6, TX6, 5) rfl (by decide) rfl q324 dX6_more_39 rfl) (z_get _ _ _ _),
   zz_of (ok_astore_n G dX6_more_42 rfl rfl (by decide)) (z_ast _ _),
   zz_of (ok_aload_n G dX6_more_43 rfl rfl) (z_ald _ _),
   zz_of (ok_aload_n G dX6_more_44 rfl rfl) (z_ald _ _),
   zz_of (ok_get G (nx := 48) (ci := 5) (kd := 2) (k := 1) (RX6, TX6, 5) rfl (by decide) rfl q325 dX6_more_45 rfl) (z_get _ _ _ _),
   zz_of (ok_putr G (nx := 51) (idx := 15) (ci := 5) (k := 0) (RX6, TX6, 5) rfl (by decide) rfl (mm_pw G (ci := 5) (k := 0) (RX6, TX6, 5) rfl (by decide) rfl q324 dX6_more_48) rfl) (z_putr _ _ _),
   zz_of (ok_aload_n G dX6_more_51 rfl rfl) (z_ald _ _),
   zz_of (ok_aload_n G dX6_more_52 rfl rfl) (z_ald _ _),
   zz_of (ok_putr G (nx := 56) (idx := 19) (ci := 5) (k := 1) (RX6, TX6, 5) rfl (by decide) rfl (mm_pw G (ci := 5) (k := 1) (RX6, TX6, 5) rfl (by decide) rfl q325 dX6_more_53) rfl) (z_putr _ _ _),
   zz_of (ok_vret G dX6_more_56) (z_vret), trivial⟩

theorem zwX6_more_120_0 {Q : Option zv → zz_M → Prop} {X : Nat → zz_M → Prop} {f : Nat → Nat × Nat} {S L : Nat → Nat → Int} {P : Nat → Nat → Option Nat}  (h : zz_J zpX6_more_120 (zz_ret Q X 0 0) 2 [some (vr 120), some (vi 0)] [] ((2, f), S, L, P) (0, 0)) : zz_J zpX6_more_120 (zz_ret Q X 0 0) 0 [some (vr 120), none] [] ((2, f), S, L, P) (0, 0) := zz_J.go [(2, [])] 400 h
theorem zwX6_more_120_2 {Q : Option zv → zz_M → Prop} {X : Nat → zz_M → Prop} {f : Nat → Nat × Nat} {S L : Nat → Nat → Int} {P : Nat → Nat → Option Nat} {x1 : Int} (h : R32 x1 ∧ ((15488 ≤ x1 → Q none ((2, f), S, L, mm_up (mm_up P 120 0 (P 120 1)) 120 1 (P 120 0))) ∧ (¬ 15488 ≤ x1 → (0 ≤ x1 ∧ x1 < 15488) ∧ (R32 (S 106 x1.toNat) ∧ (((S 106 x1.toNat) = 0 → zz_J zpX6_more_120 (zz_ret Q X 0 0) 2 [some (vr 120), some (vi (x1 + 1))] [] ((2, f), S, L, P) (0, 0)) ∧ (¬ (S 106 x1.toNat) = 0 → zsh ((2, f), S, L, P) 120 = (1, 5) ∧ (∀ b1 : Nat, zpt ((2, f), S, L, P) 120 1 = some b1 → ((0 ≤ x1 ∧ x1 < 15488) ∧ cbR x1 = true ∧ ∃ (w_2 st_2 : Nat → Int) (a_2 i_2 : Nat) (p_2 th_2 ch_2 : Int), chI S P 120 w_2 st_2 a_2 p_2 th_2 ch_2 i_2 ∧ (∃ n_ : Nat, zsh ((2, f), S, L, P) b1 = (2, n_) ∧ (n_ : Int) ≤ 2147483647 ∧ (0 ≤ x1 ∧ x1 < (n_ : Int)) ∧ (zz_J zpX6_more_120 (zz_ret Q X 0 0) 2 [some (vr 120), some (vi (x1 + 1))] [] ((2, f), mm_up S b1 x1.toNat (kT w_2 st_2 p_2 th_2 ch_2 (i_2 + 1) x1.toNat), L, P) (0, 0))))) ∧ (zpt ((2, f), S, L, P) 120 1 = none → ((0 ≤ x1 ∧ x1 < 15488) ∧ cbR x1 = true ∧ ∃ (w_3 st_3 : Nat → Int) (a_3 i_3 : Nat) (p_3 th_3 ch_3 : Int), chI S P 120 w_3 st_3 a_3 p_3 th_3 ch_3 i_3 ∧ (False))))))))) : zz_J zpX6_more_120 (zz_ret Q X 0 0) 2 [some (vr 120), some (vi x1)] [] ((2, f), S, L, P) (0, 0) := zz_J.go [(2, [])] 400 h

theorem zmX6_more_120 (l : Launch) (hl : l.stackTraces = false) : mm_Spec l yX6_more (ws_ yX6_more cX6_more 2 none) (mm_rm 5 0 0) (zE zX6_more_120) := by
  refine zz_Met.J hl (by decide) (fun C G hnh => ztX6_more_120 G hnh) ?_
  rintro as ⟨⟨t_, f⟩, S, L, P⟩ Q X h
  unfold zX6_more_120 at h
  split at h
  rotate_left
  · exact h.elim
  rename_i h_
  obtain ⟨e1_, e2_, h⟩ := mm_and2 h (fun q => q)
  cases mm_beq e1_
  cases mm_beq e2_
  try dsimp only at h
  refine ⟨rfl, ?_⟩
  obtain ⟨w, st, a, i, p, th, ch, hI, hq⟩ := h
  have ha := hI.2.2.2.1
  have ha1 := ha.1
  have sh : ∀ T : Nat → Nat → Int, zsh ((2, f), T, L, P) (2 * 120 + 3 - a) = (2, 15488) := fun T => by rcases ha1 with e | e <;> subst e <;> rfl
  have t2 : ∀ (m c : Nat) (T : Nat → Nat → Int), c + m = 15488 → (∀ h, h ≠ 2 * 120 + 3 - a → T h = S h) → (∀ c' : Nat, c' < c → cbR (c' : Int) = true → T (2 * 120 + 3 - a) c' = kT w st p th ch (i + 1) c') → zz_J zpX6_more_120 (zz_ret Q X 0 0) 2 [some (vr 120), some (vi (c : Int))] [] ((2, f), T, L, P) (0, 0) := by
    intro m
    induction m with
    | zero =>
      intro c T hc h1 h2
      have hT := hI.fr (b := 2 * 120 + 3 - a) (by decide) rfl h1
      refine zwX6_more_120_2 ⟨by omega, fun _ => ?_, fun d => absurd d (by omega)⟩
      refine hq T _ h1 (fun h k d => ?_) ?_
      · rw [up_eq, if_neg (fun e => d ⟨e.1, by omega⟩), up_eq, if_neg (fun e => d ⟨e.1, by omega⟩)]
      · obtain ⟨g1, g2, g3, g4, g5, g6, g7, g8, g9, g10⟩ := hT
        refine ⟨g1, g2, g3, ⟨by omega, ?_, ?_⟩, fun c' hc' hcb => h2 c' (by omega) hcb, g6, g7, g8, g9, g10⟩
        · show P 120 1 = _
          exact ha.2.2
        · show P 120 0 = _
          rw [ha.2.1]
          congr 1
          omega
    | succ m ih =>
      intro c T hc h1 h2
      have hT := hI.fr (b := 2 * 120 + 3 - a) (by decide) rfl h1
      have h106 := (hT.2.2.2.2.2.2.2.1 c (by omega)).1
      have no : ∀ b : Nat, P 120 1 = some b → b = 2 * 120 + 3 - a := fun b e => by
        rw [ha.2.2] at e
        cases e
        rfl
      refine zwX6_more_120_2 ⟨by omega, fun d => absurd d (by omega), fun _ => ⟨by omega, ?_⟩⟩
      rw [Int.toNat_natCast, h106]
      by_cases hcb : cbR (c : Int) = true
      · rw [if_pos hcb]
        refine ⟨by decide, fun d => absurd d (by decide), fun _ => ⟨rfl, fun b e => ?_, fun e => ?_⟩⟩
        · have eb := no b e
          subst eb
          refine ⟨by omega, hcb, w, st, a, i, p, th, ch, hT, 15488, sh T, by decide, by omega, ?_⟩
          refine ih (c + 1) _ (by omega) (fun h hh => ?_) (fun c' hc' hcb' => ?_)
          · funext k
            rw [up_eq, if_neg (fun e => hh e.1), h1 h hh]
          · by_cases e : c' = c
            · rw [up_eq, if_pos ⟨rfl, e⟩, e]
            · rw [up_eq, if_neg (by omega)]
              exact h2 c' (by omega) hcb'
        · have e2 : P 120 1 = none := e
          rw [ha.2.2] at e2
          cases e2
      · rw [if_neg hcb]
        refine ⟨by decide, fun _ => ?_, fun d => absurd rfl d⟩
        refine ih (c + 1) T (by omega) h1 (fun c' hc' hcb' => ?_)
        by_cases e : c' = c
        · rw [e] at hcb'
          exact absurd hcb' hcb
        · exact h2 c' (by omega) hcb'
  exact zwX6_more_120_0 (t2 15488 0 S rfl (fun _ _ => rfl) (fun c' hc' => absurd hc' (by omega)))
def zX6_after_120 : zz_Sp := fun as M Q X => match as with
  | [.inr (.inr (some h_)), .inl n] => bif Nat.beq h_ 120 && Nat.beq M.1.1 2 then ((0 ≤ n ∧ n ≤ 1000) ∧ ∃ (w_ st_ : Nat → Int) (a_ i_ : Nat) (p_ th_ ch_ : Int), chI M.2.1 M.2.2.2 120 w_ st_ a_ p_ th_ ch_ i_ ∧ (∀ (S_ : Nat → Nat → Int) (P_ : Nat → Nat → Option Nat) (b_ : Nat), (∀ h, h ≠ 121 → h ≠ 122 → S_ h = M.2.1 h) → (∀ h k, ¬ (h = 120 ∧ k < 2) → P_ h k = M.2.2.2 h k) → chI S_ P_ 120 w_ st_ b_ p_ th_ ch_ (i_ + n.toNat) → Q (some (vr 120)) ((2, M.1.2), S_, M.2.2.1, P_))) else False
  | _ => False

def zpX6_after_120 : zz_P := [(0, zo_c 1 (vi 0)), (1, zo_ist 2 2), (2, zo_ild 3 2), (3, zo_ild 4 1), (4, zo_cge false false 7 17), (7, zo_ald 8 0), (8, zo_callv 11 1 5 zX6_more_120), (11, zo_inc 14 2 1), (14, zo_goto 2), (17, zo_ald 18 0), (18, zo_aret)]
theorem ztX6_after_120 {C : mm_C} (G : mm_G C RX6 cX6_after (some (.object "ChaseCourt$Chances")) 3 (mm_rm 6 0 0)) (hnh : mm_nh C) : zz_OKs C zpX6_after_120 :=
  ⟨zz_of (ok_iconst G (v := 0) dX6_after_0 (by decide) rfl) (z_cn 1 0),
   zz_of (ok_istore_n G dX6_after_1 rfl rfl (by decide)) (z_ist _ _),
   zz_of (ok_iload_n G dX6_after_2 rfl rfl) (z_ild _ _),
   zz_of (ok_iload_n G dX6_after_3 rfl rfl) (z_ild _ _),
   zz_of (ok_cge G dX6_after_4 rfl rfl) (z_cge _ _ _ _),
   zz_of (ok_aload_n G dX6_after_7 rfl rfl) (z_ald _ _),
   zz_of (ok_callv G hnh (zmX6_more_120 _ G.hst) rfl rfl (RX6, TX6, 5) rfl q1621 q1622 q1623 q90 q1624 (by decide +kernel) ⟨by decide, by decide⟩ dX6_after_8 rfl) (z_callv _ _ _ _),
   zz_of (ok_iinc G (v := 1) dX6_after_11 (by decide) rfl (by decide)) (z_incn 14 2 1),
   zz_of (ok_goto G dX6_after_14 rfl) (z_goto _),
   zz_of (ok_aload_n G dX6_after_17 rfl rfl) (z_ald _ _),
   zz_of (ok_aret G (Or.inl ⟨_, rfl⟩) dX6_after_18) (z_aret), trivial⟩

theorem zwX6_after_120_0 {Q : Option zv → zz_M → Prop} {X : Nat → zz_M → Prop} {f : Nat → Nat × Nat} {S L : Nat → Nat → Int} {P : Nat → Nat → Option Nat} {n : Int} (h : zz_J zpX6_after_120 (zz_ret Q X 0 0) 2 [some (vr 120), some (vi n), some (vi 0)] [] ((2, f), S, L, P) (0, 0)) : zz_J zpX6_after_120 (zz_ret Q X 0 0) 0 [some (vr 120), some (vi n), none] [] ((2, f), S, L, P) (0, 0) := zz_J.go [(2, [])] 400 h
theorem zwX6_after_120_2 {Q : Option zv → zz_M → Prop} {X : Nat → zz_M → Prop} {f : Nat → Nat × Nat} {S L : Nat → Nat → Int} {P : Nat → Nat → Option Nat} {x1 : Int} {x2 : Int} (h : R32 x2 ∧ (R32 x1 ∧ ((x1 ≤ x2 → Q (some (vr 120)) ((2, f), S, L, P)) ∧ (¬ x1 ≤ x2 → (∃ (w_1 st_1 : Nat → Int) (a_1 i_1 : Nat) (p_1 th_1 ch_1 : Int), chI S P 120 w_1 st_1 a_1 p_1 th_1 ch_1 i_1 ∧ (∀ (S_1 : Nat → Nat → Int) (P_1 : Nat → Nat → Option Nat), (∀ h, h ≠ 2 * 120 + 3 - a_1 → S_1 h = S h) → (∀ h k, ¬ (h = 120 ∧ k < 2) → P_1 h k = P h k) → chI S_1 P_1 120 w_1 st_1 (2 * 120 + 3 - a_1) p_1 th_1 ch_1 (i_1 + 1) → (zz_J zpX6_after_120 (zz_ret Q X 0 0) 2 [some (vr 120), some (vi x1), some (vi (x2 + 1))] [] ((2, f), S_1, L, P_1) (0, 0)))))))) : zz_J zpX6_after_120 (zz_ret Q X 0 0) 2 [some (vr 120), some (vi x1), some (vi x2)] [] ((2, f), S, L, P) (0, 0) := zz_J.go [(2, [])] 400 h

theorem zmX6_after_120 (l : Launch) (hl : l.stackTraces = false) : mm_Spec l yX6_after (ws_ yX6_after cX6_after 3 (some (.object "ChaseCourt$Chances"))) (mm_rm 6 0 0) (zE zX6_after_120) := by
  refine zz_Met.J hl (by decide) (fun C G hnh => ztX6_after_120 G hnh) ?_
  rintro as ⟨⟨t_, f⟩, S, L, P⟩ Q X h
  unfold zX6_after_120 at h
  split at h
  rotate_left
  · exact h.elim
  rename_i h_ n
  obtain ⟨e1_, e2_, h⟩ := mm_and2 h (fun q => q)
  cases mm_beq e1_
  cases mm_beq e2_
  try dsimp only at h
  refine ⟨rfl, ?_⟩
  obtain ⟨hn, w, st, a, i, p, th, ch, hI, hq⟩ := h
  obtain ⟨k, rfl⟩ : ∃ k : Nat, n = (k : Int) := ⟨n.toNat, by omega⟩
  rw [Int.toNat_natCast] at hq
  have t2 : ∀ (m j : Nat) (T : Nat → Nat → Int) (P' : Nat → Nat → Option Nat) (b : Nat), j + m = k → (∀ h, h ≠ 121 → h ≠ 122 → T h = S h) → (∀ h k, ¬ (h = 120 ∧ k < 2) → P' h k = P h k) → chI T P' 120 w st b p th ch (i + j) → zz_J zpX6_after_120 (zz_ret Q X 0 0) 2 [some (vr 120), some (vi (k : Int)), some (vi (j : Int))] [] ((2, f), T, L, P') (0, 0) := by
    intro m
    induction m with
    | zero =>
      intro j T P' b hj h1 h2 hC
      have e : j = k := by omega
      subst e
      exact zwX6_after_120_2 ⟨by omega, by omega, fun _ => hq T P' b h1 h2 hC, fun c => absurd c (by omega)⟩
    | succ m ih =>
      intro j T P' b hj h1 h2 hC
      have hb := hC.2.2.2.1.1
      refine zwX6_after_120_2 ⟨by omega, by omega, fun c => absurd c (by omega), fun _ => ⟨w, st, b, i + j, p, th, ch, hC, fun S1 P1 g1 g2 g3 => ?_⟩⟩
      refine ih (j + 1) S1 P1 _ (by omega) (fun h c d => ?_) (fun h k' c => ?_) g3
      · rw [g1 h (by omega)]
        exact h1 h c d
      · rw [g2 h k' c]
        exact h2 h k' c
  exact zwX6_after_120_0 (t2 k 0 S P a (by omega) (fun _ _ _ => rfl) (fun _ _ _ => rfl) hI)
