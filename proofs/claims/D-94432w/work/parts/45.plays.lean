/-! ===== the model's tables: byStyles, plays0, allStyles ===== -/
set_option maxRecDepth 100000
/-- the place of the chances by two styles -/
def byI (st : Nat → Int) (k : Nat) : Nat := (12 * (4 * st (2 * k + k / 121 % 2) + st (2 * k + 1 - k / 121 % 2))).toNat
def byR (tb w st : Nat → Int) (k : Nat) (p th : Int) : Int := hdR tb w k (byI st k) p th
def stG (st : Nat → Int) : Prop := ∀ j, j < 30976 → 0 ≤ st j ∧ st j ≤ 3
def zX9_byStyles : zz_Sp := fun as M Q X => match as with
  | [.inr (.inr (some h_)), .inl k, .inl p, .inl th, .inr (.inr (some t))] => bif Nat.beq h_ 0 && Nat.beq M.1.1 1 then ((0 ≤ k ∧ k < 15488) ∧ cbR k = true ∧ (p = 0 ∨ p = 1) ∧ (th = -1 ∨ th = 0 ∨ th = 1) ∧ (t = 8 ∨ t = 9 ∨ t = 10 ∨ t = 11) ∧ tbG (M.2.1 t) ∧ mG (M.2.1 1) ∧ stG (M.2.1 7) ∧ xG (M.2.1 6) ∧ (∀ (x_ : Nat → Int) (a_ b_ : Int), xG x_ → Q (some (vi (byR (M.2.1 t) (M.2.1 1) (M.2.1 7) k.toNat p th))) (zm (sx M.2.1 x_ a_ b_) M.2.2.1))) else False
  | _ => False

def zpX9_byStyles : zz_P := [(0, zo_ild 1 1), (1, zo_c 3 (vi 121)), (3, zo_idiv 4), (4, zo_c 5 (vi 2)), (5, zo_irem 6), (6, zo_ist 8 5), (8, zo_ald 9 0), (9, zo_ild 10 1), (10, zo_ald 11 0), (11, zo_get 14 8 2 19), (14, zo_c 15 (vi 2)), (15, zo_ild 16 1), (16, zo_imul 17), (17, zo_ild 19 5), (19, zo_iadd 20), (20, zo_iald 21), (21, zo_ald 22 0), (22, zo_get 25 8 2 19), (25, zo_c 26 (vi 2)), (26, zo_ild 27 1), (27, zo_imul 28), (28, zo_c 29 (vi 1)), (29, zo_iadd 30), (30, zo_ild 32 5), (32, zo_isub 33), (33, zo_iald 34), (34, zo_ild 35 2), (35, zo_ild 36 3), (36, zo_ald 38 4), (38, zo_callv 41 7 8 zX9_had), (41, zo_iret)]
theorem ztX9_byStyles {C : mm_C} (G : mm_G C RX9 cX9_byStyles (some .int) 6 (mm_rm 5 0 0)) (hnh : mm_nh C) : zz_OKs C zpX9_byStyles :=
  ⟨zz_of (ok_iload_n G dX9_byStyles_0 rfl rfl) (z_ild _ _),
   zz_of (ok_bipush G (v := 121) dX9_byStyles_1 (by decide) rfl) (z_cn 3 121),
   zz_of (ok_idiv G dX9_byStyles_3 rfl) (z_idiv _),
   zz_of (ok_iconst G (v := 2) dX9_byStyles_4 (by decide) rfl) (z_cn 5 2),
   zz_of (ok_irem G dX9_byStyles_5 rfl) (z_irem _),
   zz_of (ok_istore G dX9_byStyles_6 rfl (by decide)) (z_ist _ _),
   zz_of (ok_aload_n G dX9_byStyles_8 rfl rfl) (z_ald _ _),
   zz_of (ok_iload_n G dX9_byStyles_9 rfl rfl) (z_ild _ _),
   zz_of (ok_aload_n G dX9_byStyles_10 rfl rfl) (z_ald _ _),
   zz_of (ok_get G (nx := 14) (ci := 8) (kd := 2) (k := 19) (RX9, TX9, 32) rfl (by decide) rfl q1824 dX9_byStyles_11 rfl) (z_get _ _ _ _),
   zz_of (ok_iconst G (v := 2) dX9_byStyles_14 (by decide) rfl) (z_cn 15 2),
   zz_of (ok_iload_n G dX9_byStyles_15 rfl rfl) (z_ild _ _),
   zz_of (ok_imul G dX9_byStyles_16 rfl) (z_imul _),
   zz_of (ok_iload G dX9_byStyles_17 rfl) (z_ild _ _),
   zz_of (ok_iadd G dX9_byStyles_19 rfl) (z_iadd _),
   zz_of (ok_iald G dX9_byStyles_20 rfl) (z_iald _),
   zz_of (ok_aload_n G dX9_byStyles_21 rfl rfl) (z_ald _ _),
   zz_of (ok_get G (nx := 25) (ci := 8) (kd := 2) (k := 19) (RX9, TX9, 32) rfl (by decide) rfl q1824 dX9_byStyles_22 rfl) (z_get _ _ _ _),
   zz_of (ok_iconst G (v := 2) dX9_byStyles_25 (by decide) rfl) (z_cn 26 2),
   zz_of (ok_iload_n G dX9_byStyles_26 rfl rfl) (z_ild _ _),
   zz_of (ok_imul G dX9_byStyles_27 rfl) (z_imul _),
   zz_of (ok_iconst G (v := 1) dX9_byStyles_28 (by decide) rfl) (z_cn 29 1),
   zz_of (ok_iadd G dX9_byStyles_29 rfl) (z_iadd _),
   zz_of (ok_iload G dX9_byStyles_30 rfl) (z_ild _ _),
   zz_of (ok_isub G dX9_byStyles_32 rfl) (z_isub _),
   zz_of (ok_iald G dX9_byStyles_33 rfl) (z_iald _),
   zz_of (ok_iload_n G dX9_byStyles_34 rfl rfl) (z_ild _ _),
   zz_of (ok_iload_n G dX9_byStyles_35 rfl rfl) (z_ild _ _),
   zz_of (ok_aload G dX9_byStyles_36 rfl) (z_ald _ _),
   zz_of (ok_callv G hnh (zmX9_had _ G.hst) rfl rfl (RX9, TX9, 32) rfl q2129 q2131 qs71 q93 q2132 (by decide +kernel) ⟨by decide, by decide⟩ dX9_byStyles_38 rfl) (z_callv _ _ _ _),
   zz_of (ok_iret G dX9_byStyles_41) (z_iret), trivial⟩

theorem zwX9_byStyles_0 {Q : Option zv → zz_M → Prop} {X : Nat → zz_M → Prop} {S L : Nat → Nat → Int} {k : Int} {p : Int} {th : Int} {t : Nat} (h : (0 ≤ k ∧ k < 2147483648) ∧ ((0 ≤ (k / 121) ∧ (k / 121) < 2147483648) ∧ ((0 ≤ ((2 * k) + ((k / 121) % 2)) ∧ ((2 * k) + ((k / 121) % 2)) < 30976) ∧ ((0 ≤ (((2 * k) + 1) - ((k / 121) % 2)) ∧ (((2 * k) + 1) - ((k / 121) % 2)) < 30976) ∧ (((0 ≤ k ∧ k < 15488) ∧ cbR k = true ∧ (0 ≤ (S 7 (((2 * k) + ((k / 121) % 2)).toNat)) ∧ (S 7 (((2 * k) + ((k / 121) % 2)).toNat)) ≤ 3) ∧ (0 ≤ (S 7 ((((2 * k) + 1) - ((k / 121) % 2)).toNat)) ∧ (S 7 ((((2 * k) + 1) - ((k / 121) % 2)).toNat)) ≤ 3) ∧ (p = 0 ∨ p = 1) ∧ (th = -1 ∨ th = 0 ∨ th = 1) ∧ (t = 8 ∨ t = 9 ∨ t = 10 ∨ t = 11) ∧ tbG (S t) ∧ mG (S 1) ∧ xG (S 6) ∧ (∀ (x_1 : Nat → Int) (a_1 b_1 : Int), xG x_1 → (Q (some (vi (hdR (S t) (S 1) k (12 * (4 * (S 7 (((2 * k) + ((k / 121) % 2)).toNat)) + (S 7 ((((2 * k) + 1) - ((k / 121) % 2)).toNat)))).toNat p th))) (zm (sx S x_1 a_1 b_1) L))))))))) : zz_J zpX9_byStyles (zz_ret Q X 0 0) 0 [some (vr 0), some (vi k), some (vi p), some (vi th), some (vr t), none] [] (zm S L) (0, 0) := zz_J.go [] 400 h

theorem zmX9_byStyles (l : Launch) (hl : l.stackTraces = false) : mm_Spec l yX9_byStyles (ws_ yX9_byStyles cX9_byStyles 6 (some .int)) (mm_rm 5 0 0) (zE zX9_byStyles) := by
  refine zz_Met.J hl (by decide) (fun C G hnh => ztX9_byStyles G hnh) ?_
  rintro as ⟨⟨t_, f⟩, S, L, P⟩ Q X h
  unfold zX9_byStyles at h
  split at h
  rotate_left
  · exact h.elim
  rename_i h_ k p th t
  obtain ⟨e1_, e2_, h⟩ := mm_and2 h (fun q => q)
  cases mm_beq e1_
  cases mm_beq e2_
  try dsimp only at h
  refine ⟨rfl, ?_⟩
  refine zz_Jev (M' := zm S L) rfl rfl rfl ?_
  obtain ⟨hk, hcb, hp, hth, ht, htb, hm, hst, hx, hq⟩ := h
  obtain ⟨u, rfl⟩ : ∃ u : Nat, k = u := ⟨k.toNat, by omega⟩
  rw [Int.toNat_natCast] at hq
  have c1 : (u : Int) / 121 = ((u / 121 : Nat) : Int) := by omega
  have e1 : ((2 : Int) * u + u / 121 % 2).toNat = 2 * u + u / 121 % 2 := by
    rw [c1]
    generalize u / 121 = v
    omega
  have e2 : ((2 : Int) * u + 1 - u / 121 % 2).toNat = 2 * u + 1 - u / 121 % 2 := by
    rw [c1]
    generalize u / 121 = v
    omega
  refine zwX9_byStyles_0 ?_
  rw [e1, e2]
  have s1 := hst (2 * u + u / 121 % 2) (by omega)
  have s2 := hst (2 * u + 1 - u / 121 % 2) (by omega)
  exact ⟨by omega, by omega, by omega, by omega, by omega, hcb, s1, s2, hp, hth, ht, htb, hm, hx, hq⟩
/-- the table of a game that is won so, by so many rallies -/
def tbR (w st : Nat → Int) (p th : Int) : Nat → Nat → Int
  | 0, _ => 0
  | i + 1, k => if cbR k = true then byR (tbR w st p th i) w st k p th else 0
theorem hdS_le {tb w x : Nat → Int} {ix : Nat} {p th : Int} (ht : tbG tb) (hg : cG w) (hw : wV w) (hx : scV x) (hix : ix + 12 ≤ 192) : ∀ i : Nat, i ≤ 12 → hdS tb w x ix p th i ≤ 1000000000 * smR w ix i
  | 0, _ => by show (0 : Int) ≤ 1000000000 * 0; decide
  | i + 1, h => by
    have ih := hdS_le (p := p) (th := th) ht hg hw hx hix i (by omega)
    have hc := hg.1 (ix + i) (by omega)
    have ht := hdT_in (p := p) (th := th) (how := i) ht hw hx (by omega) (by omega)
    have := Int.mul_le_mul_of_nonneg_left ht.2 hc.1
    unfold hdS smR
    rw [Int.mul_add]
    omega
theorem hdR_in {tb w : Nat → Int} {k ix : Nat} {p th : Int} (ht : tbG tb) (hm : mG w) (hwh : whB w 16 = true) (hk : k < 15488) (hcb : cbR k = true) (hix : ∃ j, j < 16 ∧ ix = 12 * j) : 0 ≤ hdR tb w k ix p th ∧ hdR tb w k ix p th ≤ 1000000000 := by
  obtain ⟨j, hj, rfl⟩ := hix
  have hX : scV (scX w k) := unR_V (by omega) (by omega) hcb
  have h1 := hdS_in (p := p) (th := th) ht hm.1 hm.2.1 hX (by omega : 12 * j + 12 ≤ 192) 12 (by decide)
  have h2 := hdS_le (p := p) (th := th) ht hm.1 hm.2.1 hX (by omega : 12 * j + 12 ≤ 192) 12 (by decide)
  rw [whB_t.mp hwh j hj] at h2
  unfold hdR
  omega
theorem byI_j {st : Nat → Int} {k : Nat} (hst : stG st) (hk : k < 15488) : ∃ j, j < 16 ∧ byI st k = 12 * j := by
  have s1 := hst (2 * k + k / 121 % 2) (by omega)
  have s2 := hst (2 * k + 1 - k / 121 % 2) (by omega)
  refine ⟨(4 * st (2 * k + k / 121 % 2) + st (2 * k + 1 - k / 121 % 2)).toNat, by omega, ?_⟩
  unfold byI
  omega
theorem tbR_G {w st : Nat → Int} {p th : Int} (hm : mG w) (hwh : whB w 16 = true) (hst : stG st) : ∀ i, tbG (tbR w st p th i)
  | 0 => fun j _ => by show (0 : Int) ≤ 0 ∧ (0 : Int) ≤ 1000000000; decide
  | i + 1 => by
    intro j hj
    have ih := tbR_G (p := p) (th := th) hm hwh hst i
    unfold tbR
    split
    · next hc => exact hdR_in ih hm hwh hj hc (byI_j hst hj)
    · decide
theorem hdT_c {tb tb' w x : Nat → Int} {p th how : Int} (h : ∀ j, j < 15488 → tb j = tb' j) (hw : wV w) (hx : scV x) (h0 : 0 ≤ how) (h1 : how ≤ 11) : hdT tb w x p th how = hdT tb' w x p th how := by
  unfold hdT
  have := nuR_in (rlR_V hw hx h0 (by omega) (fun _ => h1))
  rw [h _ (by omega)]
theorem hdS_c {tb tb' w x : Nat → Int} {ix : Nat} {p th : Int} (h : ∀ j, j < 15488 → tb j = tb' j) (hw : wV w) (hx : scV x) : ∀ i : Nat, i ≤ 12 → hdS tb w x ix p th i = hdS tb' w x ix p th i
  | 0, _ => rfl
  | i + 1, hi => by
    unfold hdS
    rw [hdS_c h hw hx i (by omega), hdT_c h hw hx (by omega) (by omega)]
theorem byR_c {tb tb' w st : Nat → Int} {k : Nat} {p th : Int} (h : ∀ j, j < 15488 → tb j = tb' j) (hw : wV w) (hk : k < 15488) (hcb : cbR k = true) : byR tb w st k p th = byR tb' w st k p th := by
  have hX : scV (scX w k) := unR_V (by omega) (by omega) hcb
  unfold byR hdR
  rw [hdS_c h hw hX 12 (by decide)]
/-- the rows now and less are set -/
def tabS (S : Nat → Nat → Int) (f g : Nat → Int) : Nat → Nat → Int := fun h k => if h = 8 then f k else if h = 9 then g k else S h k
theorem tabS_at (S : Nat → Nat → Int) (f g : Nat → Int) (h k : Nat) : tabS S f g h k = if h = 8 then f k else if h = 9 then g k else S h k := rfl
theorem tabS_8 (S : Nat → Nat → Int) (f g x : Nat → Int) (a b : Int) : sx (tabS S f g) x a b 8 = f := rfl
theorem tabS_9 (S : Nat → Nat → Int) (f g x : Nat → Int) (a b : Int) : sx (tabS S f g) x a b 9 = g := rfl
theorem tabS_1 (S : Nat → Nat → Int) (f g x : Nat → Int) (a b : Int) : sx (tabS S f g) x a b 1 = S 1 := rfl
theorem tabS_7 (S : Nat → Nat → Int) (f g x : Nat → Int) (a b : Int) : sx (tabS S f g) x a b 7 = S 7 := rfl
theorem tabS_u8 (S : Nat → Nat → Int) (f g x : Nat → Int) (a b v : Int) (j : Nat) : mm_up (sx (tabS S f g) x a b) 8 j v = sx (tabS S (ru f j v) g) x a b := by
  funext h k
  grind [up_eq, sx_at, tabS_at, ru_at]
theorem tabS_u9 (S : Nat → Nat → Int) (f g x : Nat → Int) (a b v : Int) (j : Nat) : mm_up (sx (tabS S f g) x a b) 9 j v = sx (tabS S f (ru g j v)) x a b := by
  funext h k
  grind [up_eq, sx_at, tabS_at, ru_at]
theorem tabS_id (S : Nat → Nat → Int) : sx (tabS S (S 8) (S 9)) (S 6) (S 0 17) (S 0 18) = S := by
  funext h k
  grind [sx_at, tabS_at]
def zX9_plays0 : zz_Sp := fun as M Q X => match as with
  | [.inr (.inr (some h_)), .inl p, .inl th, .inl n, .inr (.inr (some row)), .inr (.inr (some beh))] => bif Nat.beq h_ 0 && Nat.beq M.1.1 1 then ((p = 0 ∨ p = 1) ∧ (th = -1 ∨ th = 0 ∨ th = 1) ∧ (0 ≤ n ∧ n ≤ 30) ∧ row = 8 ∧ beh = 9 ∧ mG (M.2.1 1) ∧ whB (M.2.1 1) 16 = true ∧ stG (M.2.1 7) ∧ xG (M.2.1 6) ∧ (∀ (f_ g_ x_ : Nat → Int) (a_ b_ : Int), (∀ k_, k_ < 15488 → f_ k_ = tbR (M.2.1 1) (M.2.1 7) p th n.toNat k_) → xG x_ → Q none (zm (sx (tabS M.2.1 f_ g_) x_ a_ b_) M.2.2.1))) else False
  | _ => False

def zpX9_plays0 : zz_P := [(0, zo_c 1 (vi 0)), (1, zo_ist 3 6), (3, zo_ild 5 6), (5, zo_c 8 (vi 15488)), (8, zo_cge false true 11 23), (11, zo_ald 13 4), (13, zo_ild 15 6), (15, zo_c 16 (vi 0)), (16, zo_iasp 17), (17, zo_inc 20 6 1), (20, zo_goto 3), (23, zo_c 24 (vi 0)), (24, zo_ist 26 6), (26, zo_ild 28 6), (28, zo_ild 29 3), (29, zo_cge false false 32 109), (32, zo_c 33 (vi 0)), (33, zo_ist 35 7), (35, zo_ild 37 7), (37, zo_c 40 (vi 15488)), (40, zo_cge false true 43 59), (43, zo_ald 45 5), (45, zo_ild 47 7), (47, zo_ald 49 4), (49, zo_ild 51 7), (51, zo_ialp 52), (52, zo_iasp 53), (53, zo_inc 56 7 1), (56, zo_goto 35), (59, zo_c 60 (vi 0)), (60, zo_ist 62 7), (62, zo_ild 64 7), (64, zo_c 67 (vi 15488)), (67, zo_cge false true 70 103), (70, zo_ald 72 4), (72, zo_ild 74 7), (74, zo_ild 76 7), (76, zo_calls 79 1 zX9_canBe), (79, zo_zifeq 82 95), (82, zo_ald 83 0), (83, zo_ild 85 7), (85, zo_ild 86 1), (86, zo_ild 87 2), (87, zo_ald 89 5), (89, zo_callv 92 5 8 zX9_byStyles), (92, zo_goto 96), (95, zo_c 96 (vi 0)), (96, zo_iasp 97), (97, zo_inc 100 7 1), (100, zo_goto 62), (103, zo_inc 106 6 1), (106, zo_goto 26), (109, zo_vret)]
theorem ztX9_plays0 {C : mm_C} (G : mm_G C RX9 cX9_plays0 none 8 (mm_rm 6 0 0)) (hnh : mm_nh C) : zz_OKs C zpX9_plays0 :=
  ⟨zz_of (ok_iconst G (v := 0) dX9_plays0_0 (by decide) rfl) (z_cn 1 0),
   zz_of (ok_istore G dX9_plays0_1 rfl (by decide)) (z_ist _ _),
   zz_of (ok_iload G dX9_plays0_3 rfl) (z_ild _ _),
   zz_of (ok_sipush G (v := 15488) dX9_plays0_5 (by decide) rfl) (z_cn 8 15488),
   zz_of (ok_cge G dX9_plays0_8 rfl rfl) (z_cge _ _ _ _),
   zz_of (ok_aload G dX9_plays0_11 rfl) (z_ald _ _),
   zz_of (ok_iload G dX9_plays0_13 rfl) (z_ild _ _),
   zz_of (ok_iconst G (v := 0) dX9_plays0_15 (by decide) rfl) (z_cn 16 0),
   zz_of (ok_iast G dX9_plays0_16 rfl) (z_iasp _),
   zz_of (ok_iinc G (v := 1) dX9_plays0_17 (by decide) rfl (by decide)) (z_incn 20 6 1),
   zz_of (ok_goto G dX9_plays0_20 rfl) (z_goto _),
   zz_of (ok_iconst G (v := 0) dX9_plays0_23 (by decide) rfl) (z_cn 24 0),
   zz_of (ok_istore G dX9_plays0_24 rfl (by decide)) (z_ist _ _),
   zz_of (ok_iload G dX9_plays0_26 rfl) (z_ild _ _),
   zz_of (ok_iload_n G dX9_plays0_28 rfl rfl) (z_ild _ _),
   zz_of (ok_cge G dX9_plays0_29 rfl rfl) (z_cge _ _ _ _),
   zz_of (ok_iconst G (v := 0) dX9_plays0_32 (by decide) rfl) (z_cn 33 0),
   zz_of (ok_istore G dX9_plays0_33 rfl (by decide)) (z_ist _ _),
   zz_of (ok_iload G dX9_plays0_35 rfl) (z_ild _ _),
   zz_of (ok_sipush G (v := 15488) dX9_plays0_37 (by decide) rfl) (z_cn 40 15488),
   zz_of (ok_cge G dX9_plays0_40 rfl rfl) (z_cge _ _ _ _),
   zz_of (ok_aload G dX9_plays0_43 rfl) (z_ald _ _),
   zz_of (ok_iload G dX9_plays0_45 rfl) (z_ild _ _),
   zz_of (ok_aload G dX9_plays0_47 rfl) (z_ald _ _),
   zz_of (ok_iload G dX9_plays0_49 rfl) (z_ild _ _),
   zz_of (ok_iald G dX9_plays0_51 rfl) (z_ialp _),
   zz_of (ok_iast G dX9_plays0_52 rfl) (z_iasp _),
   zz_of (ok_iinc G (v := 1) dX9_plays0_53 (by decide) rfl (by decide)) (z_incn 56 7 1),
   zz_of (ok_goto G dX9_plays0_56 rfl) (z_goto _),
   zz_of (ok_iconst G (v := 0) dX9_plays0_59 (by decide) rfl) (z_cn 60 0),
   zz_of (ok_istore G dX9_plays0_60 rfl (by decide)) (z_ist _ _),
   zz_of (ok_iload G dX9_plays0_62 rfl) (z_ild _ _),
   zz_of (ok_sipush G (v := 15488) dX9_plays0_64 (by decide) rfl) (z_cn 67 15488),
   zz_of (ok_cge G dX9_plays0_67 rfl rfl) (z_cge _ _ _ _),
   zz_of (ok_aload G dX9_plays0_70 rfl) (z_ald _ _),
   zz_of (ok_iload G dX9_plays0_72 rfl) (z_ild _ _),
   zz_of (ok_iload G dX9_plays0_74 rfl) (z_ild _ _),
   zz_of (ok_calls G hnh (zmX9_canBe _ G.hst) rfl rfl q2122 q2123 q93 q2124 (by decide +kernel) ⟨by decide, by decide⟩ dX9_plays0_76 rfl) (z_calls _ _ _),
   zz_of (ok_ifeq G dX9_plays0_79 rfl rfl) (z_zifeq _ _),
   zz_of (ok_aload_n G dX9_plays0_82 rfl rfl) (z_ald _ _),
   zz_of (ok_iload G dX9_plays0_83 rfl) (z_ild _ _),
   zz_of (ok_iload_n G dX9_plays0_85 rfl rfl) (z_ild _ _),
   zz_of (ok_iload_n G dX9_plays0_86 rfl rfl) (z_ild _ _),
   zz_of (ok_aload G dX9_plays0_87 rfl) (z_ald _ _),
   zz_of (ok_callv G hnh (zmX9_byStyles _ G.hst) rfl rfl (RX9, TX9, 32) rfl q2125 q2127 qs70 q93 q2128 (by decide +kernel) ⟨by decide, by decide⟩ dX9_plays0_89 rfl) (z_callv _ _ _ _),
   zz_of (ok_goto G dX9_plays0_92 rfl) (z_goto _),
   zz_of (ok_iconst G (v := 0) dX9_plays0_95 (by decide) rfl) (z_cn 96 0),
   zz_of (ok_iast G dX9_plays0_96 rfl) (z_iasp _),
   zz_of (ok_iinc G (v := 1) dX9_plays0_97 (by decide) rfl (by decide)) (z_incn 100 7 1),
   zz_of (ok_goto G dX9_plays0_100 rfl) (z_goto _),
   zz_of (ok_iinc G (v := 1) dX9_plays0_103 (by decide) rfl (by decide)) (z_incn 106 6 1),
   zz_of (ok_goto G dX9_plays0_106 rfl) (z_goto _),
   zz_of (ok_vret G dX9_plays0_109) (z_vret), trivial⟩

theorem zwX9_plays0_0 {Q : Option zv → zz_M → Prop} {X : Nat → zz_M → Prop} {S L : Nat → Nat → Int} {p : Int} {th : Int} {n : Int} {row : Nat} {beh : Nat} (h : zz_J zpX9_plays0 (zz_ret Q X 0 0) 3 [some (vr 0), some (vi p), some (vi th), some (vi n), some (vr row), some (vr beh), some (vi 0), none] [] (zm S L) (0, 0)) : zz_J zpX9_plays0 (zz_ret Q X 0 0) 0 [some (vr 0), some (vi p), some (vi th), some (vi n), some (vr row), some (vr beh), none, none] [] (zm S L) (0, 0) := zz_J.go [(3, [7]), (26, [7]), (35, []), (62, [])] 400 h
theorem zwX9_plays0_3 {Q : Option zv → zz_M → Prop} {X : Nat → zz_M → Prop} {S L : Nat → Nat → Int} {x1 : Int} {x2 : Int} {x3 : Int} {h4 : Nat} {h5 : Nat} {x6 : Int} (h : R32 x6 ∧ ((15488 ≤ x6 → zz_J zpX9_plays0 (zz_ret Q X 0 0) 26 [some (vr 0), some (vi x1), some (vi x2), some (vi x3), some (vr h4), some (vr h5), some (vi 0), none] [] (zm S L) (0, 0)) ∧ (¬ 15488 ≤ x6 → ∃ n_ : Nat, zsh (zm S L) h4 = (2, n_) ∧ (n_ : Int) ≤ 2147483647 ∧ (0 ≤ x6 ∧ x6 < (n_ : Int)) ∧ (zz_J zpX9_plays0 (zz_ret Q X 0 0) 3 [some (vr 0), some (vi x1), some (vi x2), some (vi x3), some (vr h4), some (vr h5), some (vi (x6 + 1)), none] [] (zm (mm_up S h4 x6.toNat 0) L) (0, 0))))) : zz_J zpX9_plays0 (zz_ret Q X 0 0) 3 [some (vr 0), some (vi x1), some (vi x2), some (vi x3), some (vr h4), some (vr h5), some (vi x6), none] [] (zm S L) (0, 0) := zz_J.go [(3, [7]), (26, [7]), (35, []), (62, [])] 400 h
theorem zwX9_plays0_26 {Q : Option zv → zz_M → Prop} {X : Nat → zz_M → Prop} {S L : Nat → Nat → Int} {x1 : Int} {x2 : Int} {x3 : Int} {h4 : Nat} {h5 : Nat} {x6 : Int} (h : R32 x6 ∧ (R32 x3 ∧ ((x3 ≤ x6 → Q none (zm S L)) ∧ (¬ x3 ≤ x6 → zz_J zpX9_plays0 (zz_ret Q X 0 0) 35 [some (vr 0), some (vi x1), some (vi x2), some (vi x3), some (vr h4), some (vr h5), some (vi x6), some (vi 0)] [] (zm S L) (0, 0))))) : zz_J zpX9_plays0 (zz_ret Q X 0 0) 26 [some (vr 0), some (vi x1), some (vi x2), some (vi x3), some (vr h4), some (vr h5), some (vi x6), none] [] (zm S L) (0, 0) := zz_J.go [(3, [7]), (26, [7]), (35, []), (62, [])] 400 h
theorem zwX9_plays0_35 {Q : Option zv → zz_M → Prop} {X : Nat → zz_M → Prop} {S L : Nat → Nat → Int} {x1 : Int} {x2 : Int} {x3 : Int} {h4 : Nat} {h5 : Nat} {x6 : Int} {x7 : Int} (h : R32 x7 ∧ ((15488 ≤ x7 → zz_J zpX9_plays0 (zz_ret Q X 0 0) 62 [some (vr 0), some (vi x1), some (vi x2), some (vi x3), some (vr h4), some (vr h5), some (vi x6), some (vi 0)] [] (zm S L) (0, 0)) ∧ (¬ 15488 ≤ x7 → ∃ n_ : Nat, zsh (zm S L) h4 = (2, n_) ∧ (n_ : Int) ≤ 2147483647 ∧ (0 ≤ x7 ∧ x7 < (n_ : Int)) ∧ (∃ n_ : Nat, zsh (zm S L) h5 = (2, n_) ∧ (n_ : Int) ≤ 2147483647 ∧ (0 ≤ x7 ∧ x7 < (n_ : Int)) ∧ (zz_J zpX9_plays0 (zz_ret Q X 0 0) 35 [some (vr 0), some (vi x1), some (vi x2), some (vi x3), some (vr h4), some (vr h5), some (vi x6), some (vi (x7 + 1))] [] (zm (mm_up S h5 x7.toNat (S h4 x7.toNat)) L) (0, 0)))))) : zz_J zpX9_plays0 (zz_ret Q X 0 0) 35 [some (vr 0), some (vi x1), some (vi x2), some (vi x3), some (vr h4), some (vr h5), some (vi x6), some (vi x7)] [] (zm S L) (0, 0) := zz_J.go [(3, [7]), (26, [7]), (35, []), (62, [])] 400 h
theorem zwX9_plays0_62 {Q : Option zv → zz_M → Prop} {X : Nat → zz_M → Prop} {S L : Nat → Nat → Int} {x1 : Int} {x2 : Int} {x3 : Int} {h4 : Nat} {h5 : Nat} {x6 : Int} {x7 : Int} (h : R32 x7 ∧ ((15488 ≤ x7 → zz_J zpX9_plays0 (zz_ret Q X 0 0) 26 [some (vr 0), some (vi x1), some (vi x2), some (vi x3), some (vr h4), some (vr h5), some (vi (x6 + 1)), none] [] (zm S L) (0, 0)) ∧ (¬ 15488 ≤ x7 → ((0 ≤ x7 ∧ x7 < 100000000) ∧ (cbR x7 = true → (((0 ≤ x7 ∧ x7 < 15488) ∧ cbR x7 = true ∧ (x1 = 0 ∨ x1 = 1) ∧ (x2 = -1 ∨ x2 = 0 ∨ x2 = 1) ∧ (h5 = 8 ∨ h5 = 9 ∨ h5 = 10 ∨ h5 = 11) ∧ tbG (S h5) ∧ mG (S 1) ∧ stG (S 7) ∧ xG (S 6) ∧ (∀ (x_2 : Nat → Int) (a_2 b_2 : Int), xG x_2 → (∃ n_ : Nat, zsh (zm (sx S x_2 a_2 b_2) L) h4 = (2, n_) ∧ (n_ : Int) ≤ 2147483647 ∧ (0 ≤ x7 ∧ x7 < (n_ : Int)) ∧ (zz_J zpX9_plays0 (zz_ret Q X 0 0) 62 [some (vr 0), some (vi x1), some (vi x2), some (vi x3), some (vr h4), some (vr h5), some (vi x6), some (vi (x7 + 1))] [] (zm (mm_up (sx S x_2 a_2 b_2) h4 x7.toNat (byR (S h5) (S 1) (S 7) x7.toNat x1 x2)) L) (0, 0))))))) ∧ (cbR x7 = false → (∃ n_ : Nat, zsh (zm S L) h4 = (2, n_) ∧ (n_ : Int) ≤ 2147483647 ∧ (0 ≤ x7 ∧ x7 < (n_ : Int)) ∧ (zz_J zpX9_plays0 (zz_ret Q X 0 0) 62 [some (vr 0), some (vi x1), some (vi x2), some (vi x3), some (vr h4), some (vr h5), some (vi x6), some (vi (x7 + 1))] [] (zm (mm_up S h4 x7.toNat 0) L) (0, 0)))))))) : zz_J zpX9_plays0 (zz_ret Q X 0 0) 62 [some (vr 0), some (vi x1), some (vi x2), some (vi x3), some (vr h4), some (vr h5), some (vi x6), some (vi x7)] [] (zm S L) (0, 0) := zz_J.go [(3, [7]), (26, [7]), (35, []), (62, [])] 400 h

theorem zmX9_plays0 (l : Launch) (hl : l.stackTraces = false) : mm_Spec l yX9_plays0 (ws_ yX9_plays0 cX9_plays0 8 none) (mm_rm 6 0 0) (zE zX9_plays0) := by
  refine zz_Met.J hl (by decide) (fun C G hnh => ztX9_plays0 G hnh) ?_
  rintro as ⟨⟨t_, f⟩, S, L, P⟩ Q X h
  unfold zX9_plays0 at h
  split at h
  rotate_left
  · exact h.elim
  rename_i h_ p th n row beh
  obtain ⟨e1_, e2_, h⟩ := mm_and2 h (fun q => q)
  cases mm_beq e1_
  cases mm_beq e2_
  try dsimp only at h
  refine ⟨rfl, ?_⟩
  refine zz_Jev (M' := zm S L) rfl rfl rfl ?_
  obtain ⟨hp, hth, hn, rfl, rfl, hm, hwh, hst, hx, hq⟩ := h
  obtain ⟨u, rfl⟩ : ∃ u : Nat, n = u := ⟨n.toNat, by omega⟩
  rw [Int.toNat_natCast] at hq
  have z8 : ∀ S' : Nat → Nat → Int, zsh (zm S' L) 8 = (2, 15488) := fun _ => rfl
  have z9 : ∀ S' : Nat → Nat → Int, zsh (zm S' L) 9 = (2, 15488) := fun _ => rfl
  have main : ∀ (r i : Nat) (f g x : Nat → Int) (a b : Int), i + r = u → xG x → (∀ k, k < 15488 → f k = tbR (S 1) (S 7) p th i k) → zz_J zpX9_plays0 (zz_ret Q X 0 0) 26 [some (vr 0), some (vi p), some (vi th), some (vi u), some (vr 8), some (vr 9), some (vi i), none] [] (zm (sx (tabS S f g) x a b) L) (0, 0) := by
    intro r
    induction r with
    | zero =>
      intro i f g x a b hi hxg hf
      have ei : i = u := by omega
      subst ei
      refine zwX9_plays0_26 ⟨by omega, by omega, fun _ => hq f g x a b hf hxg, fun c => by omega⟩
    | succ r ih =>
      intro i f g x a b hi hxg hf
      -- the table is made anew
      have t62 : ∀ (r2 j : Nat) (f g x : Nat → Int) (a b : Int), j + r2 = 15488 → xG x → (∀ k, k < j → f k = tbR (S 1) (S 7) p th (i + 1) k) → (∀ k, k < 15488 → g k = tbR (S 1) (S 7) p th i k) → zz_J zpX9_plays0 (zz_ret Q X 0 0) 62 [some (vr 0), some (vi p), some (vi th), some (vi u), some (vr 8), some (vr 9), some (vi i), some (vi j)] [] (zm (sx (tabS S f g) x a b) L) (0, 0) := by
        intro r2
        induction r2 with
        | zero =>
          intro j f g x a b hj hxg hf hg
          refine zwX9_plays0_62 ⟨by omega, fun _ => ih (i + 1) f g x a b (by omega) hxg (fun k hk => hf k (by omega)), fun c => by omega⟩
        | succ r2 ih2 =>
          intro j f g x a b hj hxg hf hg
          have hgG : tbG g := by
            intro k hk
            rw [hg k hk]
            exact tbR_G hm hwh hst i k hk
          have nxt : ∀ (v : Int) (x' : Nat → Int) (a' b' : Int), xG x' → v = tbR (S 1) (S 7) p th (i + 1) j → ∃ n_ : Nat, zsh (zm (sx (tabS S f g) x' a' b') L) 8 = (2, n_) ∧ (n_ : Int) ≤ 2147483647 ∧ (0 ≤ (j : Int) ∧ (j : Int) < (n_ : Int)) ∧ zz_J zpX9_plays0 (zz_ret Q X 0 0) 62 [some (vr 0), some (vi p), some (vi th), some (vi u), some (vr 8), some (vr 9), some (vi i), some (vi ((j : Int) + 1))] [] (zm (mm_up (sx (tabS S f g) x' a' b') 8 ((j : Int)).toNat v) L) (0, 0) := by
            intro v x' a' b' hx' hv
            refine ⟨15488, z8 _, by decide, by omega, ?_⟩
            rw [tabS_u8, Int.toNat_natCast]
            refine ih2 (j + 1) _ g x' a' b' (by omega) hx' (fun k hk => ?_) hg
            rw [ru_at]
            split
            · next e => rw [hv, e]
            · exact hf k (by omega)
          refine zwX9_plays0_62 ⟨by omega, fun c => by omega, fun _ => ⟨by omega, fun cb => ?_, fun cb => ?_⟩⟩
          · refine ⟨by omega, cb, hp, hth, Or.inr (Or.inl rfl), hgG, hm, hst, hxg, fun x' a' b' hx' => ?_⟩
            rw [sx_sx]
            refine nxt _ x' a' b' hx' ?_
            rw [tabS_9, tabS_1, tabS_7, Int.toNat_natCast]
            show byR g (S 1) (S 7) j p th = (if cbR (j : Int) = true then byR (tbR (S 1) (S 7) p th i) (S 1) (S 7) j p th else 0)
            rw [if_pos cb]
            exact byR_c hg hm.2.1 (by omega) cb
          · refine nxt 0 x a b hxg ?_
            show (0 : Int) = (if cbR (j : Int) = true then byR (tbR (S 1) (S 7) p th i) (S 1) (S 7) j p th else 0)
            rw [if_neg (by rw [cb]; decide)]
      -- the table by one rally less
      have t35 : ∀ (r2 j : Nat) (g : Nat → Int), j + r2 = 15488 → (∀ k, k < j → g k = tbR (S 1) (S 7) p th i k) → zz_J zpX9_plays0 (zz_ret Q X 0 0) 35 [some (vr 0), some (vi p), some (vi th), some (vi u), some (vr 8), some (vr 9), some (vi i), some (vi j)] [] (zm (sx (tabS S f g) x a b) L) (0, 0) := by
        intro r2
        induction r2 with
        | zero =>
          intro j g hj hg
          refine zwX9_plays0_35 ⟨by omega, fun _ => t62 15488 0 f g x a b (by decide) hxg (fun k hk => absurd hk (Nat.not_lt_zero _)) (fun k hk => hg k (by omega)), fun c => by omega⟩
        | succ r2 ih2 =>
          intro j g hj hg
          refine zwX9_plays0_35 ⟨by omega, fun c => by omega, fun _ => ⟨15488, z8 _, by decide, by omega, 15488, z9 _, by decide, by omega, ?_⟩⟩
          rw [tabS_8, tabS_u9, Int.toNat_natCast]
          refine ih2 (j + 1) _ (by omega) (fun k hk => ?_)
          rw [ru_at]
          split
          · next e => rw [e]; exact hf j (by omega)
          · exact hg k (by omega)
      exact zwX9_plays0_26 ⟨by omega, by omega, fun c => by omega, fun _ => t35 15488 0 g (by decide) (fun k hk => absurd hk (Nat.not_lt_zero _))⟩
  have t3 : ∀ (r j : Nat) (f : Nat → Int), j + r = 15488 → (∀ k, k < j → f k = 0) → zz_J zpX9_plays0 (zz_ret Q X 0 0) 3 [some (vr 0), some (vi p), some (vi th), some (vi u), some (vr 8), some (vr 9), some (vi j), none] [] (zm (sx (tabS S f (S 9)) (S 6) (S 0 17) (S 0 18)) L) (0, 0) := by
    intro r
    induction r with
    | zero =>
      intro j f hj hf
      refine zwX9_plays0_3 ⟨by omega, fun _ => main u 0 f (S 9) (S 6) _ _ (by omega) hx (fun k hk => hf k (by omega)), fun c => by omega⟩
    | succ r ih =>
      intro j f hj hf
      refine zwX9_plays0_3 ⟨by omega, fun c => by omega, fun _ => ⟨15488, z8 _, by decide, by omega, ?_⟩⟩
      rw [tabS_u8, Int.toNat_natCast]
      refine ih (j + 1) _ (by omega) (fun k hk => ?_)
      rw [ru_at]
      split
      · rfl
      · exact hf k (by omega)
  have := t3 15488 0 (S 8) (by decide) (fun k hk => absurd hk (Nat.not_lt_zero _))
  rw [tabS_id] at this
  exact zwX9_plays0_0 this
/-- cells that are worked with: those of texts, the score, its winner -/
def scq (h k : Nat) : Bool := scr h k || decide (h = 6) || (decide (h = 0) && (decide (k = 17) || decide (k = 18)))
theorem scq_f {h k : Nat} (hs : scq h k = false) : scr h k = false ∧ h ≠ 6 ∧ (h = 0 → k ≠ 17 ∧ k ≠ 18) := by
  unfold scq at hs
  simp only [Bool.or_eq_false_iff, Bool.and_eq_false_iff, decide_eq_false_iff_not] at hs
  grind
/-- behind all styles: the table of styles, the rest as it was but for what is worked with -/
def asQ (S S' : Nat → Nat → Int) : Prop := (∀ h k, scq h k = false → h ≠ 7 → S' h k = S h k) ∧ (∀ j, j < 30976 → S' 7 j = stR (S 1) (scX (S 1) ((j / 2 : Nat) : Int)) (j % 2)) ∧ gdF S' ∧ xG (S' 6)
def zX9_allStyles : zz_Sp := fun as M Q X => match as with
  | [.inr (.inr (some h_))] => bif Nat.beq h_ 0 && Nat.beq M.1.1 1 then (mG (M.2.1 1) ∧ (∀ u_, u_ < 2 → plG (M.2.1 1) u_) ∧ gdF M.2.1 ∧ R32 (M.2.1 0 10) ∧ xG (M.2.1 6) ∧ (∀ S_ : Nat → Nat → Int, asQ M.2.1 S_ → Q none (zm S_ M.2.2.1))) else False
  | _ => False

def zpX9_allStyles : zz_P := [(0, zo_c 1 (vi 0)), (1, zo_ist 2 1), (2, zo_ild 3 1), (3, zo_c 6 (vi 15488)), (6, zo_cge false true 9 48), (9, zo_ald 10 0), (10, zo_ild 11 1), (11, zo_callv 14 2 8 zX9_unnumber), (14, zo_ald 15 0), (15, zo_get 18 8 2 19), (18, zo_c 19 (vi 2)), (19, zo_ild 20 1), (20, zo_imul 21), (21, zo_ald 22 0), (22, zo_c 23 (vi 0)), (23, zo_callv 26 2 8 zX9_styleOf), (26, zo_iasd 27), (27, zo_ald 28 0), (28, zo_get 31 8 2 19), (31, zo_c 32 (vi 2)), (32, zo_ild 33 1), (33, zo_imul 34), (34, zo_c 35 (vi 1)), (35, zo_iadd 36), (36, zo_ald 37 0), (37, zo_c 38 (vi 1)), (38, zo_callv 41 2 8 zX9_styleOf), (41, zo_iasd 42), (42, zo_inc 45 1 1), (45, zo_goto 2), (48, zo_vret)]
theorem ztX9_allStyles {C : mm_C} (G : mm_G C RX9 cX9_allStyles none 2 (mm_rm 34 0 0)) (hnh : mm_nh C) : zz_OKs C zpX9_allStyles :=
  ⟨zz_of (ok_iconst G (v := 0) dX9_allStyles_0 (by decide) rfl) (z_cn 1 0),
   zz_of (ok_istore_n G dX9_allStyles_1 rfl rfl (by decide)) (z_ist _ _),
   zz_of (ok_iload_n G dX9_allStyles_2 rfl rfl) (z_ild _ _),
   zz_of (ok_sipush G (v := 15488) dX9_allStyles_3 (by decide) rfl) (z_cn 6 15488),
   zz_of (ok_cge G dX9_allStyles_6 rfl rfl) (z_cge _ _ _ _),
   zz_of (ok_aload_n G dX9_allStyles_9 rfl rfl) (z_ald _ _),
   zz_of (ok_iload_n G dX9_allStyles_10 rfl rfl) (z_ild _ _),
   zz_of (ok_callv G hnh (zmX9_unnumber _ G.hst) rfl rfl (RX9, TX9, 32) rfl q2114 q2116 qs68 q93 q2117 (by decide +kernel) ⟨by decide, by decide⟩ dX9_allStyles_11 rfl) (z_callv _ _ _ _),
   zz_of (ok_aload_n G dX9_allStyles_14 rfl rfl) (z_ald _ _),
   zz_of (ok_get G (nx := 18) (ci := 8) (kd := 2) (k := 19) (RX9, TX9, 32) rfl (by decide) rfl q1824 dX9_allStyles_15 rfl) (z_get _ _ _ _),
   zz_of (ok_iconst G (v := 2) dX9_allStyles_18 (by decide) rfl) (z_cn 19 2),
   zz_of (ok_iload_n G dX9_allStyles_19 rfl rfl) (z_ild _ _),
   zz_of (ok_imul G dX9_allStyles_20 rfl) (z_imul _),
   zz_of (ok_aload_n G dX9_allStyles_21 rfl rfl) (z_ald _ _),
   zz_of (ok_iconst G (v := 0) dX9_allStyles_22 (by decide) rfl) (z_cn 23 0),
   zz_of (ok_callv G hnh (zmX9_styleOf _ G.hst) rfl rfl (RX9, TX9, 32) rfl q2038 q2040 qs56 q93 q2041 (by decide +kernel) ⟨by decide, by decide⟩ dX9_allStyles_23 rfl) (z_callv _ _ _ _),
   zz_of (ok_iast G dX9_allStyles_26 rfl) (z_iasd _),
   zz_of (ok_aload_n G dX9_allStyles_27 rfl rfl) (z_ald _ _),
   zz_of (ok_get G (nx := 31) (ci := 8) (kd := 2) (k := 19) (RX9, TX9, 32) rfl (by decide) rfl q1824 dX9_allStyles_28 rfl) (z_get _ _ _ _),
   zz_of (ok_iconst G (v := 2) dX9_allStyles_31 (by decide) rfl) (z_cn 32 2),
   zz_of (ok_iload_n G dX9_allStyles_32 rfl rfl) (z_ild _ _),
   zz_of (ok_imul G dX9_allStyles_33 rfl) (z_imul _),
   zz_of (ok_iconst G (v := 1) dX9_allStyles_34 (by decide) rfl) (z_cn 35 1),
   zz_of (ok_iadd G dX9_allStyles_35 rfl) (z_iadd _),
   zz_of (ok_aload_n G dX9_allStyles_36 rfl rfl) (z_ald _ _),
   zz_of (ok_iconst G (v := 1) dX9_allStyles_37 (by decide) rfl) (z_cn 38 1),
   zz_of (ok_callv G hnh (zmX9_styleOf _ G.hst) rfl rfl (RX9, TX9, 32) rfl q2038 q2040 qs56 q93 q2041 (by decide +kernel) ⟨by decide, by decide⟩ dX9_allStyles_38 rfl) (z_callv _ _ _ _),
   zz_of (ok_iast G dX9_allStyles_41 rfl) (z_iasd _),
   zz_of (ok_iinc G (v := 1) dX9_allStyles_42 (by decide) rfl (by decide)) (z_incn 45 1 1),
   zz_of (ok_goto G dX9_allStyles_45 rfl) (z_goto _),
   zz_of (ok_vret G dX9_allStyles_48) (z_vret), trivial⟩

theorem zwX9_allStyles_0 {Q : Option zv → zz_M → Prop} {X : Nat → zz_M → Prop} {S L : Nat → Nat → Int}  (h : zz_J zpX9_allStyles (zz_ret Q X 0 0) 2 [some (vr 0), some (vi 0)] [] (zm S L) (0, 0)) : zz_J zpX9_allStyles (zz_ret Q X 0 0) 0 [some (vr 0), none] [] (zm S L) (0, 0) := zz_J.go [(2, [])] 400 h
theorem zwX9_allStyles_2 {Q : Option zv → zz_M → Prop} {X : Nat → zz_M → Prop} {S L : Nat → Nat → Int} {x1 : Int} (h : R32 x1 ∧ ((15488 ≤ x1 → Q none (zm S L)) ∧ (¬ 15488 ≤ x1 → ((0 ≤ x1 ∧ x1 < 100000000) ∧ ((((0 : Int) = 0 ∨ (0 : Int) = 1) ∧ by5 ((sx S (unR (S 1) (S 6) x1) (S 0 17) (S 0 18)) 6) ∧ plG ((sx S (unR (S 1) (S 6) x1) (S 0 17) (S 0 18)) 1) (0 : Int).toNat ∧ gdF (sx S (unR (S 1) (S 6) x1) (S 0 17) (S 0 18)) ∧ R32 ((sx S (unR (S 1) (S 6) x1) (S 0 17) (S 0 18)) 0 10) ∧ (∀ S_2 : Nat → Nat → Int, sc (sx S (unR (S 1) (S 6) x1) (S 0 17) (S 0 18)) S_2 → ((0 ≤ (2 * x1) ∧ (2 * x1) < 30976) ∧ ((((1 : Int) = 0 ∨ (1 : Int) = 1) ∧ by5 ((mm_up S_2 7 ((2 * x1).toNat) (stR ((sx S (unR (S 1) (S 6) x1) (S 0 17) (S 0 18)) 1) ((sx S (unR (S 1) (S 6) x1) (S 0 17) (S 0 18)) 6) (0 : Int).toNat)) 6) ∧ plG ((mm_up S_2 7 ((2 * x1).toNat) (stR ((sx S (unR (S 1) (S 6) x1) (S 0 17) (S 0 18)) 1) ((sx S (unR (S 1) (S 6) x1) (S 0 17) (S 0 18)) 6) (0 : Int).toNat)) 1) (1 : Int).toNat ∧ gdF (mm_up S_2 7 ((2 * x1).toNat) (stR ((sx S (unR (S 1) (S 6) x1) (S 0 17) (S 0 18)) 1) ((sx S (unR (S 1) (S 6) x1) (S 0 17) (S 0 18)) 6) (0 : Int).toNat)) ∧ R32 ((mm_up S_2 7 ((2 * x1).toNat) (stR ((sx S (unR (S 1) (S 6) x1) (S 0 17) (S 0 18)) 1) ((sx S (unR (S 1) (S 6) x1) (S 0 17) (S 0 18)) 6) (0 : Int).toNat)) 0 10) ∧ (∀ S_3 : Nat → Nat → Int, sc (mm_up S_2 7 ((2 * x1).toNat) (stR ((sx S (unR (S 1) (S 6) x1) (S 0 17) (S 0 18)) 1) ((sx S (unR (S 1) (S 6) x1) (S 0 17) (S 0 18)) 6) (0 : Int).toNat)) S_3 → ((0 ≤ ((2 * x1) + 1) ∧ ((2 * x1) + 1) < 30976) ∧ (zz_J zpX9_allStyles (zz_ret Q X 0 0) 2 [some (vr 0), some (vi (x1 + 1))] [] (zm (mm_up S_3 7 (((2 * x1) + 1).toNat) (stR ((mm_up S_2 7 ((2 * x1).toNat) (stR ((sx S (unR (S 1) (S 6) x1) (S 0 17) (S 0 18)) 1) ((sx S (unR (S 1) (S 6) x1) (S 0 17) (S 0 18)) 6) (0 : Int).toNat)) 1) ((mm_up S_2 7 ((2 * x1).toNat) (stR ((sx S (unR (S 1) (S 6) x1) (S 0 17) (S 0 18)) 1) ((sx S (unR (S 1) (S 6) x1) (S 0 17) (S 0 18)) 6) (0 : Int).toNat)) 6) (1 : Int).toNat)) L) (0, 0)))))))))))))) : zz_J zpX9_allStyles (zz_ret Q X 0 0) 2 [some (vr 0), some (vi x1)] [] (zm S L) (0, 0) := zz_J.go [(2, [])] 400 h

theorem gdF.sxx {S : Nat → Nat → Int} (x : Nat → Int) (a b : Int) (hg : gdF S) : gdF (sx S x a b) := by
  unfold gdF at hg ⊢
  have ef : fcS (sx S x a b) = fcS S := by
    funext k
    grind [fcS, sx_at]
  rw [ef]
  exact hg
theorem zmX9_allStyles (l : Launch) (hl : l.stackTraces = false) : mm_Spec l yX9_allStyles (ws_ yX9_allStyles cX9_allStyles 2 none) (mm_rm 34 0 0) (zE zX9_allStyles) := by
  refine zz_Met.J hl (by decide) (fun C G hnh => ztX9_allStyles G hnh) ?_
  rintro as ⟨⟨t_, f⟩, S, L, P⟩ Q X h
  unfold zX9_allStyles at h
  split at h
  rotate_left
  · exact h.elim
  rename_i h_
  obtain ⟨e1_, e2_, h⟩ := mm_and2 h (fun q => q)
  cases mm_beq e1_
  cases mm_beq e2_
  try dsimp only at h
  refine ⟨rfl, ?_⟩
  refine zz_Jev (M' := zm S L) rfl rfl rfl ?_
  obtain ⟨hm, hpl, hg, hR, hx, hq⟩ := h
  have lp : ∀ (r k : Nat) (T : Nat → Nat → Int), k + r = 15488 → (∀ h j, scq h j = false → h ≠ 7 → T h j = S h j) → (∀ j, j < 2 * k → T 7 j = stR (S 1) (scX (S 1) ((j / 2 : Nat) : Int)) (j % 2)) → gdF T → xG (T 6) → zz_J zpX9_allStyles (zz_ret Q X 0 0) 2 [some (vr 0), some (vi k)] [] (zm T L) (0, 0) := by
    intro r
    induction r with
    | zero =>
      intro k T hk h0 h7 gT hxT
      refine zwX9_allStyles_2 ⟨by omega, fun _ => hq T ⟨h0, fun j hj => h7 j (by omega), gT, hxT⟩, fun c => by omega⟩
    | succ r ih =>
      intro k T hk h0 h7 gT hxT
      have t1 : T 1 = S 1 := by
        funext j
        exact h0 1 j (by simp [scq, scr]) (by decide)
      have t10 : T 0 10 = S 0 10 := h0 0 10 (by simp [scq, scr]) (by decide)
      have hXG : xG (scX (S 1) k) := scX_G (by omega) (by omega) hm.2.2
      refine zwX9_allStyles_2 ⟨by omega, fun c => by omega, fun _ => ⟨by omega, ?_⟩⟩
      rw [t1, scX_eq hxT]
      generalize hU : sx T (scX (S 1) k) (T 0 17) (T 0 18) = U
      have u1 : U 1 = S 1 := by rw [← hU, sx_1, t1]
      have u6 : U 6 = scX (S 1) k := by rw [← hU, sx_6]
      have gU : gdF U := by rw [← hU]; exact gT.sxx _ _ _
      have u10 : U 0 10 = S 0 10 := by rw [← hU]; simpa [sx] using t10
      have u0 : ∀ h j, scq h j = false → h ≠ 7 → U h j = S h j := by
        intro h j hs h7'
        have q := scq_f hs
        rw [← hU, sx_at, if_neg q.2.1, if_neg (fun e => (q.2.2 e.1).1 e.2), if_neg (fun e => (q.2.2 e.1).2 e.2)]
        exact h0 h j hs h7'
      have u7 : ∀ j, U 7 j = T 7 j := by intro j; rw [← hU]; simp [sx]
      refine ⟨Or.inl rfl, by rw [u6]; exact hXG.1, by rw [u1]; exact hpl 0 (by decide), gU, by rw [u10]; exact hR, fun V hV => ⟨by omega, ?_⟩⟩
      rw [u1, u6]
      have v0 : ∀ h j, scq h j = false → V h j = U h j := fun h j hs => hV.1 h j (scq_f hs).1
      have v6 : V 6 = U 6 := by
        funext j
        exact hV.1 6 j (by simp [scr])
      have v7 : ∀ j, V 7 j = U 7 j := fun j => hV.1 7 j (by simp [scr])
      have v1 : V 1 = U 1 := by
        funext j
        exact hV.1 1 j (by simp [scr])
      have v10 : V 0 10 = U 0 10 := hV.1 0 10 (by simp [scr])
      generalize hW : mm_up V 7 ((2 : Int) * k).toNat (stR (S 1) (scX (S 1) k) ((0 : Int)).toNat) = W
      have w6 : W 6 = scX (S 1) k := by
        rw [← hW, ← u6, ← v6]
        funext j
        simp [up_eq]
      have w1 : W 1 = S 1 := by
        rw [← hW, ← u1, ← v1]
        funext j
        simp [up_eq]
      have gW : gdF W := by rw [← hW]; exact hV.2.up _ (by decide) (by omega)
      have w10 : W 0 10 = S 0 10 := by rw [← hW, ← u10, ← v10]; simp [up_eq]
      refine ⟨Or.inr rfl, by rw [w6]; exact hXG.1, by rw [w1]; exact hpl 1 (by decide), gW, by rw [w10]; exact hR, fun Y hY => ⟨by omega, ?_⟩⟩
      rw [w1, w6]
      have y6 : Y 6 = W 6 := by
        funext j
        exact hY.1 6 j (by simp [scr])
      have y7 : ∀ j, Y 7 j = W 7 j := fun j => hY.1 7 j (by simp [scr])
      refine ih (k + 1) _ (by omega) (fun h j hs h7' => ?_) (fun j hj => ?_) (hY.2.up _ (by decide) (by omega)) ?_
      · rw [up_eq, if_neg (fun e => h7' e.1), hY.1 h j (scq_f hs).1, ← hW, up_eq, if_neg (fun e => h7' e.1), v0 h j hs, u0 h j hs h7']
      · have e1 : ((2 : Int) * k + 1).toNat = 2 * k + 1 := by omega
        have e0 : ((2 : Int) * k).toNat = 2 * k := by omega
        rw [up_eq, e1]
        by_cases j1 : j = 2 * k + 1
        · rw [if_pos ⟨rfl, j1⟩, j1, show (2 * k + 1) / 2 = k by omega, show (2 * k + 1) % 2 = 1 by omega]
          rfl
        · rw [if_neg (fun e => j1 e.2), y7, ← hW, up_eq, e0]
          by_cases j0 : j = 2 * k
          · rw [if_pos ⟨rfl, j0⟩, j0, show (2 * k) / 2 = k by omega, show (2 * k) % 2 = 0 by omega]
            rfl
          · rw [if_neg (fun e => j0 e.2), v7, u7]
            exact h7 j (by omega)
      · have : (mm_up Y 7 ((2 : Int) * k + 1).toNat (stR (S 1) (scX (S 1) k) ((1 : Int)).toNat)) 6 = Y 6 := by
          funext j
          simp [up_eq]
        rw [this, y6, w6]
        exact hXG
  exact zwX9_allStyles_0 (lp 15488 0 S (by decide) (fun _ _ _ _ => rfl) (fun j hj => absurd hj (by omega)) hg hx)
