/-! ===== the model's set ===== -/
set_option maxRecDepth 100000
/-- one of the four ways: by whom (twice), who is at end 0 -/
abbrev tbK (w st : Nat → Int) (k : Nat) : Nat → Nat → Int := tbR w st ((k / 2 : Nat) : Int) ((k % 2 : Nat) : Int)
theorem rlN_in (w x : Nat → Int) (how : Int) (h2 : x 2 = 0 ∨ x 2 = 1) : rlN w x how = -1 ∨ rlN w x how = 0 ∨ rlN w x how = 1 := by
  have hN := rlW_in w x how h2
  unfold rlN
  split
  · exact Or.inl rfl
  · split
    · exact hN
    · exact Or.inl rfl
theorem hdT_4 {t0 t1 t2 t3 w x : Nat → Int} {how : Int} (h : ∀ j, j < 15488 → t0 j + t1 j + t2 j + t3 j ≤ 1000000000) (hw : wV w) (hx : scV x) (h0 : 0 ≤ how) (h1 : how ≤ 11) : hdT t0 w x 0 0 how + hdT t1 w x 0 1 how + hdT t2 w x 1 0 how + hdT t3 w x 1 1 how ≤ 1000000000 := by
  have hR := rlR_V hw hx h0 (by omega) (fun _ => h1)
  have hn := nuR_in hR
  have hs := hR.2.1
  have hN := rlN_in w x how hx.2.1
  unfold hdT
  by_cases e : rlN w x how = -1
  · simp only [e, if_true]
    exact h _ (by omega)
  · simp only [e, if_false]
    have z : ∀ t : Int, ¬ ((0 : Int) = -1) := fun _ => by decide
    rcases hN with e' | e' | e'
    · exact absurd e' e
    · rw [e']
      rcases hs with s | s <;> rw [s] <;> simp
    · rw [e']
      rcases hs with s | s <;> rw [s] <;> simp
theorem hdS_4 {t0 t1 t2 t3 w x : Nat → Int} {ix : Nat} (h : ∀ j, j < 15488 → t0 j + t1 j + t2 j + t3 j ≤ 1000000000) (hg : cG w) (hw : wV w) (hx : scV x) (hix : ix + 12 ≤ 192) : ∀ i : Nat, i ≤ 12 → hdS t0 w x ix 0 0 i + hdS t1 w x ix 0 1 i + hdS t2 w x ix 1 0 i + hdS t3 w x ix 1 1 i ≤ 1000000000 * smR w ix i
  | 0, _ => by show (0 : Int) + 0 + 0 + 0 ≤ 1000000000 * 0; decide
  | i + 1, hi => by
    have ih := hdS_4 h hg hw hx hix i (by omega)
    have hc := hg.1 (ix + i) (by omega)
    have ht := hdT_4 (how := (i : Int)) h hw hx (by omega) (by omega)
    have hm := Int.mul_le_mul_of_nonneg_left ht hc.1
    rw [Int.mul_add, Int.mul_add, Int.mul_add] at hm
    unfold hdS smR
    rw [Int.mul_add]
    omega
theorem tb4 {w st : Nat → Int} (hm : mG w) (hwh : whB w 16 = true) (hst : stG st) : ∀ (i j : Nat), j < 15488 → tbR w st 0 0 i j + tbR w st 0 1 i j + tbR w st 1 0 i j + tbR w st 1 1 i j ≤ 1000000000
  | 0, _, _ => by show (0 : Int) + 0 + 0 + 0 ≤ 1000000000; decide
  | i + 1, j, hj => by
    have ih := tb4 hm hwh hst i
    unfold tbR
    split
    · next hc =>
      obtain ⟨q, hq, eq⟩ := byI_j hst hj
      have hX : scV (scX w j) := unR_V (by omega) (by omega) hc
      have h4 := hdS_4 ih hm.1 hm.2.1 hX (by omega : 12 * q + 12 ≤ 192) 12 (by decide)
      rw [whB_t.mp hwh q hq] at h4
      unfold byR hdR
      rw [eq]
      omega
    · decide
theorem stO_c {wy wy' : Nat → Int} {G p : Int} (h : ∀ j, j < 8 → wy j = wy' j) : ∀ (r : Nat) (a b : Int) (s : Nat), s < 2 → stO wy G p r a b s = stO wy' G p r a b s
  | 0, _, _, _, _ => rfl
  | r + 1, a, b, s, hs => by
    unfold stO
    rw [stO_c h r (a + 1) b 0 (by decide), stO_c h r (a + 1) b 1 (by decide), stO_c h r a (b + 1) 0 (by decide), stO_c h r a (b + 1) 1 (by decide), h (4 * s) (by omega), h (4 * s + 1) (by omega), h (4 * s + 2) (by omega), h (4 * s + 3) (by omega)]
/-- the ways of games that begin: who is at end 0, then the way -/
def wyF (w st : Nat → Int) (n : Nat) (j : Nat) : Int := tbK w st (j % 4) n (nuR (bgX w ((j / 4 : Nat) : Int))).toNat
theorem wyF_G {w st : Nat → Int} {n : Nat} (hm : mG w) (hwh : whB w 16 = true) (hst : stG st) : wyG (wyF w st n) := by
  have hB : ∀ s : Nat, s < 2 → (nuR (bgX w ((s : Nat) : Int))).toNat < 15488 := by
    intro s hs
    have := nuR_in (bgX_V hm.2.1 (s := (s : Int)) (by omega)).1
    omega
  refine ⟨fun j hj => ?_, ?_, ?_⟩
  · exact tbR_G hm hwh hst n _ (hB (j / 4) (by omega))
  · exact tb4 hm hwh hst n _ (hB 0 (by decide))
  · exact tb4 hm hwh hst n _ (hB 1 (by decide))
/-- the chance of the set: the game that is now by its four ways f -/
def seR (f wy : Nat → Int) (G p a b : Int) : Int := f 0 * stO wy G p 11 (a + 1) b 0 / 1000000000 + f 1 * stO wy G p 11 (a + 1) b 1 / 1000000000 + f 2 * stO wy G p 11 a (b + 1) 0 / 1000000000 + f 3 * stO wy G p 11 a (b + 1) 1 / 1000000000
def wyS (L : Nat → Nat → Int) (f g : Nat → Int) : Nat → Nat → Int := fun h k => if h = 12 then f k else if h = 13 then g k else L h k
theorem wyS_at (L : Nat → Nat → Int) (f g : Nat → Int) (h k : Nat) : wyS L f g h k = if h = 12 then f k else if h = 13 then g k else L h k := rfl
theorem wyS_12 (L : Nat → Nat → Int) (f g : Nat → Int) : wyS L f g 12 = f := rfl
theorem wyS_13 (L : Nat → Nat → Int) (f g : Nat → Int) : wyS L f g 13 = g := rfl
theorem wyS_u12 (L : Nat → Nat → Int) (f g : Nat → Int) (v : Int) (j : Nat) : mm_up (wyS L f g) 12 j v = wyS L (ru f j v) g := by
  funext h k
  grind [up_eq, wyS_at, ru_at]
theorem wyS_u13 (L : Nat → Nat → Int) (f g : Nat → Int) (v : Int) (j : Nat) : mm_up (wyS L f g) 13 j v = wyS L f (ru g j v) := by
  funext h k
  grind [up_eq, wyS_at, ru_at]
theorem wyS_id (L : Nat → Nat → Int) : wyS L (L 12) (L 13) = L := by
  funext h k
  grind [wyS_at]
def zX9_set : zz_Sp := fun as M Q X => match as with
  | [.inr (.inr (some h_)), .inl p, .inl n] => bif Nat.beq h_ 0 && Nat.beq M.1.1 1 then (R32 p ∧ R32 n ∧ mI M.2.1 ∧ (∀ (S_ L_ : Nat → Nat → Int), rfR (M.2.1 1) (nwX M.2.1) p n ≠ 0 → coQ (mm_up M.2.1 0 0 (rfR (M.2.1 1) (nwX M.2.1) p n)) S_ → Q (some (vi 0)) (zm S_ L_)) ∧ (∀ (S_ L_ : Nat → Nat → Int), rfR (M.2.1 1) (nwX M.2.1) p n = 0 → coQ (mm_up M.2.1 0 0 0) S_ → Q (some (vi (seR (fun k => tbK (M.2.1 1) (stT (M.2.1 1)) k n.toNat (nuR (nwX M.2.1)).toNat) (wyF (M.2.1 1) (stT (M.2.1 1)) n.toNat) (M.2.1 1 194) p (M.2.1 1 208) (M.2.1 1 209)))) (zm S_ L_))) else False
  | _ => False

def zpX9_set : zz_P := [(0, zo_ald 1 0), (1, zo_ald 2 0), (2, zo_ild 3 1), (3, zo_ild 4 2), (4, zo_callv 7 3 8 zX9_refuses), (7, zo_puti 10 8 0), (10, zo_ald 11 0), (11, zo_get 14 8 0 0), (14, zo_ifle false 17 19), (17, zo_c 18 (vi 0)), (18, zo_iret), (19, zo_ald 20 0), (20, zo_callv 23 1 8 zX9_allStyles), (23, zo_c 24 (vi 0)), (24, zo_ist 25 3), (25, zo_ild 26 3), (26, zo_c 27 (vi 2)), (27, zo_cge false true 30 131), (30, zo_c 31 (vi 0)), (31, zo_ist 33 4), (33, zo_ild 35 4), (35, zo_c 36 (vi 2)), (36, zo_cge false true 39 125), (39, zo_ald 40 0), (40, zo_ild 41 3), (41, zo_ild 43 4), (43, zo_ild 44 2), (44, zo_ald 45 0), (45, zo_get 48 8 2 20), (48, zo_ald 49 0), (49, zo_get 52 8 2 21), (52, zo_callv 55 6 8 zX9_plays0), (55, zo_ald 56 0), (56, zo_get 59 8 2 25), (59, zo_c 60 (vi 2)), (60, zo_ild 61 3), (61, zo_imul 62), (62, zo_ild 64 4), (64, zo_iadd 65), (65, zo_ald 66 0), (66, zo_get 69 8 2 20), (69, zo_ald 70 0), (70, zo_callv 73 1 8 zX9_atNow), (73, zo_iald 74), (74, zo_i2l 75), (75, zo_lasd 76), (76, zo_c 77 (vi 0)), (77, zo_ist 79 5), (79, zo_ild 81 5), (81, zo_c 82 (vi 2)), (82, zo_cge false true 85 119), (85, zo_ald 86 0), (86, zo_get 89 8 2 24), (89, zo_c 90 (vi 4)), (90, zo_ild 92 5), (92, zo_imul 93), (93, zo_c 94 (vi 2)), (94, zo_ild 95 3), (95, zo_imul 96), (96, zo_iadd 97), (97, zo_ild 99 4), (99, zo_iadd 100), (100, zo_ald 101 0), (101, zo_get 104 8 2 20), (104, zo_ald 105 0), (105, zo_ild 107 5), (107, zo_callv 110 2 8 zX9_beginNumber), (110, zo_iald 111), (111, zo_i2l 112), (112, zo_lasd 113), (113, zo_inc 116 5 1), (116, zo_goto 79), (119, zo_inc 122 4 1), (122, zo_goto 33), (125, zo_inc 128 3 1), (128, zo_goto 25), (131, zo_ald 132 0), (132, zo_get 135 8 2 1), (135, zo_c 138 (vi 208)), (138, zo_ialc 139 208), (139, zo_ist 140 3), (140, zo_ald 141 0), (141, zo_get 144 8 2 1), (144, zo_c 147 (vi 209)), (147, zo_ialc 148 209), (148, zo_ist 150 4), (150, zo_c 151 (vl 0)), (151, zo_lst 153 5), (153, zo_c 154 (vi 0)), (154, zo_ist 156 7), (156, zo_ild 158 7), (158, zo_c 159 (vi 2)), (159, zo_cge false true 162 239), (162, zo_c 163 (vi 0)), (163, zo_ist 165 8), (165, zo_ild 167 8), (167, zo_c 168 (vi 2)), (168, zo_cge false true 171 233), (171, zo_lld 173 5), (173, zo_ald 174 0), (174, zo_get 177 8 2 25), (177, zo_c 178 (vi 2)), (178, zo_ild 180 7), (180, zo_imul 181), (181, zo_ild 183 8), (183, zo_iadd 184), (184, zo_lald 185), (185, zo_ald 186 0), (186, zo_ild 187 1), (187, zo_ild 189 7), (189, zo_ifne false 192 198), (192, zo_ild 193 3), (193, zo_c 194 (vi 1)), (194, zo_iadd 195), (195, zo_goto 199), (198, zo_ild 199 3), (199, zo_ild 201 7), (201, zo_c 202 (vi 1)), (202, zo_cne false true 205 212), (205, zo_ild 207 4), (207, zo_c 208 (vi 1)), (208, zo_iadd 209), (209, zo_goto 214), (212, zo_ild 214 4), (214, zo_ild 216 8), (216, zo_callv 219 5 8 zX9_setOf_11), (219, zo_lmul 220), (220, zo_c 223 (vl 1000000000)), (223, zo_ldiv 224), (224, zo_ladd 225), (225, zo_lst 227 5), (227, zo_inc 230 8 1), (230, zo_goto 165), (233, zo_inc 236 7 1), (236, zo_goto 156), (239, zo_lld 241 5), (241, zo_l2i 242), (242, zo_iret)]
theorem ztX9_set {C : mm_C} (G : mm_G C RX9 cX9_set (some .int) 9 (mm_rm 37 0 0)) (hnh : mm_nh C) : zz_OKs C zpX9_set :=
  ⟨zz_of (ok_aload_n G dX9_set_0 rfl rfl) (z_ald _ _),
   zz_of (ok_aload_n G dX9_set_1 rfl rfl) (z_ald _ _),
   zz_of (ok_iload_n G dX9_set_2 rfl rfl) (z_ild _ _),
   zz_of (ok_iload_n G dX9_set_3 rfl rfl) (z_ild _ _),
   zz_of (ok_callv G hnh (zmX9_refuses _ G.hst) rfl rfl (RX9, TX9, 32) rfl q2106 q2108 qs66 q93 q2109 (by decide +kernel) ⟨by decide, by decide⟩ dX9_set_4 rfl) (z_callv _ _ _ _),
   zz_of (ok_puti G (nx := 10) (idx := 67) (ci := 8) (k := 0) (RX9, TX9, 32) rfl (by decide) rfl (mm_pw G (ci := 8) (k := 0) (RX9, TX9, 32) rfl (by decide) rfl q1805 dX9_set_7) rfl) (z_puti _ _ _),
   zz_of (ok_aload_n G dX9_set_10 rfl rfl) (z_ald _ _),
   zz_of (ok_get G (nx := 14) (ci := 8) (kd := 0) (k := 0) (RX9, TX9, 32) rfl (by decide) rfl q1805 dX9_set_11 rfl) (z_get _ _ _ _),
   zz_of (ok_ifle G dX9_set_14 rfl rfl) (z_ifle _ _ _),
   zz_of (ok_iconst G (v := 0) dX9_set_17 (by decide) rfl) (z_cn 18 0),
   zz_of (ok_iret G dX9_set_18) (z_iret),
   zz_of (ok_aload_n G dX9_set_19 rfl rfl) (z_ald _ _),
   zz_of (ok_callv G hnh (zmX9_allStyles _ G.hst) rfl rfl (RX9, TX9, 32) rfl q2110 q2112 qs67 q93 q2113 (by decide +kernel) ⟨by decide, by decide⟩ dX9_set_20 rfl) (z_callv _ _ _ _),
   zz_of (ok_iconst G (v := 0) dX9_set_23 (by decide) rfl) (z_cn 24 0),
   zz_of (ok_istore_n G dX9_set_24 rfl rfl (by decide)) (z_ist _ _),
   zz_of (ok_iload_n G dX9_set_25 rfl rfl) (z_ild _ _),
   zz_of (ok_iconst G (v := 2) dX9_set_26 (by decide) rfl) (z_cn 27 2),
   zz_of (ok_cge G dX9_set_27 rfl rfl) (z_cge _ _ _ _),
   zz_of (ok_iconst G (v := 0) dX9_set_30 (by decide) rfl) (z_cn 31 0),
   zz_of (ok_istore G dX9_set_31 rfl (by decide)) (z_ist _ _),
   zz_of (ok_iload G dX9_set_33 rfl) (z_ild _ _),
   zz_of (ok_iconst G (v := 2) dX9_set_35 (by decide) rfl) (z_cn 36 2),
   zz_of (ok_cge G dX9_set_36 rfl rfl) (z_cge _ _ _ _),
   zz_of (ok_aload_n G dX9_set_39 rfl rfl) (z_ald _ _),
   zz_of (ok_iload_n G dX9_set_40 rfl rfl) (z_ild _ _),
   zz_of (ok_iload G dX9_set_41 rfl) (z_ild _ _),
   zz_of (ok_iload_n G dX9_set_43 rfl rfl) (z_ild _ _),
   zz_of (ok_aload_n G dX9_set_44 rfl rfl) (z_ald _ _),
   zz_of (ok_get G (nx := 48) (ci := 8) (kd := 2) (k := 20) (RX9, TX9, 32) rfl (by decide) rfl q1825 dX9_set_45 rfl) (z_get _ _ _ _),
   zz_of (ok_aload_n G dX9_set_48 rfl rfl) (z_ald _ _),
   zz_of (ok_get G (nx := 52) (ci := 8) (kd := 2) (k := 21) (RX9, TX9, 32) rfl (by decide) rfl q1826 dX9_set_49 rfl) (z_get _ _ _ _),
   zz_of (ok_callv G hnh (zmX9_plays0 _ G.hst) rfl rfl (RX9, TX9, 32) rfl q2118 q2120 qs69 q93 q2121 (by decide +kernel) ⟨by decide, by decide⟩ dX9_set_52 rfl) (z_callv _ _ _ _),
   zz_of (ok_aload_n G dX9_set_55 rfl rfl) (z_ald _ _),
   zz_of (ok_get G (nx := 59) (ci := 8) (kd := 2) (k := 25) (RX9, TX9, 32) rfl (by decide) rfl q1830 dX9_set_56 rfl) (z_get _ _ _ _),
   zz_of (ok_iconst G (v := 2) dX9_set_59 (by decide) rfl) (z_cn 60 2),
   zz_of (ok_iload_n G dX9_set_60 rfl rfl) (z_ild _ _),
   zz_of (ok_imul G dX9_set_61 rfl) (z_imul _),
   zz_of (ok_iload G dX9_set_62 rfl) (z_ild _ _),
   zz_of (ok_iadd G dX9_set_64 rfl) (z_iadd _),
   zz_of (ok_aload_n G dX9_set_65 rfl rfl) (z_ald _ _),
   zz_of (ok_get G (nx := 69) (ci := 8) (kd := 2) (k := 20) (RX9, TX9, 32) rfl (by decide) rfl q1825 dX9_set_66 rfl) (z_get _ _ _ _),
   zz_of (ok_aload_n G dX9_set_69 rfl rfl) (z_ald _ _),
   zz_of (ok_callv G hnh (zmX9_atNow _ G.hst) rfl rfl (RX9, TX9, 32) rfl q2139 q2141 qs73 q93 q2142 (by decide +kernel) ⟨by decide, by decide⟩ dX9_set_70 rfl) (z_callv _ _ _ _),
   zz_of (ok_iald G dX9_set_73 rfl) (z_iald _),
   zz_of (ok_i2l G dX9_set_74 rfl) (z_i2l _),
   zz_of (ok_last G dX9_set_75 rfl) (z_lasd _),
   zz_of (ok_iconst G (v := 0) dX9_set_76 (by decide) rfl) (z_cn 77 0),
   zz_of (ok_istore G dX9_set_77 rfl (by decide)) (z_ist _ _),
   zz_of (ok_iload G dX9_set_79 rfl) (z_ild _ _),
   zz_of (ok_iconst G (v := 2) dX9_set_81 (by decide) rfl) (z_cn 82 2),
   zz_of (ok_cge G dX9_set_82 rfl rfl) (z_cge _ _ _ _),
   zz_of (ok_aload_n G dX9_set_85 rfl rfl) (z_ald _ _),
   zz_of (ok_get G (nx := 89) (ci := 8) (kd := 2) (k := 24) (RX9, TX9, 32) rfl (by decide) rfl q1829 dX9_set_86 rfl) (z_get _ _ _ _),
   zz_of (ok_iconst G (v := 4) dX9_set_89 (by decide) rfl) (z_cn 90 4),
   zz_of (ok_iload G dX9_set_90 rfl) (z_ild _ _),
   zz_of (ok_imul G dX9_set_92 rfl) (z_imul _),
   zz_of (ok_iconst G (v := 2) dX9_set_93 (by decide) rfl) (z_cn 94 2),
   zz_of (ok_iload_n G dX9_set_94 rfl rfl) (z_ild _ _),
   zz_of (ok_imul G dX9_set_95 rfl) (z_imul _),
   zz_of (ok_iadd G dX9_set_96 rfl) (z_iadd _),
   zz_of (ok_iload G dX9_set_97 rfl) (z_ild _ _),
   zz_of (ok_iadd G dX9_set_99 rfl) (z_iadd _),
   zz_of (ok_aload_n G dX9_set_100 rfl rfl) (z_ald _ _),
   zz_of (ok_get G (nx := 104) (ci := 8) (kd := 2) (k := 20) (RX9, TX9, 32) rfl (by decide) rfl q1825 dX9_set_101 rfl) (z_get _ _ _ _),
   zz_of (ok_aload_n G dX9_set_104 rfl rfl) (z_ald _ _),
   zz_of (ok_iload G dX9_set_105 rfl) (z_ild _ _),
   zz_of (ok_callv G hnh (zmX9_beginNumber _ G.hst) rfl rfl (RX9, TX9, 32) rfl q2161 q2163 qs74 q93 q2164 (by decide +kernel) ⟨by decide, by decide⟩ dX9_set_107 rfl) (z_callv _ _ _ _),
   zz_of (ok_iald G dX9_set_110 rfl) (z_iald _),
   zz_of (ok_i2l G dX9_set_111 rfl) (z_i2l _),
   zz_of (ok_last G dX9_set_112 rfl) (z_lasd _),
   zz_of (ok_iinc G (v := 1) dX9_set_113 (by decide) rfl (by decide)) (z_incn 116 5 1),
   zz_of (ok_goto G dX9_set_116 rfl) (z_goto _),
   zz_of (ok_iinc G (v := 1) dX9_set_119 (by decide) rfl (by decide)) (z_incn 122 4 1),
   zz_of (ok_goto G dX9_set_122 rfl) (z_goto _),
   zz_of (ok_iinc G (v := 1) dX9_set_125 (by decide) rfl (by decide)) (z_incn 128 3 1),
   zz_of (ok_goto G dX9_set_128 rfl) (z_goto _),
   zz_of (ok_aload_n G dX9_set_131 rfl rfl) (z_ald _ _),
   zz_of (ok_get G (nx := 135) (ci := 8) (kd := 2) (k := 1) (RX9, TX9, 32) rfl (by decide) rfl q1806 dX9_set_132 rfl) (z_get _ _ _ _),
   zz_of (ok_sipush G (v := 208) dX9_set_135 (by decide) rfl) (z_cn 138 208),
   zz_of (ok_iald G dX9_set_138 rfl) (z_ialc _ _),
   zz_of (ok_istore_n G dX9_set_139 rfl rfl (by decide)) (z_ist _ _),
   zz_of (ok_aload_n G dX9_set_140 rfl rfl) (z_ald _ _),
   zz_of (ok_get G (nx := 144) (ci := 8) (kd := 2) (k := 1) (RX9, TX9, 32) rfl (by decide) rfl q1806 dX9_set_141 rfl) (z_get _ _ _ _),
   zz_of (ok_sipush G (v := 209) dX9_set_144 (by decide) rfl) (z_cn 147 209),
   zz_of (ok_iald G dX9_set_147 rfl) (z_ialc _ _),
   zz_of (ok_istore G dX9_set_148 rfl (by decide)) (z_ist _ _),
   zz_of (ok_lconst G (v := 0) dX9_set_150 (by decide) rfl) (z_cl 151 0),
   zz_of (ok_lstore G dX9_set_151 rfl (by decide)) (z_lst _ _),
   zz_of (ok_iconst G (v := 0) dX9_set_153 (by decide) rfl) (z_cn 154 0),
   zz_of (ok_istore G dX9_set_154 rfl (by decide)) (z_ist _ _),
   zz_of (ok_iload G dX9_set_156 rfl) (z_ild _ _),
   zz_of (ok_iconst G (v := 2) dX9_set_158 (by decide) rfl) (z_cn 159 2),
   zz_of (ok_cge G dX9_set_159 rfl rfl) (z_cge _ _ _ _),
   zz_of (ok_iconst G (v := 0) dX9_set_162 (by decide) rfl) (z_cn 163 0),
   zz_of (ok_istore G dX9_set_163 rfl (by decide)) (z_ist _ _),
   zz_of (ok_iload G dX9_set_165 rfl) (z_ild _ _),
   zz_of (ok_iconst G (v := 2) dX9_set_167 (by decide) rfl) (z_cn 168 2),
   zz_of (ok_cge G dX9_set_168 rfl rfl) (z_cge _ _ _ _),
   zz_of (ok_lload G dX9_set_171 rfl) (z_lld _ _),
   zz_of (ok_aload_n G dX9_set_173 rfl rfl) (z_ald _ _),
   zz_of (ok_get G (nx := 177) (ci := 8) (kd := 2) (k := 25) (RX9, TX9, 32) rfl (by decide) rfl q1830 dX9_set_174 rfl) (z_get _ _ _ _),
   zz_of (ok_iconst G (v := 2) dX9_set_177 (by decide) rfl) (z_cn 178 2),
   zz_of (ok_iload G dX9_set_178 rfl) (z_ild _ _),
   zz_of (ok_imul G dX9_set_180 rfl) (z_imul _),
   zz_of (ok_iload G dX9_set_181 rfl) (z_ild _ _),
   zz_of (ok_iadd G dX9_set_183 rfl) (z_iadd _),
   zz_of (ok_lald G dX9_set_184 rfl) (z_lald _),
   zz_of (ok_aload_n G dX9_set_185 rfl rfl) (z_ald _ _),
   zz_of (ok_iload_n G dX9_set_186 rfl rfl) (z_ild _ _),
   zz_of (ok_iload G dX9_set_187 rfl) (z_ild _ _),
   zz_of (ok_ifne G dX9_set_189 rfl rfl) (z_ifne _ _ _),
   zz_of (ok_iload_n G dX9_set_192 rfl rfl) (z_ild _ _),
   zz_of (ok_iconst G (v := 1) dX9_set_193 (by decide) rfl) (z_cn 194 1),
   zz_of (ok_iadd G dX9_set_194 rfl) (z_iadd _),
   zz_of (ok_goto G dX9_set_195 rfl) (z_goto _),
   zz_of (ok_iload_n G dX9_set_198 rfl rfl) (z_ild _ _),
   zz_of (ok_iload G dX9_set_199 rfl) (z_ild _ _),
   zz_of (ok_iconst G (v := 1) dX9_set_201 (by decide) rfl) (z_cn 202 1),
   zz_of (ok_cne G dX9_set_202 rfl rfl) (z_cne _ _ _ _),
   zz_of (ok_iload G dX9_set_205 rfl) (z_ild _ _),
   zz_of (ok_iconst G (v := 1) dX9_set_207 (by decide) rfl) (z_cn 208 1),
   zz_of (ok_iadd G dX9_set_208 rfl) (z_iadd _),
   zz_of (ok_goto G dX9_set_209 rfl) (z_goto _),
   zz_of (ok_iload G dX9_set_212 rfl) (z_ild _ _),
   zz_of (ok_iload G dX9_set_214 rfl) (z_ild _ _),
   zz_of (ok_callv G hnh (zmX9_setOf_11 _ G.hst) rfl rfl (RX9, TX9, 32) rfl q2165 q2167 qs75 q93 q2168 (by decide +kernel) ⟨by decide, by decide⟩ dX9_set_216 rfl) (z_callv _ _ _ _),
   zz_of (ok_lmul G dX9_set_219 rfl) (z_lmul _),
   zz_of (ok_ldc2 G (v := 1000000000) q2137 dX9_set_220 rfl) (z_cl 223 1000000000),
   zz_of (ok_ldiv G dX9_set_223 rfl) (z_ldiv _),
   zz_of (ok_ladd G dX9_set_224 rfl) (z_ladd _),
   zz_of (ok_lstore G dX9_set_225 rfl (by decide)) (z_lst _ _),
   zz_of (ok_iinc G (v := 1) dX9_set_227 (by decide) rfl (by decide)) (z_incn 230 8 1),
   zz_of (ok_goto G dX9_set_230 rfl) (z_goto _),
   zz_of (ok_iinc G (v := 1) dX9_set_233 (by decide) rfl (by decide)) (z_incn 236 7 1),
   zz_of (ok_goto G dX9_set_236 rfl) (z_goto _),
   zz_of (ok_lload G dX9_set_239 rfl) (z_lld _ _),
   zz_of (ok_l2i G dX9_set_241 rfl) (z_l2i _),
   zz_of (ok_iret G dX9_set_242) (z_iret), trivial⟩

theorem zwX9_set_0 {Q : Option zv → zz_M → Prop} {X : Nat → zz_M → Prop} {S L : Nat → Nat → Int} {p : Int} {n : Int} (h : (R32 p ∧ R32 n ∧ bx (tkS S 6) ∧ (-100 ≤ S 1 194 ∧ S 1 194 ≤ 100) ∧ (R32 (rfR (S 1) (tkS S 6) p n) ∧ (((rfR (S 1) (tkS S 6) p n) ≤ 0 → zz_J zpX9_set (zz_ret Q X 0 0) 19 [some (vr 0), some (vi p), some (vi n), none, none, none, none, none, none] [] (zm (mm_up (tkS S) 0 0 (rfR (S 1) (tkS S 6) p n)) L) (0, 0)) ∧ (¬ (rfR (S 1) (tkS S 6) p n) ≤ 0 → Q (some (vi 0)) (zm (mm_up (tkS S) 0 0 (rfR (S 1) (tkS S 6) p n)) L)))))) : zz_J zpX9_set (zz_ret Q X 0 0) 0 [some (vr 0), some (vi p), some (vi n), none, none, none, none, none, none] [] (zm S L) (0, 0) := zz_J.go [(19, [3, 4, 5, 6, 7, 8]), (25, [4, 5, 6, 7, 8]), (33, [5, 6, 7, 8]), (79, [6, 7, 8]), (156, [2, 6, 8]), (165, [2, 6])] 400 h
theorem zwX9_set_19 {Q : Option zv → zz_M → Prop} {X : Nat → zz_M → Prop} {S L : Nat → Nat → Int} {x1 : Int} {x2 : Int} (h : (mG (S 1) ∧ (∀ u_1, u_1 < 2 → plG (S 1) u_1) ∧ gdF S ∧ R32 (S 0 10) ∧ xG (S 6) ∧ (∀ S_1 : Nat → Nat → Int, asQ S S_1 → (zz_J zpX9_set (zz_ret Q X 0 0) 25 [some (vr 0), some (vi x1), some (vi x2), some (vi 0), none, none, none, none, none] [] (zm S_1 L) (0, 0))))) : zz_J zpX9_set (zz_ret Q X 0 0) 19 [some (vr 0), some (vi x1), some (vi x2), none, none, none, none, none, none] [] (zm S L) (0, 0) := zz_J.go [(19, [3, 4, 5, 6, 7, 8]), (25, [4, 5, 6, 7, 8]), (33, [5, 6, 7, 8]), (79, [6, 7, 8]), (156, [2, 6, 8]), (165, [2, 6])] 400 h
theorem zwX9_set_25 {Q : Option zv → zz_M → Prop} {X : Nat → zz_M → Prop} {S L : Nat → Nat → Int} {x1 : Int} {x2 : Int} {x3 : Int} (h : R32 x3 ∧ ((2 ≤ x3 → zz_J zpX9_set (zz_ret Q X 0 0) 156 [some (vr 0), some (vi x1), none, some (vi (S 1 208)), some (vi (S 1 209)), some (vl 0), none, some (vi 0), none] [] (zm S L) (0, 0)) ∧ (¬ 2 ≤ x3 → zz_J zpX9_set (zz_ret Q X 0 0) 33 [some (vr 0), some (vi x1), some (vi x2), some (vi x3), some (vi 0), none, none, none, none] [] (zm S L) (0, 0)))) : zz_J zpX9_set (zz_ret Q X 0 0) 25 [some (vr 0), some (vi x1), some (vi x2), some (vi x3), none, none, none, none, none] [] (zm S L) (0, 0) := zz_J.go [(19, [3, 4, 5, 6, 7, 8]), (25, [4, 5, 6, 7, 8]), (33, [5, 6, 7, 8]), (79, [6, 7, 8]), (156, [2, 6, 8]), (165, [2, 6])] 400 h
theorem zwX9_set_33 {Q : Option zv → zz_M → Prop} {X : Nat → zz_M → Prop} {S L : Nat → Nat → Int} {x1 : Int} {x2 : Int} {x3 : Int} {x4 : Int} (h : R32 x4 ∧ ((2 ≤ x4 → zz_J zpX9_set (zz_ret Q X 0 0) 25 [some (vr 0), some (vi x1), some (vi x2), some (vi (x3 + 1)), none, none, none, none, none] [] (zm S L) (0, 0)) ∧ (¬ 2 ≤ x4 → ((x3 = 0 ∨ x3 = 1) ∧ (x4 = -1 ∨ x4 = 0 ∨ x4 = 1) ∧ (0 ≤ x2 ∧ x2 ≤ 30) ∧ 8 = 8 ∧ 9 = 9 ∧ mG (S 1) ∧ whB (S 1) 16 = true ∧ stG (S 7) ∧ xG (S 6) ∧ (∀ (f_1 g_1 x_1 : Nat → Int) (a_1 b_1 : Int), (∀ k_1, k_1 < 15488 → f_1 k_1 = tbR (S 1) (S 7) x3 x4 x2.toNat k_1) → xG x_1 → ((bx (tkS (sx (tabS S f_1 g_1) x_1 a_1 b_1) 6) ∧ ((0 ≤ (nuR (tkS (sx (tabS S f_1 g_1) x_1 a_1 b_1) 6)) ∧ (nuR (tkS (sx (tabS S f_1 g_1) x_1 a_1 b_1) 6)) < 15488) ∧ (R32 ((tkS (sx (tabS S f_1 g_1) x_1 a_1 b_1)) 8 ((nuR (tkS (sx (tabS S f_1 g_1) x_1 a_1 b_1) 6)).toNat)) ∧ ((0 ≤ ((2 * x3) + x4) ∧ ((2 * x3) + x4) < 4) ∧ (zz_J zpX9_set (zz_ret Q X 0 0) 79 [some (vr 0), some (vi x1), some (vi x2), some (vi x3), some (vi x4), some (vi 0), none, none, none] [] (zm (tkS (sx (tabS S f_1 g_1) x_1 a_1 b_1)) (mm_up L 13 (((2 * x3) + x4).toNat) ((tkS (sx (tabS S f_1 g_1) x_1 a_1 b_1)) 8 ((nuR (tkS (sx (tabS S f_1 g_1) x_1 a_1 b_1) 6)).toNat)))) (0, 0)))))))))))) : zz_J zpX9_set (zz_ret Q X 0 0) 33 [some (vr 0), some (vi x1), some (vi x2), some (vi x3), some (vi x4), none, none, none, none] [] (zm S L) (0, 0) := zz_J.go [(19, [3, 4, 5, 6, 7, 8]), (25, [4, 5, 6, 7, 8]), (33, [5, 6, 7, 8]), (79, [6, 7, 8]), (156, [2, 6, 8]), (165, [2, 6])] 400 h
theorem zwX9_set_79 {Q : Option zv → zz_M → Prop} {X : Nat → zz_M → Prop} {S L : Nat → Nat → Int} {x1 : Int} {x2 : Int} {x3 : Int} {x4 : Int} {x5 : Int} (h : R32 x5 ∧ ((2 ≤ x5 → zz_J zpX9_set (zz_ret Q X 0 0) 33 [some (vr 0), some (vi x1), some (vi x2), some (vi x3), some (vi (x4 + 1)), none, none, none, none] [] (zm S L) (0, 0)) ∧ (¬ 2 ≤ x5 → ((x5 = 0 ∨ x5 = 1) ∧ wV (S 1) ∧ xG (S 6) ∧ ((0 ≤ (nuR (bgX (S 1) x5)) ∧ (nuR (bgX (S 1) x5)) < 15488) ∧ (R32 ((sx S (bgX (S 1) x5) (S 0 17) (S 0 18)) 8 ((nuR (bgX (S 1) x5)).toNat)) ∧ ((0 ≤ (((4 * x5) + (2 * x3)) + x4) ∧ (((4 * x5) + (2 * x3)) + x4) < 8) ∧ (zz_J zpX9_set (zz_ret Q X 0 0) 79 [some (vr 0), some (vi x1), some (vi x2), some (vi x3), some (vi x4), some (vi (x5 + 1)), none, none, none] [] (zm (sx S (bgX (S 1) x5) (S 0 17) (S 0 18)) (mm_up L 12 ((((4 * x5) + (2 * x3)) + x4).toNat) ((sx S (bgX (S 1) x5) (S 0 17) (S 0 18)) 8 ((nuR (bgX (S 1) x5)).toNat)))) (0, 0))))))))) : zz_J zpX9_set (zz_ret Q X 0 0) 79 [some (vr 0), some (vi x1), some (vi x2), some (vi x3), some (vi x4), some (vi x5), none, none, none] [] (zm S L) (0, 0) := zz_J.go [(19, [3, 4, 5, 6, 7, 8]), (25, [4, 5, 6, 7, 8]), (33, [5, 6, 7, 8]), (79, [6, 7, 8]), (156, [2, 6, 8]), (165, [2, 6])] 400 h
theorem zwX9_set_156 {Q : Option zv → zz_M → Prop} {X : Nat → zz_M → Prop} {S L : Nat → Nat → Int} {x1 : Int} {x3 : Int} {x4 : Int} {x5 : Int} {x7 : Int} (h : R32 x7 ∧ ((2 ≤ x7 → R64 x5 ∧ (Q (some (vi x5)) (zm S L))) ∧ (¬ 2 ≤ x7 → zz_J zpX9_set (zz_ret Q X 0 0) 165 [some (vr 0), some (vi x1), none, some (vi x3), some (vi x4), some (vl x5), none, some (vi x7), some (vi 0)] [] (zm S L) (0, 0)))) : zz_J zpX9_set (zz_ret Q X 0 0) 156 [some (vr 0), some (vi x1), none, some (vi x3), some (vi x4), some (vl x5), none, some (vi x7), none] [] (zm S L) (0, 0) := zz_J.go [(19, [3, 4, 5, 6, 7, 8]), (25, [4, 5, 6, 7, 8]), (33, [5, 6, 7, 8]), (79, [6, 7, 8]), (156, [2, 6, 8]), (165, [2, 6])] 400 h
theorem zwX9_set_165 {Q : Option zv → zz_M → Prop} {X : Nat → zz_M → Prop} {S L : Nat → Nat → Int} {x1 : Int} {x3 : Int} {x4 : Int} {x5 : Int} {x7 : Int} {x8 : Int} (h : R32 x8 ∧ ((2 ≤ x8 → zz_J zpX9_set (zz_ret Q X 0 0) 156 [some (vr 0), some (vi x1), none, some (vi x3), some (vi x4), some (vl x5), none, some (vi (x7 + 1)), none] [] (zm S L) (0, 0)) ∧ (¬ 2 ≤ x8 → (0 ≤ ((2 * x7) + x8) ∧ ((2 * x7) + x8) < 4) ∧ (R32 x7 ∧ ((¬ x7 = 0 → R32 x7 ∧ ((¬ x7 = 1 → ((x1 = 0 ∨ x1 = 1) ∧ (x8 = 0 ∨ x8 = 1) ∧ (0 ≤ x3 ∧ x3 ≤ 6) ∧ (0 ≤ x4 ∧ x4 ≤ 6) ∧ (1 ≤ S 1 194 ∧ S 1 194 ≤ 6) ∧ (x3 ≤ S 1 194 ∧ x4 ≤ S 1 194) ∧ S 1 194 - x3 + (S 1 194 - x4) ≤ 11 ∧ wyG (L 12) ∧ ((0 ≤ ((L 13 (((2 * x7) + x8).toNat)) * (stO (L 12) (S 1 194) x1 11 x3 x4 x8.toNat)) ∧ ((L 13 (((2 * x7) + x8).toNat)) * (stO (L 12) (S 1 194) x1 11 x3 x4 x8.toNat)) < 9223372036854775808) ∧ (zz_J zpX9_set (zz_ret Q X 0 0) 165 [some (vr 0), some (vi x1), none, some (vi x3), some (vi x4), some (vl (x5 + (((L 13 (((2 * x7) + x8).toNat)) * (stO (L 12) (S 1 194) x1 11 x3 x4 x8.toNat)) / 1000000000))), none, some (vi x7), some (vi (x8 + 1))] [] (zm S L) (0, 0))))) ∧ (x7 = 1 → ((x1 = 0 ∨ x1 = 1) ∧ (x8 = 0 ∨ x8 = 1) ∧ (0 ≤ x3 ∧ x3 ≤ 6) ∧ (0 ≤ (x4 + 1) ∧ (x4 + 1) ≤ 6) ∧ (1 ≤ S 1 194 ∧ S 1 194 ≤ 6) ∧ (x3 ≤ S 1 194 ∧ (x4 + 1) ≤ S 1 194) ∧ S 1 194 - x3 + (S 1 194 - (x4 + 1)) ≤ 11 ∧ wyG (L 12) ∧ ((0 ≤ ((L 13 (((2 * x7) + x8).toNat)) * (stO (L 12) (S 1 194) x1 11 x3 (x4 + 1) x8.toNat)) ∧ ((L 13 (((2 * x7) + x8).toNat)) * (stO (L 12) (S 1 194) x1 11 x3 (x4 + 1) x8.toNat)) < 9223372036854775808) ∧ (zz_J zpX9_set (zz_ret Q X 0 0) 165 [some (vr 0), some (vi x1), none, some (vi x3), some (vi x4), some (vl (x5 + (((L 13 (((2 * x7) + x8).toNat)) * (stO (L 12) (S 1 194) x1 11 x3 (x4 + 1) x8.toNat)) / 1000000000))), none, some (vi x7), some (vi (x8 + 1))] [] (zm S L) (0, 0))))))) ∧ (x7 = 0 → R32 x7 ∧ ((¬ x7 = 1 → ((x1 = 0 ∨ x1 = 1) ∧ (x8 = 0 ∨ x8 = 1) ∧ (0 ≤ (x3 + 1) ∧ (x3 + 1) ≤ 6) ∧ (0 ≤ x4 ∧ x4 ≤ 6) ∧ (1 ≤ S 1 194 ∧ S 1 194 ≤ 6) ∧ ((x3 + 1) ≤ S 1 194 ∧ x4 ≤ S 1 194) ∧ S 1 194 - (x3 + 1) + (S 1 194 - x4) ≤ 11 ∧ wyG (L 12) ∧ ((0 ≤ ((L 13 (((2 * x7) + x8).toNat)) * (stO (L 12) (S 1 194) x1 11 (x3 + 1) x4 x8.toNat)) ∧ ((L 13 (((2 * x7) + x8).toNat)) * (stO (L 12) (S 1 194) x1 11 (x3 + 1) x4 x8.toNat)) < 9223372036854775808) ∧ (zz_J zpX9_set (zz_ret Q X 0 0) 165 [some (vr 0), some (vi x1), none, some (vi x3), some (vi x4), some (vl (x5 + (((L 13 (((2 * x7) + x8).toNat)) * (stO (L 12) (S 1 194) x1 11 (x3 + 1) x4 x8.toNat)) / 1000000000))), none, some (vi x7), some (vi (x8 + 1))] [] (zm S L) (0, 0))))) ∧ (x7 = 1 → ((x1 = 0 ∨ x1 = 1) ∧ (x8 = 0 ∨ x8 = 1) ∧ (0 ≤ (x3 + 1) ∧ (x3 + 1) ≤ 6) ∧ (0 ≤ (x4 + 1) ∧ (x4 + 1) ≤ 6) ∧ (1 ≤ S 1 194 ∧ S 1 194 ≤ 6) ∧ ((x3 + 1) ≤ S 1 194 ∧ (x4 + 1) ≤ S 1 194) ∧ S 1 194 - (x3 + 1) + (S 1 194 - (x4 + 1)) ≤ 11 ∧ wyG (L 12) ∧ ((0 ≤ ((L 13 (((2 * x7) + x8).toNat)) * (stO (L 12) (S 1 194) x1 11 (x3 + 1) (x4 + 1) x8.toNat)) ∧ ((L 13 (((2 * x7) + x8).toNat)) * (stO (L 12) (S 1 194) x1 11 (x3 + 1) (x4 + 1) x8.toNat)) < 9223372036854775808) ∧ (zz_J zpX9_set (zz_ret Q X 0 0) 165 [some (vr 0), some (vi x1), none, some (vi x3), some (vi x4), some (vl (x5 + (((L 13 (((2 * x7) + x8).toNat)) * (stO (L 12) (S 1 194) x1 11 (x3 + 1) (x4 + 1) x8.toNat)) / 1000000000))), none, some (vi x7), some (vi (x8 + 1))] [] (zm S L) (0, 0)))))))))))) : zz_J zpX9_set (zz_ret Q X 0 0) 165 [some (vr 0), some (vi x1), none, some (vi x3), some (vi x4), some (vl x5), none, some (vi x7), some (vi x8)] [] (zm S L) (0, 0) := zz_J.go [(19, [3, 4, 5, 6, 7, 8]), (25, [4, 5, 6, 7, 8]), (33, [5, 6, 7, 8]), (79, [6, 7, 8]), (156, [2, 6, 8]), (165, [2, 6])] 400 h

theorem zmX9_set (l : Launch) (hl : l.stackTraces = false) : mm_Spec l yX9_set (ws_ yX9_set cX9_set 9 (some .int)) (mm_rm 37 0 0) (zE zX9_set) := by
  refine zz_Met.J hl (by decide) (fun C G hnh => ztX9_set G hnh) ?_
  rintro as ⟨⟨t_, f⟩, S, L, P⟩ Q X h
  unfold zX9_set at h
  split at h
  rotate_left
  · exact h.elim
  rename_i h_ p n
  obtain ⟨e1_, e2_, h⟩ := mm_and2 h (fun q => q)
  cases mm_beq e1_
  cases mm_beq e2_
  try dsimp only at h
  refine ⟨rfl, ?_⟩
  refine zz_Jev (M' := zm S L) rfl rfl rfl ?_
  obtain ⟨hp, hn, hI, hq1, hq0⟩ := h
  have hr : 0 ≤ rfR (S 1) (tkS S 6) p n ∧ rfR (S 1) (tkS S 6) p n ≤ 3 := rfR_in (S 1) (nwX S) p n
  have hw := hI.1.2.1
  have hm := hI.1
  have hwh := hI.2.1
  have hsc := hI.2.2.2.2.2.2.1
  have hgm := hI.1.2.2
  have hG : 1 ≤ S 1 194 ∧ S 1 194 ≤ 6 := hw.1
  have hnu : 0 ≤ nuR (tkS S 6) ∧ nuR (tkS S 6) < 15488 := nuR_in hsc
  have cT : coS S (mm_up (tkS S) 0 0 (rfR (S 1) (tkS S 6) p n)) := ((coS.rf hI).take hI).up0 _
  refine zwX9_set_0 ⟨hp, hn, hI.xg.1.bx, by omega, by omega, fun c => ?_, fun c => hq1 _ _ (by show rfR (S 1) (tkS S 6) p n ≠ 0; omega) (cT.Q (by simp [up_eq]))⟩
  have e : rfR (S 1) (tkS S 6) p n = 0 := by omega
  rw [e] at cT ⊢
  have hq0 := fun S_ L_ => hq0 S_ L_ e
  obtain ⟨b1, b2, hov⟩ := rfR_0 e
  have hov2 : S 1 208 < S 1 194 ∧ S 1 209 < S 1 194 := by
    unfold ovR at hov
    have e7 : tkS S 6 7 = S 1 208 := rfl
    have e8 : tkS S 6 8 = S 1 209 := rfl
    rw [e7, e8] at hov
    simp only [Bool.or_eq_false_iff, decide_eq_false_iff_not] at hov
    omega
  obtain ⟨N, rfl⟩ : ∃ N : Nat, n = N := ⟨n.toNat, by omega⟩
  rw [Int.toNat_natCast] at hq0
  obtain ⟨q1, q2, q3, q4, q5⟩ := hI.pre cT
  refine zwX9_set_19 ⟨q1, q2, q3, q4, q5, fun V hV => ?_⟩
  obtain ⟨v1, v2, v3, v4, v5, v6, v7, v8⟩ := hI.styles cT hV
  have v0 : V 0 0 = 0 := by rw [v2]; simp [up_eq]
  have hWG := wyF_G (n := N) hm hwh (stT_G (S 1))
  have fG : ∀ k, k < 4 → 0 ≤ tbK (S 1) (stT (S 1)) k N (nuR (tkS S 6)).toNat ∧ tbK (S 1) (stT (S 1)) k N (nuR (tkS S 6)).toNat ≤ 1000000000 := fun k _ => tbR_G hm hwh (stT_G (S 1)) N _ (by omega)
  -- the sum
  have t156 : ∀ (T : Nat → Nat → Int) (f g : Nat → Int), coS S T → T 0 0 = 0 → (∀ j, j < 8 → f j = wyF (S 1) (stT (S 1)) N j) → (∀ k, k < 4 → g k = tbK (S 1) (stT (S 1)) k N (nuR (tkS S 6)).toNat) → zz_J zpX9_set (zz_ret Q X 0 0) 156 [some (vr 0), some (vi p), none, some (vi (T 1 208)), some (vi (T 1 209)), some (vl 0), none, some (vi 0), none] [] (zm T (wyS L f g)) (0, 0) := by
    intro T f g cU u0 hf hg
    have hfG : wyG f := by
      obtain ⟨w1, w2, w3⟩ := hWG
      refine ⟨fun j hj => by rw [hf j hj]; exact w1 j hj, ?_, ?_⟩
      · rw [hf 0 (by decide), hf 1 (by decide), hf 2 (by decide), hf 3 (by decide)]; exact w2
      · rw [hf 4 (by decide), hf 5 (by decide), hf 6 (by decide), hf 7 (by decide)]; exact w3
    have eG : T 1 194 = S 1 194 := congrFun cU.r1 194
    have g0 := fG 0 (by decide)
    have g1 := fG 1 (by decide)
    have g2 := fG 2 (by decide)
    have g3 := fG 3 (by decide)
    rw [← hg 0 (by decide)] at g0
    rw [← hg 1 (by decide)] at g1
    rw [← hg 2 (by decide)] at g2
    rw [← hg 3 (by decide)] at g3
    have i0 := stO_in (G := S 1 194) (p := p) hfG 11 (S 1 208 + 1) (S 1 209) 0 (by decide)
    have i1 := stO_in (G := S 1 194) (p := p) hfG 11 (S 1 208 + 1) (S 1 209) 1 (by decide)
    have i2 := stO_in (G := S 1 194) (p := p) hfG 11 (S 1 208) (S 1 209 + 1) 0 (by decide)
    have i3 := stO_in (G := S 1 194) (p := p) hfG 11 (S 1 208) (S 1 209 + 1) 1 (by decide)
    have m0 := mul_sure g0.1 i0.1 i0.2
    have m1 := mul_sure g1.1 i1.1 i1.2
    have m2 := mul_sure g2.1 i2.1 i2.2
    have m3 := mul_sure g3.1 i3.1 i3.2
    have c8 := congrFun cU.r1 208
    have c9 := congrFun cU.r1 209
    rw [c8, c9]
    refine zwX9_set_156 ⟨by decide, fun c => absurd c (by decide), fun _ => ?_⟩
    refine zwX9_set_165 ⟨by decide, fun c => absurd c (by decide), fun _ => ⟨by decide, by decide, fun c => absurd rfl c, fun _ => ⟨by decide, fun _ => ?_, fun c => absurd c (by decide)⟩⟩⟩
    rw [wyS_12, wyS_13, eG]
    refine ⟨by omega, Or.inl rfl, by omega, hgm.2, hG, by omega, by omega, hfG, ⟨by show 0 ≤ g 0 * stO f (S 1 194) p 11 (S 1 208 + 1) (S 1 209) 0 ∧ g 0 * stO f (S 1 194) p 11 (S 1 208 + 1) (S 1 209) 0 < 9223372036854775808; omega, ?_⟩⟩
    refine zwX9_set_165 ⟨by decide, fun c => absurd c (by decide), fun _ => ⟨by decide, by decide, fun c => absurd rfl c, fun _ => ⟨by decide, fun _ => ?_, fun c => absurd c (by decide)⟩⟩⟩
    rw [wyS_12, wyS_13, eG]
    refine ⟨by omega, Or.inr rfl, by omega, hgm.2, hG, by omega, by omega, hfG, ⟨by show 0 ≤ g 1 * stO f (S 1 194) p 11 (S 1 208 + 1) (S 1 209) 1 ∧ g 1 * stO f (S 1 194) p 11 (S 1 208 + 1) (S 1 209) 1 < 9223372036854775808; omega, ?_⟩⟩
    refine zwX9_set_165 ⟨by decide, fun _ => ?_, fun c => absurd c (by decide)⟩
    refine zwX9_set_156 ⟨by decide, fun c => absurd c (by decide), fun _ => ?_⟩
    refine zwX9_set_165 ⟨by decide, fun c => absurd c (by decide), fun _ => ⟨by decide, by decide, fun _ => ⟨by decide, fun c => absurd rfl c, fun _ => ?_⟩, fun c => absurd c (by decide)⟩⟩
    rw [wyS_12, wyS_13, eG]
    refine ⟨by omega, Or.inl rfl, hgm.1, by omega, hG, by omega, by omega, hfG, ⟨by show 0 ≤ g 2 * stO f (S 1 194) p 11 (S 1 208) (S 1 209 + 1) 0 ∧ g 2 * stO f (S 1 194) p 11 (S 1 208) (S 1 209 + 1) 0 < 9223372036854775808; omega, ?_⟩⟩
    refine zwX9_set_165 ⟨by decide, fun c => absurd c (by decide), fun _ => ⟨by decide, by decide, fun _ => ⟨by decide, fun c => absurd rfl c, fun _ => ?_⟩, fun c => absurd c (by decide)⟩⟩
    rw [wyS_12, wyS_13, eG]
    refine ⟨by omega, Or.inr rfl, hgm.1, by omega, hG, by omega, by omega, hfG, ⟨by show 0 ≤ g 3 * stO f (S 1 194) p 11 (S 1 208) (S 1 209 + 1) 1 ∧ g 3 * stO f (S 1 194) p 11 (S 1 208) (S 1 209 + 1) 1 < 9223372036854775808; omega, ?_⟩⟩
    refine zwX9_set_165 ⟨by decide, fun _ => ?_, fun c => absurd c (by decide)⟩
    have hq := hq0 T (wyS L f g) (cU.Q u0)
    unfold seR at hq
    rw [← stO_c hf 11 _ _ 0 (by decide), ← stO_c hf 11 _ _ 1 (by decide), ← stO_c hf 11 _ _ 0 (by decide), ← stO_c hf 11 _ _ 1 (by decide)] at hq
    have hq : Q (some (vi (g 0 * stO f (S 1 194) p 11 (S 1 208 + 1) (S 1 209) 0 / 1000000000 + g 1 * stO f (S 1 194) p 11 (S 1 208 + 1) (S 1 209) 1 / 1000000000 + g 2 * stO f (S 1 194) p 11 (S 1 208) (S 1 209 + 1) 0 / 1000000000 + g 3 * stO f (S 1 194) p 11 (S 1 208) (S 1 209 + 1) 1 / 1000000000))) (zm T (wyS L f g)) := by
      rw [hg 0 (by decide), hg 1 (by decide), hg 2 (by decide), hg 3 (by decide)]
      exact hq
    refine zwX9_set_156 ⟨by decide, fun _ => ?_, fun c => absurd c (by decide)⟩
    have ez : ∀ x y z w : Int, 0 + x + y + z + w = x + y + z + w := fun x y z w => by omega
    rw [ez]
    exact ⟨by show R64 (g 0 * stO f (S 1 194) p 11 (S 1 208 + 1) (S 1 209) 0 / 1000000000 + g 1 * stO f (S 1 194) p 11 (S 1 208 + 1) (S 1 209) 1 / 1000000000 + g 2 * stO f (S 1 194) p 11 (S 1 208) (S 1 209 + 1) 0 / 1000000000 + g 3 * stO f (S 1 194) p 11 (S 1 208) (S 1 209 + 1) 1 / 1000000000); omega, hq⟩
  -- the four ways
  have t33 : ∀ (r w e : Nat) (T : Nat → Nat → Int) (f g : Nat → Int), 2 * w + e + r = 4 → w < 2 → e < 2 → coS S T → T 0 0 = 0 → (∀ j, j < 30976 → T 7 j = stT (S 1) j) → (∀ j, j < 8 → j % 4 < 2 * w + e → f j = wyF (S 1) (stT (S 1)) N j) → (∀ k, k < 2 * w + e → g k = tbK (S 1) (stT (S 1)) k N (nuR (tkS S 6)).toNat) → zz_J zpX9_set (zz_ret Q X 0 0) 33 [some (vr 0), some (vi p), some (vi N), some (vi w), some (vi e), none, none, none, none] [] (zm T (wyS L f g)) (0, 0) := by
    intro r
    induction r with
    | zero => intro w e T f g hr hw2 he2; omega
    | succ r ih =>
      intro w e T f g hr hw2 he2 cU u0 u7 hf hg
      have uG : stG (T 7) := fun j hj => by rw [u7 j hj]; exact stR_in _ _ _
      -- behind one way
      have nx : ∀ (T : Nat → Nat → Int) (f g : Nat → Int), coS S T → T 0 0 = 0 → (∀ j, j < 30976 → T 7 j = stT (S 1) j) → (∀ j, j < 8 → j % 4 < 2 * w + e + 1 → f j = wyF (S 1) (stT (S 1)) N j) → (∀ k, k < 2 * w + e + 1 → g k = tbK (S 1) (stT (S 1)) k N (nuR (tkS S 6)).toNat) → zz_J zpX9_set (zz_ret Q X 0 0) 33 [some (vr 0), some (vi p), some (vi N), some (vi w), some (vi ((e : Int) + 1)), none, none, none, none] [] (zm T (wyS L f g)) (0, 0) := by
        intro T f g cU u0 u7 hf hg
        by_cases he : e = 0
        · subst he
          exact ih w 1 T f g (by omega) hw2 (by decide) cU u0 u7 (fun j h1 h2 => hf j h1 (by omega)) (fun k hk => hg k (by omega))
        · have e1 : e = 1 := by omega
          subst e1
          refine zwX9_set_33 ⟨by omega, fun _ => ?_, fun c => absurd (by decide) c⟩
          by_cases hw0 : w = 0
          · subst hw0
            refine zwX9_set_25 ⟨by decide, fun c => absurd c (by decide), fun _ => ?_⟩
            exact ih 1 0 T f g (by omega) (by decide) (by decide) cU u0 u7 (fun j h1 h2 => hf j h1 (by omega)) (fun k hk => hg k (by omega))
          · have w1 : w = 1 := by omega
            subst w1
            refine zwX9_set_25 ⟨by decide, fun _ => ?_, fun c => absurd (by decide) c⟩
            exact t156 T f g cU u0 (fun j hj => hf j hj (by omega)) (fun k hk => hg k (by omega))
      have t79 : ∀ (r2 s : Nat) (T : Nat → Nat → Int) (f g : Nat → Int), s + r2 = 2 → coS S T → T 0 0 = 0 → (∀ j, j < 30976 → T 7 j = stT (S 1) j) → (∀ k, k < 15488 → T 8 k = tbK (S 1) (stT (S 1)) (2 * w + e) N k) → (∀ j, j < 8 → (j % 4 < 2 * w + e ∨ (j % 4 = 2 * w + e ∧ j / 4 < s)) → f j = wyF (S 1) (stT (S 1)) N j) → (∀ k, k < 2 * w + e + 1 → g k = tbK (S 1) (stT (S 1)) k N (nuR (tkS S 6)).toNat) → zz_J zpX9_set (zz_ret Q X 0 0) 79 [some (vr 0), some (vi p), some (vi N), some (vi w), some (vi e), some (vi s), none, none, none] [] (zm T (wyS L f g)) (0, 0) := by
        intro r2
        induction r2 with
        | zero =>
          intro s T f g hs cU u0 u7 u8 hf hg
          refine zwX9_set_79 ⟨by omega, fun _ => nx T f g cU u0 u7 (fun j h1 h2 => hf j h1 (by omega)) hg, fun c => by omega⟩
        | succ r2 ih2 =>
          intro s T f g hs cU u0 u7 u8 hf hg
          have hB := bgX_V hw (s := (s : Int)) (by omega)
          have hBG : xG (bgX (S 1) s) := hB.1.xG hB.2 (by decide)
          have hnb := nuR_in hB.1
          have uv : sx T (bgX (S 1) s) (T 0 17) (T 0 18) 8 (nuR (bgX (S 1) s)).toNat = wyF (S 1) (stT (S 1)) N (4 * s + (2 * w + e)) := by
            show T 8 _ = _
            rw [u8 _ (by omega)]
            unfold wyF
            rw [show (4 * s + (2 * w + e)) % 4 = 2 * w + e by omega, show (4 * s + (2 * w + e)) / 4 = s by omega]
          have hv := hWG.1 (4 * s + (2 * w + e)) (by omega)
          have ei : ((4 : Int) * s + 2 * w + e).toNat = 4 * s + (2 * w + e) := by omega
          refine zwX9_set_79 ⟨by omega, fun c => by omega, fun _ => ?_⟩
          rw [cU.r1, uv, ei, wyS_u12]
          refine ⟨by omega, hw, cU.2.2, by omega, by omega, by omega, ?_⟩
          refine ih2 (s + 1) _ _ g (by omega) (cU.sxx hBG _ _) u0 u7 u8 (fun j h1 h2 => ?_) hg
          rw [ru_at]
          split
          · next e => rw [e]
          · exact hf j h1 (by omega)
      refine zwX9_set_33 ⟨by omega, fun c => by omega, fun _ => ⟨by omega, by omega, by omega, rfl, rfl, by rw [cU.r1]; exact hm, by rw [cU.r1]; exact hwh, uG, cU.2.2, fun F2 G2 x a b hF2 hx => ?_⟩⟩
      have cW := ((cU.tab F2 G2).sxx hx a b)
      have eW := cW.tk hI.2.2.2.2.2.1
      have hF3 : ∀ k, k < 15488 → F2 k = tbK (S 1) (stT (S 1)) (2 * w + e) N k := by
        intro k hk
        rw [hF2 k hk, cU.r1, Int.toNat_natCast, tbR_s u7 hw N k hk]
        show tbR (S 1) (stT (S 1)) w e N k = tbR (S 1) (stT (S 1)) (((2 * w + e) / 2 : Nat) : Int) (((2 * w + e) % 2 : Nat) : Int) N k
        rw [show (2 * w + e) / 2 = w by omega, show (2 * w + e) % 2 = e by omega]
      have vv : tkS (sx (tabS T F2 G2) x a b) 8 (nuR (tkS S 6)).toNat = tbK (S 1) (stT (S 1)) (2 * w + e) N (nuR (tkS S 6)).toNat := hF3 _ (by omega)
      have gv := fG (2 * w + e) (by omega)
      have ei : ((2 : Int) * w + e).toNat = 2 * w + e := by omega
      rw [eW, vv, ei, wyS_u13]
      refine ⟨hI.xg.1.bx, hnu, by omega, by omega, ?_⟩
      refine t79 2 0 _ f _ (by decide) (cW.take hI) u0 u7 hF3 (fun j h1 h2 => hf j h1 (by omega)) (fun k hk => ?_)
      rw [ru_at]
      split
      · next e => rw [e]
      · exact hg k (by omega)
  refine zwX9_set_25 ⟨by decide, fun c => absurd c (by decide), fun _ => ?_⟩
  have := t33 4 0 0 V (L 12) (L 13) (by decide) (by decide) (by decide) v1 v0 v8 (fun j _ h => absurd h (Nat.not_lt_zero _)) (fun k h => absurd h (Nat.not_lt_zero _))
  rw [wyS_id] at this
  exact this
