/-! ===== the model's best styles ===== -/
set_option maxRecDepth 100000
theorem nuR_un {x : Nat → Int} (h : scV x) : nuR x / 1936 - 3 = x 0 ∧ nuR x / 242 % 8 - 3 = x 1 ∧ nuR x / 121 % 2 = x 2 ∧ nuR x % 121 = nuC x ∧ 0 ≤ nuC x ∧ nuC x ≤ 120 := by
  obtain ⟨hp, h2, hh⟩ := h
  have hc : 0 ≤ nuC x ∧ nuC x ≤ 120 := by
    unfold nuC
    unfold hV at hh
    grind
  unfold nuR
  unfold pV at hp
  generalize nuC x = c at hc
  refine ⟨by omega, by omega, by omega, by omega, hc⟩
theorem nuR_cb {x : Nat → Int} (h : scV x) : cbR (nuR x) = true := by
  have hu := nuR_un h
  have hp := h.1
  unfold cbR
  rw [hu.1, hu.2.1]
  unfold pV at hp
  simp only [Bool.and_eq_true, Bool.or_eq_true, decide_eq_true_eq]
  omega
def bsI (st : Nat → Int) (k p : Nat) (s : Int) : Nat := if k / 121 % 2 = p then (12 * (4 * s + st (2 * k + 1 - p))).toNat else (12 * (4 * st (2 * k + 1 - p) + s)).toNat
def bsV (tb w st : Nat → Int) (k p : Nat) (s : Int) : Int := hdR tb w k (bsI st k p s) p (-1)
/-- of so many styles the most, and the first by which it is -/
def bsF (tb w st : Nat → Int) (k p : Nat) : Nat → Int × Int
  | 0 => (-1, -1)
  | s + 1 => if bsV tb w st k p s ≤ (bsF tb w st k p s).1 then bsF tb w st k p s else (bsV tb w st k p s, s)
def bsT (w st : Nat → Int) (p : Nat) : Nat → Nat → Int
  | 0, _ => 0
  | i + 1, k => if cbR k = true then (bsF (bsT w st p i) w st k p 4).1 else 0
def fdR (w st : Nat → Int) (p k : Nat) : Nat → Int
  | 0 => -1
  | i + 1 => (bsF (bsT w st p i) w st k p 4).2
theorem bsI_j {st : Nat → Int} {k p : Nat} {s : Int} (hst : stG st) (hk : k < 15488) (hp : p < 2) (hs : 0 ≤ s ∧ s ≤ 3) : ∃ j, j < 16 ∧ bsI st k p s = 12 * j := by
  have s2 := hst (2 * k + 1 - p) (by omega)
  unfold bsI
  split
  · exact ⟨(4 * s + st (2 * k + 1 - p)).toNat, by omega, by omega⟩
  · exact ⟨(4 * st (2 * k + 1 - p) + s).toNat, by omega, by omega⟩
theorem bsV_in {tb w st : Nat → Int} {k p : Nat} {s : Int} (ht : tbG tb) (hm : mG w) (hwh : whB w 16 = true) (hst : stG st) (hk : k < 15488) (hcb : cbR k = true) (hp : p < 2) (hs : 0 ≤ s ∧ s ≤ 3) : 0 ≤ bsV tb w st k p s ∧ bsV tb w st k p s ≤ 1000000000 := hdR_in ht hm hwh hk hcb (bsI_j hst hk hp hs)
theorem bsF_in {tb w st : Nat → Int} {k p : Nat} (ht : tbG tb) (hm : mG w) (hwh : whB w 16 = true) (hst : stG st) (hk : k < 15488) (hcb : cbR k = true) (hp : p < 2) : ∀ s, s ≤ 4 → -1 ≤ (bsF tb w st k p s).1 ∧ (bsF tb w st k p s).1 ≤ 1000000000 ∧ (0 < s → 0 ≤ (bsF tb w st k p s).1)
  | 0, _ => by show (-1 : Int) ≤ -1 ∧ (-1 : Int) ≤ 1000000000 ∧ (0 < 0 → (0 : Int) ≤ -1); decide
  | s + 1, h => by
    have ih := bsF_in ht hm hwh hst hk hcb hp s (by omega)
    have hv := bsV_in ht hm hwh hst hk hcb hp (s := (s : Int)) (by omega)
    unfold bsF
    split
    · omega
    · show -1 ≤ bsV tb w st k p s ∧ bsV tb w st k p s ≤ 1000000000 ∧ (0 < s + 1 → 0 ≤ bsV tb w st k p s)
      omega
theorem bsT_G {w st : Nat → Int} {p : Nat} (hm : mG w) (hwh : whB w 16 = true) (hst : stG st) (hp : p < 2) : ∀ i, tbG (bsT w st p i)
  | 0 => fun j _ => by show (0 : Int) ≤ 0 ∧ (0 : Int) ≤ 1000000000; decide
  | i + 1 => by
    intro j hj
    have ih := bsT_G hm hwh hst hp i
    unfold bsT
    split
    · next hc =>
      have := bsF_in ih hm hwh hst hj hc hp 4 (by decide)
      omega
    · decide
theorem bsF_c {tb tb' w st : Nat → Int} {k p : Nat} (h : ∀ j, j < 15488 → tb j = tb' j) (hw : wV w) (hk : k < 15488) (hcb : cbR k = true) : ∀ s, bsF tb w st k p s = bsF tb' w st k p s
  | 0 => rfl
  | s + 1 => by
    have hX : scV (scX w k) := unR_V (by omega) (by omega) hcb
    have e : bsV tb w st k p s = bsV tb' w st k p s := by
      unfold bsV hdR
      rw [hdS_c h hw hX 12 (by decide)]
    unfold bsF
    rw [bsF_c h hw hk hcb s, e]
theorem bsF_s {tb w st st' : Nat → Int} {k p : Nat} (h : ∀ j, j < 30976 → st j = st' j) (hk : k < 15488) : ∀ s, bsF tb w st k p s = bsF tb w st' k p s
  | 0 => rfl
  | s + 1 => by
    have e : bsV tb w st k p s = bsV tb w st' k p s := by
      unfold bsV bsI
      rw [h _ (by omega)]
    unfold bsF
    rw [bsF_s h hk s, e]
theorem bsT_s {w st st' : Nat → Int} {p : Nat} (h : ∀ j, j < 30976 → st j = st' j) (hw : wV w) : ∀ (i k : Nat), k < 15488 → bsT w st p i k = bsT w st' p i k
  | 0, _, _ => rfl
  | i + 1, k, hk => by
    unfold bsT
    split
    · next hc => rw [bsF_c (fun j hj => bsT_s h hw i j hj) hw hk hc, bsF_s h hk]
    · rfl
theorem fdR_s {w st st' : Nat → Int} {p k : Nat} (h : ∀ j, j < 30976 → st j = st' j) (hw : wV w) (hk : k < 15488) (hcb : cbR k = true) : ∀ (i : Nat), fdR w st p k i = fdR w st' p k i
  | 0 => rfl
  | i + 1 => by
    show (bsF (bsT w st p i) w st k p 4).2 = (bsF (bsT w st' p i) w st' k p 4).2
    rw [bsF_c (fun j hj => bsT_s h hw i j hj) hw hk hcb, bsF_s h hk]
def zX9_best : zz_Sp := fun as M Q X => match as with
  | [.inr (.inr (some h_)), .inl p, .inl n, .inl st] => bif Nat.beq h_ 0 && Nat.beq M.1.1 1 then (R32 p ∧ R32 n ∧ (st = 0 ∨ st = 1) ∧ mI M.2.1 ∧ (∀ S_ : Nat → Nat → Int, rfR (M.2.1 1) (nwX M.2.1) p n ≠ 0 → coQ (mm_up M.2.1 0 0 (rfR (M.2.1 1) (nwX M.2.1) p n)) S_ → Q (some (vi 0)) (zm S_ M.2.2.1)) ∧ (∀ S_ : Nat → Nat → Int, rfR (M.2.1 1) (nwX M.2.1) p n = 0 → coQ (mm_up M.2.1 0 0 0) S_ → (st = 0 → Q (some (vi (bsT (M.2.1 1) (stT (M.2.1 1)) p.toNat n.toNat (nuR (nwX M.2.1)).toNat))) (zm S_ M.2.2.1)) ∧ (st = 1 → Q (some (vi (fdR (M.2.1 1) (stT (M.2.1 1)) p.toNat (nuR (nwX M.2.1)).toNat n.toNat))) (zm S_ M.2.2.1)))) else False
  | _ => False

def zpX9_best : zz_P := [(0, zo_ald 1 0), (1, zo_ald 2 0), (2, zo_ild 3 1), (3, zo_ild 4 2), (4, zo_callv 7 3 8 zX9_refuses), (7, zo_puti 10 8 0), (10, zo_ald 11 0), (11, zo_get 14 8 0 0), (14, zo_ifle false 17 19), (17, zo_c 18 (vi 0)), (18, zo_iret), (19, zo_ald 20 0), (20, zo_callv 23 1 8 zX9_allStyles), (23, zo_ald 24 0), (24, zo_callv 27 1 8 zX9_atNow), (27, zo_ist 29 4), (29, zo_c 30 (vi (-1))), (30, zo_ist 32 5), (32, zo_c 33 (vi 0)), (33, zo_ist 35 6), (35, zo_ild 37 6), (37, zo_c 40 (vi 15488)), (40, zo_cge false true 43 57), (43, zo_ald 44 0), (44, zo_get 47 8 2 20), (47, zo_ild 49 6), (49, zo_c 50 (vi 0)), (50, zo_iasd 51), (51, zo_inc 54 6 1), (54, zo_goto 35), (57, zo_c 58 (vi 0)), (58, zo_ist 60 6), (60, zo_ild 62 6), (62, zo_ild 63 2), (63, zo_cge false false 66 262), (66, zo_c 67 (vi 0)), (67, zo_ist 69 7), (69, zo_ild 71 7), (71, zo_c 74 (vi 15488)), (74, zo_cge false true 77 97), (77, zo_ald 78 0), (78, zo_get 81 8 2 21), (81, zo_ild 83 7), (83, zo_ald 84 0), (84, zo_get 87 8 2 20), (87, zo_ild 89 7), (89, zo_iald 90), (90, zo_iasd 91), (91, zo_inc 94 7 1), (94, zo_goto 69), (97, zo_c 98 (vi 0)), (98, zo_ist 100 7), (100, zo_ild 102 7), (102, zo_c 105 (vi 15488)), (105, zo_cge false true 108 256), (108, zo_ild 110 7), (110, zo_calls 113 1 zX9_canBe), (113, zo_zifne 116 119), (116, zo_goto 250), (119, zo_ild 121 7), (121, zo_c 123 (vi 121)), (123, zo_idiv 124), (124, zo_c 125 (vi 2)), (125, zo_irem 126), (126, zo_ist 128 8), (128, zo_c 129 (vi (-1))), (129, zo_ist 131 9), (131, zo_c 132 (vi 0)), (132, zo_ist 134 10), (134, zo_ild 136 10), (136, zo_c 137 (vi 4)), (137, zo_cge false true 140 241), (140, zo_ild 142 8), (142, zo_ild 143 1), (143, zo_cne false false 146 176), (146, zo_ald 147 0), (147, zo_ild 149 7), (149, zo_ild 151 10), (151, zo_ald 152 0), (152, zo_get 155 8 2 19), (155, zo_c 156 (vi 2)), (156, zo_ild 158 7), (158, zo_imul 159), (159, zo_c 160 (vi 1)), (160, zo_iadd 161), (161, zo_ild 162 1), (162, zo_isub 163), (163, zo_iald 164), (164, zo_ild 165 1), (165, zo_c 166 (vi (-1))), (166, zo_ald 167 0), (167, zo_get 170 8 2 21), (170, zo_callv 173 7 8 zX9_had), (173, zo_goto 203), (176, zo_ald 177 0), (177, zo_ild 179 7), (179, zo_ald 180 0), (180, zo_get 183 8 2 19), (183, zo_c 184 (vi 2)), (184, zo_ild 186 7), (186, zo_imul 187), (187, zo_c 188 (vi 1)), (188, zo_iadd 189), (189, zo_ild 190 1), (190, zo_isub 191), (191, zo_iald 192), (192, zo_ild 194 10), (194, zo_ild 195 1), (195, zo_c 196 (vi (-1))), (196, zo_ald 197 0), (197, zo_get 200 8 2 21), (200, zo_callv 203 7 8 zX9_had), (203, zo_ist 205 11), (205, zo_ild 207 11), (207, zo_ild 209 9), (209, zo_cgt false false 212 215), (212, zo_goto 235), (215, zo_ild 217 11), (217, zo_ist 219 9), (219, zo_ild 221 7), (221, zo_ild 223 4), (223, zo_cne false false 226 231), (226, zo_ild 228 10), (228, zo_goto 233), (231, zo_ild 233 5), (233, zo_ist 235 5), (235, zo_inc 238 10 1), (238, zo_goto 134), (241, zo_ald 242 0), (242, zo_get 245 8 2 20), (245, zo_ild 247 7), (247, zo_ild 249 9), (249, zo_iasd 250), (250, zo_inc 253 7 1), (253, zo_goto 100), (256, zo_inc 259 6 1), (259, zo_goto 60), (262, zo_ild 263 3), (263, zo_ifeq false 266 271), (266, zo_ild 268 5), (268, zo_goto 278), (271, zo_ald 272 0), (272, zo_get 275 8 2 20), (275, zo_ild 277 4), (277, zo_iald 278), (278, zo_iret)]
theorem ztX9_best {C : mm_C} (G : mm_G C RX9 cX9_best (some .int) 12 (mm_rm 36 0 0)) (hnh : mm_nh C) : zz_OKs C zpX9_best :=
  ⟨zz_of (ok_aload_n G dX9_best_0 rfl rfl) (z_ald _ _),
   zz_of (ok_aload_n G dX9_best_1 rfl rfl) (z_ald _ _),
   zz_of (ok_iload_n G dX9_best_2 rfl rfl) (z_ild _ _),
   zz_of (ok_iload_n G dX9_best_3 rfl rfl) (z_ild _ _),
   zz_of (ok_callv G hnh (zmX9_refuses _ G.hst) rfl rfl (RX9, TX9, 32) rfl q2106 q2108 qs66 q93 q2109 (by decide +kernel) ⟨by decide, by decide⟩ dX9_best_4 rfl) (z_callv _ _ _ _),
   zz_of (ok_puti G (nx := 10) (idx := 67) (ci := 8) (k := 0) (RX9, TX9, 32) rfl (by decide) rfl (mm_pw G (ci := 8) (k := 0) (RX9, TX9, 32) rfl (by decide) rfl q1805 dX9_best_7) rfl) (z_puti _ _ _),
   zz_of (ok_aload_n G dX9_best_10 rfl rfl) (z_ald _ _),
   zz_of (ok_get G (nx := 14) (ci := 8) (kd := 0) (k := 0) (RX9, TX9, 32) rfl (by decide) rfl q1805 dX9_best_11 rfl) (z_get _ _ _ _),
   zz_of (ok_ifle G dX9_best_14 rfl rfl) (z_ifle _ _ _),
   zz_of (ok_iconst G (v := 0) dX9_best_17 (by decide) rfl) (z_cn 18 0),
   zz_of (ok_iret G dX9_best_18) (z_iret),
   zz_of (ok_aload_n G dX9_best_19 rfl rfl) (z_ald _ _),
   zz_of (ok_callv G hnh (zmX9_allStyles _ G.hst) rfl rfl (RX9, TX9, 32) rfl q2110 q2112 qs67 q93 q2113 (by decide +kernel) ⟨by decide, by decide⟩ dX9_best_20 rfl) (z_callv _ _ _ _),
   zz_of (ok_aload_n G dX9_best_23 rfl rfl) (z_ald _ _),
   zz_of (ok_callv G hnh (zmX9_atNow _ G.hst) rfl rfl (RX9, TX9, 32) rfl q2139 q2141 qs73 q93 q2142 (by decide +kernel) ⟨by decide, by decide⟩ dX9_best_24 rfl) (z_callv _ _ _ _),
   zz_of (ok_istore G dX9_best_27 rfl (by decide)) (z_ist _ _),
   zz_of (ok_iconst G (v := (zI (-1))) dX9_best_29 (by decide) rfl) (z_cz 30 (-1)),
   zz_of (ok_istore G dX9_best_30 rfl (by decide)) (z_ist _ _),
   zz_of (ok_iconst G (v := 0) dX9_best_32 (by decide) rfl) (z_cn 33 0),
   zz_of (ok_istore G dX9_best_33 rfl (by decide)) (z_ist _ _),
   zz_of (ok_iload G dX9_best_35 rfl) (z_ild _ _),
   zz_of (ok_sipush G (v := 15488) dX9_best_37 (by decide) rfl) (z_cn 40 15488),
   zz_of (ok_cge G dX9_best_40 rfl rfl) (z_cge _ _ _ _),
   zz_of (ok_aload_n G dX9_best_43 rfl rfl) (z_ald _ _),
   zz_of (ok_get G (nx := 47) (ci := 8) (kd := 2) (k := 20) (RX9, TX9, 32) rfl (by decide) rfl q1825 dX9_best_44 rfl) (z_get _ _ _ _),
   zz_of (ok_iload G dX9_best_47 rfl) (z_ild _ _),
   zz_of (ok_iconst G (v := 0) dX9_best_49 (by decide) rfl) (z_cn 50 0),
   zz_of (ok_iast G dX9_best_50 rfl) (z_iasd _),
   zz_of (ok_iinc G (v := 1) dX9_best_51 (by decide) rfl (by decide)) (z_incn 54 6 1),
   zz_of (ok_goto G dX9_best_54 rfl) (z_goto _),
   zz_of (ok_iconst G (v := 0) dX9_best_57 (by decide) rfl) (z_cn 58 0),
   zz_of (ok_istore G dX9_best_58 rfl (by decide)) (z_ist _ _),
   zz_of (ok_iload G dX9_best_60 rfl) (z_ild _ _),
   zz_of (ok_iload_n G dX9_best_62 rfl rfl) (z_ild _ _),
   zz_of (ok_cge G dX9_best_63 rfl rfl) (z_cge _ _ _ _),
   zz_of (ok_iconst G (v := 0) dX9_best_66 (by decide) rfl) (z_cn 67 0),
   zz_of (ok_istore G dX9_best_67 rfl (by decide)) (z_ist _ _),
   zz_of (ok_iload G dX9_best_69 rfl) (z_ild _ _),
   zz_of (ok_sipush G (v := 15488) dX9_best_71 (by decide) rfl) (z_cn 74 15488),
   zz_of (ok_cge G dX9_best_74 rfl rfl) (z_cge _ _ _ _),
   zz_of (ok_aload_n G dX9_best_77 rfl rfl) (z_ald _ _),
   zz_of (ok_get G (nx := 81) (ci := 8) (kd := 2) (k := 21) (RX9, TX9, 32) rfl (by decide) rfl q1826 dX9_best_78 rfl) (z_get _ _ _ _),
   zz_of (ok_iload G dX9_best_81 rfl) (z_ild _ _),
   zz_of (ok_aload_n G dX9_best_83 rfl rfl) (z_ald _ _),
   zz_of (ok_get G (nx := 87) (ci := 8) (kd := 2) (k := 20) (RX9, TX9, 32) rfl (by decide) rfl q1825 dX9_best_84 rfl) (z_get _ _ _ _),
   zz_of (ok_iload G dX9_best_87 rfl) (z_ild _ _),
   zz_of (ok_iald G dX9_best_89 rfl) (z_iald _),
   zz_of (ok_iast G dX9_best_90 rfl) (z_iasd _),
   zz_of (ok_iinc G (v := 1) dX9_best_91 (by decide) rfl (by decide)) (z_incn 94 7 1),
   zz_of (ok_goto G dX9_best_94 rfl) (z_goto _),
   zz_of (ok_iconst G (v := 0) dX9_best_97 (by decide) rfl) (z_cn 98 0),
   zz_of (ok_istore G dX9_best_98 rfl (by decide)) (z_ist _ _),
   zz_of (ok_iload G dX9_best_100 rfl) (z_ild _ _),
   zz_of (ok_sipush G (v := 15488) dX9_best_102 (by decide) rfl) (z_cn 105 15488),
   zz_of (ok_cge G dX9_best_105 rfl rfl) (z_cge _ _ _ _),
   zz_of (ok_iload G dX9_best_108 rfl) (z_ild _ _),
   zz_of (ok_calls G hnh (zmX9_canBe _ G.hst) rfl rfl q2122 q2123 q93 q2124 (by decide +kernel) ⟨by decide, by decide⟩ dX9_best_110 rfl) (z_calls _ _ _),
   zz_of (ok_ifne G dX9_best_113 rfl rfl) (z_zifne _ _),
   zz_of (ok_goto G dX9_best_116 rfl) (z_goto _),
   zz_of (ok_iload G dX9_best_119 rfl) (z_ild _ _),
   zz_of (ok_bipush G (v := 121) dX9_best_121 (by decide) rfl) (z_cn 123 121),
   zz_of (ok_idiv G dX9_best_123 rfl) (z_idiv _),
   zz_of (ok_iconst G (v := 2) dX9_best_124 (by decide) rfl) (z_cn 125 2),
   zz_of (ok_irem G dX9_best_125 rfl) (z_irem _),
   zz_of (ok_istore G dX9_best_126 rfl (by decide)) (z_ist _ _),
   zz_of (ok_iconst G (v := (zI (-1))) dX9_best_128 (by decide) rfl) (z_cz 129 (-1)),
   zz_of (ok_istore G dX9_best_129 rfl (by decide)) (z_ist _ _),
   zz_of (ok_iconst G (v := 0) dX9_best_131 (by decide) rfl) (z_cn 132 0),
   zz_of (ok_istore G dX9_best_132 rfl (by decide)) (z_ist _ _),
   zz_of (ok_iload G dX9_best_134 rfl) (z_ild _ _),
   zz_of (ok_iconst G (v := 4) dX9_best_136 (by decide) rfl) (z_cn 137 4),
   zz_of (ok_cge G dX9_best_137 rfl rfl) (z_cge _ _ _ _),
   zz_of (ok_iload G dX9_best_140 rfl) (z_ild _ _),
   zz_of (ok_iload_n G dX9_best_142 rfl rfl) (z_ild _ _),
   zz_of (ok_cne G dX9_best_143 rfl rfl) (z_cne _ _ _ _),
   zz_of (ok_aload_n G dX9_best_146 rfl rfl) (z_ald _ _),
   zz_of (ok_iload G dX9_best_147 rfl) (z_ild _ _),
   zz_of (ok_iload G dX9_best_149 rfl) (z_ild _ _),
   zz_of (ok_aload_n G dX9_best_151 rfl rfl) (z_ald _ _),
   zz_of (ok_get G (nx := 155) (ci := 8) (kd := 2) (k := 19) (RX9, TX9, 32) rfl (by decide) rfl q1824 dX9_best_152 rfl) (z_get _ _ _ _),
   zz_of (ok_iconst G (v := 2) dX9_best_155 (by decide) rfl) (z_cn 156 2),
   zz_of (ok_iload G dX9_best_156 rfl) (z_ild _ _),
   zz_of (ok_imul G dX9_best_158 rfl) (z_imul _),
   zz_of (ok_iconst G (v := 1) dX9_best_159 (by decide) rfl) (z_cn 160 1),
   zz_of (ok_iadd G dX9_best_160 rfl) (z_iadd _),
   zz_of (ok_iload_n G dX9_best_161 rfl rfl) (z_ild _ _),
   zz_of (ok_isub G dX9_best_162 rfl) (z_isub _),
   zz_of (ok_iald G dX9_best_163 rfl) (z_iald _),
   zz_of (ok_iload_n G dX9_best_164 rfl rfl) (z_ild _ _),
   zz_of (ok_iconst G (v := (zI (-1))) dX9_best_165 (by decide) rfl) (z_cz 166 (-1)),
   zz_of (ok_aload_n G dX9_best_166 rfl rfl) (z_ald _ _),
   zz_of (ok_get G (nx := 170) (ci := 8) (kd := 2) (k := 21) (RX9, TX9, 32) rfl (by decide) rfl q1826 dX9_best_167 rfl) (z_get _ _ _ _),
   zz_of (ok_callv G hnh (zmX9_had _ G.hst) rfl rfl (RX9, TX9, 32) rfl q2129 q2131 qs71 q93 q2132 (by decide +kernel) ⟨by decide, by decide⟩ dX9_best_170 rfl) (z_callv _ _ _ _),
   zz_of (ok_goto G dX9_best_173 rfl) (z_goto _),
   zz_of (ok_aload_n G dX9_best_176 rfl rfl) (z_ald _ _),
   zz_of (ok_iload G dX9_best_177 rfl) (z_ild _ _),
   zz_of (ok_aload_n G dX9_best_179 rfl rfl) (z_ald _ _),
   zz_of (ok_get G (nx := 183) (ci := 8) (kd := 2) (k := 19) (RX9, TX9, 32) rfl (by decide) rfl q1824 dX9_best_180 rfl) (z_get _ _ _ _),
   zz_of (ok_iconst G (v := 2) dX9_best_183 (by decide) rfl) (z_cn 184 2),
   zz_of (ok_iload G dX9_best_184 rfl) (z_ild _ _),
   zz_of (ok_imul G dX9_best_186 rfl) (z_imul _),
   zz_of (ok_iconst G (v := 1) dX9_best_187 (by decide) rfl) (z_cn 188 1),
   zz_of (ok_iadd G dX9_best_188 rfl) (z_iadd _),
   zz_of (ok_iload_n G dX9_best_189 rfl rfl) (z_ild _ _),
   zz_of (ok_isub G dX9_best_190 rfl) (z_isub _),
   zz_of (ok_iald G dX9_best_191 rfl) (z_iald _),
   zz_of (ok_iload G dX9_best_192 rfl) (z_ild _ _),
   zz_of (ok_iload_n G dX9_best_194 rfl rfl) (z_ild _ _),
   zz_of (ok_iconst G (v := (zI (-1))) dX9_best_195 (by decide) rfl) (z_cz 196 (-1)),
   zz_of (ok_aload_n G dX9_best_196 rfl rfl) (z_ald _ _),
   zz_of (ok_get G (nx := 200) (ci := 8) (kd := 2) (k := 21) (RX9, TX9, 32) rfl (by decide) rfl q1826 dX9_best_197 rfl) (z_get _ _ _ _),
   zz_of (ok_callv G hnh (zmX9_had _ G.hst) rfl rfl (RX9, TX9, 32) rfl q2129 q2131 qs71 q93 q2132 (by decide +kernel) ⟨by decide, by decide⟩ dX9_best_200 rfl) (z_callv _ _ _ _),
   zz_of (ok_istore G dX9_best_203 rfl (by decide)) (z_ist _ _),
   zz_of (ok_iload G dX9_best_205 rfl) (z_ild _ _),
   zz_of (ok_iload G dX9_best_207 rfl) (z_ild _ _),
   zz_of (ok_cgt G dX9_best_209 rfl rfl) (z_cgt _ _ _ _),
   zz_of (ok_goto G dX9_best_212 rfl) (z_goto _),
   zz_of (ok_iload G dX9_best_215 rfl) (z_ild _ _),
   zz_of (ok_istore G dX9_best_217 rfl (by decide)) (z_ist _ _),
   zz_of (ok_iload G dX9_best_219 rfl) (z_ild _ _),
   zz_of (ok_iload G dX9_best_221 rfl) (z_ild _ _),
   zz_of (ok_cne G dX9_best_223 rfl rfl) (z_cne _ _ _ _),
   zz_of (ok_iload G dX9_best_226 rfl) (z_ild _ _),
   zz_of (ok_goto G dX9_best_228 rfl) (z_goto _),
   zz_of (ok_iload G dX9_best_231 rfl) (z_ild _ _),
   zz_of (ok_istore G dX9_best_233 rfl (by decide)) (z_ist _ _),
   zz_of (ok_iinc G (v := 1) dX9_best_235 (by decide) rfl (by decide)) (z_incn 238 10 1),
   zz_of (ok_goto G dX9_best_238 rfl) (z_goto _),
   zz_of (ok_aload_n G dX9_best_241 rfl rfl) (z_ald _ _),
   zz_of (ok_get G (nx := 245) (ci := 8) (kd := 2) (k := 20) (RX9, TX9, 32) rfl (by decide) rfl q1825 dX9_best_242 rfl) (z_get _ _ _ _),
   zz_of (ok_iload G dX9_best_245 rfl) (z_ild _ _),
   zz_of (ok_iload G dX9_best_247 rfl) (z_ild _ _),
   zz_of (ok_iast G dX9_best_249 rfl) (z_iasd _),
   zz_of (ok_iinc G (v := 1) dX9_best_250 (by decide) rfl (by decide)) (z_incn 253 7 1),
   zz_of (ok_goto G dX9_best_253 rfl) (z_goto _),
   zz_of (ok_iinc G (v := 1) dX9_best_256 (by decide) rfl (by decide)) (z_incn 259 6 1),
   zz_of (ok_goto G dX9_best_259 rfl) (z_goto _),
   zz_of (ok_iload_n G dX9_best_262 rfl rfl) (z_ild _ _),
   zz_of (ok_ifeq G dX9_best_263 rfl rfl) (z_ifeq _ _ _),
   zz_of (ok_iload G dX9_best_266 rfl) (z_ild _ _),
   zz_of (ok_goto G dX9_best_268 rfl) (z_goto _),
   zz_of (ok_aload_n G dX9_best_271 rfl rfl) (z_ald _ _),
   zz_of (ok_get G (nx := 275) (ci := 8) (kd := 2) (k := 20) (RX9, TX9, 32) rfl (by decide) rfl q1825 dX9_best_272 rfl) (z_get _ _ _ _),
   zz_of (ok_iload G dX9_best_275 rfl) (z_ild _ _),
   zz_of (ok_iald G dX9_best_277 rfl) (z_iald _),
   zz_of (ok_iret G dX9_best_278) (z_iret), trivial⟩

theorem zwX9_best_0 {Q : Option zv → zz_M → Prop} {X : Nat → zz_M → Prop} {S L : Nat → Nat → Int} {p : Int} {n : Int} {st : Int} (h : (R32 p ∧ R32 n ∧ bx (tkS S 6) ∧ (-100 ≤ S 1 194 ∧ S 1 194 ≤ 100) ∧ (R32 (rfR (S 1) (tkS S 6) p n) ∧ (((rfR (S 1) (tkS S 6) p n) ≤ 0 → zz_J zpX9_best (zz_ret Q X 0 0) 19 [some (vr 0), some (vi p), some (vi n), some (vi st), none, none, none, none, none, none, none, none] [] (zm (mm_up (tkS S) 0 0 (rfR (S 1) (tkS S 6) p n)) L) (0, 0)) ∧ (¬ (rfR (S 1) (tkS S 6) p n) ≤ 0 → Q (some (vi 0)) (zm (mm_up (tkS S) 0 0 (rfR (S 1) (tkS S 6) p n)) L)))))) : zz_J zpX9_best (zz_ret Q X 0 0) 0 [some (vr 0), some (vi p), some (vi n), some (vi st), none, none, none, none, none, none, none, none] [] (zm S L) (0, 0) := zz_J.go [(19, [4, 5, 6, 7, 8, 9, 10, 11]), (35, [7, 8, 9, 10, 11]), (60, [7, 8, 9, 10, 11]), (69, [8, 9, 10, 11]), (100, [8, 9, 10, 11]), (134, [11]), (205, []), (241, [8, 10, 11]), (262, [1, 2, 6, 7, 8, 9, 10, 11])] 400 h
theorem zwX9_best_19 {Q : Option zv → zz_M → Prop} {X : Nat → zz_M → Prop} {S L : Nat → Nat → Int} {x1 : Int} {x2 : Int} {x3 : Int} (h : (mG (S 1) ∧ (∀ u_1, u_1 < 2 → plG (S 1) u_1) ∧ gdF S ∧ R32 (S 0 10) ∧ xG (S 6) ∧ (∀ S_1 : Nat → Nat → Int, asQ S S_1 → ((bx (tkS S_1 6) ∧ (zz_J zpX9_best (zz_ret Q X 0 0) 35 [some (vr 0), some (vi x1), some (vi x2), some (vi x3), some (vi (nuR (tkS S_1 6))), some (vi (-1)), some (vi 0), none, none, none, none, none] [] (zm (tkS S_1) L) (0, 0))))))) : zz_J zpX9_best (zz_ret Q X 0 0) 19 [some (vr 0), some (vi x1), some (vi x2), some (vi x3), none, none, none, none, none, none, none, none] [] (zm S L) (0, 0) := zz_J.go [(19, [4, 5, 6, 7, 8, 9, 10, 11]), (35, [7, 8, 9, 10, 11]), (60, [7, 8, 9, 10, 11]), (69, [8, 9, 10, 11]), (100, [8, 9, 10, 11]), (134, [11]), (205, []), (241, [8, 10, 11]), (262, [1, 2, 6, 7, 8, 9, 10, 11])] 400 h
theorem zwX9_best_35 {Q : Option zv → zz_M → Prop} {X : Nat → zz_M → Prop} {S L : Nat → Nat → Int} {x1 : Int} {x2 : Int} {x3 : Int} {x4 : Int} {x5 : Int} {x6 : Int} (h : R32 x6 ∧ ((15488 ≤ x6 → zz_J zpX9_best (zz_ret Q X 0 0) 60 [some (vr 0), some (vi x1), some (vi x2), some (vi x3), some (vi x4), some (vi x5), some (vi 0), none, none, none, none, none] [] (zm S L) (0, 0)) ∧ (¬ 15488 ≤ x6 → (0 ≤ x6 ∧ x6 < 15488) ∧ (zz_J zpX9_best (zz_ret Q X 0 0) 35 [some (vr 0), some (vi x1), some (vi x2), some (vi x3), some (vi x4), some (vi x5), some (vi (x6 + 1)), none, none, none, none, none] [] (zm (mm_up S 8 x6.toNat 0) L) (0, 0))))) : zz_J zpX9_best (zz_ret Q X 0 0) 35 [some (vr 0), some (vi x1), some (vi x2), some (vi x3), some (vi x4), some (vi x5), some (vi x6), none, none, none, none, none] [] (zm S L) (0, 0) := zz_J.go [(19, [4, 5, 6, 7, 8, 9, 10, 11]), (35, [7, 8, 9, 10, 11]), (60, [7, 8, 9, 10, 11]), (69, [8, 9, 10, 11]), (100, [8, 9, 10, 11]), (134, [11]), (205, []), (241, [8, 10, 11]), (262, [1, 2, 6, 7, 8, 9, 10, 11])] 400 h
theorem zwX9_best_60 {Q : Option zv → zz_M → Prop} {X : Nat → zz_M → Prop} {S L : Nat → Nat → Int} {x1 : Int} {x2 : Int} {x3 : Int} {x4 : Int} {x5 : Int} {x6 : Int} (h : R32 x6 ∧ (R32 x2 ∧ ((x2 ≤ x6 → zz_J zpX9_best (zz_ret Q X 0 0) 262 [some (vr 0), none, none, some (vi x3), some (vi x4), some (vi x5), none, none, none, none, none, none] [] (zm S L) (0, 0)) ∧ (¬ x2 ≤ x6 → zz_J zpX9_best (zz_ret Q X 0 0) 69 [some (vr 0), some (vi x1), some (vi x2), some (vi x3), some (vi x4), some (vi x5), some (vi x6), some (vi 0), none, none, none, none] [] (zm S L) (0, 0))))) : zz_J zpX9_best (zz_ret Q X 0 0) 60 [some (vr 0), some (vi x1), some (vi x2), some (vi x3), some (vi x4), some (vi x5), some (vi x6), none, none, none, none, none] [] (zm S L) (0, 0) := zz_J.go [(19, [4, 5, 6, 7, 8, 9, 10, 11]), (35, [7, 8, 9, 10, 11]), (60, [7, 8, 9, 10, 11]), (69, [8, 9, 10, 11]), (100, [8, 9, 10, 11]), (134, [11]), (205, []), (241, [8, 10, 11]), (262, [1, 2, 6, 7, 8, 9, 10, 11])] 400 h
theorem zwX9_best_69 {Q : Option zv → zz_M → Prop} {X : Nat → zz_M → Prop} {S L : Nat → Nat → Int} {x1 : Int} {x2 : Int} {x3 : Int} {x4 : Int} {x5 : Int} {x6 : Int} {x7 : Int} (h : R32 x7 ∧ ((15488 ≤ x7 → zz_J zpX9_best (zz_ret Q X 0 0) 100 [some (vr 0), some (vi x1), some (vi x2), some (vi x3), some (vi x4), some (vi x5), some (vi x6), some (vi 0), none, none, none, none] [] (zm S L) (0, 0)) ∧ (¬ 15488 ≤ x7 → (0 ≤ x7 ∧ x7 < 15488) ∧ ((0 ≤ x7 ∧ x7 < 15488) ∧ (zz_J zpX9_best (zz_ret Q X 0 0) 69 [some (vr 0), some (vi x1), some (vi x2), some (vi x3), some (vi x4), some (vi x5), some (vi x6), some (vi (x7 + 1)), none, none, none, none] [] (zm (mm_up S 9 x7.toNat (S 8 x7.toNat)) L) (0, 0)))))) : zz_J zpX9_best (zz_ret Q X 0 0) 69 [some (vr 0), some (vi x1), some (vi x2), some (vi x3), some (vi x4), some (vi x5), some (vi x6), some (vi x7), none, none, none, none] [] (zm S L) (0, 0) := zz_J.go [(19, [4, 5, 6, 7, 8, 9, 10, 11]), (35, [7, 8, 9, 10, 11]), (60, [7, 8, 9, 10, 11]), (69, [8, 9, 10, 11]), (100, [8, 9, 10, 11]), (134, [11]), (205, []), (241, [8, 10, 11]), (262, [1, 2, 6, 7, 8, 9, 10, 11])] 400 h
theorem zwX9_best_100 {Q : Option zv → zz_M → Prop} {X : Nat → zz_M → Prop} {S L : Nat → Nat → Int} {x1 : Int} {x2 : Int} {x3 : Int} {x4 : Int} {x5 : Int} {x6 : Int} {x7 : Int} (h : R32 x7 ∧ ((15488 ≤ x7 → zz_J zpX9_best (zz_ret Q X 0 0) 60 [some (vr 0), some (vi x1), some (vi x2), some (vi x3), some (vi x4), some (vi x5), some (vi (x6 + 1)), none, none, none, none, none] [] (zm S L) (0, 0)) ∧ (¬ 15488 ≤ x7 → ((0 ≤ x7 ∧ x7 < 100000000) ∧ (cbR x7 = true → ((0 ≤ x7 ∧ x7 < 2147483648) ∧ ((0 ≤ (x7 / 121) ∧ (x7 / 121) < 2147483648) ∧ (zz_J zpX9_best (zz_ret Q X 0 0) 134 [some (vr 0), some (vi x1), some (vi x2), some (vi x3), some (vi x4), some (vi x5), some (vi x6), some (vi x7), some (vi ((x7 / 121) % 2)), some (vi (-1)), some (vi 0), none] [] (zm S L) (0, 0))))) ∧ (cbR x7 = false → (zz_J zpX9_best (zz_ret Q X 0 0) 100 [some (vr 0), some (vi x1), some (vi x2), some (vi x3), some (vi x4), some (vi x5), some (vi x6), some (vi (x7 + 1)), none, none, none, none] [] (zm S L) (0, 0))))))) : zz_J zpX9_best (zz_ret Q X 0 0) 100 [some (vr 0), some (vi x1), some (vi x2), some (vi x3), some (vi x4), some (vi x5), some (vi x6), some (vi x7), none, none, none, none] [] (zm S L) (0, 0) := zz_J.go [(19, [4, 5, 6, 7, 8, 9, 10, 11]), (35, [7, 8, 9, 10, 11]), (60, [7, 8, 9, 10, 11]), (69, [8, 9, 10, 11]), (100, [8, 9, 10, 11]), (134, [11]), (205, []), (241, [8, 10, 11]), (262, [1, 2, 6, 7, 8, 9, 10, 11])] 400 h
theorem zwX9_best_134 {Q : Option zv → zz_M → Prop} {X : Nat → zz_M → Prop} {S L : Nat → Nat → Int} {x1 : Int} {x2 : Int} {x3 : Int} {x4 : Int} {x5 : Int} {x6 : Int} {x7 : Int} {x8 : Int} {x9 : Int} {x10 : Int} (h : R32 x10 ∧ ((4 ≤ x10 → zz_J zpX9_best (zz_ret Q X 0 0) 241 [some (vr 0), some (vi x1), some (vi x2), some (vi x3), some (vi x4), some (vi x5), some (vi x6), some (vi x7), none, some (vi x9), none, none] [] (zm S L) (0, 0)) ∧ (¬ 4 ≤ x10 → R32 x8 ∧ (R32 x1 ∧ ((¬ x8 = x1 → (0 ≤ (((2 * x7) + 1) - x1) ∧ (((2 * x7) + 1) - x1) < 30976) ∧ (((0 ≤ x7 ∧ x7 < 15488) ∧ cbR x7 = true ∧ (0 ≤ (S 7 ((((2 * x7) + 1) - x1).toNat)) ∧ (S 7 ((((2 * x7) + 1) - x1).toNat)) ≤ 3) ∧ (0 ≤ x10 ∧ x10 ≤ 3) ∧ (x1 = 0 ∨ x1 = 1) ∧ ((-1) = -1 ∨ (-1) = 0 ∨ (-1) = 1) ∧ (9 = 8 ∨ 9 = 9 ∨ 9 = 10 ∨ 9 = 11) ∧ tbG (S 9) ∧ mG (S 1) ∧ xG (S 6) ∧ (∀ (x_1 : Nat → Int) (a_1 b_1 : Int), xG x_1 → (zz_J zpX9_best (zz_ret Q X 0 0) 205 [some (vr 0), some (vi x1), some (vi x2), some (vi x3), some (vi x4), some (vi x5), some (vi x6), some (vi x7), some (vi x8), some (vi x9), some (vi x10), some (vi (hdR (S 9) (S 1) x7 (12 * (4 * (S 7 ((((2 * x7) + 1) - x1).toNat)) + x10)).toNat x1 (-1)))] [] (zm (sx S x_1 a_1 b_1) L) (0, 0)))))) ∧ (x8 = x1 → (0 ≤ (((2 * x7) + 1) - x1) ∧ (((2 * x7) + 1) - x1) < 30976) ∧ (((0 ≤ x7 ∧ x7 < 15488) ∧ cbR x7 = true ∧ (0 ≤ x10 ∧ x10 ≤ 3) ∧ (0 ≤ (S 7 ((((2 * x7) + 1) - x1).toNat)) ∧ (S 7 ((((2 * x7) + 1) - x1).toNat)) ≤ 3) ∧ (x1 = 0 ∨ x1 = 1) ∧ ((-1) = -1 ∨ (-1) = 0 ∨ (-1) = 1) ∧ (9 = 8 ∨ 9 = 9 ∨ 9 = 10 ∨ 9 = 11) ∧ tbG (S 9) ∧ mG (S 1) ∧ xG (S 6) ∧ (∀ (x_2 : Nat → Int) (a_2 b_2 : Int), xG x_2 → (zz_J zpX9_best (zz_ret Q X 0 0) 205 [some (vr 0), some (vi x1), some (vi x2), some (vi x3), some (vi x4), some (vi x5), some (vi x6), some (vi x7), some (vi x8), some (vi x9), some (vi x10), some (vi (hdR (S 9) (S 1) x7 (12 * (4 * x10 + (S 7 ((((2 * x7) + 1) - x1).toNat)))).toNat x1 (-1)))] [] (zm (sx S x_2 a_2 b_2) L) (0, 0))))))))))) : zz_J zpX9_best (zz_ret Q X 0 0) 134 [some (vr 0), some (vi x1), some (vi x2), some (vi x3), some (vi x4), some (vi x5), some (vi x6), some (vi x7), some (vi x8), some (vi x9), some (vi x10), none] [] (zm S L) (0, 0) := zz_J.go [(19, [4, 5, 6, 7, 8, 9, 10, 11]), (35, [7, 8, 9, 10, 11]), (60, [7, 8, 9, 10, 11]), (69, [8, 9, 10, 11]), (100, [8, 9, 10, 11]), (134, [11]), (205, []), (241, [8, 10, 11]), (262, [1, 2, 6, 7, 8, 9, 10, 11])] 400 h
theorem zwX9_best_205 {Q : Option zv → zz_M → Prop} {X : Nat → zz_M → Prop} {S L : Nat → Nat → Int} {x1 : Int} {x2 : Int} {x3 : Int} {x4 : Int} {x5 : Int} {x6 : Int} {x7 : Int} {x8 : Int} {x9 : Int} {x10 : Int} {x11 : Int} (h : R32 x11 ∧ (R32 x9 ∧ ((x9 < x11 → R32 x7 ∧ (R32 x4 ∧ ((¬ x7 = x4 → zz_J zpX9_best (zz_ret Q X 0 0) 134 [some (vr 0), some (vi x1), some (vi x2), some (vi x3), some (vi x4), some (vi x5), some (vi x6), some (vi x7), some (vi x8), some (vi x11), some (vi (x10 + 1)), none] [] (zm S L) (0, 0)) ∧ (x7 = x4 → zz_J zpX9_best (zz_ret Q X 0 0) 134 [some (vr 0), some (vi x1), some (vi x2), some (vi x3), some (vi x4), some (vi x10), some (vi x6), some (vi x7), some (vi x8), some (vi x11), some (vi (x10 + 1)), none] [] (zm S L) (0, 0))))) ∧ (¬ x9 < x11 → zz_J zpX9_best (zz_ret Q X 0 0) 134 [some (vr 0), some (vi x1), some (vi x2), some (vi x3), some (vi x4), some (vi x5), some (vi x6), some (vi x7), some (vi x8), some (vi x9), some (vi (x10 + 1)), none] [] (zm S L) (0, 0))))) : zz_J zpX9_best (zz_ret Q X 0 0) 205 [some (vr 0), some (vi x1), some (vi x2), some (vi x3), some (vi x4), some (vi x5), some (vi x6), some (vi x7), some (vi x8), some (vi x9), some (vi x10), some (vi x11)] [] (zm S L) (0, 0) := zz_J.go [(19, [4, 5, 6, 7, 8, 9, 10, 11]), (35, [7, 8, 9, 10, 11]), (60, [7, 8, 9, 10, 11]), (69, [8, 9, 10, 11]), (100, [8, 9, 10, 11]), (134, [11]), (205, []), (241, [8, 10, 11]), (262, [1, 2, 6, 7, 8, 9, 10, 11])] 400 h
theorem zwX9_best_241 {Q : Option zv → zz_M → Prop} {X : Nat → zz_M → Prop} {S L : Nat → Nat → Int} {x1 : Int} {x2 : Int} {x3 : Int} {x4 : Int} {x5 : Int} {x6 : Int} {x7 : Int} {x9 : Int} (h : (0 ≤ x7 ∧ x7 < 15488) ∧ (zz_J zpX9_best (zz_ret Q X 0 0) 100 [some (vr 0), some (vi x1), some (vi x2), some (vi x3), some (vi x4), some (vi x5), some (vi x6), some (vi (x7 + 1)), none, none, none, none] [] (zm (mm_up S 8 x7.toNat x9) L) (0, 0))) : zz_J zpX9_best (zz_ret Q X 0 0) 241 [some (vr 0), some (vi x1), some (vi x2), some (vi x3), some (vi x4), some (vi x5), some (vi x6), some (vi x7), none, some (vi x9), none, none] [] (zm S L) (0, 0) := zz_J.go [(19, [4, 5, 6, 7, 8, 9, 10, 11]), (35, [7, 8, 9, 10, 11]), (60, [7, 8, 9, 10, 11]), (69, [8, 9, 10, 11]), (100, [8, 9, 10, 11]), (134, [11]), (205, []), (241, [8, 10, 11]), (262, [1, 2, 6, 7, 8, 9, 10, 11])] 400 h
theorem zwX9_best_262 {Q : Option zv → zz_M → Prop} {X : Nat → zz_M → Prop} {S L : Nat → Nat → Int} {x3 : Int} {x4 : Int} {x5 : Int} (h : R32 x3 ∧ ((x3 = 0 → (0 ≤ x4 ∧ x4 < 15488) ∧ (Q (some (vi (S 8 x4.toNat))) (zm S L))) ∧ (¬ x3 = 0 → Q (some (vi x5)) (zm S L)))) : zz_J zpX9_best (zz_ret Q X 0 0) 262 [some (vr 0), none, none, some (vi x3), some (vi x4), some (vi x5), none, none, none, none, none, none] [] (zm S L) (0, 0) := zz_J.go [(19, [4, 5, 6, 7, 8, 9, 10, 11]), (35, [7, 8, 9, 10, 11]), (60, [7, 8, 9, 10, 11]), (69, [8, 9, 10, 11]), (100, [8, 9, 10, 11]), (134, [11]), (205, []), (241, [8, 10, 11]), (262, [1, 2, 6, 7, 8, 9, 10, 11])] 400 h

theorem zmX9_best (l : Launch) (hl : l.stackTraces = false) : mm_Spec l yX9_best (ws_ yX9_best cX9_best 12 (some .int)) (mm_rm 36 0 0) (zE zX9_best) := by
  refine zz_Met.J hl (by decide) (fun C G hnh => ztX9_best G hnh) ?_
  rintro as ⟨⟨t_, f⟩, S, L, P⟩ Q X h
  unfold zX9_best at h
  split at h
  rotate_left
  · exact h.elim
  rename_i h_ p n st
  obtain ⟨e1_, e2_, h⟩ := mm_and2 h (fun q => q)
  cases mm_beq e1_
  cases mm_beq e2_
  try dsimp only at h
  refine ⟨rfl, ?_⟩
  refine zz_Jev (M' := zm S L) rfl rfl rfl ?_
  obtain ⟨hp, hn, hst, hI, hq1, hq0⟩ := h
  have hr := rfR_in (S 1) (nwX S) p n
  have hw := hI.1.2.1
  have hm := hI.1
  have hwh := hI.2.1
  have hsc := hI.2.2.2.2.2.2.1
  generalize hrr : rfR (S 1) (nwX S) p n = r at hq1 hq0 hr
  have cT : coS S (mm_up (tkS S) 0 0 r) := ((coS.rf hI).take hI).up0 r
  have hnu : 0 ≤ nuR (nwX S) ∧ nuR (nwX S) < 15488 := nuR_in hsc
  have hcb0 : cbR (nuR (nwX S)) = true := nuR_cb hsc
  refine zwX9_best_0 ⟨hp, hn, hI.xg.1.bx, by unfold wV at hw; omega, ?_⟩
  rw [hrr]
  refine ⟨by omega, fun c => ?_, fun c => hq1 _ (by omega) (cT.Q (by simp [up_eq]))⟩
  have e : r = 0 := by omega
  subst e
  obtain ⟨b1, b2, -⟩ := rfR_0 hrr
  have hq0 := fun S_ => hq0 S_ rfl
  obtain ⟨u, hu, rfl⟩ : ∃ u : Nat, u < 2 ∧ p = u := ⟨p.toNat, by omega, by omega⟩
  obtain ⟨N, rfl⟩ : ∃ N : Nat, n = N := ⟨n.toNat, by omega⟩
  rw [Int.toNat_natCast, Int.toNat_natCast] at hq0
  obtain ⟨q1, q2, q3, q4, q5⟩ := hI.pre cT
  refine zwX9_best_19 ⟨q1, q2, q3, q4, q5, fun V hV => ?_⟩
  obtain ⟨v1, v2, v3, v4, v5, v6, v7, v8⟩ := hI.styles cT hV
  have eV := v1.tk hI.2.2.2.2.2.1
  rw [eV]
  refine ⟨hI.xg.1.bx, ?_⟩
  show zz_J zpX9_best (zz_ret Q X 0 0) 35 [some (vr 0), some (vi u), some (vi N), some (vi st), some (vi (nuR (nwX S))), some (vi (-1)), some (vi 0), none, none, none, none, none] [] (zm (tkS V) L) (0, 0)
  generalize hK : nuR (nwX S) = K0 at hnu hcb0 hq0
  obtain ⟨K, rfl⟩ : ∃ K : Nat, K0 = K := ⟨K0.toNat, by omega⟩
  rw [Int.toNat_natCast] at hq0
  generalize hB : tkS V = B
  have cB : coS S B := by rw [← hB]; exact v1.take hI
  have b0 : B 0 0 = 0 := by rw [← hB]; show V 0 0 = 0; rw [v2]; simp [up_eq]
  have bst : ∀ j, j < 30976 → B 7 j = stT (S 1) j := fun j hj => by rw [← hB]; exact v8 j hj
  have hstB : stG (B 7) := fun j hj => by rw [bst j hj]; exact stR_in _ _ _
  have bx6 : xG (B 6) := cB.2.2
  have main : ∀ (r i : Nat) (F : Int) (f g x : Nat → Int) (a b : Int), i + r = N → xG x → (∀ k, k < 15488 → f k = bsT (S 1) (B 7) u i k) → F = fdR (S 1) (B 7) u K i → zz_J zpX9_best (zz_ret Q X 0 0) 60 [some (vr 0), some (vi u), some (vi N), some (vi st), some (vi K), some (vi F), some (vi i), none, none, none, none, none] [] (zm (sx (tabS B f g) x a b) L) (0, 0) := by
    intro r
    induction r with
    | zero =>
      intro i F f g x a b hi hx hf hF
      have ei : i = N := by omega
      subst ei
      refine zwX9_best_60 ⟨by omega, by omega, fun _ => ?_, fun c => by omega⟩
      have hq := hq0 _ (((cB.tab f g).sxx hx a b).Q b0)
      refine zwX9_best_262 ⟨by omega, fun s0 => ⟨by omega, ?_⟩, fun s1 => ?_⟩
      · rw [tabS_8, Int.toNat_natCast, hf K (by omega), bsT_s bst hw _ _ (by omega)]
        exact hq.1 s0
      · rw [hF, fdR_s bst hw (by omega) hcb0]
        exact hq.2 (by omega)
    | succ r ih =>
      intro i F f g x a b hi hx hf hF
      -- all scores
      have t100 : ∀ (r2 k : Nat) (F : Int) (f g x : Nat → Int) (a b : Int), k + r2 = 15488 → xG x → (∀ j, j < k → f j = bsT (S 1) (B 7) u (i + 1) j) → (∀ j, j < 15488 → k ≤ j → cbR j = false → f j = 0) → (∀ j, j < 15488 → g j = bsT (S 1) (B 7) u i j) → (K < k → F = fdR (S 1) (B 7) u K (i + 1)) → zz_J zpX9_best (zz_ret Q X 0 0) 100 [some (vr 0), some (vi u), some (vi N), some (vi st), some (vi K), some (vi F), some (vi i), some (vi k), none, none, none, none] [] (zm (sx (tabS B f g) x a b) L) (0, 0) := by
        intro r2
        induction r2 with
        | zero =>
          intro k F f g x a b hk hx hf hf0 hg hF
          refine zwX9_best_100 ⟨by omega, fun _ => ih (i + 1) F f g x a b (by omega) hx (fun j hj => hf j (by omega)) (hF (by omega)), fun c => by omega⟩
        | succ r2 ih2 =>
          intro k F f g x a b hk hx hf hf0 hg hF
          have hgG : tbG g := by
            intro j hj
            rw [hg j hj]
            exact bsT_G hm hwh hstB hu i j hj
          refine zwX9_best_100 ⟨by omega, fun c => by omega, fun _ => ⟨by omega, fun cb => ⟨by omega, by omega, ?_⟩, fun cb => ?_⟩⟩
          · -- the styles
            have hbs : bsT (S 1) (B 7) u (i + 1) k = (bsF g (S 1) (B 7) k u 4).1 := by
              show (if cbR (k : Int) = true then (bsF (bsT (S 1) (B 7) u i) (S 1) (B 7) k u 4).1 else 0) = _
              rw [if_pos cb, bsF_c (fun j hj => (hg j hj).symm) hw (by omega) cb]
            have hfd : K = k → fdR (S 1) (B 7) u K (i + 1) = (bsF g (S 1) (B 7) k u 4).2 := by
              intro e
              show (bsF (bsT (S 1) (B 7) u i) (S 1) (B 7) K u 4).2 = _
              rw [e, bsF_c (fun j hj => (hg j hj).symm) hw (by omega) cb]
            have c121 : (k : Int) / 121 % 2 = ((k / 121 % 2 : Nat) : Int) := by omega
            have t134 : ∀ (r3 s : Nat) (F' : Int) (x : Nat → Int) (a b : Int), s + r3 = 4 → xG x → (K ≠ k → F' = F) → (K = k → 0 < s → F' = (bsF g (S 1) (B 7) k u s).2) → zz_J zpX9_best (zz_ret Q X 0 0) 134 [some (vr 0), some (vi u), some (vi N), some (vi st), some (vi K), some (vi F'), some (vi i), some (vi k), some (vi ((k : Int) / 121 % 2)), some (vi (bsF g (S 1) (B 7) k u s).1), some (vi s), none] [] (zm (sx (tabS B f g) x a b) L) (0, 0) := by
              intro r3
              induction r3 with
              | zero =>
                intro s F' x a b hs hx h1 h2
                have es : s = 4 := by omega
                subst es
                refine zwX9_best_134 ⟨by omega, fun _ => ?_, fun c => absurd c (by decide)⟩
                refine zwX9_best_241 ⟨by omega, ?_⟩
                rw [tabS_u8, Int.toNat_natCast]
                refine ih2 (k + 1) F' _ g x a b (by omega) hx (fun j hj => ?_) (fun j hj hkj hc => ?_) hg (fun hKk => ?_)
                · rw [ru_at]
                  split
                  · next e => rw [e, hbs]
                  · exact hf j (by omega)
                · rw [ru_at, if_neg (by omega)]
                  exact hf0 j hj (by omega) hc
                · by_cases e : K = k
                  · rw [h2 e (by decide), hfd e]
                  · rw [h1 e]
                    exact hF (by omega)
              | succ r3 ih3 =>
                intro s F' x a b hs hx h1 h2
                have hm1 := bsF_in hgG hm hwh hstB (by omega) cb hu s (by omega)
                have hv := bsV_in hgG hm hwh hstB (by omega) cb hu (s := (s : Int)) (by omega)
                have e1 : ((2 : Int) * k + 1 - u).toNat = 2 * k + 1 - u := by omega
                have s7 := hstB (2 * k + 1 - u) (by omega)
                have t205 : ∀ (v : Int) (x : Nat → Int) (a b : Int), xG x → v = bsV g (S 1) (B 7) k u s → zz_J zpX9_best (zz_ret Q X 0 0) 205 [some (vr 0), some (vi u), some (vi N), some (vi st), some (vi K), some (vi F'), some (vi i), some (vi k), some (vi ((k : Int) / 121 % 2)), some (vi (bsF g (S 1) (B 7) k u s).1), some (vi s), some (vi v)] [] (zm (sx (tabS B f g) x a b) L) (0, 0) := by
                  intro v x a b hx hvv
                  subst hvv
                  have eF : bsF g (S 1) (B 7) k u (s + 1) = if bsV g (S 1) (B 7) k u s ≤ (bsF g (S 1) (B 7) k u s).1 then bsF g (S 1) (B 7) k u s else (bsV g (S 1) (B 7) k u s, (s : Int)) := rfl
                  refine zwX9_best_205 ⟨by omega, by omega, fun c => ⟨by omega, by omega, fun ne => ?_, fun eq => ?_⟩, fun c => ?_⟩
                  · rw [if_neg (by omega)] at eF
                    have := ih3 (s + 1) F' x a b (by omega) hx h1 (fun e => by omega)
                    rw [eF] at this
                    exact this
                  · rw [if_neg (by omega)] at eF
                    have := ih3 (s + 1) s x a b (by omega) hx (fun e => by omega) (fun e _ => by rw [eF])
                    rw [eF] at this
                    exact this
                  · rw [if_pos (by omega)] at eF
                    have := ih3 (s + 1) F' x a b (by omega) hx h1 (fun e h => by
                      rw [eF]
                      refine h2 e ?_
                      have := hm1.2.2
                      by_cases h0 : s = 0
                      · subst h0
                        have : (bsF g (S 1) (B 7) k u 0).1 = -1 := rfl
                        omega
                      · omega)
                    rw [eF] at this
                    exact this
                refine zwX9_best_134 ⟨by omega, fun c => by omega, fun _ => ?_⟩
                simp only [tabS_9, tabS_1, tabS_7, sx_6, e1]
                refine ⟨by omega, by omega, fun ne => ⟨by omega, by omega, cb, s7, by omega, by omega, Or.inl trivial, Or.inr (Or.inl trivial), hgG, by rw [cB.r1]; exact hm, hx, fun x' a' b' hx' => ?_⟩, fun eq => ⟨by omega, by omega, cb, by omega, s7, by omega, Or.inl trivial, Or.inr (Or.inl trivial), hgG, by rw [cB.r1]; exact hm, hx, fun x' a' b' hx' => ?_⟩⟩
                · rw [sx_sx, cB.r1]
                  refine t205 _ x' a' b' hx' ?_
                  unfold bsV bsI
                  rw [if_neg (by omega)]
                · rw [sx_sx, cB.r1]
                  refine t205 _ x' a' b' hx' ?_
                  unfold bsV bsI
                  rw [if_pos (by omega)]
            exact t134 4 0 F x a b (by decide) hx (fun _ => rfl) (fun _ h => absurd h (by decide))
          · refine ih2 (k + 1) F f g x a b (by omega) hx (fun j hj => ?_) (fun j hj hkj hc => hf0 j hj (by omega) hc) hg (fun hKk => ?_)
            · by_cases e : j = k
              · subst e
                show f j = (if cbR (j : Int) = true then _ else 0)
                rw [if_neg (by rw [cb]; decide)]
                exact hf0 j (by omega) (Nat.le_refl _) cb
              · exact hf j (by omega)
            · have : K ≠ k := by
                intro e
                rw [e, cb] at hcb0
                cases hcb0
              exact hF (by omega)
      have t69 : ∀ (r2 j : Nat) (g : Nat → Int), j + r2 = 15488 → (∀ k, k < j → g k = bsT (S 1) (B 7) u i k) → zz_J zpX9_best (zz_ret Q X 0 0) 69 [some (vr 0), some (vi u), some (vi N), some (vi st), some (vi K), some (vi F), some (vi i), some (vi j), none, none, none, none] [] (zm (sx (tabS B f g) x a b) L) (0, 0) := by
        intro r2
        induction r2 with
        | zero =>
          intro j g hj hg
          refine zwX9_best_69 ⟨by omega, fun _ => t100 15488 0 F f g x a b (by decide) hx (fun k hk => absurd hk (Nat.not_lt_zero _)) (fun k hk _ hc => ?_) (fun k hk => hg k (by omega)) (fun h => absurd h (Nat.not_lt_zero _)), fun c => by omega⟩
          rw [hf k hk]
          cases i with
          | zero => rfl
          | succ i =>
            show (if cbR (k : Int) = true then _ else 0) = 0
            rw [if_neg (by rw [hc]; decide)]
        | succ r2 ih2 =>
          intro j g hj hg
          refine zwX9_best_69 ⟨by omega, fun c => by omega, fun _ => ⟨by omega, by omega, ?_⟩⟩
          rw [tabS_8, tabS_u9, Int.toNat_natCast]
          refine ih2 (j + 1) _ (by omega) (fun k hk => ?_)
          rw [ru_at]
          split
          · next e => rw [e]; exact hf j (by omega)
          · exact hg k (by omega)
      exact zwX9_best_60 ⟨by omega, by omega, fun c => by omega, fun _ => t69 15488 0 g (by decide) (fun k hk => absurd hk (Nat.not_lt_zero _))⟩
  have t35 : ∀ (r j : Nat) (f : Nat → Int), j + r = 15488 → (∀ k, k < j → f k = 0) → zz_J zpX9_best (zz_ret Q X 0 0) 35 [some (vr 0), some (vi u), some (vi N), some (vi st), some (vi K), some (vi (-1)), some (vi j), none, none, none, none, none] [] (zm (sx (tabS B f (B 9)) (B 6) (B 0 17) (B 0 18)) L) (0, 0) := by
    intro r
    induction r with
    | zero =>
      intro j f hj hf
      refine zwX9_best_35 ⟨by omega, fun _ => main N 0 (-1) f (B 9) (B 6) _ _ (by omega) bx6 (fun k hk => hf k (by omega)) rfl, fun c => by omega⟩
    | succ r ih =>
      intro j f hj hf
      refine zwX9_best_35 ⟨by omega, fun c => by omega, fun _ => ⟨by omega, ?_⟩⟩
      rw [tabS_u8, Int.toNat_natCast]
      refine ih (j + 1) _ (by omega) (fun k hk => ?_)
      rw [ru_at]
      split
      · rfl
      · exact hf k (by omega)
  have := t35 15488 0 (B 8) (by decide) (fun k hk => absurd hk (Nat.not_lt_zero _))
  rw [tabS_id] at this
  exact this
