/-! ===== the model's bisque that is saved ===== -/
set_option maxRecDepth 100000
theorem bqR_V {w x : Nat → Int} {p : Nat} (hw : wV w) (hp : p < 2) (h : scV x) : scV (bqR w x p) := by
  obtain ⟨hpv, h2, hh⟩ := h
  obtain ⟨v1, v2, v4, v5, vt, vf⟩ := pnt_V (w := w) hw hp hpv
  have h6 : x 6 = 0 ∨ x 6 = 1 := by unfold hV at hh; omega
  rcases h6 with h6 | h6
  · have e : bqR w x p = chR w (pnt w x p) := by
      funext j
      rw [bqR_at, if_neg (by omega)]
    rw [e]
    refine chR_V v1 (by rw [v2]; exact h2) ?_
    unfold gV
    unfold hV at hh
    cases hb : ptw x p with
    | true => have := vt hb; omega
    | false => have := vf hb; rw [v4, v5, this.1, this.2]; omega
  · have e : bqR w x p = pnt w x p := by
      funext j
      rw [bqR_at, if_pos h6]
    rw [e]
    refine ⟨v1, by rw [v2]; exact h2, ?_⟩
    unfold hV at hh ⊢
    cases hb : ptw x p with
    | true => have := vt hb; omega
    | false => have := vf hb; rw [v4, v5, this.1, this.2]; omega
theorem bqR_B {w x : Nat → Int} {p : Nat} {g : Int} (hp : p < 2) (hb : xB g x) : xB (g + 1) (bqR w x p) := by
  obtain ⟨h4, h5, h7, h8, h9⟩ := hb
  obtain ⟨q7, q8, q9⟩ := pnt_78 (w := w) (x := x) hp
  have hpp : p = 0 ∨ p = 1 := by omega
  have q4 : pnt w x p 4 = x 4 := by
    rw [pnt_at]
    rcases hpp with rfl | rfl <;> simp [ptA_at, ptB_at, ptC_at]
  have q5 : pnt w x p 5 = x 5 := by
    rw [pnt_at]
    rcases hpp with rfl | rfl <;> simp [ptA_at, ptB_at, ptC_at]
  have key : ∀ j, j ≠ 2 → j ≠ 6 → bqR w x p j = pnt w x p j := by
    intro j j2 j6
    rw [bqR_at]
    split
    · rfl
    · rw [chR_at, if_neg j2, if_neg j6]
      simp
  unfold xB
  rw [key 4 (by decide) (by decide), key 5 (by decide) (by decide), key 7 (by decide) (by decide), key 8 (by decide) (by decide), q4, q5]
  refine ⟨h4, h5, by omega, by omega, fun j hj => ?_⟩
  rw [key j (by omega) (by omega), q9 j hj, h9 j hj]
/-- what is to be had by taking it now -/
def svB (tb w : Nat → Int) (p : Nat) (k : Nat) : Int := if ptw (scX w k) p = true then 1000000000 else tb (nuR (bqR w (scX w k) p)).toNat
def svM (a b : Int) : Int := if a < b then b else a
def svT (w st : Nat → Int) (p : Nat) : Nat → Nat → Int
  | 0, _ => 0
  | i + 1, k => if cbR k = true then svM (byR (svT w st p i) w st k p (-1)) (svB (tbR w st p (-1) (i + 1)) w p k) else 0
def svK (w st : Nat → Int) (p k : Nat) : Nat → Int
  | 0 => 0
  | i + 1 => if byR (svT w st p i) w st k p (-1) < svB (tbR w st p (-1) (i + 1)) w p k then 1 else 0
theorem svB_in {tb w : Nat → Int} {p k : Nat} (ht : tbG tb) (hw : wV w) (hk : k < 15488) (hcb : cbR k = true) (hp : p < 2) : 0 ≤ svB tb w p k ∧ svB tb w p k ≤ 1000000000 := by
  have hX : scV (scX w k) := unR_V (by omega) (by omega) hcb
  unfold svB
  split
  · omega
  · have := nuR_in (bqR_V hw hp hX)
    exact ht _ (by omega)
theorem svT_G {w st : Nat → Int} {p : Nat} (hm : mG w) (hwh : whB w 16 = true) (hst : stG st) (hp : p < 2) : ∀ i, tbG (svT w st p i)
  | 0 => fun j _ => by show (0 : Int) ≤ 0 ∧ (0 : Int) ≤ 1000000000; decide
  | i + 1 => by
    intro j hj
    have ih := svT_G hm hwh hst hp i
    unfold svT
    split
    · next hc =>
      have h1 := hdR_in (p := p) (th := -1) ih hm hwh hj hc (byI_j hst hj)
      have h2 := svB_in (tbR_G (p := p) (th := -1) hm hwh hst (i + 1)) hm.2.1 hj hc hp
      unfold svM byR
      split <;> omega
    · decide
theorem svB_c {tb tb' w : Nat → Int} {p k : Nat} (h : ∀ j, j < 15488 → tb j = tb' j) (hw : wV w) (hk : k < 15488) (hcb : cbR k = true) (hp : p < 2) : svB tb w p k = svB tb' w p k := by
  have hX : scV (scX w k) := unR_V (by omega) (by omega) hcb
  have := nuR_in (bqR_V hw hp hX)
  unfold svB
  rw [h _ (by omega)]
theorem svT_s {w st st' : Nat → Int} {p : Nat} (h : ∀ j, j < 30976 → st j = st' j) (hw : wV w) (hp : p < 2) : ∀ (i k : Nat), k < 15488 → svT w st p i k = svT w st' p i k
  | 0, _, _ => rfl
  | i + 1, k, hk => by
    unfold svT
    split
    · next hc => rw [byR_c (fun j hj => svT_s h hw hp i j hj) hw hk hc, byR_s h hk, svB_c (fun j hj => tbR_s h hw (i + 1) j hj) hw hk hc hp]
    · rfl
theorem svK_s {w st st' : Nat → Int} {p k : Nat} (h : ∀ j, j < 30976 → st j = st' j) (hw : wV w) (hp : p < 2) (hk : k < 15488) (hc : cbR k = true) : ∀ (i : Nat), svK w st p k i = svK w st' p k i
  | 0 => rfl
  | i + 1 => by
    show (if byR (svT w st p i) w st k p (-1) < svB (tbR w st p (-1) (i + 1)) w p k then (1 : Int) else 0) = (if byR (svT w st' p i) w st' k p (-1) < svB (tbR w st' p (-1) (i + 1)) w p k then (1 : Int) else 0)
    rw [byR_c (fun j hj => svT_s h hw hp i j hj) hw hk hc, byR_s h hk, svB_c (fun j hj => tbR_s h hw (i + 1) j hj) hw hk hc hp]
/-- four rows are set -/
def tab4 (S : Nat → Nat → Int) (f g q l : Nat → Int) : Nat → Nat → Int := fun h k => if h = 8 then f k else if h = 9 then g k else if h = 10 then q k else if h = 11 then l k else S h k
theorem tab4_at (S : Nat → Nat → Int) (f g q l : Nat → Int) (h k : Nat) : tab4 S f g q l h k = if h = 8 then f k else if h = 9 then g k else if h = 10 then q k else if h = 11 then l k else S h k := rfl
theorem tab4_8 (S : Nat → Nat → Int) (f g q l x : Nat → Int) (a b : Int) : sx (tab4 S f g q l) x a b 8 = f := rfl
theorem tab4_9 (S : Nat → Nat → Int) (f g q l x : Nat → Int) (a b : Int) : sx (tab4 S f g q l) x a b 9 = g := rfl
theorem tab4_10 (S : Nat → Nat → Int) (f g q l x : Nat → Int) (a b : Int) : sx (tab4 S f g q l) x a b 10 = q := rfl
theorem tab4_11 (S : Nat → Nat → Int) (f g q l x : Nat → Int) (a b : Int) : sx (tab4 S f g q l) x a b 11 = l := rfl
theorem tab4_1 (S : Nat → Nat → Int) (f g q l x : Nat → Int) (a b : Int) : sx (tab4 S f g q l) x a b 1 = S 1 := rfl
theorem tab4_7 (S : Nat → Nat → Int) (f g q l x : Nat → Int) (a b : Int) : sx (tab4 S f g q l) x a b 7 = S 7 := rfl
theorem tab4_u8 (S : Nat → Nat → Int) (f g q l x : Nat → Int) (a b v : Int) (j : Nat) : mm_up (sx (tab4 S f g q l) x a b) 8 j v = sx (tab4 S (ru f j v) g q l) x a b := by
  funext h k
  grind [up_eq, sx_at, tab4_at, ru_at]
theorem tab4_u9 (S : Nat → Nat → Int) (f g q l x : Nat → Int) (a b v : Int) (j : Nat) : mm_up (sx (tab4 S f g q l) x a b) 9 j v = sx (tab4 S f (ru g j v) q l) x a b := by
  funext h k
  grind [up_eq, sx_at, tab4_at, ru_at]
theorem tab4_u10 (S : Nat → Nat → Int) (f g q l x : Nat → Int) (a b v : Int) (j : Nat) : mm_up (sx (tab4 S f g q l) x a b) 10 j v = sx (tab4 S f g (ru q j v) l) x a b := by
  funext h k
  grind [up_eq, sx_at, tab4_at, ru_at]
theorem tab4_u11 (S : Nat → Nat → Int) (f g q l x : Nat → Int) (a b v : Int) (j : Nat) : mm_up (sx (tab4 S f g q l) x a b) 11 j v = sx (tab4 S f g q (ru l j v)) x a b := by
  funext h k
  grind [up_eq, sx_at, tab4_at, ru_at]
theorem tab4_id (S : Nat → Nat → Int) : sx (tab4 S (S 8) (S 9) (S 10) (S 11)) (S 6) (S 0 17) (S 0 18) = S := by
  funext h k
  grind [sx_at, tab4_at]
theorem coS.tab4 {S T : Nat → Nat → Int} (h : coS S T) (f g q l : Nat → Int) : coS S (tab4 T f g q l) := by
  refine ⟨fun c d hab hn => ?_, ?_, ?_⟩
  · have qq := core_q hab
    rw [tab4_at, if_neg qq.2.2.1, if_neg qq.2.2.2.1, if_neg qq.2.2.2.2.2.1, if_neg qq.2.2.2.2.2.2.1]
    exact h.1 c d hab hn
  · have hg := h.2.1
    unfold gdF at hg ⊢
    have ef : fcS (_root_.id (fun h k => if h = 8 then f k else if h = 9 then g k else if h = 10 then q k else if h = 11 then l k else T h k)) = fcS T := by
      funext k
      simp only [id, fcS]
      grind
    exact ⟨by have := hg.1; rw [← ef] at this; exact this, hg.2.1, hg.2.2⟩
  · exact h.2.2
def svTh (w x : Nat → Int) (p n what : Int) : Int := if rfR w x p n = 0 ∧ ¬ (0 ≤ what ∧ what ≤ 2) then 4 else rfR w x p n
def zX9_saves : zz_Sp := fun as M Q X => match as with
  | [.inr (.inr (some h_)), .inl p, .inl n, .inl what] => bif Nat.beq h_ 0 && Nat.beq M.1.1 1 then (R32 p ∧ R32 n ∧ R32 what ∧ mI M.2.1 ∧ (∀ S_ : Nat → Nat → Int, svTh (M.2.1 1) (nwX M.2.1) p n what ≠ 0 → coQ (mm_up M.2.1 0 0 (svTh (M.2.1 1) (nwX M.2.1) p n what)) S_ → Q (some (vi 0)) (zm S_ M.2.2.1)) ∧ (∀ S_ : Nat → Nat → Int, svTh (M.2.1 1) (nwX M.2.1) p n what = 0 → coQ (mm_up M.2.1 0 0 0) S_ → (what = 0 → Q (some (vi (svT (M.2.1 1) (stT (M.2.1 1)) p.toNat n.toNat (nuR (nwX M.2.1)).toNat))) (zm S_ M.2.2.1)) ∧ (what = 1 → Q (some (vi (svK (M.2.1 1) (stT (M.2.1 1)) p.toNat (nuR (nwX M.2.1)).toNat n.toNat))) (zm S_ M.2.2.1)) ∧ (what = 2 → Q (some (vi (svT (M.2.1 1) (stT (M.2.1 1)) p.toNat n.toNat (nuR (nwX M.2.1)).toNat - tbR (M.2.1 1) (stT (M.2.1 1)) p (-1) n.toNat (nuR (nwX M.2.1)).toNat))) (zm S_ M.2.2.1)))) else False
  | _ => False

def zpX9_saves : zz_P := [(0, zo_ald 1 0), (1, zo_ald 2 0), (2, zo_ild 3 1), (3, zo_ild 4 2), (4, zo_callv 7 3 8 zX9_refuses), (7, zo_puti 10 8 0), (10, zo_ald 11 0), (11, zo_get 14 8 0 0), (14, zo_ifne false 17 31), (17, zo_ild 18 3), (18, zo_c 19 (vi 0)), (19, zo_c 20 (vi 2)), (20, zo_calls 23 3 zX9_isIn), (23, zo_zifne 26 31), (26, zo_ald 27 0), (27, zo_c 28 (vi 4)), (28, zo_puti 31 8 0), (31, zo_ald 32 0), (32, zo_get 35 8 0 0), (35, zo_ifle false 38 40), (38, zo_c 39 (vi 0)), (39, zo_iret), (40, zo_ald 41 0), (41, zo_callv 44 1 8 zX9_allStyles), (44, zo_ald 45 0), (45, zo_callv 48 1 8 zX9_atNow), (48, zo_ist 50 4), (50, zo_c 51 (vi 0)), (51, zo_ist 53 5), (53, zo_c 54 (vi 0)), (54, zo_ist 56 6), (56, zo_ild 58 6), (58, zo_c 61 (vi 15488)), (61, zo_cge false true 64 86), (64, zo_ald 65 0), (65, zo_get 68 8 2 20), (68, zo_ild 70 6), (70, zo_c 71 (vi 0)), (71, zo_iasd 72), (72, zo_ald 73 0), (73, zo_get 76 8 2 22), (76, zo_ild 78 6), (78, zo_c 79 (vi 0)), (79, zo_iasd 80), (80, zo_inc 83 6 1), (83, zo_goto 56), (86, zo_c 87 (vi 0)), (87, zo_ist 89 6), (89, zo_ild 91 6), (91, zo_ild 92 2), (92, zo_cge false false 95 314), (95, zo_c 96 (vi 0)), (96, zo_ist 98 7), (98, zo_ild 100 7), (100, zo_c 103 (vi 15488)), (103, zo_cge false true 106 140), (106, zo_ald 107 0), (107, zo_get 110 8 2 21), (110, zo_ild 112 7), (112, zo_ald 113 0), (113, zo_get 116 8 2 20), (116, zo_ild 118 7), (118, zo_iald 119), (119, zo_iasd 120), (120, zo_ald 121 0), (121, zo_get 124 8 2 23), (124, zo_ild 126 7), (126, zo_ald 127 0), (127, zo_get 130 8 2 22), (130, zo_ild 132 7), (132, zo_iald 133), (133, zo_iasd 134), (134, zo_inc 137 7 1), (137, zo_goto 98), (140, zo_c 141 (vi 0)), (141, zo_ist 143 7), (143, zo_ild 145 7), (145, zo_c 148 (vi 15488)), (148, zo_cge false true 151 188), (151, zo_ald 152 0), (152, zo_get 155 8 2 22), (155, zo_ild 157 7), (157, zo_ild 159 7), (159, zo_calls 162 1 zX9_canBe), (162, zo_zifeq 165 180), (165, zo_ald 166 0), (166, zo_ild 168 7), (168, zo_ild 169 1), (169, zo_c 170 (vi (-1))), (170, zo_ald 171 0), (171, zo_get 174 8 2 23), (174, zo_callv 177 5 8 zX9_byStyles), (177, zo_goto 181), (180, zo_c 181 (vi 0)), (181, zo_iasd 182), (182, zo_inc 185 7 1), (185, zo_goto 143), (188, zo_c 189 (vi 0)), (189, zo_ist 191 7), (191, zo_ild 193 7), (193, zo_c 196 (vi 15488)), (196, zo_cge false true 199 308), (199, zo_ild 201 7), (201, zo_calls 204 1 zX9_canBe), (204, zo_zifne 207 210), (207, zo_goto 302), (210, zo_ald 211 0), (211, zo_ild 213 7), (213, zo_ild 214 1), (214, zo_c 215 (vi (-1))), (215, zo_ald 216 0), (216, zo_get 219 8 2 21), (219, zo_callv 222 5 8 zX9_byStyles), (222, zo_ist 224 8), (224, zo_ald 225 0), (225, zo_ild 227 7), (227, zo_callv 230 2 8 zX9_unnumber), (230, zo_ald 231 0), (231, zo_ild 232 1), (232, zo_callv 235 2 8 zX9_takesBisque), (235, zo_ald 236 0), (236, zo_get 239 8 0 17), (239, zo_ild 240 1), (240, zo_cne false false 243 249), (243, zo_c 246 (vi 1000000000)), (246, zo_goto 258), (249, zo_ald 250 0), (250, zo_get 253 8 2 22), (253, zo_ald 254 0), (254, zo_callv 257 1 8 zX9_number), (257, zo_iald 258), (258, zo_ist 260 9), (260, zo_ald 261 0), (261, zo_get 264 8 2 20), (264, zo_ild 266 7), (266, zo_ild 268 9), (268, zo_ild 270 8), (270, zo_cle false false 273 278), (273, zo_ild 275 9), (275, zo_goto 280), (278, zo_ild 280 8), (280, zo_iasd 281), (281, zo_ild 283 7), (283, zo_ild 285 4), (285, zo_cne false false 288 302), (288, zo_ild 290 9), (290, zo_ild 292 8), (292, zo_cle false false 295 299), (295, zo_c 296 (vi 1)), (296, zo_goto 300), (299, zo_c 300 (vi 0)), (300, zo_ist 302 5), (302, zo_inc 305 7 1), (305, zo_goto 191), (308, zo_inc 311 6 1), (311, zo_goto 89), (314, zo_ild 315 3), (315, zo_ifne false 318 328), (318, zo_ald 319 0), (319, zo_get 322 8 2 20), (322, zo_ild 324 4), (324, zo_iald 325), (325, zo_goto 353), (328, zo_ild 329 3), (329, zo_c 330 (vi 1)), (330, zo_cne false true 333 338), (333, zo_ild 335 5), (335, zo_goto 353), (338, zo_ald 339 0), (339, zo_get 342 8 2 20), (342, zo_ild 344 4), (344, zo_iald 345), (345, zo_ald 346 0), (346, zo_get 349 8 2 22), (349, zo_ild 351 4), (351, zo_iald 352), (352, zo_isub 353), (353, zo_iret)]
theorem ztX9_saves {C : mm_C} (G : mm_G C RX9 cX9_saves (some .int) 10 (mm_rm 36 0 0)) (hnh : mm_nh C) : zz_OKs C zpX9_saves :=
  ⟨zz_of (ok_aload_n G dX9_saves_0 rfl rfl) (z_ald _ _),
   zz_of (ok_aload_n G dX9_saves_1 rfl rfl) (z_ald _ _),
   zz_of (ok_iload_n G dX9_saves_2 rfl rfl) (z_ild _ _),
   zz_of (ok_iload_n G dX9_saves_3 rfl rfl) (z_ild _ _),
   zz_of (ok_callv G hnh (zmX9_refuses _ G.hst) rfl rfl (RX9, TX9, 32) rfl q2106 q2108 qs66 q93 q2109 (by decide +kernel) ⟨by decide, by decide⟩ dX9_saves_4 rfl) (z_callv _ _ _ _),
   zz_of (ok_puti G (nx := 10) (idx := 67) (ci := 8) (k := 0) (RX9, TX9, 32) rfl (by decide) rfl (mm_pw G (ci := 8) (k := 0) (RX9, TX9, 32) rfl (by decide) rfl q1805 dX9_saves_7) rfl) (z_puti _ _ _),
   zz_of (ok_aload_n G dX9_saves_10 rfl rfl) (z_ald _ _),
   zz_of (ok_get G (nx := 14) (ci := 8) (kd := 0) (k := 0) (RX9, TX9, 32) rfl (by decide) rfl q1805 dX9_saves_11 rfl) (z_get _ _ _ _),
   zz_of (ok_ifne G dX9_saves_14 rfl rfl) (z_ifne _ _ _),
   zz_of (ok_iload_n G dX9_saves_17 rfl rfl) (z_ild _ _),
   zz_of (ok_iconst G (v := 0) dX9_saves_18 (by decide) rfl) (z_cn 19 0),
   zz_of (ok_iconst G (v := 2) dX9_saves_19 (by decide) rfl) (z_cn 20 2),
   zz_of (ok_calls G hnh (zmX9_isIn _ G.hst) rfl rfl q1914 q1915 q93 q1916 (by decide +kernel) ⟨by decide, by decide⟩ dX9_saves_20 rfl) (z_calls _ _ _),
   zz_of (ok_ifne G dX9_saves_23 rfl rfl) (z_zifne _ _),
   zz_of (ok_aload_n G dX9_saves_26 rfl rfl) (z_ald _ _),
   zz_of (ok_iconst G (v := 4) dX9_saves_27 (by decide) rfl) (z_cn 28 4),
   zz_of (ok_puti G (nx := 31) (idx := 67) (ci := 8) (k := 0) (RX9, TX9, 32) rfl (by decide) rfl (mm_pw G (ci := 8) (k := 0) (RX9, TX9, 32) rfl (by decide) rfl q1805 dX9_saves_28) rfl) (z_puti _ _ _),
   zz_of (ok_aload_n G dX9_saves_31 rfl rfl) (z_ald _ _),
   zz_of (ok_get G (nx := 35) (ci := 8) (kd := 0) (k := 0) (RX9, TX9, 32) rfl (by decide) rfl q1805 dX9_saves_32 rfl) (z_get _ _ _ _),
   zz_of (ok_ifle G dX9_saves_35 rfl rfl) (z_ifle _ _ _),
   zz_of (ok_iconst G (v := 0) dX9_saves_38 (by decide) rfl) (z_cn 39 0),
   zz_of (ok_iret G dX9_saves_39) (z_iret),
   zz_of (ok_aload_n G dX9_saves_40 rfl rfl) (z_ald _ _),
   zz_of (ok_callv G hnh (zmX9_allStyles _ G.hst) rfl rfl (RX9, TX9, 32) rfl q2110 q2112 qs67 q93 q2113 (by decide +kernel) ⟨by decide, by decide⟩ dX9_saves_41 rfl) (z_callv _ _ _ _),
   zz_of (ok_aload_n G dX9_saves_44 rfl rfl) (z_ald _ _),
   zz_of (ok_callv G hnh (zmX9_atNow _ G.hst) rfl rfl (RX9, TX9, 32) rfl q2139 q2141 qs73 q93 q2142 (by decide +kernel) ⟨by decide, by decide⟩ dX9_saves_45 rfl) (z_callv _ _ _ _),
   zz_of (ok_istore G dX9_saves_48 rfl (by decide)) (z_ist _ _),
   zz_of (ok_iconst G (v := 0) dX9_saves_50 (by decide) rfl) (z_cn 51 0),
   zz_of (ok_istore G dX9_saves_51 rfl (by decide)) (z_ist _ _),
   zz_of (ok_iconst G (v := 0) dX9_saves_53 (by decide) rfl) (z_cn 54 0),
   zz_of (ok_istore G dX9_saves_54 rfl (by decide)) (z_ist _ _),
   zz_of (ok_iload G dX9_saves_56 rfl) (z_ild _ _),
   zz_of (ok_sipush G (v := 15488) dX9_saves_58 (by decide) rfl) (z_cn 61 15488),
   zz_of (ok_cge G dX9_saves_61 rfl rfl) (z_cge _ _ _ _),
   zz_of (ok_aload_n G dX9_saves_64 rfl rfl) (z_ald _ _),
   zz_of (ok_get G (nx := 68) (ci := 8) (kd := 2) (k := 20) (RX9, TX9, 32) rfl (by decide) rfl q1825 dX9_saves_65 rfl) (z_get _ _ _ _),
   zz_of (ok_iload G dX9_saves_68 rfl) (z_ild _ _),
   zz_of (ok_iconst G (v := 0) dX9_saves_70 (by decide) rfl) (z_cn 71 0),
   zz_of (ok_iast G dX9_saves_71 rfl) (z_iasd _),
   zz_of (ok_aload_n G dX9_saves_72 rfl rfl) (z_ald _ _),
   zz_of (ok_get G (nx := 76) (ci := 8) (kd := 2) (k := 22) (RX9, TX9, 32) rfl (by decide) rfl q1827 dX9_saves_73 rfl) (z_get _ _ _ _),
   zz_of (ok_iload G dX9_saves_76 rfl) (z_ild _ _),
   zz_of (ok_iconst G (v := 0) dX9_saves_78 (by decide) rfl) (z_cn 79 0),
   zz_of (ok_iast G dX9_saves_79 rfl) (z_iasd _),
   zz_of (ok_iinc G (v := 1) dX9_saves_80 (by decide) rfl (by decide)) (z_incn 83 6 1),
   zz_of (ok_goto G dX9_saves_83 rfl) (z_goto _),
   zz_of (ok_iconst G (v := 0) dX9_saves_86 (by decide) rfl) (z_cn 87 0),
   zz_of (ok_istore G dX9_saves_87 rfl (by decide)) (z_ist _ _),
   zz_of (ok_iload G dX9_saves_89 rfl) (z_ild _ _),
   zz_of (ok_iload_n G dX9_saves_91 rfl rfl) (z_ild _ _),
   zz_of (ok_cge G dX9_saves_92 rfl rfl) (z_cge _ _ _ _),
   zz_of (ok_iconst G (v := 0) dX9_saves_95 (by decide) rfl) (z_cn 96 0),
   zz_of (ok_istore G dX9_saves_96 rfl (by decide)) (z_ist _ _),
   zz_of (ok_iload G dX9_saves_98 rfl) (z_ild _ _),
   zz_of (ok_sipush G (v := 15488) dX9_saves_100 (by decide) rfl) (z_cn 103 15488),
   zz_of (ok_cge G dX9_saves_103 rfl rfl) (z_cge _ _ _ _),
   zz_of (ok_aload_n G dX9_saves_106 rfl rfl) (z_ald _ _),
   zz_of (ok_get G (nx := 110) (ci := 8) (kd := 2) (k := 21) (RX9, TX9, 32) rfl (by decide) rfl q1826 dX9_saves_107 rfl) (z_get _ _ _ _),
   zz_of (ok_iload G dX9_saves_110 rfl) (z_ild _ _),
   zz_of (ok_aload_n G dX9_saves_112 rfl rfl) (z_ald _ _),
   zz_of (ok_get G (nx := 116) (ci := 8) (kd := 2) (k := 20) (RX9, TX9, 32) rfl (by decide) rfl q1825 dX9_saves_113 rfl) (z_get _ _ _ _),
   zz_of (ok_iload G dX9_saves_116 rfl) (z_ild _ _),
   zz_of (ok_iald G dX9_saves_118 rfl) (z_iald _),
   zz_of (ok_iast G dX9_saves_119 rfl) (z_iasd _),
   zz_of (ok_aload_n G dX9_saves_120 rfl rfl) (z_ald _ _),
   zz_of (ok_get G (nx := 124) (ci := 8) (kd := 2) (k := 23) (RX9, TX9, 32) rfl (by decide) rfl q1828 dX9_saves_121 rfl) (z_get _ _ _ _),
   zz_of (ok_iload G dX9_saves_124 rfl) (z_ild _ _),
   zz_of (ok_aload_n G dX9_saves_126 rfl rfl) (z_ald _ _),
   zz_of (ok_get G (nx := 130) (ci := 8) (kd := 2) (k := 22) (RX9, TX9, 32) rfl (by decide) rfl q1827 dX9_saves_127 rfl) (z_get _ _ _ _),
   zz_of (ok_iload G dX9_saves_130 rfl) (z_ild _ _),
   zz_of (ok_iald G dX9_saves_132 rfl) (z_iald _),
   zz_of (ok_iast G dX9_saves_133 rfl) (z_iasd _),
   zz_of (ok_iinc G (v := 1) dX9_saves_134 (by decide) rfl (by decide)) (z_incn 137 7 1),
   zz_of (ok_goto G dX9_saves_137 rfl) (z_goto _),
   zz_of (ok_iconst G (v := 0) dX9_saves_140 (by decide) rfl) (z_cn 141 0),
   zz_of (ok_istore G dX9_saves_141 rfl (by decide)) (z_ist _ _),
   zz_of (ok_iload G dX9_saves_143 rfl) (z_ild _ _),
   zz_of (ok_sipush G (v := 15488) dX9_saves_145 (by decide) rfl) (z_cn 148 15488),
   zz_of (ok_cge G dX9_saves_148 rfl rfl) (z_cge _ _ _ _),
   zz_of (ok_aload_n G dX9_saves_151 rfl rfl) (z_ald _ _),
   zz_of (ok_get G (nx := 155) (ci := 8) (kd := 2) (k := 22) (RX9, TX9, 32) rfl (by decide) rfl q1827 dX9_saves_152 rfl) (z_get _ _ _ _),
   zz_of (ok_iload G dX9_saves_155 rfl) (z_ild _ _),
   zz_of (ok_iload G dX9_saves_157 rfl) (z_ild _ _),
   zz_of (ok_calls G hnh (zmX9_canBe _ G.hst) rfl rfl q2122 q2123 q93 q2124 (by decide +kernel) ⟨by decide, by decide⟩ dX9_saves_159 rfl) (z_calls _ _ _),
   zz_of (ok_ifeq G dX9_saves_162 rfl rfl) (z_zifeq _ _),
   zz_of (ok_aload_n G dX9_saves_165 rfl rfl) (z_ald _ _),
   zz_of (ok_iload G dX9_saves_166 rfl) (z_ild _ _),
   zz_of (ok_iload_n G dX9_saves_168 rfl rfl) (z_ild _ _),
   zz_of (ok_iconst G (v := (zI (-1))) dX9_saves_169 (by decide) rfl) (z_cz 170 (-1)),
   zz_of (ok_aload_n G dX9_saves_170 rfl rfl) (z_ald _ _),
   zz_of (ok_get G (nx := 174) (ci := 8) (kd := 2) (k := 23) (RX9, TX9, 32) rfl (by decide) rfl q1828 dX9_saves_171 rfl) (z_get _ _ _ _),
   zz_of (ok_callv G hnh (zmX9_byStyles _ G.hst) rfl rfl (RX9, TX9, 32) rfl q2125 q2127 qs70 q93 q2128 (by decide +kernel) ⟨by decide, by decide⟩ dX9_saves_174 rfl) (z_callv _ _ _ _),
   zz_of (ok_goto G dX9_saves_177 rfl) (z_goto _),
   zz_of (ok_iconst G (v := 0) dX9_saves_180 (by decide) rfl) (z_cn 181 0),
   zz_of (ok_iast G dX9_saves_181 rfl) (z_iasd _),
   zz_of (ok_iinc G (v := 1) dX9_saves_182 (by decide) rfl (by decide)) (z_incn 185 7 1),
   zz_of (ok_goto G dX9_saves_185 rfl) (z_goto _),
   zz_of (ok_iconst G (v := 0) dX9_saves_188 (by decide) rfl) (z_cn 189 0),
   zz_of (ok_istore G dX9_saves_189 rfl (by decide)) (z_ist _ _),
   zz_of (ok_iload G dX9_saves_191 rfl) (z_ild _ _),
   zz_of (ok_sipush G (v := 15488) dX9_saves_193 (by decide) rfl) (z_cn 196 15488),
   zz_of (ok_cge G dX9_saves_196 rfl rfl) (z_cge _ _ _ _),
   zz_of (ok_iload G dX9_saves_199 rfl) (z_ild _ _),
   zz_of (ok_calls G hnh (zmX9_canBe _ G.hst) rfl rfl q2122 q2123 q93 q2124 (by decide +kernel) ⟨by decide, by decide⟩ dX9_saves_201 rfl) (z_calls _ _ _),
   zz_of (ok_ifne G dX9_saves_204 rfl rfl) (z_zifne _ _),
   zz_of (ok_goto G dX9_saves_207 rfl) (z_goto _),
   zz_of (ok_aload_n G dX9_saves_210 rfl rfl) (z_ald _ _),
   zz_of (ok_iload G dX9_saves_211 rfl) (z_ild _ _),
   zz_of (ok_iload_n G dX9_saves_213 rfl rfl) (z_ild _ _),
   zz_of (ok_iconst G (v := (zI (-1))) dX9_saves_214 (by decide) rfl) (z_cz 215 (-1)),
   zz_of (ok_aload_n G dX9_saves_215 rfl rfl) (z_ald _ _),
   zz_of (ok_get G (nx := 219) (ci := 8) (kd := 2) (k := 21) (RX9, TX9, 32) rfl (by decide) rfl q1826 dX9_saves_216 rfl) (z_get _ _ _ _),
   zz_of (ok_callv G hnh (zmX9_byStyles _ G.hst) rfl rfl (RX9, TX9, 32) rfl q2125 q2127 qs70 q93 q2128 (by decide +kernel) ⟨by decide, by decide⟩ dX9_saves_219 rfl) (z_callv _ _ _ _),
   zz_of (ok_istore G dX9_saves_222 rfl (by decide)) (z_ist _ _),
   zz_of (ok_aload_n G dX9_saves_224 rfl rfl) (z_ald _ _),
   zz_of (ok_iload G dX9_saves_225 rfl) (z_ild _ _),
   zz_of (ok_callv G hnh (zmX9_unnumber _ G.hst) rfl rfl (RX9, TX9, 32) rfl q2114 q2116 qs68 q93 q2117 (by decide +kernel) ⟨by decide, by decide⟩ dX9_saves_227 rfl) (z_callv _ _ _ _),
   zz_of (ok_aload_n G dX9_saves_230 rfl rfl) (z_ald _ _),
   zz_of (ok_iload_n G dX9_saves_231 rfl rfl) (z_ild _ _),
   zz_of (ok_callv G hnh (zmX9_takesBisque _ G.hst) rfl rfl (RX9, TX9, 32) rfl q2098 q2100 qs65 q93 q2101 (by decide +kernel) ⟨by decide, by decide⟩ dX9_saves_232 rfl) (z_callv _ _ _ _),
   zz_of (ok_aload_n G dX9_saves_235 rfl rfl) (z_ald _ _),
   zz_of (ok_get G (nx := 239) (ci := 8) (kd := 0) (k := 17) (RX9, TX9, 32) rfl (by decide) rfl q1822 dX9_saves_236 rfl) (z_get _ _ _ _),
   zz_of (ok_iload_n G dX9_saves_239 rfl rfl) (z_ild _ _),
   zz_of (ok_cne G dX9_saves_240 rfl rfl) (z_cne _ _ _ _),
   zz_of (ok_ldcw G (v := 1000000000) q2151 dX9_saves_243 rfl) (z_cn 246 1000000000),
   zz_of (ok_goto G dX9_saves_246 rfl) (z_goto _),
   zz_of (ok_aload_n G dX9_saves_249 rfl rfl) (z_ald _ _),
   zz_of (ok_get G (nx := 253) (ci := 8) (kd := 2) (k := 22) (RX9, TX9, 32) rfl (by decide) rfl q1827 dX9_saves_250 rfl) (z_get _ _ _ _),
   zz_of (ok_aload_n G dX9_saves_253 rfl rfl) (z_ald _ _),
   zz_of (ok_callv G hnh (zmX9_number _ G.hst) rfl rfl (RX9, TX9, 32) rfl q2133 q2135 qs72 q93 q2136 (by decide +kernel) ⟨by decide, by decide⟩ dX9_saves_254 rfl) (z_callv _ _ _ _),
   zz_of (ok_iald G dX9_saves_257 rfl) (z_iald _),
   zz_of (ok_istore G dX9_saves_258 rfl (by decide)) (z_ist _ _),
   zz_of (ok_aload_n G dX9_saves_260 rfl rfl) (z_ald _ _),
   zz_of (ok_get G (nx := 264) (ci := 8) (kd := 2) (k := 20) (RX9, TX9, 32) rfl (by decide) rfl q1825 dX9_saves_261 rfl) (z_get _ _ _ _),
   zz_of (ok_iload G dX9_saves_264 rfl) (z_ild _ _),
   zz_of (ok_iload G dX9_saves_266 rfl) (z_ild _ _),
   zz_of (ok_iload G dX9_saves_268 rfl) (z_ild _ _),
   zz_of (ok_cle G dX9_saves_270 rfl rfl) (z_cle _ _ _ _),
   zz_of (ok_iload G dX9_saves_273 rfl) (z_ild _ _),
   zz_of (ok_goto G dX9_saves_275 rfl) (z_goto _),
   zz_of (ok_iload G dX9_saves_278 rfl) (z_ild _ _),
   zz_of (ok_iast G dX9_saves_280 rfl) (z_iasd _),
   zz_of (ok_iload G dX9_saves_281 rfl) (z_ild _ _),
   zz_of (ok_iload G dX9_saves_283 rfl) (z_ild _ _),
   zz_of (ok_cne G dX9_saves_285 rfl rfl) (z_cne _ _ _ _),
   zz_of (ok_iload G dX9_saves_288 rfl) (z_ild _ _),
   zz_of (ok_iload G dX9_saves_290 rfl) (z_ild _ _),
   zz_of (ok_cle G dX9_saves_292 rfl rfl) (z_cle _ _ _ _),
   zz_of (ok_iconst G (v := 1) dX9_saves_295 (by decide) rfl) (z_cn 296 1),
   zz_of (ok_goto G dX9_saves_296 rfl) (z_goto _),
   zz_of (ok_iconst G (v := 0) dX9_saves_299 (by decide) rfl) (z_cn 300 0),
   zz_of (ok_istore G dX9_saves_300 rfl (by decide)) (z_ist _ _),
   zz_of (ok_iinc G (v := 1) dX9_saves_302 (by decide) rfl (by decide)) (z_incn 305 7 1),
   zz_of (ok_goto G dX9_saves_305 rfl) (z_goto _),
   zz_of (ok_iinc G (v := 1) dX9_saves_308 (by decide) rfl (by decide)) (z_incn 311 6 1),
   zz_of (ok_goto G dX9_saves_311 rfl) (z_goto _),
   zz_of (ok_iload_n G dX9_saves_314 rfl rfl) (z_ild _ _),
   zz_of (ok_ifne G dX9_saves_315 rfl rfl) (z_ifne _ _ _),
   zz_of (ok_aload_n G dX9_saves_318 rfl rfl) (z_ald _ _),
   zz_of (ok_get G (nx := 322) (ci := 8) (kd := 2) (k := 20) (RX9, TX9, 32) rfl (by decide) rfl q1825 dX9_saves_319 rfl) (z_get _ _ _ _),
   zz_of (ok_iload G dX9_saves_322 rfl) (z_ild _ _),
   zz_of (ok_iald G dX9_saves_324 rfl) (z_iald _),
   zz_of (ok_goto G dX9_saves_325 rfl) (z_goto _),
   zz_of (ok_iload_n G dX9_saves_328 rfl rfl) (z_ild _ _),
   zz_of (ok_iconst G (v := 1) dX9_saves_329 (by decide) rfl) (z_cn 330 1),
   zz_of (ok_cne G dX9_saves_330 rfl rfl) (z_cne _ _ _ _),
   zz_of (ok_iload G dX9_saves_333 rfl) (z_ild _ _),
   zz_of (ok_goto G dX9_saves_335 rfl) (z_goto _),
   zz_of (ok_aload_n G dX9_saves_338 rfl rfl) (z_ald _ _),
   zz_of (ok_get G (nx := 342) (ci := 8) (kd := 2) (k := 20) (RX9, TX9, 32) rfl (by decide) rfl q1825 dX9_saves_339 rfl) (z_get _ _ _ _),
   zz_of (ok_iload G dX9_saves_342 rfl) (z_ild _ _),
   zz_of (ok_iald G dX9_saves_344 rfl) (z_iald _),
   zz_of (ok_aload_n G dX9_saves_345 rfl rfl) (z_ald _ _),
   zz_of (ok_get G (nx := 349) (ci := 8) (kd := 2) (k := 22) (RX9, TX9, 32) rfl (by decide) rfl q1827 dX9_saves_346 rfl) (z_get _ _ _ _),
   zz_of (ok_iload G dX9_saves_349 rfl) (z_ild _ _),
   zz_of (ok_iald G dX9_saves_351 rfl) (z_iald _),
   zz_of (ok_isub G dX9_saves_352 rfl) (z_isub _),
   zz_of (ok_iret G dX9_saves_353) (z_iret), trivial⟩

theorem zwX9_saves_0 {Q : Option zv → zz_M → Prop} {X : Nat → zz_M → Prop} {S L : Nat → Nat → Int} {p : Int} {n : Int} {what : Int} (h : (R32 p ∧ R32 n ∧ bx (tkS S 6) ∧ (-100 ≤ S 1 194 ∧ S 1 194 ≤ 100) ∧ (R32 (rfR (S 1) (tkS S 6) p n) ∧ ((¬ (rfR (S 1) (tkS S 6) p n) = 0 → zz_J zpX9_saves (zz_ret Q X 0 0) 31 [some (vr 0), some (vi p), some (vi n), some (vi what), none, none, none, none, none, none] [] (zm (mm_up (tkS S) 0 0 (rfR (S 1) (tkS S 6) p n)) L) (0, 0)) ∧ ((rfR (S 1) (tkS S 6) p n) = 0 → (R32 what ∧ R32 (0 : Int) ∧ R32 (2 : Int) ∧ (((0 : Int) ≤ what ∧ what ≤ (2 : Int)) → (zz_J zpX9_saves (zz_ret Q X 0 0) 31 [some (vr 0), some (vi p), some (vi n), some (vi what), none, none, none, none, none, none] [] (zm (mm_up (tkS S) 0 0 (rfR (S 1) (tkS S 6) p n)) L) (0, 0))) ∧ (¬ ((0 : Int) ≤ what ∧ what ≤ (2 : Int)) → (zz_J zpX9_saves (zz_ret Q X 0 0) 31 [some (vr 0), some (vi p), some (vi n), some (vi what), none, none, none, none, none, none] [] (zm (mm_up (mm_up (tkS S) 0 0 (rfR (S 1) (tkS S 6) p n)) 0 0 4) L) (0, 0))))))))) : zz_J zpX9_saves (zz_ret Q X 0 0) 0 [some (vr 0), some (vi p), some (vi n), some (vi what), none, none, none, none, none, none] [] (zm S L) (0, 0) := zz_J.go [(31, [4, 5, 6, 7, 8, 9]), (56, [7, 8, 9]), (89, [7, 8, 9]), (98, [8, 9]), (143, [8, 9]), (191, [8, 9]), (260, []), (302, [8, 9]), (314, [1, 2, 6, 7, 8, 9])] 400 h
theorem zwX9_saves_31 {Q : Option zv → zz_M → Prop} {X : Nat → zz_M → Prop} {S L : Nat → Nat → Int} {x1 : Int} {x2 : Int} {x3 : Int} (h : R32 (S 0 0) ∧ (((S 0 0) ≤ 0 → (mG (S 1) ∧ (∀ u_1, u_1 < 2 → plG (S 1) u_1) ∧ gdF S ∧ R32 (S 0 10) ∧ xG (S 6) ∧ (∀ S_1 : Nat → Nat → Int, asQ S S_1 → ((bx (tkS S_1 6) ∧ (zz_J zpX9_saves (zz_ret Q X 0 0) 56 [some (vr 0), some (vi x1), some (vi x2), some (vi x3), some (vi (nuR (tkS S_1 6))), some (vi 0), some (vi 0), none, none, none] [] (zm (tkS S_1) L) (0, 0))))))) ∧ (¬ (S 0 0) ≤ 0 → Q (some (vi 0)) (zm S L)))) : zz_J zpX9_saves (zz_ret Q X 0 0) 31 [some (vr 0), some (vi x1), some (vi x2), some (vi x3), none, none, none, none, none, none] [] (zm S L) (0, 0) := zz_J.go [(31, [4, 5, 6, 7, 8, 9]), (56, [7, 8, 9]), (89, [7, 8, 9]), (98, [8, 9]), (143, [8, 9]), (191, [8, 9]), (260, []), (302, [8, 9]), (314, [1, 2, 6, 7, 8, 9])] 400 h
theorem zwX9_saves_56 {Q : Option zv → zz_M → Prop} {X : Nat → zz_M → Prop} {S L : Nat → Nat → Int} {x1 : Int} {x2 : Int} {x3 : Int} {x4 : Int} {x5 : Int} {x6 : Int} (h : R32 x6 ∧ ((15488 ≤ x6 → zz_J zpX9_saves (zz_ret Q X 0 0) 89 [some (vr 0), some (vi x1), some (vi x2), some (vi x3), some (vi x4), some (vi x5), some (vi 0), none, none, none] [] (zm S L) (0, 0)) ∧ (¬ 15488 ≤ x6 → (0 ≤ x6 ∧ x6 < 15488) ∧ ((0 ≤ x6 ∧ x6 < 15488) ∧ (zz_J zpX9_saves (zz_ret Q X 0 0) 56 [some (vr 0), some (vi x1), some (vi x2), some (vi x3), some (vi x4), some (vi x5), some (vi (x6 + 1)), none, none, none] [] (zm (mm_up (mm_up S 8 x6.toNat 0) 10 x6.toNat 0) L) (0, 0)))))) : zz_J zpX9_saves (zz_ret Q X 0 0) 56 [some (vr 0), some (vi x1), some (vi x2), some (vi x3), some (vi x4), some (vi x5), some (vi x6), none, none, none] [] (zm S L) (0, 0) := zz_J.go [(31, [4, 5, 6, 7, 8, 9]), (56, [7, 8, 9]), (89, [7, 8, 9]), (98, [8, 9]), (143, [8, 9]), (191, [8, 9]), (260, []), (302, [8, 9]), (314, [1, 2, 6, 7, 8, 9])] 400 h
theorem zwX9_saves_89 {Q : Option zv → zz_M → Prop} {X : Nat → zz_M → Prop} {S L : Nat → Nat → Int} {x1 : Int} {x2 : Int} {x3 : Int} {x4 : Int} {x5 : Int} {x6 : Int} (h : R32 x6 ∧ (R32 x2 ∧ ((x2 ≤ x6 → zz_J zpX9_saves (zz_ret Q X 0 0) 314 [some (vr 0), none, none, some (vi x3), some (vi x4), some (vi x5), none, none, none, none] [] (zm S L) (0, 0)) ∧ (¬ x2 ≤ x6 → zz_J zpX9_saves (zz_ret Q X 0 0) 98 [some (vr 0), some (vi x1), some (vi x2), some (vi x3), some (vi x4), some (vi x5), some (vi x6), some (vi 0), none, none] [] (zm S L) (0, 0))))) : zz_J zpX9_saves (zz_ret Q X 0 0) 89 [some (vr 0), some (vi x1), some (vi x2), some (vi x3), some (vi x4), some (vi x5), some (vi x6), none, none, none] [] (zm S L) (0, 0) := zz_J.go [(31, [4, 5, 6, 7, 8, 9]), (56, [7, 8, 9]), (89, [7, 8, 9]), (98, [8, 9]), (143, [8, 9]), (191, [8, 9]), (260, []), (302, [8, 9]), (314, [1, 2, 6, 7, 8, 9])] 400 h
theorem zwX9_saves_98 {Q : Option zv → zz_M → Prop} {X : Nat → zz_M → Prop} {S L : Nat → Nat → Int} {x1 : Int} {x2 : Int} {x3 : Int} {x4 : Int} {x5 : Int} {x6 : Int} {x7 : Int} (h : R32 x7 ∧ ((15488 ≤ x7 → zz_J zpX9_saves (zz_ret Q X 0 0) 143 [some (vr 0), some (vi x1), some (vi x2), some (vi x3), some (vi x4), some (vi x5), some (vi x6), some (vi 0), none, none] [] (zm S L) (0, 0)) ∧ (¬ 15488 ≤ x7 → (0 ≤ x7 ∧ x7 < 15488) ∧ ((0 ≤ x7 ∧ x7 < 15488) ∧ ((0 ≤ x7 ∧ x7 < 15488) ∧ ((0 ≤ x7 ∧ x7 < 15488) ∧ (zz_J zpX9_saves (zz_ret Q X 0 0) 98 [some (vr 0), some (vi x1), some (vi x2), some (vi x3), some (vi x4), some (vi x5), some (vi x6), some (vi (x7 + 1)), none, none] [] (zm (mm_up (mm_up S 9 x7.toNat (S 8 x7.toNat)) 11 x7.toNat (S 10 x7.toNat)) L) (0, 0)))))))) : zz_J zpX9_saves (zz_ret Q X 0 0) 98 [some (vr 0), some (vi x1), some (vi x2), some (vi x3), some (vi x4), some (vi x5), some (vi x6), some (vi x7), none, none] [] (zm S L) (0, 0) := zz_J.go [(31, [4, 5, 6, 7, 8, 9]), (56, [7, 8, 9]), (89, [7, 8, 9]), (98, [8, 9]), (143, [8, 9]), (191, [8, 9]), (260, []), (302, [8, 9]), (314, [1, 2, 6, 7, 8, 9])] 400 h
theorem zwX9_saves_143 {Q : Option zv → zz_M → Prop} {X : Nat → zz_M → Prop} {S L : Nat → Nat → Int} {x1 : Int} {x2 : Int} {x3 : Int} {x4 : Int} {x5 : Int} {x6 : Int} {x7 : Int} (h : R32 x7 ∧ ((15488 ≤ x7 → zz_J zpX9_saves (zz_ret Q X 0 0) 191 [some (vr 0), some (vi x1), some (vi x2), some (vi x3), some (vi x4), some (vi x5), some (vi x6), some (vi 0), none, none] [] (zm S L) (0, 0)) ∧ (¬ 15488 ≤ x7 → ((0 ≤ x7 ∧ x7 < 100000000) ∧ (cbR x7 = true → (((0 ≤ x7 ∧ x7 < 15488) ∧ cbR x7 = true ∧ (x1 = 0 ∨ x1 = 1) ∧ ((-1) = -1 ∨ (-1) = 0 ∨ (-1) = 1) ∧ (11 = 8 ∨ 11 = 9 ∨ 11 = 10 ∨ 11 = 11) ∧ tbG (S 11) ∧ mG (S 1) ∧ stG (S 7) ∧ xG (S 6) ∧ (∀ (x_2 : Nat → Int) (a_2 b_2 : Int), xG x_2 → ((0 ≤ x7 ∧ x7 < 15488) ∧ (zz_J zpX9_saves (zz_ret Q X 0 0) 143 [some (vr 0), some (vi x1), some (vi x2), some (vi x3), some (vi x4), some (vi x5), some (vi x6), some (vi (x7 + 1)), none, none] [] (zm (mm_up (sx S x_2 a_2 b_2) 10 x7.toNat (byR (S 11) (S 1) (S 7) x7.toNat x1 (-1))) L) (0, 0))))))) ∧ (cbR x7 = false → ((0 ≤ x7 ∧ x7 < 15488) ∧ (zz_J zpX9_saves (zz_ret Q X 0 0) 143 [some (vr 0), some (vi x1), some (vi x2), some (vi x3), some (vi x4), some (vi x5), some (vi x6), some (vi (x7 + 1)), none, none] [] (zm (mm_up S 10 x7.toNat 0) L) (0, 0)))))))) : zz_J zpX9_saves (zz_ret Q X 0 0) 143 [some (vr 0), some (vi x1), some (vi x2), some (vi x3), some (vi x4), some (vi x5), some (vi x6), some (vi x7), none, none] [] (zm S L) (0, 0) := zz_J.go [(31, [4, 5, 6, 7, 8, 9]), (56, [7, 8, 9]), (89, [7, 8, 9]), (98, [8, 9]), (143, [8, 9]), (191, [8, 9]), (260, []), (302, [8, 9]), (314, [1, 2, 6, 7, 8, 9])] 400 h
theorem zwX9_saves_191 {Q : Option zv → zz_M → Prop} {X : Nat → zz_M → Prop} {S L : Nat → Nat → Int} {x1 : Int} {x2 : Int} {x3 : Int} {x4 : Int} {x5 : Int} {x6 : Int} {x7 : Int} (h : R32 x7 ∧ ((15488 ≤ x7 → zz_J zpX9_saves (zz_ret Q X 0 0) 89 [some (vr 0), some (vi x1), some (vi x2), some (vi x3), some (vi x4), some (vi x5), some (vi (x6 + 1)), none, none, none] [] (zm S L) (0, 0)) ∧ (¬ 15488 ≤ x7 → ((0 ≤ x7 ∧ x7 < 100000000) ∧ (cbR x7 = true → (((0 ≤ x7 ∧ x7 < 15488) ∧ cbR x7 = true ∧ (x1 = 0 ∨ x1 = 1) ∧ ((-1) = -1 ∨ (-1) = 0 ∨ (-1) = 1) ∧ (9 = 8 ∨ 9 = 9 ∨ 9 = 10 ∨ 9 = 11) ∧ tbG (S 9) ∧ mG (S 1) ∧ stG (S 7) ∧ xG (S 6) ∧ (∀ (x_2 : Nat → Int) (a_2 b_2 : Int), xG x_2 → (((0 ≤ x7 ∧ x7 < 100000000) ∧ (((0 ≤ x1 ∧ x1 < 2) ∧ by5 ((sx (sx S x_2 a_2 b_2) (unR ((sx S x_2 a_2 b_2) 1) ((sx S x_2 a_2 b_2) 6) x7) ((sx S x_2 a_2 b_2) 0 17) ((sx S x_2 a_2 b_2) 0 18)) 6) ∧ bw ((sx (sx S x_2 a_2 b_2) (unR ((sx S x_2 a_2 b_2) 1) ((sx S x_2 a_2 b_2) 6) x7) ((sx S x_2 a_2 b_2) 0 17) ((sx S x_2 a_2 b_2) 0 18)) 1) ∧ (R32 ((sx (sx (sx S x_2 a_2 b_2) (unR ((sx S x_2 a_2 b_2) 1) ((sx S x_2 a_2 b_2) 6) x7) ((sx S x_2 a_2 b_2) 0 17) ((sx S x_2 a_2 b_2) 0 18)) (bqR ((sx (sx S x_2 a_2 b_2) (unR ((sx S x_2 a_2 b_2) 1) ((sx S x_2 a_2 b_2) 6) x7) ((sx S x_2 a_2 b_2) 0 17) ((sx S x_2 a_2 b_2) 0 18)) 1) ((sx (sx S x_2 a_2 b_2) (unR ((sx S x_2 a_2 b_2) 1) ((sx S x_2 a_2 b_2) 6) x7) ((sx S x_2 a_2 b_2) 0 17) ((sx S x_2 a_2 b_2) 0 18)) 6) x1.toNat) (if ptw ((sx (sx S x_2 a_2 b_2) (unR ((sx S x_2 a_2 b_2) 1) ((sx S x_2 a_2 b_2) 6) x7) ((sx S x_2 a_2 b_2) 0 17) ((sx S x_2 a_2 b_2) 0 18)) 6) x1.toNat then x1 else -1) x1) 0 17) ∧ (R32 x1 ∧ ((¬ ((sx (sx (sx S x_2 a_2 b_2) (unR ((sx S x_2 a_2 b_2) 1) ((sx S x_2 a_2 b_2) 6) x7) ((sx S x_2 a_2 b_2) 0 17) ((sx S x_2 a_2 b_2) 0 18)) (bqR ((sx (sx S x_2 a_2 b_2) (unR ((sx S x_2 a_2 b_2) 1) ((sx S x_2 a_2 b_2) 6) x7) ((sx S x_2 a_2 b_2) 0 17) ((sx S x_2 a_2 b_2) 0 18)) 1) ((sx (sx S x_2 a_2 b_2) (unR ((sx S x_2 a_2 b_2) 1) ((sx S x_2 a_2 b_2) 6) x7) ((sx S x_2 a_2 b_2) 0 17) ((sx S x_2 a_2 b_2) 0 18)) 6) x1.toNat) (if ptw ((sx (sx S x_2 a_2 b_2) (unR ((sx S x_2 a_2 b_2) 1) ((sx S x_2 a_2 b_2) 6) x7) ((sx S x_2 a_2 b_2) 0 17) ((sx S x_2 a_2 b_2) 0 18)) 6) x1.toNat then x1 else -1) x1) 0 17) = x1 → (bx ((sx (sx (sx S x_2 a_2 b_2) (unR ((sx S x_2 a_2 b_2) 1) ((sx S x_2 a_2 b_2) 6) x7) ((sx S x_2 a_2 b_2) 0 17) ((sx S x_2 a_2 b_2) 0 18)) (bqR ((sx (sx S x_2 a_2 b_2) (unR ((sx S x_2 a_2 b_2) 1) ((sx S x_2 a_2 b_2) 6) x7) ((sx S x_2 a_2 b_2) 0 17) ((sx S x_2 a_2 b_2) 0 18)) 1) ((sx (sx S x_2 a_2 b_2) (unR ((sx S x_2 a_2 b_2) 1) ((sx S x_2 a_2 b_2) 6) x7) ((sx S x_2 a_2 b_2) 0 17) ((sx S x_2 a_2 b_2) 0 18)) 6) x1.toNat) (if ptw ((sx (sx S x_2 a_2 b_2) (unR ((sx S x_2 a_2 b_2) 1) ((sx S x_2 a_2 b_2) 6) x7) ((sx S x_2 a_2 b_2) 0 17) ((sx S x_2 a_2 b_2) 0 18)) 6) x1.toNat then x1 else -1) x1) 6) ∧ ((0 ≤ (nuR ((sx (sx (sx S x_2 a_2 b_2) (unR ((sx S x_2 a_2 b_2) 1) ((sx S x_2 a_2 b_2) 6) x7) ((sx S x_2 a_2 b_2) 0 17) ((sx S x_2 a_2 b_2) 0 18)) (bqR ((sx (sx S x_2 a_2 b_2) (unR ((sx S x_2 a_2 b_2) 1) ((sx S x_2 a_2 b_2) 6) x7) ((sx S x_2 a_2 b_2) 0 17) ((sx S x_2 a_2 b_2) 0 18)) 1) ((sx (sx S x_2 a_2 b_2) (unR ((sx S x_2 a_2 b_2) 1) ((sx S x_2 a_2 b_2) 6) x7) ((sx S x_2 a_2 b_2) 0 17) ((sx S x_2 a_2 b_2) 0 18)) 6) x1.toNat) (if ptw ((sx (sx S x_2 a_2 b_2) (unR ((sx S x_2 a_2 b_2) 1) ((sx S x_2 a_2 b_2) 6) x7) ((sx S x_2 a_2 b_2) 0 17) ((sx S x_2 a_2 b_2) 0 18)) 6) x1.toNat then x1 else -1) x1) 6)) ∧ (nuR ((sx (sx (sx S x_2 a_2 b_2) (unR ((sx S x_2 a_2 b_2) 1) ((sx S x_2 a_2 b_2) 6) x7) ((sx S x_2 a_2 b_2) 0 17) ((sx S x_2 a_2 b_2) 0 18)) (bqR ((sx (sx S x_2 a_2 b_2) (unR ((sx S x_2 a_2 b_2) 1) ((sx S x_2 a_2 b_2) 6) x7) ((sx S x_2 a_2 b_2) 0 17) ((sx S x_2 a_2 b_2) 0 18)) 1) ((sx (sx S x_2 a_2 b_2) (unR ((sx S x_2 a_2 b_2) 1) ((sx S x_2 a_2 b_2) 6) x7) ((sx S x_2 a_2 b_2) 0 17) ((sx S x_2 a_2 b_2) 0 18)) 6) x1.toNat) (if ptw ((sx (sx S x_2 a_2 b_2) (unR ((sx S x_2 a_2 b_2) 1) ((sx S x_2 a_2 b_2) 6) x7) ((sx S x_2 a_2 b_2) 0 17) ((sx S x_2 a_2 b_2) 0 18)) 6) x1.toNat then x1 else -1) x1) 6)) < 15488) ∧ (zz_J zpX9_saves (zz_ret Q X 0 0) 260 [some (vr 0), some (vi x1), some (vi x2), some (vi x3), some (vi x4), some (vi x5), some (vi x6), some (vi x7), some (vi (byR (S 9) (S 1) (S 7) x7.toNat x1 (-1))), some (vi ((sx (sx (sx S x_2 a_2 b_2) (unR ((sx S x_2 a_2 b_2) 1) ((sx S x_2 a_2 b_2) 6) x7) ((sx S x_2 a_2 b_2) 0 17) ((sx S x_2 a_2 b_2) 0 18)) (bqR ((sx (sx S x_2 a_2 b_2) (unR ((sx S x_2 a_2 b_2) 1) ((sx S x_2 a_2 b_2) 6) x7) ((sx S x_2 a_2 b_2) 0 17) ((sx S x_2 a_2 b_2) 0 18)) 1) ((sx (sx S x_2 a_2 b_2) (unR ((sx S x_2 a_2 b_2) 1) ((sx S x_2 a_2 b_2) 6) x7) ((sx S x_2 a_2 b_2) 0 17) ((sx S x_2 a_2 b_2) 0 18)) 6) x1.toNat) (if ptw ((sx (sx S x_2 a_2 b_2) (unR ((sx S x_2 a_2 b_2) 1) ((sx S x_2 a_2 b_2) 6) x7) ((sx S x_2 a_2 b_2) 0 17) ((sx S x_2 a_2 b_2) 0 18)) 6) x1.toNat then x1 else -1) x1) 10 ((nuR ((sx (sx (sx S x_2 a_2 b_2) (unR ((sx S x_2 a_2 b_2) 1) ((sx S x_2 a_2 b_2) 6) x7) ((sx S x_2 a_2 b_2) 0 17) ((sx S x_2 a_2 b_2) 0 18)) (bqR ((sx (sx S x_2 a_2 b_2) (unR ((sx S x_2 a_2 b_2) 1) ((sx S x_2 a_2 b_2) 6) x7) ((sx S x_2 a_2 b_2) 0 17) ((sx S x_2 a_2 b_2) 0 18)) 1) ((sx (sx S x_2 a_2 b_2) (unR ((sx S x_2 a_2 b_2) 1) ((sx S x_2 a_2 b_2) 6) x7) ((sx S x_2 a_2 b_2) 0 17) ((sx S x_2 a_2 b_2) 0 18)) 6) x1.toNat) (if ptw ((sx (sx S x_2 a_2 b_2) (unR ((sx S x_2 a_2 b_2) 1) ((sx S x_2 a_2 b_2) 6) x7) ((sx S x_2 a_2 b_2) 0 17) ((sx S x_2 a_2 b_2) 0 18)) 6) x1.toNat then x1 else -1) x1) 6)).toNat)))] [] (zm (sx (sx (sx S x_2 a_2 b_2) (unR ((sx S x_2 a_2 b_2) 1) ((sx S x_2 a_2 b_2) 6) x7) ((sx S x_2 a_2 b_2) 0 17) ((sx S x_2 a_2 b_2) 0 18)) (bqR ((sx (sx S x_2 a_2 b_2) (unR ((sx S x_2 a_2 b_2) 1) ((sx S x_2 a_2 b_2) 6) x7) ((sx S x_2 a_2 b_2) 0 17) ((sx S x_2 a_2 b_2) 0 18)) 1) ((sx (sx S x_2 a_2 b_2) (unR ((sx S x_2 a_2 b_2) 1) ((sx S x_2 a_2 b_2) 6) x7) ((sx S x_2 a_2 b_2) 0 17) ((sx S x_2 a_2 b_2) 0 18)) 6) x1.toNat) (if ptw ((sx (sx S x_2 a_2 b_2) (unR ((sx S x_2 a_2 b_2) 1) ((sx S x_2 a_2 b_2) 6) x7) ((sx S x_2 a_2 b_2) 0 17) ((sx S x_2 a_2 b_2) 0 18)) 6) x1.toNat then x1 else -1) x1) L) (0, 0))))) ∧ (((sx (sx (sx S x_2 a_2 b_2) (unR ((sx S x_2 a_2 b_2) 1) ((sx S x_2 a_2 b_2) 6) x7) ((sx S x_2 a_2 b_2) 0 17) ((sx S x_2 a_2 b_2) 0 18)) (bqR ((sx (sx S x_2 a_2 b_2) (unR ((sx S x_2 a_2 b_2) 1) ((sx S x_2 a_2 b_2) 6) x7) ((sx S x_2 a_2 b_2) 0 17) ((sx S x_2 a_2 b_2) 0 18)) 1) ((sx (sx S x_2 a_2 b_2) (unR ((sx S x_2 a_2 b_2) 1) ((sx S x_2 a_2 b_2) 6) x7) ((sx S x_2 a_2 b_2) 0 17) ((sx S x_2 a_2 b_2) 0 18)) 6) x1.toNat) (if ptw ((sx (sx S x_2 a_2 b_2) (unR ((sx S x_2 a_2 b_2) 1) ((sx S x_2 a_2 b_2) 6) x7) ((sx S x_2 a_2 b_2) 0 17) ((sx S x_2 a_2 b_2) 0 18)) 6) x1.toNat then x1 else -1) x1) 0 17) = x1 → zz_J zpX9_saves (zz_ret Q X 0 0) 260 [some (vr 0), some (vi x1), some (vi x2), some (vi x3), some (vi x4), some (vi x5), some (vi x6), some (vi x7), some (vi (byR (S 9) (S 1) (S 7) x7.toNat x1 (-1))), some (vi 1000000000)] [] (zm (sx (sx (sx S x_2 a_2 b_2) (unR ((sx S x_2 a_2 b_2) 1) ((sx S x_2 a_2 b_2) 6) x7) ((sx S x_2 a_2 b_2) 0 17) ((sx S x_2 a_2 b_2) 0 18)) (bqR ((sx (sx S x_2 a_2 b_2) (unR ((sx S x_2 a_2 b_2) 1) ((sx S x_2 a_2 b_2) 6) x7) ((sx S x_2 a_2 b_2) 0 17) ((sx S x_2 a_2 b_2) 0 18)) 1) ((sx (sx S x_2 a_2 b_2) (unR ((sx S x_2 a_2 b_2) 1) ((sx S x_2 a_2 b_2) 6) x7) ((sx S x_2 a_2 b_2) 0 17) ((sx S x_2 a_2 b_2) 0 18)) 6) x1.toNat) (if ptw ((sx (sx S x_2 a_2 b_2) (unR ((sx S x_2 a_2 b_2) 1) ((sx S x_2 a_2 b_2) 6) x7) ((sx S x_2 a_2 b_2) 0 17) ((sx S x_2 a_2 b_2) 0 18)) 6) x1.toNat then x1 else -1) x1) L) (0, 0))))))))))))) ∧ (cbR x7 = false → (zz_J zpX9_saves (zz_ret Q X 0 0) 302 [some (vr 0), some (vi x1), some (vi x2), some (vi x3), some (vi x4), some (vi x5), some (vi x6), some (vi x7), none, none] [] (zm S L) (0, 0))))))) : zz_J zpX9_saves (zz_ret Q X 0 0) 191 [some (vr 0), some (vi x1), some (vi x2), some (vi x3), some (vi x4), some (vi x5), some (vi x6), some (vi x7), none, none] [] (zm S L) (0, 0) := zz_J.go [(31, [4, 5, 6, 7, 8, 9]), (56, [7, 8, 9]), (89, [7, 8, 9]), (98, [8, 9]), (143, [8, 9]), (191, [8, 9]), (260, []), (302, [8, 9]), (314, [1, 2, 6, 7, 8, 9])] 400 h
theorem zwX9_saves_260 {Q : Option zv → zz_M → Prop} {X : Nat → zz_M → Prop} {S L : Nat → Nat → Int} {x1 : Int} {x2 : Int} {x3 : Int} {x4 : Int} {x5 : Int} {x6 : Int} {x7 : Int} {x8 : Int} {x9 : Int} (h : R32 x9 ∧ (R32 x8 ∧ ((x9 ≤ x8 → (0 ≤ x7 ∧ x7 < 15488) ∧ (R32 x7 ∧ (R32 x4 ∧ ((¬ x7 = x4 → zz_J zpX9_saves (zz_ret Q X 0 0) 302 [some (vr 0), some (vi x1), some (vi x2), some (vi x3), some (vi x4), some (vi x5), some (vi x6), some (vi x7), none, none] [] (zm (mm_up S 8 x7.toNat x8) L) (0, 0)) ∧ (x7 = x4 → R32 x9 ∧ (R32 x8 ∧ ((x9 ≤ x8 → zz_J zpX9_saves (zz_ret Q X 0 0) 302 [some (vr 0), some (vi x1), some (vi x2), some (vi x3), some (vi x4), some (vi 0), some (vi x6), some (vi x7), none, none] [] (zm (mm_up S 8 x7.toNat x8) L) (0, 0)) ∧ (¬ x9 ≤ x8 → zz_J zpX9_saves (zz_ret Q X 0 0) 302 [some (vr 0), some (vi x1), some (vi x2), some (vi x3), some (vi x4), some (vi 1), some (vi x6), some (vi x7), none, none] [] (zm (mm_up S 8 x7.toNat x8) L) (0, 0))))))))) ∧ (¬ x9 ≤ x8 → (0 ≤ x7 ∧ x7 < 15488) ∧ (R32 x7 ∧ (R32 x4 ∧ ((¬ x7 = x4 → zz_J zpX9_saves (zz_ret Q X 0 0) 302 [some (vr 0), some (vi x1), some (vi x2), some (vi x3), some (vi x4), some (vi x5), some (vi x6), some (vi x7), none, none] [] (zm (mm_up S 8 x7.toNat x9) L) (0, 0)) ∧ (x7 = x4 → R32 x9 ∧ (R32 x8 ∧ ((x9 ≤ x8 → zz_J zpX9_saves (zz_ret Q X 0 0) 302 [some (vr 0), some (vi x1), some (vi x2), some (vi x3), some (vi x4), some (vi 0), some (vi x6), some (vi x7), none, none] [] (zm (mm_up S 8 x7.toNat x9) L) (0, 0)) ∧ (¬ x9 ≤ x8 → zz_J zpX9_saves (zz_ret Q X 0 0) 302 [some (vr 0), some (vi x1), some (vi x2), some (vi x3), some (vi x4), some (vi 1), some (vi x6), some (vi x7), none, none] [] (zm (mm_up S 8 x7.toNat x9) L) (0, 0)))))))))))) : zz_J zpX9_saves (zz_ret Q X 0 0) 260 [some (vr 0), some (vi x1), some (vi x2), some (vi x3), some (vi x4), some (vi x5), some (vi x6), some (vi x7), some (vi x8), some (vi x9)] [] (zm S L) (0, 0) := zz_J.go [(31, [4, 5, 6, 7, 8, 9]), (56, [7, 8, 9]), (89, [7, 8, 9]), (98, [8, 9]), (143, [8, 9]), (191, [8, 9]), (260, []), (302, [8, 9]), (314, [1, 2, 6, 7, 8, 9])] 400 h
theorem zwX9_saves_302 {Q : Option zv → zz_M → Prop} {X : Nat → zz_M → Prop} {S L : Nat → Nat → Int} {x1 : Int} {x2 : Int} {x3 : Int} {x4 : Int} {x5 : Int} {x6 : Int} {x7 : Int} (h : zz_J zpX9_saves (zz_ret Q X 0 0) 191 [some (vr 0), some (vi x1), some (vi x2), some (vi x3), some (vi x4), some (vi x5), some (vi x6), some (vi (x7 + 1)), none, none] [] (zm S L) (0, 0)) : zz_J zpX9_saves (zz_ret Q X 0 0) 302 [some (vr 0), some (vi x1), some (vi x2), some (vi x3), some (vi x4), some (vi x5), some (vi x6), some (vi x7), none, none] [] (zm S L) (0, 0) := zz_J.go [(31, [4, 5, 6, 7, 8, 9]), (56, [7, 8, 9]), (89, [7, 8, 9]), (98, [8, 9]), (143, [8, 9]), (191, [8, 9]), (260, []), (302, [8, 9]), (314, [1, 2, 6, 7, 8, 9])] 400 h
theorem zwX9_saves_314 {Q : Option zv → zz_M → Prop} {X : Nat → zz_M → Prop} {S L : Nat → Nat → Int} {x3 : Int} {x4 : Int} {x5 : Int} (h : R32 x3 ∧ ((¬ x3 = 0 → R32 x3 ∧ ((¬ x3 = 1 → (0 ≤ x4 ∧ x4 < 15488) ∧ ((0 ≤ x4 ∧ x4 < 15488) ∧ (Q (some (vi ((S 8 x4.toNat) - (S 10 x4.toNat)))) (zm S L)))) ∧ (x3 = 1 → Q (some (vi x5)) (zm S L)))) ∧ (x3 = 0 → (0 ≤ x4 ∧ x4 < 15488) ∧ (Q (some (vi (S 8 x4.toNat))) (zm S L))))) : zz_J zpX9_saves (zz_ret Q X 0 0) 314 [some (vr 0), none, none, some (vi x3), some (vi x4), some (vi x5), none, none, none, none] [] (zm S L) (0, 0) := zz_J.go [(31, [4, 5, 6, 7, 8, 9]), (56, [7, 8, 9]), (89, [7, 8, 9]), (98, [8, 9]), (143, [8, 9]), (191, [8, 9]), (260, []), (302, [8, 9]), (314, [1, 2, 6, 7, 8, 9])] 400 h

theorem zmX9_saves (l : Launch) (hl : l.stackTraces = false) : mm_Spec l yX9_saves (ws_ yX9_saves cX9_saves 10 (some .int)) (mm_rm 36 0 0) (zE zX9_saves) := by
  refine zz_Met.J hl (by decide) (fun C G hnh => ztX9_saves G hnh) ?_
  rintro as ⟨⟨t_, f⟩, S, L, P⟩ Q X h
  unfold zX9_saves at h
  split at h
  rotate_left
  · exact h.elim
  rename_i h_ p n what
  obtain ⟨e1_, e2_, h⟩ := mm_and2 h (fun q => q)
  cases mm_beq e1_
  cases mm_beq e2_
  try dsimp only at h
  refine ⟨rfl, ?_⟩
  refine zz_Jev (M' := zm S L) rfl rfl rfl ?_
  obtain ⟨hp, hn, hwt, hI, hq1, hq0⟩ := h
  have hr := rfR_in (S 1) (nwX S) p n
  have hw := hI.1.2.1
  have hm := hI.1
  have hwh := hI.2.1
  have hsc := hI.2.2.2.2.2.2.1
  have hgm := hI.1.2.2
  have hnu : 0 ≤ nuR (nwX S) ∧ nuR (nwX S) < 15488 := nuR_in hsc
  have hcb0 : cbR (nuR (nwX S)) = true := nuR_cb hsc
  have cT : ∀ t : Int, coS S (mm_up (tkS S) 0 0 t) := fun t => ((coS.rf hI).take hI).up0 t
  have t31 : ∀ t : Int, svTh (S 1) (nwX S) p n what = t → (0 ≤ t ∧ t ≤ 4) → zz_J zpX9_saves (zz_ret Q X 0 0) 31 [some (vr 0), some (vi p), some (vi n), some (vi what), none, none, none, none, none, none] [] (zm (mm_up (tkS S) 0 0 t) L) (0, 0) := by
    intro t et ht
    have h0 : mm_up (tkS S) 0 0 t 0 0 = t := by simp [up_eq]
    refine zwX9_saves_31 ?_
    rw [h0]
    refine ⟨by omega, fun c => ?_, fun c => hq1 _ (by omega) (by rw [et]; exact (cT t).Q h0)⟩
    have e : t = 0 := by omega
    subst e
    have hq0 := fun S_ => hq0 S_ et
    have hrw : rfR (S 1) (nwX S) p n = 0 ∧ (0 ≤ what ∧ what ≤ 2) := by
      unfold svTh at et
      split at et
      · cases et
      · next h => exact ⟨et, by omega⟩
    obtain ⟨b1, b2, -⟩ := rfR_0 hrw.1
    have hwh2 := hrw.2
    obtain ⟨u, hu, rfl⟩ : ∃ u : Nat, u < 2 ∧ p = u := ⟨p.toNat, by omega, by omega⟩
    obtain ⟨N, rfl⟩ : ∃ N : Nat, n = N := ⟨n.toNat, by omega⟩
    rw [Int.toNat_natCast, Int.toNat_natCast] at hq0
    obtain ⟨q1, q2, q3, q4, q5⟩ := hI.pre (cT 0)
    refine ⟨q1, q2, q3, q4, q5, fun V hV => ?_⟩
    obtain ⟨v1, v2, v3, v4, v5, v6, v7, v8⟩ := hI.styles (cT 0) hV
    have eV := v1.tk hI.2.2.2.2.2.1
    rw [eV]
    refine ⟨hI.xg.1.bx, ?_⟩
    show zz_J zpX9_saves (zz_ret Q X 0 0) 56 [some (vr 0), some (vi u), some (vi N), some (vi what), some (vi (nuR (nwX S))), some (vi 0), some (vi 0), none, none, none] [] (zm (tkS V) L) (0, 0)
    generalize hK : nuR (nwX S) = K0 at hnu hcb0 hq0
    obtain ⟨K, rfl⟩ : ∃ K : Nat, K0 = K := ⟨K0.toNat, by omega⟩
    rw [Int.toNat_natCast] at hq0
    generalize hB : tkS V = B
    have cB : coS S B := by rw [← hB]; exact v1.take hI
    have b0 : B 0 0 = 0 := by rw [← hB]; show V 0 0 = 0; rw [v2, h0]
    have bst : ∀ j, j < 30976 → B 7 j = stT (S 1) j := fun j hj => by rw [← hB]; exact v8 j hj
    have hstB : stG (B 7) := fun j hj => by rw [bst j hj]; exact stR_in _ _ _
    have bx6 : xG (B 6) := cB.2.2
    have main : ∀ (r i : Nat) (F : Int) (f g q l x : Nat → Int) (a b : Int), i + r = N → xG x → (∀ k, k < 15488 → f k = svT (S 1) (B 7) u i k) → (∀ k, k < 15488 → q k = tbR (S 1) (B 7) u (-1) i k) → F = svK (S 1) (B 7) u K i → zz_J zpX9_saves (zz_ret Q X 0 0) 89 [some (vr 0), some (vi u), some (vi N), some (vi what), some (vi K), some (vi F), some (vi i), none, none, none] [] (zm (sx (tab4 B f g q l) x a b) L) (0, 0) := by
      intro r
      induction r with
      | zero =>
        intro i F f g q l x a b hi hx hf hqq hF
        have ei : i = N := by omega
        subst ei
        have hq := hq0 _ (((cB.tab4 f g q l).sxx hx a b).Q b0)
        refine zwX9_saves_89 ⟨by omega, by omega, fun _ => ?_, fun c => by omega⟩
        refine zwX9_saves_314 ?_
        rw [tab4_8, tab4_10, Int.toNat_natCast, hf K (by omega), hqq K (by omega), svT_s bst hw hu _ _ (by omega), tbR_s bst hw _ _ (by omega), hF, svK_s bst hw hu (by omega) hcb0]
        refine ⟨by omega, fun n0 => ⟨by omega, fun n1 => ⟨by omega, by omega, hq.2.2 (by omega)⟩, fun e1 => hq.2.1 e1⟩, fun e0 => ⟨by omega, hq.1 e0⟩⟩
      | succ r ih =>
        intro i F f g q l x a b hi hx hf hqq hF
        -- with the bisque
        have t191 : ∀ (r2 k : Nat) (F : Int) (f g q l x : Nat → Int) (a b : Int), k + r2 = 15488 → xG x → (∀ j, j < k → f j = svT (S 1) (B 7) u (i + 1) j) → (∀ j, j < 15488 → k ≤ j → cbR j = false → f j = 0) → (∀ j, j < 15488 → g j = svT (S 1) (B 7) u i j) → (∀ j, j < 15488 → q j = tbR (S 1) (B 7) u (-1) (i + 1) j) → (K < k → F = svK (S 1) (B 7) u K (i + 1)) → zz_J zpX9_saves (zz_ret Q X 0 0) 191 [some (vr 0), some (vi u), some (vi N), some (vi what), some (vi K), some (vi F), some (vi i), some (vi k), none, none] [] (zm (sx (tab4 B f g q l) x a b) L) (0, 0) := by
          intro r2
          induction r2 with
          | zero =>
            intro k F f g q l x a b hk hx hf hf0 hg hqq hF
            refine zwX9_saves_191 ⟨by omega, fun _ => ih (i + 1) F f g q l x a b (by omega) hx (fun j hj => hf j (by omega)) hqq (hF (by omega)), fun c => by omega⟩
          | succ r2 ih2 =>
            intro k F f g q l x a b hk hx hf hf0 hg hqq hF
            have hgG : tbG g := by
              intro j hj
              rw [hg j hj]
              exact svT_G hm hwh hstB hu i j hj
            have hqG : tbG q := by
              intro j hj
              rw [hqq j hj]
              exact tbR_G hm hwh hstB (i + 1) j hj
            refine zwX9_saves_191 ⟨by omega, fun c => by omega, fun _ => ⟨by omega, fun cb => ?_, fun cb => ?_⟩⟩
            · have hX : scV (scX (S 1) k) := unR_V (by omega) (by omega) cb
              have hXB : xB 6 (scX (S 1) k) := scX_B (by omega) hgm
              have hXG : xG (scX (S 1) k) := hX.xG hXB (by decide)
              have hBV := bqR_V hw hu hX
              have hBG : xG (bqR (S 1) (scX (S 1) k) u) := hBV.xG (bqR_B (w := S 1) hu hXB) (by decide)
              have hnb := nuR_in hBV
              have hon := hdR_in (p := u) (th := -1) hgG hm hwh (by omega) cb (byI_j hstB (by omega : k < 15488))
              have hby := svB_in hqG hw (by omega) cb hu
              have hT : svT (S 1) (B 7) u (i + 1) k = svM (byR g (S 1) (B 7) k u (-1)) (svB q (S 1) u k) := by
                show (if cbR (k : Int) = true then svM (byR (svT (S 1) (B 7) u i) (S 1) (B 7) k u (-1)) (svB (tbR (S 1) (B 7) u (-1) (i + 1)) (S 1) u k) else 0) = _
                rw [if_pos cb, byR_c (fun j hj => (hg j hj).symm) hw (by omega) cb, svB_c (fun j hj => (hqq j hj).symm) hw (by omega) cb hu]
              have hTK : K = k → svK (S 1) (B 7) u K (i + 1) = if byR g (S 1) (B 7) k u (-1) < svB q (S 1) u k then 1 else 0 := by
                intro e
                show (if byR (svT (S 1) (B 7) u i) (S 1) (B 7) K u (-1) < svB (tbR (S 1) (B 7) u (-1) (i + 1)) (S 1) u K then (1 : Int) else 0) = _
                rw [e, byR_c (fun j hj => (hg j hj).symm) hw (by omega) cb, svB_c (fun j hj => (hqq j hj).symm) hw (by omega) cb hu]
              have t302 : ∀ (v F' : Int) (x : Nat → Int) (a b : Int), xG x → v = svT (S 1) (B 7) u (i + 1) k → (K = k → F' = svK (S 1) (B 7) u K (i + 1)) → (K ≠ k → F' = F) → zz_J zpX9_saves (zz_ret Q X 0 0) 302 [some (vr 0), some (vi u), some (vi N), some (vi what), some (vi K), some (vi F'), some (vi i), some (vi k), none, none] [] (zm (mm_up (sx (tab4 B f g q l) x a b) 8 ((k : Int)).toNat v) L) (0, 0) := by
                intro v F' x a b hx hv h1 h2
                refine zwX9_saves_302 ?_
                rw [tab4_u8, Int.toNat_natCast]
                refine ih2 (k + 1) F' _ g q l x a b (by omega) hx (fun j hj => ?_) (fun j hj hkj hc => ?_) hg hqq (fun hKk => ?_)
                · rw [ru_at]
                  split
                  · next e => rw [e, hv]
                  · exact hf j (by omega)
                · rw [ru_at, if_neg (by omega)]
                  exact hf0 j hj (by omega) hc
                · by_cases e : K = k
                  · exact h1 e
                  · rw [h2 e]; exact hF (by omega)
              have t260 : ∀ (on bq : Int) (x : Nat → Int) (a b : Int), xG x → on = byR g (S 1) (B 7) k u (-1) → bq = svB q (S 1) u k → zz_J zpX9_saves (zz_ret Q X 0 0) 260 [some (vr 0), some (vi u), some (vi N), some (vi what), some (vi K), some (vi F), some (vi i), some (vi k), some (vi on), some (vi bq)] [] (zm (sx (tab4 B f g q l) x a b) L) (0, 0) := by
                intro on bq x a b hx h1 h2
                rw [← h1, ← h2] at hT hTK
                rw [← h2] at hby
                have hon : 0 ≤ on ∧ on ≤ 1000000000 := by rw [h1]; exact hon
                unfold svM at hT
                refine zwX9_saves_260 ⟨by omega, by omega, fun c => ⟨by omega, by omega, by omega, fun ne => ?_, fun eq => ⟨by omega, by omega, fun c2 => ?_, fun c2 => absurd c c2⟩⟩, fun c => ⟨by omega, by omega, by omega, fun ne => ?_, fun eq => ⟨by omega, by omega, fun c2 => absurd c2 c, fun c2 => ?_⟩⟩⟩
                · exact t302 _ _ x a b hx (by rw [hT, if_neg (by omega)]) (fun e => by omega) (fun _ => rfl)
                · exact t302 _ _ x a b hx (by rw [hT, if_neg (by omega)]) (fun e => by rw [hTK e, if_neg (by omega)]) (fun e => by omega)
                · exact t302 _ _ x a b hx (by rw [hT, if_pos (by omega)]) (fun e => by omega) (fun _ => rfl)
                · exact t302 _ _ x a b hx (by rw [hT, if_pos (by omega)]) (fun e => by rw [hTK e, if_pos (by omega)]) (fun e => by omega)
              refine ⟨by omega, cb, by omega, Or.inl rfl, Or.inr (Or.inl rfl), hgG, by rw [tab4_1, cB.r1]; exact hm, hstB, hx, fun x' a' b' hx' => ?_⟩
              simp only [sx_sx, sx_6, tab4_1, tab4_7, tab4_9, tab4_10, sx_17, sx_18, cB.r1, scX_eq hx', Int.toNat_natCast]
              refine ⟨by omega, by omega, hXG.1, hw.bw, by split <;> omega, by omega, fun ne => ⟨hBG.1.bx, by omega, ?_⟩, fun eq => ?_⟩
              · have np : ptw (scX (S 1) k) u = false := by
                  rw [← Bool.not_eq_true]
                  intro h
                  rw [if_pos h] at ne
                  exact ne rfl
                exact t260 _ _ _ _ _ hBG rfl (by unfold svB; rw [if_neg (by rw [np]; decide)])
              · have np : ptw (scX (S 1) k) u = true := by
                  cases hb : ptw (scX (S 1) k) u with
                  | true => rfl
                  | false =>
                    rw [hb, if_neg (by decide)] at eq
                    omega
                exact t260 _ _ _ _ _ hBG rfl (by unfold svB; rw [if_pos np])
            · refine zwX9_saves_302 ?_
              refine ih2 (k + 1) F f g q l x a b (by omega) hx (fun j hj => ?_) (fun j hj hkj hc => hf0 j hj (by omega) hc) hg hqq (fun hKk => ?_)
              · by_cases e : j = k
                · subst e
                  show f j = (if cbR (j : Int) = true then _ else 0)
                  rw [if_neg (by rw [cb]; decide)]
                  exact hf0 j (by omega) (Nat.le_refl _) cb
                · exact hf j (by omega)
              · have : K ≠ k := by
                  intro e
                  rw [e, cb] at hcb0
                  cases hcb0
                exact hF (by omega)
        -- without
        have t143 : ∀ (r2 k : Nat) (f g q l x : Nat → Int) (a b : Int), k + r2 = 15488 → xG x → (∀ j, j < 15488 → f j = svT (S 1) (B 7) u i j) → (∀ j, j < 15488 → g j = svT (S 1) (B 7) u i j) → (∀ j, j < k → q j = tbR (S 1) (B 7) u (-1) (i + 1) j) → (∀ j, j < 15488 → l j = tbR (S 1) (B 7) u (-1) i j) → zz_J zpX9_saves (zz_ret Q X 0 0) 143 [some (vr 0), some (vi u), some (vi N), some (vi what), some (vi K), some (vi F), some (vi i), some (vi k), none, none] [] (zm (sx (tab4 B f g q l) x a b) L) (0, 0) := by
          intro r2
          induction r2 with
          | zero =>
            intro k f g q l x a b hk hx hf hg hqq hl
            refine zwX9_saves_143 ⟨by omega, fun _ => t191 15488 0 F f g q l x a b (by decide) hx (fun j hj => absurd hj (Nat.not_lt_zero _)) (fun j hj _ hc => ?_) hg (fun j hj => hqq j (by omega)) (fun h => absurd h (Nat.not_lt_zero _)), fun c => by omega⟩
            rw [hf j hj]
            cases i with
            | zero => rfl
            | succ i =>
              show (if cbR (j : Int) = true then _ else 0) = 0
              rw [if_neg (by rw [hc]; decide)]
          | succ r2 ih2 =>
            intro k f g q l x a b hk hx hf hg hqq hl
            have hlG : tbG l := by
              intro j hj
              rw [hl j hj]
              exact tbR_G hm hwh hstB i j hj
            have nxt : ∀ (v : Int) (x' : Nat → Int) (a' b' : Int), xG x' → v = tbR (S 1) (B 7) u (-1) (i + 1) k → zz_J zpX9_saves (zz_ret Q X 0 0) 143 [some (vr 0), some (vi u), some (vi N), some (vi what), some (vi K), some (vi F), some (vi i), some (vi ((k : Int) + 1)), none, none] [] (zm (mm_up (sx (tab4 B f g q l) x' a' b') 10 ((k : Int)).toNat v) L) (0, 0) := by
              intro v x' a' b' hx' hv
              rw [tab4_u10, Int.toNat_natCast]
              refine ih2 (k + 1) f g _ l x' a' b' (by omega) hx' hf hg (fun j hj => ?_) hl
              rw [ru_at]
              split
              · next e => rw [hv, e]
              · exact hqq j (by omega)
            refine zwX9_saves_143 ⟨by omega, fun c => by omega, fun _ => ⟨by omega, fun cb => ?_, fun cb => ?_⟩⟩
            · refine ⟨by omega, cb, by omega, Or.inl rfl, Or.inr (Or.inr (Or.inr rfl)), hlG, by rw [tab4_1, cB.r1]; exact hm, hstB, hx, fun x' a' b' hx' => ⟨by omega, ?_⟩⟩
              rw [sx_sx]
              refine nxt _ x' a' b' hx' ?_
              rw [tab4_11, tab4_1, tab4_7, cB.r1, Int.toNat_natCast]
              show byR l (S 1) (B 7) k u (-1) = (if cbR (k : Int) = true then byR (tbR (S 1) (B 7) u (-1) i) (S 1) (B 7) k u (-1) else 0)
              rw [if_pos cb]
              exact byR_c hl hw (by omega) cb
            · refine ⟨by omega, nxt 0 x a b hx ?_⟩
              show (0 : Int) = (if cbR (k : Int) = true then byR (tbR (S 1) (B 7) u (-1) i) (S 1) (B 7) k u (-1) else 0)
              rw [if_neg (by rw [cb]; decide)]
        have t98 : ∀ (r2 j : Nat) (g l : Nat → Int), j + r2 = 15488 → (∀ k, k < j → g k = svT (S 1) (B 7) u i k) → (∀ k, k < j → l k = tbR (S 1) (B 7) u (-1) i k) → zz_J zpX9_saves (zz_ret Q X 0 0) 98 [some (vr 0), some (vi u), some (vi N), some (vi what), some (vi K), some (vi F), some (vi i), some (vi j), none, none] [] (zm (sx (tab4 B f g q l) x a b) L) (0, 0) := by
          intro r2
          induction r2 with
          | zero =>
            intro j g l hj hg hl
            refine zwX9_saves_98 ⟨by omega, fun _ => t143 15488 0 f g q l x a b (by decide) hx hf (fun k hk => hg k (by omega)) (fun k hk => absurd hk (Nat.not_lt_zero _)) (fun k hk => hl k (by omega)), fun c => by omega⟩
          | succ r2 ih2 =>
            intro j g l hj hg hl
            refine zwX9_saves_98 ⟨by omega, fun c => by omega, fun _ => ⟨by omega, by omega, by omega, by omega, ?_⟩⟩
            simp only [tab4_8, tab4_u9, tab4_10, tab4_u11, Int.toNat_natCast]
            refine ih2 (j + 1) _ _ (by omega) (fun k hk => ?_) (fun k hk => ?_)
            · rw [ru_at]
              split
              · next e => rw [e]; exact hf j (by omega)
              · exact hg k (by omega)
            · rw [ru_at]
              split
              · next e => rw [e]; exact hqq j (by omega)
              · exact hl k (by omega)
        exact zwX9_saves_89 ⟨by omega, by omega, fun c => by omega, fun _ => t98 15488 0 g l (by decide) (fun k hk => absurd hk (Nat.not_lt_zero _)) (fun k hk => absurd hk (Nat.not_lt_zero _))⟩
    have t56 : ∀ (r j : Nat) (f q : Nat → Int), j + r = 15488 → (∀ k, k < j → f k = 0) → (∀ k, k < j → q k = 0) → zz_J zpX9_saves (zz_ret Q X 0 0) 56 [some (vr 0), some (vi u), some (vi N), some (vi what), some (vi K), some (vi 0), some (vi j), none, none, none] [] (zm (sx (tab4 B f (B 9) q (B 11)) (B 6) (B 0 17) (B 0 18)) L) (0, 0) := by
      intro r
      induction r with
      | zero =>
        intro j f q hj hf hqq
        refine zwX9_saves_56 ⟨by omega, fun _ => main N 0 0 f (B 9) q (B 11) (B 6) _ _ (by omega) bx6 (fun k hk => hf k (by omega)) (fun k hk => hqq k (by omega)) rfl, fun c => by omega⟩
      | succ r ih =>
        intro j f q hj hf hqq
        refine zwX9_saves_56 ⟨by omega, fun c => by omega, fun _ => ⟨by omega, by omega, ?_⟩⟩
        simp only [tab4_u8, tab4_u10, Int.toNat_natCast]
        refine ih (j + 1) _ _ (by omega) (fun k hk => ?_) (fun k hk => ?_)
        · rw [ru_at]
          split
          · rfl
          · exact hf k (by omega)
        · rw [ru_at]
          split
          · rfl
          · exact hqq k (by omega)
    have := t56 15488 0 (B 8) (B 10) (by decide) (fun k hk => absurd hk (Nat.not_lt_zero _)) (fun k hk => absurd hk (Nat.not_lt_zero _))
    rw [tab4_id] at this
    exact this
  have hr : 0 ≤ rfR (S 1) (tkS S 6) p n ∧ rfR (S 1) (tkS S 6) p n ≤ 3 := hr
  refine zwX9_saves_0 ⟨hp, hn, hI.xg.1.bx, by unfold wV at hw; omega, by omega, fun c => ?_, fun c => ⟨hwt, by decide, by decide, fun c2 => ?_, fun c2 => ?_⟩⟩
  · exact t31 _ (by unfold svTh; rw [if_neg (fun q => c q.1)]) (by omega)
  · exact t31 _ (by unfold svTh; rw [if_neg (fun q => q.2 c2)]) (by omega)
  · rw [up_up]
    exact t31 4 (by unfold svTh; rw [if_pos ⟨c, c2⟩]) (by decide)
