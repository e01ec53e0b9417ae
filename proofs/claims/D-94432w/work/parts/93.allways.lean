/-! ===== the component's ways ===== -/
set_option maxRecDepth 100000
def zX1_beginCode : zz_Sp := fun as M Q X => match as with
  | [.inr (.inr (some h_)), .inl s] => bif Nat.beq h_ 100 && Nat.beq M.1.1 2 then ((s = 0 ∨ s = 1) ∧ (cx M.2.1 204 6 = 0 ∨ cx M.2.1 204 6 = 1) ∧ ∃ w_ : Nat → Int, wsc M.2.1 w_ ∧ wV w_ ∧ (∀ S_ : Nat → Nat → Int, (∀ h k, ¬ (108 ≤ h ∧ h ≤ 111) → S_ h k = M.2.1 h k) → Q (some (vi (nuR (bgX w_ s)))) ((2, M.1.2), S_, M.2.2.1, M.2.2.2))) else False
  | _ => False

def zpX1_beginCode : zz_P := [(0, zo_ald 1 0), (1, zo_get 4 0 2 9), (4, zo_ald 5 0), (5, zo_get 8 0 2 0), (8, zo_get 11 1 2 9), (11, zo_callv 14 2 2 zX3_takes_204108), (14, zo_pop 15), (15, zo_ald 16 0), (16, zo_get 19 0 2 9), (19, zo_get 22 2 2 0), (22, zo_c 23 (vi 0)), (23, zo_ald 24 0), (24, zo_get 27 0 2 0), (27, zo_get 30 1 0 4), (30, zo_ineg 31), (31, zo_iasc 32 0), (32, zo_ald 33 0), (33, zo_get 36 0 2 9), (36, zo_get 39 2 2 0), (39, zo_c 40 (vi 1)), (40, zo_ald 41 0), (41, zo_get 44 0 2 0), (44, zo_get 47 1 0 5), (47, zo_iasc 48 1), (48, zo_ald 49 0), (49, zo_get 52 0 2 9), (52, zo_ild 53 1), (53, zo_puti 56 2 3), (56, zo_ald 57 0), (57, zo_get 60 0 2 9), (60, zo_c 61 (vi 0)), (61, zo_puti 64 2 4), (64, zo_ald 65 0), (65, zo_get 68 0 2 9), (68, zo_c 69 (vi 0)), (69, zo_putz true 72 2 5), (72, zo_ald 73 0), (73, zo_get 76 0 2 9), (76, zo_callv 79 1 2 zX3_code_108), (79, zo_iret)]
theorem ztX1_beginCode {C : mm_C} (G : mm_G C RX1 cX1_beginCode (some .int) 2 (mm_rm 5 0 0)) (hnh : mm_nh C) : zz_OKs C zpX1_beginCode :=
  ⟨zz_of (ok_aload_n G dX1_beginCode_0 rfl rfl) (z_ald _ _),
   zz_of (ok_get G (nx := 4) (ci := 0) (kd := 2) (k := 9) (RX1, TX1, 19) rfl (by decide) rfl q418 dX1_beginCode_1 rfl) (z_get _ _ _ _),
   zz_of (ok_aload_n G dX1_beginCode_4 rfl rfl) (z_ald _ _),
   zz_of (ok_get G (nx := 8) (ci := 0) (kd := 2) (k := 0) (RX1, TX1, 19) rfl (by decide) rfl q399 dX1_beginCode_5 rfl) (z_get _ _ _ _),
   zz_of (ok_getN G (nx := 11) (ci := 1) (kd := 2) (k := 9) (RX2, TX2, 11) rfl (by decide) rfl q240 dX1_beginCode_8 rfl) (z_get _ _ _ _),
   zz_of (ok_callv G hnh (zmX3_takes_204108 _ G.hst) rfl rfl (RX3, TX3, 7) rfl q1591 q580 q581 q87 q582 (by decide +kernel) ⟨by decide, by decide⟩ dX1_beginCode_11 rfl) (z_callv _ _ _ _),
   zz_of (ok_pop G dX1_beginCode_14 rfl) (z_pop _),
   zz_of (ok_aload_n G dX1_beginCode_15 rfl rfl) (z_ald _ _),
   zz_of (ok_get G (nx := 19) (ci := 0) (kd := 2) (k := 9) (RX1, TX1, 19) rfl (by decide) rfl q418 dX1_beginCode_16 rfl) (z_get _ _ _ _),
   zz_of (ok_getN G (nx := 22) (ci := 2) (kd := 2) (k := 0) (RX3, TX3, 7) rfl (by decide) rfl q179 dX1_beginCode_19 rfl) (z_get _ _ _ _),
   zz_of (ok_iconst G (v := 0) dX1_beginCode_22 (by decide) rfl) (z_cn 23 0),
   zz_of (ok_aload_n G dX1_beginCode_23 rfl rfl) (z_ald _ _),
   zz_of (ok_get G (nx := 27) (ci := 0) (kd := 2) (k := 0) (RX1, TX1, 19) rfl (by decide) rfl q399 dX1_beginCode_24 rfl) (z_get _ _ _ _),
   zz_of (ok_getN G (nx := 30) (ci := 1) (kd := 0) (k := 4) (RX2, TX2, 11) rfl (by decide) rfl q227 dX1_beginCode_27 rfl) (z_get _ _ _ _),
   zz_of (ok_ineg G dX1_beginCode_30 rfl) (z_ineg _),
   zz_of (ok_iast G dX1_beginCode_31 rfl) (z_iasc _ _),
   zz_of (ok_aload_n G dX1_beginCode_32 rfl rfl) (z_ald _ _),
   zz_of (ok_get G (nx := 36) (ci := 0) (kd := 2) (k := 9) (RX1, TX1, 19) rfl (by decide) rfl q418 dX1_beginCode_33 rfl) (z_get _ _ _ _),
   zz_of (ok_getN G (nx := 39) (ci := 2) (kd := 2) (k := 0) (RX3, TX3, 7) rfl (by decide) rfl q179 dX1_beginCode_36 rfl) (z_get _ _ _ _),
   zz_of (ok_iconst G (v := 1) dX1_beginCode_39 (by decide) rfl) (z_cn 40 1),
   zz_of (ok_aload_n G dX1_beginCode_40 rfl rfl) (z_ald _ _),
   zz_of (ok_get G (nx := 44) (ci := 0) (kd := 2) (k := 0) (RX1, TX1, 19) rfl (by decide) rfl q399 dX1_beginCode_41 rfl) (z_get _ _ _ _),
   zz_of (ok_getN G (nx := 47) (ci := 1) (kd := 0) (k := 5) (RX2, TX2, 11) rfl (by decide) rfl q230 dX1_beginCode_44 rfl) (z_get _ _ _ _),
   zz_of (ok_iast G dX1_beginCode_47 rfl) (z_iasc _ _),
   zz_of (ok_aload_n G dX1_beginCode_48 rfl rfl) (z_ald _ _),
   zz_of (ok_get G (nx := 52) (ci := 0) (kd := 2) (k := 9) (RX1, TX1, 19) rfl (by decide) rfl q418 dX1_beginCode_49 rfl) (z_get _ _ _ _),
   zz_of (ok_iload_n G dX1_beginCode_52 rfl rfl) (z_ild _ _),
   zz_of (ok_puti G (nx := 56) (idx := 372) (ci := 2) (k := 3) (RX3, TX3, 7) rfl (by decide) rfl (mm_pwN G (ci := 2) (k := 3) (RX3, TX3, 7) rfl (by decide) rfl q189 dX1_beginCode_53) rfl) (z_puti _ _ _),
   zz_of (ok_aload_n G dX1_beginCode_56 rfl rfl) (z_ald _ _),
   zz_of (ok_get G (nx := 60) (ci := 0) (kd := 2) (k := 9) (RX1, TX1, 19) rfl (by decide) rfl q418 dX1_beginCode_57 rfl) (z_get _ _ _ _),
   zz_of (ok_iconst G (v := 0) dX1_beginCode_60 (by decide) rfl) (z_cn 61 0),
   zz_of (ok_puti G (nx := 64) (idx := 375) (ci := 2) (k := 4) (RX3, TX3, 7) rfl (by decide) rfl (mm_pwN G (ci := 2) (k := 4) (RX3, TX3, 7) rfl (by decide) rfl q192 dX1_beginCode_61) rfl) (z_puti _ _ _),
   zz_of (ok_aload_n G dX1_beginCode_64 rfl rfl) (z_ald _ _),
   zz_of (ok_get G (nx := 68) (ci := 0) (kd := 2) (k := 9) (RX1, TX1, 19) rfl (by decide) rfl q418 dX1_beginCode_65 rfl) (z_get _ _ _ _),
   zz_of (ok_iconst G (v := 0) dX1_beginCode_68 (by decide) rfl) (z_cn 69 0),
   zz_of (ok_putz G (nx := 72) (idx := 378) (ci := 2) (k := 5) (RX3, TX3, 7) rfl (by decide) rfl (mm_pwN G (ci := 2) (k := 5) (RX3, TX3, 7) rfl (by decide) rfl q197 dX1_beginCode_69) rfl) (z_putz _ _ _ _),
   zz_of (ok_aload_n G dX1_beginCode_72 rfl rfl) (z_ald _ _),
   zz_of (ok_get G (nx := 76) (ci := 0) (kd := 2) (k := 9) (RX1, TX1, 19) rfl (by decide) rfl q418 dX1_beginCode_73 rfl) (z_get _ _ _ _),
   zz_of (ok_callv G hnh (zmX3_code_108 _ G.hst) rfl rfl (RX3, TX3, 7) rfl q1597 q1598 q1599 q87 q1600 (by decide +kernel) ⟨by decide, by decide⟩ dX1_beginCode_76 rfl) (z_callv _ _ _ _),
   zz_of (ok_iret G dX1_beginCode_79) (z_iret), trivial⟩

theorem zwX1_beginCode_0 {Q : Option zv → zz_M → Prop} {X : Nat → zz_M → Prop} {f : Nat → Nat × Nat} {S L : Nat → Nat → Int} {P : Nat → Nat → Option Nat} {s : Int} (h : ((cx S 204 6 = 0 ∨ cx S 204 6 = 1) ∧ ((scV (cx (mm_up (mm_up (mm_up (mm_up (mm_up (cxW S 108 (cx S 204)) 109 0 (-((cxW S 108 (cx S 204)) 200 4))) 109 1 ((cxW S 108 (cx S 204)) 200 5)) 108 3 s) 108 4 0) 108 5 0) 108) ∧ (Q (some (vi (nuR (cx (mm_up (mm_up (mm_up (mm_up (mm_up (cxW S 108 (cx S 204)) 109 0 (-((cxW S 108 (cx S 204)) 200 4))) 109 1 ((cxW S 108 (cx S 204)) 200 5)) 108 3 s) 108 4 0) 108 5 0) 108)))) ((2, f), mm_up (mm_up (mm_up (mm_up (mm_up (cxW S 108 (cx S 204)) 109 0 (-((cxW S 108 (cx S 204)) 200 4))) 109 1 ((cxW S 108 (cx S 204)) 200 5)) 108 3 s) 108 4 0) 108 5 0, L, P)))))) : zz_J zpX1_beginCode (zz_ret Q X 0 0) 0 [some (vr 100), some (vi s)] [] ((2, f), S, L, P) (0, 0) := zz_J.go [] 400 h

theorem zmX1_beginCode (l : Launch) (hl : l.stackTraces = false) : mm_Spec l yX1_beginCode (ws_ yX1_beginCode cX1_beginCode 2 (some .int)) (mm_rm 5 0 0) (zE zX1_beginCode) := by
  refine zz_Met.J hl (by decide) (fun C G hnh => ztX1_beginCode G hnh) ?_
  rintro as ⟨⟨t_, f⟩, S, L, P⟩ Q X h
  unfold zX1_beginCode at h
  split at h
  rotate_left
  · exact h.elim
  rename_i h_ s
  obtain ⟨e1_, e2_, h⟩ := mm_and2 h (fun q => q)
  cases mm_beq e1_
  cases mm_beq e2_
  try dsimp only at h
  refine ⟨rfl, ?_⟩
  obtain ⟨hs, h6, w, hw, hv, hq⟩ := h
  obtain ⟨v1, v2, v3, v4, v5⟩ := hv
  refine zwX1_beginCode_0 ⟨h6, ?_⟩
  have e4 : (cxW S 108 (cx S 204)) 200 4 = w 197 := hw.2.2.2.1
  have e5 : (cxW S 108 (cx S 204)) 200 5 = w 198 := hw.2.2.2.2
  rw [e4, e5]
  generalize hM : mm_up (mm_up (mm_up (mm_up (mm_up (cxW S 108 (cx S 204)) 109 0 (-(w 197))) 109 1 (w 198)) 108 3 s) 108 4 0) 108 5 0 = M
  have m0 : cx M 108 0 = -(w 197) := by rw [← hM]; rfl
  have m1 : cx M 108 1 = w 198 := by rw [← hM]; rfl
  have m2 : cx M 108 2 = s := by rw [← hM]; rfl
  have m3 : cx M 108 3 = 0 := by rw [← hM]; rfl
  have m6 : cx M 108 6 = 0 := by rw [← hM]; rfl
  have hV : scV (cx M 108) := by
    refine ⟨?_, by omega, Or.inl ⟨m3, m6⟩⟩
    unfold pV
    omega
  have en : nuR (cx M 108) = nuR (bgX w s) := by
    have b0 : bgX w s 0 = -(w 197) := rfl
    have b1 : bgX w s 1 = w 198 := rfl
    have b2 : bgX w s 2 = s := rfl
    have b3 : bgX w s 3 = 0 := rfl
    unfold nuR nuC
    rw [m0, m1, m2, m3, b0, b1, b2, b3]
    simp
  rw [en]
  refine ⟨hV, hq M fun h k hh => ?_⟩
  rw [← hM]
  simp only [up_eq]
  rw [if_neg (by omega), if_neg (by omega), if_neg (by omega), if_neg (by omega), if_neg (by omega), cxW_o S 108 _ (by omega) (by omega) (by omega) (by omega)]
def zX1_allWays : zz_Sp := fun as M Q X => match as with
  | [.inr (.inr (some h_)), .inl n] => bif Nat.beq h_ 100 && Nat.beq M.1.1 2 then ((0 ≤ n ∧ n ≤ 30) ∧ ∃ (w_ : Nat → Int) (rs_ : List (Fc → Option Int)) (top_ : Nat), cO M.1.2 M.2.1 M.2.2.2 w_ rs_ top_ ∧ (∀ (S_ : Nat → Nat → Int) (P_ : Nat → Nat → Option Nat), cZ M.2.1 M.2.2.2 w_ S_ P_ → (∀ k, k < 4 → S_ 128 k = tbK w_ (stT w_) k n.toNat (nuR (nwW w_)).toNat) → (∀ s k, s < 2 → k < 4 → S_ (129 + s) k = wyF w_ (stT w_) n.toNat (4 * s + k)) → Q none ((2, M.1.2), S_, M.2.2.1, P_))) else False
  | _ => False

def zpX1_allWays : zz_P := [(0, zo_ald 1 0), (1, zo_callv 4 1 0 zX1_stylesAll), (4, zo_c 5 (vi 0)), (5, zo_ist 6 2), (6, zo_ild 7 2), (7, zo_c 8 (vi 4)), (8, zo_cge false true 11 129), (11, zo_ald 12 0), (12, zo_get 15 0 2 11), (15, zo_c 16 (vi (-1))), (16, zo_callv 19 2 5 zX6_begins_116), (19, zo_pop 20), (20, zo_c 21 (vi 0)), (21, zo_ist 22 3), (22, zo_ild 23 3), (23, zo_c 24 (vi 4)), (24, zo_cge false true 27 54), (27, zo_ald 28 0), (28, zo_get 31 0 2 11), (31, zo_get 34 5 2 2), (34, zo_ild 35 3), (35, zo_ild 36 3), (36, zo_ild 37 2), (37, zo_cne false false 40 46), (40, zo_c 43 (vi 1000000000)), (43, zo_goto 47), (46, zo_c 47 (vi 0)), (47, zo_iasd 48), (48, zo_inc 51 3 1), (51, zo_goto 22), (54, zo_ald 55 0), (55, zo_get 58 0 2 11), (58, zo_ild 59 1), (59, zo_callv 62 2 5 zX6_after_116), (62, zo_pop 63), (63, zo_ald 64 0), (64, zo_get 67 0 2 14), (67, zo_c 68 (vi 0)), (68, zo_aald 69), (69, zo_ild 70 2), (70, zo_ald 71 0), (71, zo_get 74 0 2 11), (74, zo_ald 75 0), (75, zo_get 78 0 2 0), (78, zo_get 81 1 2 9), (81, zo_callv 84 1 2 zX3_code_204), (84, zo_callv 87 2 5 zX6_at_116), (87, zo_iasp 88), (88, zo_c 89 (vi 0)), (89, zo_ist 90 3), (90, zo_ild 91 3), (91, zo_c 92 (vi 2)), (92, zo_cge false true 95 123), (95, zo_ald 96 0), (96, zo_get 99 0 2 14), (99, zo_c 100 (vi 1)), (100, zo_ild 101 3), (101, zo_iadd 102), (102, zo_aald 103), (103, zo_ild 104 2), (104, zo_ald 105 0), (105, zo_get 108 0 2 11), (108, zo_ald 109 0), (109, zo_ild 110 3), (110, zo_callv 113 2 0 zX1_beginCode), (113, zo_callv 116 2 5 zX6_at_116), (116, zo_iasp 117), (117, zo_inc 120 3 1), (120, zo_goto 90), (123, zo_inc 126 2 1), (126, zo_goto 6), (129, zo_vret)]
theorem ztX1_allWays {C : mm_C} (G : mm_G C RX1 cX1_allWays none 4 (mm_rm 23 0 0)) (hnh : mm_nh C) : zz_OKs C zpX1_allWays :=
  ⟨zz_of (ok_aload_n G dX1_allWays_0 rfl rfl) (z_ald _ _),
   zz_of (ok_callv G hnh (zmX1_stylesAll _ G.hst) rfl rfl (RX1, TX1, 19) rfl q1578 q1580 qs23 q82 q1581 (by decide +kernel) ⟨by decide, by decide⟩ dX1_allWays_1 rfl) (z_callv _ _ _ _),
   zz_of (ok_iconst G (v := 0) dX1_allWays_4 (by decide) rfl) (z_cn 5 0),
   zz_of (ok_istore_n G dX1_allWays_5 rfl rfl (by decide)) (z_ist _ _),
   zz_of (ok_iload_n G dX1_allWays_6 rfl rfl) (z_ild _ _),
   zz_of (ok_iconst G (v := 4) dX1_allWays_7 (by decide) rfl) (z_cn 8 4),
   zz_of (ok_cge G dX1_allWays_8 rfl rfl) (z_cge _ _ _ _),
   zz_of (ok_aload_n G dX1_allWays_11 rfl rfl) (z_ald _ _),
   zz_of (ok_get G (nx := 15) (ci := 0) (kd := 2) (k := 11) (RX1, TX1, 19) rfl (by decide) rfl q421 dX1_allWays_12 rfl) (z_get _ _ _ _),
   zz_of (ok_iconst G (v := (zI (-1))) dX1_allWays_15 (by decide) rfl) (z_cz 16 (-1)),
   zz_of (ok_callv G hnh (zmX6_begins_116 _ G.hst) rfl rfl (RX6, TX6, 5) rfl q1654 q1611 q1612 q90 q1613 (by decide +kernel) ⟨by decide, by decide⟩ dX1_allWays_16 rfl) (z_callv _ _ _ _),
   zz_of (ok_pop G dX1_allWays_19 rfl) (z_pop _),
   zz_of (ok_iconst G (v := 0) dX1_allWays_20 (by decide) rfl) (z_cn 21 0),
   zz_of (ok_istore_n G dX1_allWays_21 rfl rfl (by decide)) (z_ist _ _),
   zz_of (ok_iload_n G dX1_allWays_22 rfl rfl) (z_ild _ _),
   zz_of (ok_iconst G (v := 4) dX1_allWays_23 (by decide) rfl) (z_cn 24 4),
   zz_of (ok_cge G dX1_allWays_24 rfl rfl) (z_cge _ _ _ _),
   zz_of (ok_aload_n G dX1_allWays_27 rfl rfl) (z_ald _ _),
   zz_of (ok_get G (nx := 31) (ci := 0) (kd := 2) (k := 11) (RX1, TX1, 19) rfl (by decide) rfl q421 dX1_allWays_28 rfl) (z_get _ _ _ _),
   zz_of (ok_getN G (nx := 34) (ci := 5) (kd := 2) (k := 2) (RX6, TX6, 5) rfl (by decide) rfl q328 dX1_allWays_31 rfl) (z_get _ _ _ _),
   zz_of (ok_iload_n G dX1_allWays_34 rfl rfl) (z_ild _ _),
   zz_of (ok_iload_n G dX1_allWays_35 rfl rfl) (z_ild _ _),
   zz_of (ok_iload_n G dX1_allWays_36 rfl rfl) (z_ild _ _),
   zz_of (ok_cne G dX1_allWays_37 rfl rfl) (z_cne _ _ _ _),
   zz_of (ok_ldcw G (v := 1000000000) q1700 dX1_allWays_40 rfl) (z_cn 43 1000000000),
   zz_of (ok_goto G dX1_allWays_43 rfl) (z_goto _),
   zz_of (ok_iconst G (v := 0) dX1_allWays_46 (by decide) rfl) (z_cn 47 0),
   zz_of (ok_iast G dX1_allWays_47 rfl) (z_iasd _),
   zz_of (ok_iinc G (v := 1) dX1_allWays_48 (by decide) rfl (by decide)) (z_incn 51 3 1),
   zz_of (ok_goto G dX1_allWays_51 rfl) (z_goto _),
   zz_of (ok_aload_n G dX1_allWays_54 rfl rfl) (z_ald _ _),
   zz_of (ok_get G (nx := 58) (ci := 0) (kd := 2) (k := 11) (RX1, TX1, 19) rfl (by decide) rfl q421 dX1_allWays_55 rfl) (z_get _ _ _ _),
   zz_of (ok_iload_n G dX1_allWays_58 rfl rfl) (z_ild _ _),
   zz_of (ok_callv G hnh (zmX6_after_116 _ G.hst) rfl rfl (RX6, TX6, 5) rfl q1617 q1618 q1619 q90 q1620 (by decide +kernel) ⟨by decide, by decide⟩ dX1_allWays_59 rfl) (z_callv _ _ _ _),
   zz_of (ok_pop G dX1_allWays_62 rfl) (z_pop _),
   zz_of (ok_aload_n G dX1_allWays_63 rfl rfl) (z_ald _ _),
   zz_of (ok_get G (nx := 67) (ci := 0) (kd := 2) (k := 14) (RX1, TX1, 19) rfl (by decide) rfl q425 dX1_allWays_64 rfl) (z_get _ _ _ _),
   zz_of (ok_iconst G (v := 0) dX1_allWays_67 (by decide) rfl) (z_cn 68 0),
   zz_of (ok_aald G dX1_allWays_68 rfl) (z_aald _),
   zz_of (ok_iload_n G dX1_allWays_69 rfl rfl) (z_ild _ _),
   zz_of (ok_aload_n G dX1_allWays_70 rfl rfl) (z_ald _ _),
   zz_of (ok_get G (nx := 74) (ci := 0) (kd := 2) (k := 11) (RX1, TX1, 19) rfl (by decide) rfl q421 dX1_allWays_71 rfl) (z_get _ _ _ _),
   zz_of (ok_aload_n G dX1_allWays_74 rfl rfl) (z_ald _ _),
   zz_of (ok_get G (nx := 78) (ci := 0) (kd := 2) (k := 0) (RX1, TX1, 19) rfl (by decide) rfl q399 dX1_allWays_75 rfl) (z_get _ _ _ _),
   zz_of (ok_getN G (nx := 81) (ci := 1) (kd := 2) (k := 9) (RX2, TX2, 11) rfl (by decide) rfl q240 dX1_allWays_78 rfl) (z_get _ _ _ _),
   zz_of (ok_callv G hnh (zmX3_code_204 _ G.hst) rfl rfl (RX3, TX3, 7) rfl q1597 q1598 q1599 q87 q1600 (by decide +kernel) ⟨by decide, by decide⟩ dX1_allWays_81 rfl) (z_callv _ _ _ _),
   zz_of (ok_callv G hnh (zmX6_at_116 _ G.hst) rfl rfl (RX6, TX6, 5) rfl q1646 q1634 q1635 q90 q1636 (by decide +kernel) ⟨by decide, by decide⟩ dX1_allWays_84 rfl) (z_callv _ _ _ _),
   zz_of (ok_iast G dX1_allWays_87 rfl) (z_iasp _),
   zz_of (ok_iconst G (v := 0) dX1_allWays_88 (by decide) rfl) (z_cn 89 0),
   zz_of (ok_istore_n G dX1_allWays_89 rfl rfl (by decide)) (z_ist _ _),
   zz_of (ok_iload_n G dX1_allWays_90 rfl rfl) (z_ild _ _),
   zz_of (ok_iconst G (v := 2) dX1_allWays_91 (by decide) rfl) (z_cn 92 2),
   zz_of (ok_cge G dX1_allWays_92 rfl rfl) (z_cge _ _ _ _),
   zz_of (ok_aload_n G dX1_allWays_95 rfl rfl) (z_ald _ _),
   zz_of (ok_get G (nx := 99) (ci := 0) (kd := 2) (k := 14) (RX1, TX1, 19) rfl (by decide) rfl q425 dX1_allWays_96 rfl) (z_get _ _ _ _),
   zz_of (ok_iconst G (v := 1) dX1_allWays_99 (by decide) rfl) (z_cn 100 1),
   zz_of (ok_iload_n G dX1_allWays_100 rfl rfl) (z_ild _ _),
   zz_of (ok_iadd G dX1_allWays_101 rfl) (z_iadd _),
   zz_of (ok_aald G dX1_allWays_102 rfl) (z_aald _),
   zz_of (ok_iload_n G dX1_allWays_103 rfl rfl) (z_ild _ _),
   zz_of (ok_aload_n G dX1_allWays_104 rfl rfl) (z_ald _ _),
   zz_of (ok_get G (nx := 108) (ci := 0) (kd := 2) (k := 11) (RX1, TX1, 19) rfl (by decide) rfl q421 dX1_allWays_105 rfl) (z_get _ _ _ _),
   zz_of (ok_aload_n G dX1_allWays_108 rfl rfl) (z_ald _ _),
   zz_of (ok_iload_n G dX1_allWays_109 rfl rfl) (z_ild _ _),
   zz_of (ok_callv G hnh (zmX1_beginCode _ G.hst) rfl rfl (RX1, TX1, 19) rfl q1701 q1703 qs32 q82 q1704 (by decide +kernel) ⟨by decide, by decide⟩ dX1_allWays_110 rfl) (z_callv _ _ _ _),
   zz_of (ok_callv G hnh (zmX6_at_116 _ G.hst) rfl rfl (RX6, TX6, 5) rfl q1646 q1634 q1635 q90 q1636 (by decide +kernel) ⟨by decide, by decide⟩ dX1_allWays_113 rfl) (z_callv _ _ _ _),
   zz_of (ok_iast G dX1_allWays_116 rfl) (z_iasp _),
   zz_of (ok_iinc G (v := 1) dX1_allWays_117 (by decide) rfl (by decide)) (z_incn 120 3 1),
   zz_of (ok_goto G dX1_allWays_120 rfl) (z_goto _),
   zz_of (ok_iinc G (v := 1) dX1_allWays_123 (by decide) rfl (by decide)) (z_incn 126 2 1),
   zz_of (ok_goto G dX1_allWays_126 rfl) (z_goto _),
   zz_of (ok_vret G dX1_allWays_129) (z_vret), trivial⟩

theorem zwX1_allWays_0 {Q : Option zv → zz_M → Prop} {X : Nat → zz_M → Prop} {f : Nat → Nat × Nat} {S L : Nat → Nat → Int} {P : Nat → Nat → Option Nat} {n : Int} (h : (∃ (w_1 : Nat → Int) (rs_1 : List (Fc → Option Int)) (top_1 : Nat), wRel S w_1 ∧ wV w_1 ∧ (S 100 8 = 0 ∨ (S 100 8 = 1 ∧ lT S w_1)) ∧ rlI f S P top_1 rs_1 ∧ ruR w_1 rs_1 ∧ (∀ p_1, p_1 < 2 → prI S rs_1 p_1) ∧ (cx S 204 6 = 0 ∨ cx S 204 6 = 1) ∧ cx S 204 7 = w_1 208 ∧ cx S 204 8 = w_1 209 ∧ (0 ≤ w_1 208 ∧ w_1 208 ≤ 6) ∧ (0 ≤ w_1 209 ∧ w_1 209 ≤ 6) ∧ (∀ (S_1 : Nat → Nat → Int) (P_1 : Nat → Nat → Option Nat), syE S S_1 → scnP P P_1 → S_1 100 8 = 1 → lT S_1 w_1 → styE S_1 (stT w_1) → (zz_J zpX1_allWays (zz_ret Q X 0 0) 6 [some (vr 100), some (vi n), some (vi 0), none] [] ((2, f), S_1, L, P_1) (0, 0))))) : zz_J zpX1_allWays (zz_ret Q X 0 0) 0 [some (vr 100), some (vi n), none, none] [] ((2, f), S, L, P) (0, 0) := zz_J.go [(6, [3]), (22, []), (90, [])] 400 h
theorem zwX1_allWays_6 {Q : Option zv → zz_M → Prop} {X : Nat → zz_M → Prop} {f : Nat → Nat × Nat} {S L : Nat → Nat → Int} {P : Nat → Nat → Option Nat} {x1 : Int} {x2 : Int} (h : R32 x2 ∧ ((4 ≤ x2 → Q none ((2, f), S, L, P)) ∧ (¬ 4 ≤ x2 → (∃ a_1 : Nat, cN P 116 a_1 ∧ (∀ S_1 : Nat → Nat → Int, (∀ h k, h ≠ a_1 → ¬ (h = 116 ∧ k = 3) → S_1 h k = S h k) → S_1 116 3 = (-1) → (∀ k, k < 15488 → S_1 a_1 k = 0) → (zz_J zpX1_allWays (zz_ret Q X 0 0) 22 [some (vr 100), some (vi x1), some (vi x2), some (vi 0)] [] ((2, f), S_1, L, P) (0, 0))))))) : zz_J zpX1_allWays (zz_ret Q X 0 0) 6 [some (vr 100), some (vi x1), some (vi x2), none] [] ((2, f), S, L, P) (0, 0) := zz_J.go [(6, [3]), (22, []), (90, [])] 400 h
theorem zwX1_allWays_22 {Q : Option zv → zz_M → Prop} {X : Nat → zz_M → Prop} {f : Nat → Nat × Nat} {S L : Nat → Nat → Int} {P : Nat → Nat → Option Nat} {x1 : Int} {x2 : Int} {x3 : Int} (h : R32 x3 ∧ ((4 ≤ x3 → ((0 ≤ x1 ∧ x1 ≤ 1000) ∧ ∃ (w_1 st_1 : Nat → Int) (a_1 i_1 : Nat) (p_1 th_1 ch_1 : Int), chI S P 116 w_1 st_1 a_1 p_1 th_1 ch_1 i_1 ∧ (∀ (S_1 : Nat → Nat → Int) (P_1 : Nat → Nat → Option Nat) (b_1 : Nat), (∀ h, h ≠ 117 → h ≠ 118 → S_1 h = S h) → (∀ h k, ¬ (h = 116 ∧ k < 2) → P_1 h k = P h k) → chI S_1 P_1 116 w_1 st_1 b_1 p_1 th_1 ch_1 (i_1 + x1.toNat) → (∃ t_ n_ : Nat, zsh ((2, f), S_1, L, P_1) 127 = (t_, n_) ∧ (t_ = 6 ∨ t_ = 7 ∨ t_ = 8) ∧ (n_ : Int) ≤ 2147483647 ∧ (0 ≤ (0 : Int) ∧ 0 < (n_ : Int)) ∧ (∀ b2 : Nat, zpt ((2, f), S_1, L, P_1) 127 ((0 : Int).toNat) = some b2 → (scV (cx S_1 204) ∧ ((∃ a_4 : Nat, cN P_1 116 a_4 ∧ ((nuR (cx S_1 204)) < 0 → -4 ≤ (nuR (cx S_1 204)) ∧ (∃ n_ : Nat, zsh ((2, f), S_1, L, P_1) b2 = (2, n_) ∧ (n_ : Int) ≤ 2147483647 ∧ (0 ≤ x2 ∧ x2 < (n_ : Int)) ∧ (zz_J zpX1_allWays (zz_ret Q X 0 0) 90 [some (vr 100), some (vi x1), some (vi x2), some (vi 0)] [] ((2, f), mm_up S_1 b2 x2.toNat (S_1 119 (-1 - (nuR (cx S_1 204))).toNat), L, P_1) (0, 0)))) ∧ (0 ≤ (nuR (cx S_1 204)) → (nuR (cx S_1 204)) < 15488 ∧ (∃ n_ : Nat, zsh ((2, f), S_1, L, P_1) b2 = (2, n_) ∧ (n_ : Int) ≤ 2147483647 ∧ (0 ≤ x2 ∧ x2 < (n_ : Int)) ∧ (zz_J zpX1_allWays (zz_ret Q X 0 0) 90 [some (vr 100), some (vi x1), some (vi x2), some (vi 0)] [] ((2, f), mm_up S_1 b2 x2.toNat (S_1 a_4 (nuR (cx S_1 204)).toNat), L, P_1) (0, 0)))))))) ∧ (zpt ((2, f), S_1, L, P_1) 127 ((0 : Int).toNat) = none → (scV (cx S_1 204) ∧ ((∃ a_6 : Nat, cN P_1 116 a_6 ∧ ((nuR (cx S_1 204)) < 0 → -4 ≤ (nuR (cx S_1 204)) ∧ (False)) ∧ (0 ≤ (nuR (cx S_1 204)) → (nuR (cx S_1 204)) < 15488 ∧ (False)))))))))) ∧ (¬ 4 ≤ x3 → R32 x3 ∧ (R32 x2 ∧ ((¬ x3 = x2 → (0 ≤ x3 ∧ x3 < 4) ∧ (zz_J zpX1_allWays (zz_ret Q X 0 0) 22 [some (vr 100), some (vi x1), some (vi x2), some (vi (x3 + 1))] [] ((2, f), mm_up S 119 x3.toNat 0, L, P) (0, 0))) ∧ (x3 = x2 → (0 ≤ x3 ∧ x3 < 4) ∧ (zz_J zpX1_allWays (zz_ret Q X 0 0) 22 [some (vr 100), some (vi x1), some (vi x2), some (vi (x3 + 1))] [] ((2, f), mm_up S 119 x3.toNat 1000000000, L, P) (0, 0)))))))) : zz_J zpX1_allWays (zz_ret Q X 0 0) 22 [some (vr 100), some (vi x1), some (vi x2), some (vi x3)] [] ((2, f), S, L, P) (0, 0) := zz_J.go [(6, [3]), (22, []), (90, [])] 400 h
theorem zwX1_allWays_90 {Q : Option zv → zz_M → Prop} {X : Nat → zz_M → Prop} {f : Nat → Nat × Nat} {S L : Nat → Nat → Int} {P : Nat → Nat → Option Nat} {x1 : Int} {x2 : Int} {x3 : Int} (h : R32 x3 ∧ ((2 ≤ x3 → zz_J zpX1_allWays (zz_ret Q X 0 0) 6 [some (vr 100), some (vi x1), some (vi (x2 + 1)), none] [] ((2, f), S, L, P) (0, 0)) ∧ (¬ 2 ≤ x3 → ∃ t_ n_ : Nat, zsh ((2, f), S, L, P) 127 = (t_, n_) ∧ (t_ = 6 ∨ t_ = 7 ∨ t_ = 8) ∧ (n_ : Int) ≤ 2147483647 ∧ (0 ≤ (1 + x3) ∧ (1 + x3) < (n_ : Int)) ∧ (∀ b1 : Nat, zpt ((2, f), S, L, P) 127 ((1 + x3).toNat) = some b1 → ((x3 = 0 ∨ x3 = 1) ∧ (cx S 204 6 = 0 ∨ cx S 204 6 = 1) ∧ ∃ w_2 : Nat → Int, wsc S w_2 ∧ wV w_2 ∧ (∀ S_2 : Nat → Nat → Int, (∀ h k, ¬ (108 ≤ h ∧ h ≤ 111) → S_2 h k = S h k) → ((∃ a_3 : Nat, cN P 116 a_3 ∧ ((nuR (bgX w_2 x3)) < 0 → -4 ≤ (nuR (bgX w_2 x3)) ∧ (∃ n_ : Nat, zsh ((2, f), S_2, L, P) b1 = (2, n_) ∧ (n_ : Int) ≤ 2147483647 ∧ (0 ≤ x2 ∧ x2 < (n_ : Int)) ∧ (zz_J zpX1_allWays (zz_ret Q X 0 0) 90 [some (vr 100), some (vi x1), some (vi x2), some (vi (x3 + 1))] [] ((2, f), mm_up S_2 b1 x2.toNat (S_2 119 (-1 - (nuR (bgX w_2 x3))).toNat), L, P) (0, 0)))) ∧ (0 ≤ (nuR (bgX w_2 x3)) → (nuR (bgX w_2 x3)) < 15488 ∧ (∃ n_ : Nat, zsh ((2, f), S_2, L, P) b1 = (2, n_) ∧ (n_ : Int) ≤ 2147483647 ∧ (0 ≤ x2 ∧ x2 < (n_ : Int)) ∧ (zz_J zpX1_allWays (zz_ret Q X 0 0) 90 [some (vr 100), some (vi x1), some (vi x2), some (vi (x3 + 1))] [] ((2, f), mm_up S_2 b1 x2.toNat (S_2 a_3 (nuR (bgX w_2 x3)).toNat), L, P) (0, 0))))))))) ∧ (zpt ((2, f), S, L, P) 127 ((1 + x3).toNat) = none → ((x3 = 0 ∨ x3 = 1) ∧ (cx S 204 6 = 0 ∨ cx S 204 6 = 1) ∧ ∃ w_4 : Nat → Int, wsc S w_4 ∧ wV w_4 ∧ (∀ S_4 : Nat → Nat → Int, (∀ h k, ¬ (108 ≤ h ∧ h ≤ 111) → S_4 h k = S h k) → ((∃ a_5 : Nat, cN P 116 a_5 ∧ ((nuR (bgX w_4 x3)) < 0 → -4 ≤ (nuR (bgX w_4 x3)) ∧ (False)) ∧ (0 ≤ (nuR (bgX w_4 x3)) → (nuR (bgX w_4 x3)) < 15488 ∧ (False)))))))))) : zz_J zpX1_allWays (zz_ret Q X 0 0) 90 [some (vr 100), some (vi x1), some (vi x2), some (vi x3)] [] ((2, f), S, L, P) (0, 0) := zz_J.go [(6, [3]), (22, []), (90, [])] 400 h

theorem chI.o {S T : Nat → Nat → Int} {P : Nat → Nat → Option Nat} {w st : Nat → Int} {a i : Nat} {p th ch : Int} (h : chI S P 116 w st a p th ch i) (e : ∀ h k, ¬ (108 ≤ h ∧ h ≤ 111) → ¬ (127 ≤ h ∧ h ≤ 130) → T h k = S h k) : chI T P 116 w st a p th ch i := by
  obtain ⟨⟨h3, hch, hp⟩, hsy, hst, ha, htb, hen, hrw, hl, hm, hwh⟩ := h
  have ha1 := ha.1
  exact ⟨⟨by rw [e 116 3 (by omega) (by omega)]; exact h3, hch, hp⟩, fun c hc hcb => by rw [e 107 c (by omega) (by omega)]; exact hsy c hc hcb, hst, ha, fun c hc hcb => by rw [e a c (by omega) (by omega)]; exact htb c hc hcb, fun j hj => by rw [e 119 j (by omega) (by omega)]; exact hen j hj, fun i' k hi hk => by rw [e (210 + i') k (by omega) (by omega)]; exact hrw i' k hi hk, hl.w rfl rfl (fun h' hh k => e h' k (by omega) (by omega)), hm, hwh⟩
theorem up_at (S : Nat → Nat → Int) (a b : Nat) (v : Int) : mm_up S a b v a b = v := by rw [up_eq, if_pos ⟨rfl, rfl⟩]
theorem zmX1_allWays (l : Launch) (hl : l.stackTraces = false) : mm_Spec l yX1_allWays (ws_ yX1_allWays cX1_allWays 4 none) (mm_rm 23 0 0) (zE zX1_allWays) := by
  refine zz_Met.J hl (by decide) (fun C G hnh => ztX1_allWays G hnh) ?_
  rintro as ⟨⟨t_, f⟩, S, L, P⟩ Q X h
  unfold zX1_allWays at h
  split at h
  rotate_left
  · exact h.elim
  rename_i h_ n
  obtain ⟨e1_, e2_, h⟩ := mm_and2 h (fun q => q)
  cases mm_beq e1_
  cases mm_beq e2_
  try dsimp only at h
  refine ⟨rfl, ?_⟩
  obtain ⟨hn, w, rs, top, hc, hq⟩ := h
  refine zwX1_allWays_0 (hc.sty fun T0 P0 z0 y0 => ?_)
  obtain ⟨yo, yk, yl, ys⟩ := y0
  have yo' := yo
  obtain ⟨h1, ⟨h2, h2b⟩, h3, h456, ⟨h7, h8, h8b⟩, ⟨a0, h9⟩, ⟨b', h10⟩, ⟨c', h11⟩⟩ := yo
  have hnu := nuR_in h8
  have hcb : cbR (nuR (nwW w)) = true := nuR_cb h8
  have hV := scV_xE h8 h7
  have x6 : cx T0 204 6 = 0 ∨ cx T0 204 6 = 1 := by
    rcases hV.2.2 with ⟨-, e⟩ | ⟨-, e, -⟩ | ⟨-, e, -⟩ <;> omega
  have exx : ∀ T : Nat → Nat → Int, (∀ h k, ¬ (108 ≤ h ∧ h ≤ 111) → ¬ (116 ≤ h ∧ h ≤ 119) → ¬ (127 ≤ h ∧ h ≤ 130) → T h k = T0 h k) → cx T 204 = cx T0 204 := fun T e => cx_fr fun h k g1 g2 => e h k (by omega) (by omega) (by omega)
  have t6 : ∀ (m K : Nat) (T : Nat → Nat → Int) (PT : Nat → Nat → Option Nat), K + m = 4 → (∀ h k, ¬ (108 ≤ h ∧ h ≤ 111) → ¬ (116 ≤ h ∧ h ≤ 119) → ¬ (127 ≤ h ∧ h ≤ 130) → T h k = T0 h k) → (∀ h k, ¬ (h = 116 ∧ k < 2) → PT h k = P0 h k) → (∃ a, cN PT 116 a) → (∀ k, k < K → T 128 k = tbK w (stT w) k n.toNat (nuR (nwW w)).toNat) → (∀ s k, s < 2 → k < K → T (129 + s) k = wyF w (stT w) n.toNat (4 * s + k)) → zz_J zpX1_allWays (zz_ret Q X 0 0) 6 [some (vr 100), some (vi n), some (vi (K : Int)), none] [] ((2, f), T, L, PT) (0, 0) := by
    intro m
    induction m with
    | zero =>
      intro K T PT hK e eP ha r0 r1
      refine zwX1_allWays_6 ⟨by omega, fun _ => ?_, fun d => absurd (by omega) d⟩
      have k4 : K = 4 := by omega
      subst k4
      refine hq T PT (z0.tr ⟨⟨sck_o fun h k g _ => e h k (by omega) (by omega) (by omega), spk_o fun h k _ g => eP h k (by omega)⟩, Or.inr ⟨by rw [e 100 8 (by omega) (by omega) (by omega)]; exact yk, yl.w rfl rfl fun h hh k => e h k (by omega) (by omega) (by omega)⟩, ha, ⟨b', h10.fr (eP 120 0 (by omega)) (eP 120 1 (by omega))⟩, ⟨c', h11.fr (eP 124 0 (by omega)) (eP 124 1 (by omega))⟩⟩) r0 r1
    | succ m ih =>
      intro K T PT hK e eP ha r0 r1
      obtain ⟨a, ha⟩ := ha
      have a2 := ha.1
      have K4 : K < 4 := by omega
      have t90 : ∀ (j s : Nat) (U : Nat → Nat → Int) (PU : Nat → Nat → Option Nat) (b : Nat), s + j = 2 → (∀ h k, ¬ (108 ≤ h ∧ h ≤ 111) → ¬ (116 ≤ h ∧ h ≤ 119) → ¬ (127 ≤ h ∧ h ≤ 130) → U h k = T0 h k) → (∀ h k, ¬ (h = 116 ∧ k < 2) → PU h k = P0 h k) → chI U PU 116 w (stT w) b ((K / 2 : Nat) : Int) ((K % 2 : Nat) : Int) (-1) n.toNat → (∀ k, k < K + 1 → U 128 k = tbK w (stT w) k n.toNat (nuR (nwW w)).toNat) → (∀ s' k, s' < 2 → k < K → U (129 + s') k = wyF w (stT w) n.toNat (4 * s' + k)) → (∀ s', s' < s → U (129 + s') K = wyF w (stT w) n.toNat (4 * s' + K)) → zz_J zpX1_allWays (zz_ret Q X 0 0) 90 [some (vr 100), some (vi n), some (vi (K : Int)), some (vi (s : Int))] [] ((2, f), U, L, PU) (0, 0) := by
        intro j
        induction j with
        | zero =>
          intro s U PU b hs eU ePU hI q0 q1 q2
          refine zwX1_allWays_90 ⟨by omega, fun _ => ?_, fun d => absurd (by omega) d⟩
          refine ih (K + 1) U PU (by omega) eU ePU ⟨b, hI.2.2.2.1⟩ q0 fun s' k hs' hk => ?_
          by_cases ek : k = K
          · subst ek
            exact q2 s' (by omega)
          · exact q1 s' k hs' (by omega)
        | succ j ihj =>
          intro s U PU b hs eU ePU hI q0 q1 q2
          have s2 : s < 2 := by omega
          have hB := bgX_V h2.2.1 (s := (s : Int)) (by omega)
          have hnb := nuR_in hB.1
          have hcbb : cbR (nuR (bgX w (s : Int))) = true := nuR_cb hB.1
          have xU := exx U eU
          have ez : zpt ((2, f), U, L, PU) 127 ((1 + (s : Int)).toNat) = some (129 + s) := by
            have e2 : (1 + (s : Int)).toNat = 1 + s := by omega
            rw [e2]
            have : s = 0 ∨ s = 1 := by omega
            rcases this with e | e <;> subst e <;> rfl
          have esh : ∀ V : Nat → Nat → Int, zsh ((2, f), V, L, PU) (129 + s) = (2, 4) := fun V => by
            have : s = 0 ∨ s = 1 := by omega
            rcases this with e | e <;> subst e <;> rfl
          refine zwX1_allWays_90 ⟨by omega, fun d => absurd d (by omega), fun _ => ⟨6, 3, rfl, Or.inl rfl, by decide, by omega, fun b1 hb1 => ?_, fun hb1 => by rw [ez] at hb1; cases hb1⟩⟩
          rw [ez] at hb1
          cases hb1
          refine ⟨by omega, by rw [xU]; exact x6, w, ?_, h2.2.1, fun V eV => ⟨b, hI.2.2.2.1, fun d => by omega, fun _ => ⟨hnb.2, 4, esh V, by decide, by omega, ?_⟩⟩⟩
          · obtain ⟨g1, g2, g3, g4, g5⟩ := h1.1
            exact ⟨by rw [eU 200 1 (by omega) (by omega) (by omega)]; exact g1, by rw [eU 200 2 (by omega) (by omega) (by omega)]; exact g2, by rw [eU 200 3 (by omega) (by omega) (by omega)]; exact g3, by rw [eU 200 4 (by omega) (by omega) (by omega)]; exact g4, by rw [eU 200 5 (by omega) (by omega) (by omega)]; exact g5⟩
          · have hIV : chI V PU 116 w (stT w) b ((K / 2 : Nat) : Int) ((K % 2 : Nat) : Int) (-1) n.toNat := hI.o fun h k g1 g2 => eV h k g1
            have hv := hIV.2.2.2.2.1 (nuR (bgX w (s : Int))).toNat (by omega) (by rw [Int.toNat_of_nonneg hnb.1]; exact hcbb)
            have ew : V b (nuR (bgX w (s : Int))).toNat = wyF w (stT w) n.toNat (4 * s + K) := by
              rw [hv]
              unfold kT wyF
              rw [if_pos rfl, show (4 * s + K) % 4 = K by omega, show (4 * s + K) / 4 = s by omega]
            rw [ew, Int.toNat_natCast]
            refine ihj (s + 1) _ PU b (by omega) (fun h k g1 g2 g3 => ?_) ePU (hIV.o fun h k g1 g2 => ?_) (fun k hk => ?_) (fun s' k hs' hk => ?_) (fun s' hs' => ?_)
            · rw [up_eq, if_neg (by omega), eV h k g1]
              exact eU h k g1 g2 g3
            · rw [up_eq, if_neg (by omega)]
            · rw [up_eq, if_neg (by omega), eV 128 k (by omega)]
              exact q0 k hk
            · rw [up_eq, if_neg (by omega), eV (129 + s') k (by omega)]
              exact q1 s' k hs' hk
            · by_cases es : s' = s
              · subst es
                exact up_at _ _ _ _
              · rw [up_eq, if_neg (by omega), eV (129 + s') K (by omega)]
                exact q2 s' (by omega)
      have t22 : ∀ (j x : Nat) (U : Nat → Nat → Int), x + j = 4 → (∀ h k, ¬ (108 ≤ h ∧ h ≤ 111) → ¬ (116 ≤ h ∧ h ≤ 119) → ¬ (127 ≤ h ∧ h ≤ 130) → U h k = T0 h k) → U 116 3 = -1 → (∀ k, k < 15488 → U a k = 0) → (∀ x', x' < x → U 119 x' = if x' = K then 1000000000 else 0) → (∀ k, k < K → U 128 k = tbK w (stT w) k n.toNat (nuR (nwW w)).toNat) → (∀ s' k, s' < 2 → k < K → U (129 + s') k = wyF w (stT w) n.toNat (4 * s' + k)) → zz_J zpX1_allWays (zz_ret Q X 0 0) 22 [some (vr 100), some (vi n), some (vi (K : Int)), some (vi (x : Int))] [] ((2, f), U, L, PT) (0, 0) := by
        intro j
        induction j with
        | zero =>
          intro x U hx eU u3 u0 uE q0 q1
          have hI : chI U PT 116 w (stT w) a ((K / 2 : Nat) : Int) ((K % 2 : Nat) : Int) (-1) 0 := by
            refine ⟨⟨u3, Or.inl rfl, by omega⟩, fun c hc hcb => by rw [eU 107 c (by omega) (by omega) (by omega)]; exact ys c hc hcb, stT_G w, ha, fun c hc _ => by rw [u0 c hc]; rfl, fun j hj => ?_, fun i' k hi hk => by rw [eU (210 + i') k (by omega) (by omega) (by omega)]; exact h1.2.2.2.2.2 i' k hi hk, yl.w rfl rfl fun h hh k => eU h k (by omega) (by omega) (by omega), h2, h2b⟩
            have := uE j (by omega)
            show U 119 j = _
            rw [this]
            unfold enV4
            by_cases ej : j = K
            · rw [if_pos ej, if_pos ⟨by omega, Or.inr (by omega)⟩]
            · rw [if_neg ej, if_neg (by omega)]
          refine zwX1_allWays_22 ⟨by omega, fun _ => ⟨by omega, w, stT w, a, 0, ((K / 2 : Nat) : Int), ((K % 2 : Nat) : Int), -1, hI, fun V PV b eV ePV hIV => ?_⟩, fun d => absurd (by omega) d⟩
          rw [Nat.zero_add] at hIV
          have eV2 : ∀ h k, ¬ (108 ≤ h ∧ h ≤ 111) → ¬ (116 ≤ h ∧ h ≤ 119) → ¬ (127 ≤ h ∧ h ≤ 130) → V h k = T0 h k := fun h k g1 g2 g3 => by rw [eV h (by omega) (by omega)]; exact eU h k g1 g2 g3
          have xV := exx V eV2
          have e1 : nuR (cx V 204) = nuR (nwW w) := by rw [xV]; exact nuR_xE h8 h7
          refine ⟨6, 3, rfl, Or.inl rfl, by decide, by omega, fun b2 hb2 => ?_, fun hb2 => by cases hb2⟩
          have hb3 : some 128 = some b2 := hb2
          cases hb3
          rw [e1]
          refine ⟨by rw [xV]; exact hV, b, hIV.2.2.2.1, fun d => by omega, fun _ => ⟨hnu.2, 4, rfl, by decide, by omega, ?_⟩⟩
          have hv := hIV.2.2.2.2.1 (nuR (nwW w)).toNat (by omega) (by rw [Int.toNat_of_nonneg hnu.1]; exact hcb)
          have ew : V b (nuR (nwW w)).toNat = tbK w (stT w) K n.toNat (nuR (nwW w)).toNat := by
            rw [hv]
            unfold kT
            rw [if_pos rfl]
          rw [ew, Int.toNat_natCast]
          refine t90 2 0 _ PV b rfl (fun h k g1 g2 g3 => ?_) (fun h k g => by rw [ePV h k g]; exact eP h k g) (hIV.o fun h k g1 g2 => ?_) (fun k hk => ?_) (fun s' k hs' hk => ?_) (fun s' hs' => absurd hs' (Nat.not_lt_zero _))
          · rw [up_eq, if_neg (by omega)]
            exact eV2 h k g1 g2 g3
          · rw [up_eq, if_neg (by omega)]
          · by_cases ek : k = K
            · subst ek
              exact up_at _ _ _ _
            · rw [up_eq, if_neg (by omega), eV 128 (by omega) (by omega)]
              exact q0 k (by omega)
          · rw [up_eq, if_neg (by omega), eV (129 + s') (by omega) (by omega)]
            exact q1 s' k hs' hk
        | succ j ihj =>
          intro x U hx eU u3 u0 uE q0 q1
          have stp : ∀ v : Int, (v = if x = K then 1000000000 else 0) → zz_J zpX1_allWays (zz_ret Q X 0 0) 22 [some (vr 100), some (vi n), some (vi (K : Int)), some (vi ((x : Int) + 1))] [] ((2, f), mm_up U 119 x v, L, PT) (0, 0) := by
            intro v hv
            refine ihj (x + 1) _ (by omega) (fun h k g1 g2 g3 => ?_) ?_ (fun k hk => ?_) (fun x' hx' => ?_) (fun k hk => ?_) (fun s' k hs' hk => ?_)
            · rw [up_eq, if_neg (by omega)]
              exact eU h k g1 g2 g3
            · rw [up_eq, if_neg (by omega)]
              exact u3
            · rw [up_eq, if_neg (by omega)]
              exact u0 k hk
            · by_cases ex : x' = x
              · subst ex
                rw [up_at]
                exact hv
              · rw [up_eq, if_neg (by omega)]
                exact uE x' (by omega)
            · rw [up_eq, if_neg (by omega)]
              exact q0 k hk
            · rw [up_eq, if_neg (by omega)]
              exact q1 s' k hs' hk
          refine zwX1_allWays_22 ⟨by omega, fun d => absurd d (by omega), fun _ => ⟨by omega, by omega, fun d => ⟨by omega, ?_⟩, fun d => ⟨by omega, ?_⟩⟩⟩
          · rw [Int.toNat_natCast]
            exact stp 0 (by rw [if_neg (by omega)])
          · rw [Int.toNat_natCast]
            exact stp 1000000000 (by rw [if_pos (by omega)])
      refine zwX1_allWays_6 ⟨by omega, fun d => absurd d (by omega), fun _ => ⟨a, ha, fun U eU u3 u0 => ?_⟩⟩
      refine t22 4 0 U rfl (fun h k g1 g2 g3 => ?_) u3 u0 (fun x' hx' => absurd hx' (Nat.not_lt_zero _)) (fun k hk => ?_) (fun s' k hs' hk => ?_)
      · rw [eU h k (by omega) (by omega)]
        exact e h k g1 g2 g3
      · rw [eU 128 k (by omega) (by omega)]
        exact r0 k hk
      · rw [eU (129 + s') k (by omega) (by omega)]
        exact r1 s' k hs' hk
  exact t6 4 0 T0 P0 rfl (fun _ _ _ _ _ => rfl) (fun _ _ _ => rfl) ⟨a0, h9⟩ (fun k hk => absurd hk (Nat.not_lt_zero _)) (fun s k _ hk => absurd hk (Nat.not_lt_zero _))
