/-! ===== the component's handicaps ===== -/
set_option maxRecDepth 100000
def zX1_even : zz_Sp := fun as M Q X => match as with
  | [.inr (.inr (some h_)), .inl n, .inl m] => bif Nat.beq h_ 100 && Nat.beq M.1.1 2 then (R32 n ∧ R32 m ∧ ∃ (w_ : Nat → Int) (rs_ : List (Fc → Option Int)) (top_ : Nat), cO M.1.2 M.2.1 M.2.2.2 w_ rs_ top_ ∧ (¬ ((0 ≤ n ∧ n ≤ 30) ∧ (0 ≤ m ∧ m ≤ 500000)) → X 1 ((2, M.1.2), M.2.1, M.2.2.1, M.2.2.2)) ∧ ((0 ≤ n ∧ n ≤ 30) ∧ (0 ≤ m ∧ m ≤ 500000) → ∀ (S_ : Nat → Nat → Int) (P_ : Nat → Nat → Option Nat), cZ M.2.1 M.2.2.2 w_ S_ P_ → Q (some (vi (evI (evB (tbR w_ (stT w_) 0 (-1) n.toNat) (nwW w_) m) 28 0))) ((2, M.1.2), S_, M.2.2.1, P_))) else False
  | _ => False

def zpX1_even : zz_P := [(0, zo_ild 1 1), (1, zo_csL (mm_rm 24 2 12) 4 1 1 6 zX1_some), (4, zo_ild 5 2), (5, zo_c 6 (vi 0)), (6, zo_c 9 (vi 500000)), (9, zo_calls 12 3 zX1_in), (12, zo_csL (mm_rm 24 2 12) 15 1 1 6 zX1_demand), (15, zo_ald 16 0), (16, zo_callv 19 1 0 zX1_stylesAll), (19, zo_ald 20 0), (20, zo_get 23 0 2 11), (23, zo_c 24 (vi 0)), (24, zo_callv 27 2 5 zX6_wins_116), (27, zo_ild 28 1), (28, zo_callv 31 2 5 zX6_after_116), (31, zo_pop 32), (32, zo_c 33 (vi 0)), (33, zo_ist 34 3), (34, zo_ild 35 3), (35, zo_c 37 (vi 6)), (37, zo_cgt false true 40 169), (40, zo_c 41 (vi 0)), (41, zo_ild 42 3), (42, zo_c 43 (vi 3)), (43, zo_isub 44), (44, zo_calls 47 2 zJ4_max), (47, zo_ist 49 4), (49, zo_ild 51 4), (51, zo_c 52 (vi 3)), (52, zo_ild 53 3), (53, zo_calls 56 2 zJ4_min), (56, zo_cgt false false 59 163), (59, zo_ild 60 3), (60, zo_ild 62 4), (62, zo_isub 63), (63, zo_ist 65 5), (65, zo_ald 66 0), (66, zo_get 69 0 2 9), (69, zo_ald 70 0), (70, zo_get 73 0 2 0), (73, zo_get 76 1 2 9), (76, zo_callv 79 2 2 zX3_takes_204108), (79, zo_pop 80), (80, zo_ald 81 0), (81, zo_get 84 0 2 9), (84, zo_get 87 2 2 0), (87, zo_c 88 (vi 0)), (88, zo_ild 90 5), (90, zo_ineg 91), (91, zo_iasc 92 0), (92, zo_ald 93 0), (93, zo_get 96 0 2 9), (96, zo_get 99 2 2 0), (99, zo_c 100 (vi 1)), (100, zo_ild 102 4), (102, zo_iasc 103 1), (103, zo_ald 104 0), (104, zo_get 107 0 2 9), (107, zo_c 108 (vi 0)), (108, zo_puti 111 2 4), (111, zo_ald 112 0), (112, zo_get 115 0 2 9), (115, zo_c 116 (vi 0)), (116, zo_putz true 119 2 5), (119, zo_ald 120 0), (120, zo_get 123 0 2 11), (123, zo_ald 124 0), (124, zo_get 127 0 2 9), (127, zo_callv 130 1 2 zX3_code_108), (130, zo_callv 133 2 5 zX6_at_116), (133, zo_c 136 (vi 500000000)), (136, zo_isub 137), (137, zo_calls 140 1 zJ4_abs), (140, zo_c 143 (vi 1000)), (143, zo_ild 144 2), (144, zo_imul 145), (145, zo_cgt false false 148 157), (148, zo_c 150 (vi 10)), (150, zo_ild 152 5), (152, zo_imul 153), (153, zo_ild 155 4), (155, zo_iadd 156), (156, zo_iret), (157, zo_inc 160 4 1), (160, zo_goto 49), (163, zo_inc 166 3 1), (166, zo_goto 34), (169, zo_c 170 (vi (-1))), (170, zo_iret)]
theorem ztX1_even {C : mm_C} (G : mm_G C RX1 cX1_even (some .int) 6 (mm_rm 24 2 12)) (hnh : mm_nh C) : zz_OKs C zpX1_even :=
  ⟨zz_of (ok_iload_n G dX1_even_0 rfl rfl) (z_ild _ _),
   zz_of (ok_calsF G (hnh.q 1) (zmX1_some _ G.hst) q1575 q1576 q82 q1577 (by decide +kernel) ⟨Nat.le_of_ble_eq_true rfl, Nat.le_of_ble_eq_true rfl⟩ dX1_even_1 rfl) (z_csL _ _ _ _ _ _),
   zz_of (ok_iload_n G dX1_even_4 rfl rfl) (z_ild _ _),
   zz_of (ok_iconst G (v := 0) dX1_even_5 (by decide) rfl) (z_cn 6 0),
   zz_of (ok_ldcw G (v := 500000) q1725 dX1_even_6 rfl) (z_cn 9 500000),
   zz_of (ok_calls G hnh (zmX1_in _ G.hst) rfl rfl q1326 q634 q82 q635 (by decide +kernel) ⟨by decide, by decide⟩ dX1_even_9 rfl) (z_calls _ _ _),
   zz_of (ok_calsF G (hnh.q 12) (zmX1_demand _ G.hst) q1474 q1475 q82 q1476 (by decide +kernel) ⟨Nat.le_of_ble_eq_true rfl, Nat.le_of_ble_eq_true rfl⟩ dX1_even_12 rfl) (z_csL _ _ _ _ _ _),
   zz_of (ok_aload_n G dX1_even_15 rfl rfl) (z_ald _ _),
   zz_of (ok_callv G hnh (zmX1_stylesAll _ G.hst) rfl rfl (RX1, TX1, 19) rfl q1578 q1580 qs23 q82 q1581 (by decide +kernel) ⟨by decide, by decide⟩ dX1_even_16 rfl) (z_callv _ _ _ _),
   zz_of (ok_aload_n G dX1_even_19 rfl rfl) (z_ald _ _),
   zz_of (ok_get G (nx := 23) (ci := 0) (kd := 2) (k := 11) (RX1, TX1, 19) rfl (by decide) rfl q421 dX1_even_20 rfl) (z_get _ _ _ _),
   zz_of (ok_iconst G (v := 0) dX1_even_23 (by decide) rfl) (z_cn 24 0),
   zz_of (ok_callv G hnh (zmX6_wins_116 _ G.hst) rfl rfl (RX6, TX6, 5) rfl q1605 q1606 q1607 q90 q1608 (by decide +kernel) ⟨by decide, by decide⟩ dX1_even_24 rfl) (z_callv _ _ _ _),
   zz_of (ok_iload_n G dX1_even_27 rfl rfl) (z_ild _ _),
   zz_of (ok_callv G hnh (zmX6_after_116 _ G.hst) rfl rfl (RX6, TX6, 5) rfl q1617 q1618 q1619 q90 q1620 (by decide +kernel) ⟨by decide, by decide⟩ dX1_even_28 rfl) (z_callv _ _ _ _),
   zz_of (ok_pop G dX1_even_31 rfl) (z_pop _),
   zz_of (ok_iconst G (v := 0) dX1_even_32 (by decide) rfl) (z_cn 33 0),
   zz_of (ok_istore_n G dX1_even_33 rfl rfl (by decide)) (z_ist _ _),
   zz_of (ok_iload_n G dX1_even_34 rfl rfl) (z_ild _ _),
   zz_of (ok_bipush G (v := 6) dX1_even_35 (by decide) rfl) (z_cn 37 6),
   zz_of (ok_cgt G dX1_even_37 rfl rfl) (z_cgt _ _ _ _),
   zz_of (ok_iconst G (v := 0) dX1_even_40 (by decide) rfl) (z_cn 41 0),
   zz_of (ok_iload_n G dX1_even_41 rfl rfl) (z_ild _ _),
   zz_of (ok_iconst G (v := 3) dX1_even_42 (by decide) rfl) (z_cn 43 3),
   zz_of (ok_isub G dX1_even_43 rfl) (z_isub _),
   zz_of (ok_calls G hnh (zmJ4_max _ G.hst) rfl rfl q1726 q570 q96 q571 (by decide +kernel) ⟨by decide, by decide⟩ dX1_even_44 rfl) (z_calls _ _ _),
   zz_of (ok_istore G dX1_even_47 rfl (by decide)) (z_ist _ _),
   zz_of (ok_iload G dX1_even_49 rfl) (z_ild _ _),
   zz_of (ok_iconst G (v := 3) dX1_even_51 (by decide) rfl) (z_cn 52 3),
   zz_of (ok_iload_n G dX1_even_52 rfl rfl) (z_ild _ _),
   zz_of (ok_calls G hnh (zmJ4_min _ G.hst) rfl rfl q1592 q559 q96 q560 (by decide +kernel) ⟨by decide, by decide⟩ dX1_even_53 rfl) (z_calls _ _ _),
   zz_of (ok_cgt G dX1_even_56 rfl rfl) (z_cgt _ _ _ _),
   zz_of (ok_iload_n G dX1_even_59 rfl rfl) (z_ild _ _),
   zz_of (ok_iload G dX1_even_60 rfl) (z_ild _ _),
   zz_of (ok_isub G dX1_even_62 rfl) (z_isub _),
   zz_of (ok_istore G dX1_even_63 rfl (by decide)) (z_ist _ _),
   zz_of (ok_aload_n G dX1_even_65 rfl rfl) (z_ald _ _),
   zz_of (ok_get G (nx := 69) (ci := 0) (kd := 2) (k := 9) (RX1, TX1, 19) rfl (by decide) rfl q418 dX1_even_66 rfl) (z_get _ _ _ _),
   zz_of (ok_aload_n G dX1_even_69 rfl rfl) (z_ald _ _),
   zz_of (ok_get G (nx := 73) (ci := 0) (kd := 2) (k := 0) (RX1, TX1, 19) rfl (by decide) rfl q399 dX1_even_70 rfl) (z_get _ _ _ _),
   zz_of (ok_getN G (nx := 76) (ci := 1) (kd := 2) (k := 9) (RX2, TX2, 11) rfl (by decide) rfl q240 dX1_even_73 rfl) (z_get _ _ _ _),
   zz_of (ok_callv G hnh (zmX3_takes_204108 _ G.hst) rfl rfl (RX3, TX3, 7) rfl q1591 q580 q581 q87 q582 (by decide +kernel) ⟨by decide, by decide⟩ dX1_even_76 rfl) (z_callv _ _ _ _),
   zz_of (ok_pop G dX1_even_79 rfl) (z_pop _),
   zz_of (ok_aload_n G dX1_even_80 rfl rfl) (z_ald _ _),
   zz_of (ok_get G (nx := 84) (ci := 0) (kd := 2) (k := 9) (RX1, TX1, 19) rfl (by decide) rfl q418 dX1_even_81 rfl) (z_get _ _ _ _),
   zz_of (ok_getN G (nx := 87) (ci := 2) (kd := 2) (k := 0) (RX3, TX3, 7) rfl (by decide) rfl q179 dX1_even_84 rfl) (z_get _ _ _ _),
   zz_of (ok_iconst G (v := 0) dX1_even_87 (by decide) rfl) (z_cn 88 0),
   zz_of (ok_iload G dX1_even_88 rfl) (z_ild _ _),
   zz_of (ok_ineg G dX1_even_90 rfl) (z_ineg _),
   zz_of (ok_iast G dX1_even_91 rfl) (z_iasc _ _),
   zz_of (ok_aload_n G dX1_even_92 rfl rfl) (z_ald _ _),
   zz_of (ok_get G (nx := 96) (ci := 0) (kd := 2) (k := 9) (RX1, TX1, 19) rfl (by decide) rfl q418 dX1_even_93 rfl) (z_get _ _ _ _),
   zz_of (ok_getN G (nx := 99) (ci := 2) (kd := 2) (k := 0) (RX3, TX3, 7) rfl (by decide) rfl q179 dX1_even_96 rfl) (z_get _ _ _ _),
   zz_of (ok_iconst G (v := 1) dX1_even_99 (by decide) rfl) (z_cn 100 1),
   zz_of (ok_iload G dX1_even_100 rfl) (z_ild _ _),
   zz_of (ok_iast G dX1_even_102 rfl) (z_iasc _ _),
   zz_of (ok_aload_n G dX1_even_103 rfl rfl) (z_ald _ _),
   zz_of (ok_get G (nx := 107) (ci := 0) (kd := 2) (k := 9) (RX1, TX1, 19) rfl (by decide) rfl q418 dX1_even_104 rfl) (z_get _ _ _ _),
   zz_of (ok_iconst G (v := 0) dX1_even_107 (by decide) rfl) (z_cn 108 0),
   zz_of (ok_puti G (nx := 111) (idx := 375) (ci := 2) (k := 4) (RX3, TX3, 7) rfl (by decide) rfl (mm_pwN G (ci := 2) (k := 4) (RX3, TX3, 7) rfl (by decide) rfl q192 dX1_even_108) rfl) (z_puti _ _ _),
   zz_of (ok_aload_n G dX1_even_111 rfl rfl) (z_ald _ _),
   zz_of (ok_get G (nx := 115) (ci := 0) (kd := 2) (k := 9) (RX1, TX1, 19) rfl (by decide) rfl q418 dX1_even_112 rfl) (z_get _ _ _ _),
   zz_of (ok_iconst G (v := 0) dX1_even_115 (by decide) rfl) (z_cn 116 0),
   zz_of (ok_putz G (nx := 119) (idx := 378) (ci := 2) (k := 5) (RX3, TX3, 7) rfl (by decide) rfl (mm_pwN G (ci := 2) (k := 5) (RX3, TX3, 7) rfl (by decide) rfl q197 dX1_even_116) rfl) (z_putz _ _ _ _),
   zz_of (ok_aload_n G dX1_even_119 rfl rfl) (z_ald _ _),
   zz_of (ok_get G (nx := 123) (ci := 0) (kd := 2) (k := 11) (RX1, TX1, 19) rfl (by decide) rfl q421 dX1_even_120 rfl) (z_get _ _ _ _),
   zz_of (ok_aload_n G dX1_even_123 rfl rfl) (z_ald _ _),
   zz_of (ok_get G (nx := 127) (ci := 0) (kd := 2) (k := 9) (RX1, TX1, 19) rfl (by decide) rfl q418 dX1_even_124 rfl) (z_get _ _ _ _),
   zz_of (ok_callv G hnh (zmX3_code_108 _ G.hst) rfl rfl (RX3, TX3, 7) rfl q1597 q1598 q1599 q87 q1600 (by decide +kernel) ⟨by decide, by decide⟩ dX1_even_127 rfl) (z_callv _ _ _ _),
   zz_of (ok_callv G hnh (zmX6_at_116 _ G.hst) rfl rfl (RX6, TX6, 5) rfl q1646 q1634 q1635 q90 q1636 (by decide +kernel) ⟨by decide, by decide⟩ dX1_even_130 rfl) (z_callv _ _ _ _),
   zz_of (ok_ldcw G (v := 500000000) q1727 dX1_even_133 rfl) (z_cn 136 500000000),
   zz_of (ok_isub G dX1_even_136 rfl) (z_isub _),
   zz_of (ok_calls G hnh (zmJ4_abs _ G.hst) rfl rfl q1728 q1729 q96 q1730 (by decide +kernel) ⟨by decide, by decide⟩ dX1_even_137 rfl) (z_calls _ _ _),
   zz_of (ok_sipush G (v := 1000) dX1_even_140 (by decide) rfl) (z_cn 143 1000),
   zz_of (ok_iload_n G dX1_even_143 rfl rfl) (z_ild _ _),
   zz_of (ok_imul G dX1_even_144 rfl) (z_imul _),
   zz_of (ok_cgt G dX1_even_145 rfl rfl) (z_cgt _ _ _ _),
   zz_of (ok_bipush G (v := 10) dX1_even_148 (by decide) rfl) (z_cn 150 10),
   zz_of (ok_iload G dX1_even_150 rfl) (z_ild _ _),
   zz_of (ok_imul G dX1_even_152 rfl) (z_imul _),
   zz_of (ok_iload G dX1_even_153 rfl) (z_ild _ _),
   zz_of (ok_iadd G dX1_even_155 rfl) (z_iadd _),
   zz_of (ok_iret G dX1_even_156) (z_iret),
   zz_of (ok_iinc G (v := 1) dX1_even_157 (by decide) rfl (by decide)) (z_incn 160 4 1),
   zz_of (ok_goto G dX1_even_160 rfl) (z_goto _),
   zz_of (ok_iinc G (v := 1) dX1_even_163 (by decide) rfl (by decide)) (z_incn 166 3 1),
   zz_of (ok_goto G dX1_even_166 rfl) (z_goto _),
   zz_of (ok_iconst G (v := (zI (-1))) dX1_even_169 (by decide) rfl) (z_cz 170 (-1)),
   zz_of (ok_iret G dX1_even_170) (z_iret), trivial⟩

theorem zwX1_even_0 {Q : Option zv → zz_M → Prop} {X : Nat → zz_M → Prop} {f : Nat → Nat × Nat} {S L : Nat → Nat → Int} {P : Nat → Nat → Option Nat} {n : Int} {m : Int} (h : (R32 n ∧ ((0 ≤ n ∧ n ≤ 30) → ((R32 m ∧ R32 (0 : Int) ∧ R32 (500000 : Int) ∧ (((0 : Int) ≤ m ∧ m ≤ (500000 : Int)) → ((((1 : Int) = 1 → ((∃ (w_4 : Nat → Int) (rs_4 : List (Fc → Option Int)) (top_4 : Nat), wRel S w_4 ∧ wV w_4 ∧ (S 100 8 = 0 ∨ (S 100 8 = 1 ∧ lT S w_4)) ∧ rlI f S P top_4 rs_4 ∧ ruR w_4 rs_4 ∧ (∀ p_4, p_4 < 2 → prI S rs_4 p_4) ∧ (cx S 204 6 = 0 ∨ cx S 204 6 = 1) ∧ cx S 204 7 = w_4 208 ∧ cx S 204 8 = w_4 209 ∧ (0 ≤ w_4 208 ∧ w_4 208 ≤ 6) ∧ (0 ≤ w_4 209 ∧ w_4 209 ≤ 6) ∧ (∀ (S_4 : Nat → Nat → Int) (P_4 : Nat → Nat → Option Nat), syE S S_4 → scnP P P_4 → S_4 100 8 = 1 → lT S_4 w_4 → styE S_4 (stT w_4) → ((((0 : Int) = 0 ∨ (0 : Int) = 1) ∧ ∃ a_5 : Nat, cN P_4 116 a_5 ∧ (∀ S_5 : Nat → Nat → Int, (∀ h k, h ≠ a_5 → ¬ (h = 116 ∧ k = 3) → ¬ (h = 119 ∧ k < 4) → S_5 h k = S_4 h k) → S_5 116 3 = -1 → enE S_5 116 (0 : Int) (-1) → (∀ k, k < 15488 → S_5 a_5 k = 0) → (((0 ≤ n ∧ n ≤ 1000) ∧ ∃ (w_6 st_6 : Nat → Int) (a_6 i_6 : Nat) (p_6 th_6 ch_6 : Int), chI S_5 P_4 116 w_6 st_6 a_6 p_6 th_6 ch_6 i_6 ∧ (∀ (S_6 : Nat → Nat → Int) (P_6 : Nat → Nat → Option Nat) (b_6 : Nat), (∀ h, h ≠ 117 → h ≠ 118 → S_6 h = S_5 h) → (∀ h k, ¬ (h = 116 ∧ k < 2) → P_6 h k = P_4 h k) → chI S_6 P_6 116 w_6 st_6 b_6 p_6 th_6 ch_6 (i_6 + n.toNat) → (zz_J zpX1_even (zz_ret Q X 2 12) 34 [some (vr 100), none, some (vi m), some (vi 0), none, none] [] ((2, f), S_6, L, P_6) (2, 12)))))))))))) ∧ ((1 : Int) = 0 → X 1 ((2, f), S, L, P)) ∧ ((1 : Int) = 0 ∨ (1 : Int) = 1)))) ∧ (¬ ((0 : Int) ≤ m ∧ m ≤ (500000 : Int)) → ((((0 : Int) = 1 → ((∃ (w_8 : Nat → Int) (rs_8 : List (Fc → Option Int)) (top_8 : Nat), wRel S w_8 ∧ wV w_8 ∧ (S 100 8 = 0 ∨ (S 100 8 = 1 ∧ lT S w_8)) ∧ rlI f S P top_8 rs_8 ∧ ruR w_8 rs_8 ∧ (∀ p_8, p_8 < 2 → prI S rs_8 p_8) ∧ (cx S 204 6 = 0 ∨ cx S 204 6 = 1) ∧ cx S 204 7 = w_8 208 ∧ cx S 204 8 = w_8 209 ∧ (0 ≤ w_8 208 ∧ w_8 208 ≤ 6) ∧ (0 ≤ w_8 209 ∧ w_8 209 ≤ 6) ∧ (∀ (S_8 : Nat → Nat → Int) (P_8 : Nat → Nat → Option Nat), syE S S_8 → scnP P P_8 → S_8 100 8 = 1 → lT S_8 w_8 → styE S_8 (stT w_8) → ((((0 : Int) = 0 ∨ (0 : Int) = 1) ∧ ∃ a_9 : Nat, cN P_8 116 a_9 ∧ (∀ S_9 : Nat → Nat → Int, (∀ h k, h ≠ a_9 → ¬ (h = 116 ∧ k = 3) → ¬ (h = 119 ∧ k < 4) → S_9 h k = S_8 h k) → S_9 116 3 = -1 → enE S_9 116 (0 : Int) (-1) → (∀ k, k < 15488 → S_9 a_9 k = 0) → (((0 ≤ n ∧ n ≤ 1000) ∧ ∃ (w_10 st_10 : Nat → Int) (a_10 i_10 : Nat) (p_10 th_10 ch_10 : Int), chI S_9 P_8 116 w_10 st_10 a_10 p_10 th_10 ch_10 i_10 ∧ (∀ (S_10 : Nat → Nat → Int) (P_10 : Nat → Nat → Option Nat) (b_10 : Nat), (∀ h, h ≠ 117 → h ≠ 118 → S_10 h = S_9 h) → (∀ h k, ¬ (h = 116 ∧ k < 2) → P_10 h k = P_8 h k) → chI S_10 P_10 116 w_10 st_10 b_10 p_10 th_10 ch_10 (i_10 + n.toNat) → (zz_J zpX1_even (zz_ret Q X 2 12) 34 [some (vr 100), none, some (vi m), some (vi 0), none, none] [] ((2, f), S_10, L, P_10) (2, 12)))))))))))) ∧ ((0 : Int) = 0 → X 1 ((2, f), S, L, P)) ∧ ((0 : Int) = 0 ∨ (0 : Int) = 1))))))) ∧ (¬ (0 ≤ n ∧ n ≤ 30) → X 1 ((2, f), S, L, P)))) : zz_J zpX1_even (zz_ret Q X 2 12) 0 [some (vr 100), some (vi n), some (vi m), none, none, none] [] ((2, f), S, L, P) (0, 0) := zz_J.go [(34, [1, 4, 5]), (49, [1, 5]), (80, [1]), (137, [1])] 400 h
theorem zwX1_even_34 {Q : Option zv → zz_M → Prop} {X : Nat → zz_M → Prop} {f : Nat → Nat × Nat} {S L : Nat → Nat → Int} {P : Nat → Nat → Option Nat} {x2 : Int} {x3 : Int} (h : R32 x3 ∧ ((6 < x3 → Q (some (vi (-1))) ((2, f), S, L, P)) ∧ (¬ 6 < x3 → (R32 (0 : Int) ∧ R32 (x3 - 3) ∧ ((x3 - 3) ≤ (0 : Int) → (zz_J zpX1_even (zz_ret Q X 2 12) 49 [some (vr 100), none, some (vi x2), some (vi x3), some (vi (0 : Int)), none] [] ((2, f), S, L, P) (2, 12))) ∧ (¬ (x3 - 3) ≤ (0 : Int) → (zz_J zpX1_even (zz_ret Q X 2 12) 49 [some (vr 100), none, some (vi x2), some (vi x3), some (vi (x3 - 3)), none] [] ((2, f), S, L, P) (2, 12))))))) : zz_J zpX1_even (zz_ret Q X 2 12) 34 [some (vr 100), none, some (vi x2), some (vi x3), none, none] [] ((2, f), S, L, P) (2, 12) := zz_J.go [(34, [1, 4, 5]), (49, [1, 5]), (80, [1]), (137, [1])] 400 h
theorem zwX1_even_49 {Q : Option zv → zz_M → Prop} {X : Nat → zz_M → Prop} {f : Nat → Nat × Nat} {S L : Nat → Nat → Int} {P : Nat → Nat → Option Nat} {x2 : Int} {x3 : Int} {x4 : Int} (h : (R32 (3 : Int) ∧ R32 x3 ∧ ((3 : Int) ≤ x3 → (R32 x4 ∧ (R32 (3 : Int) ∧ (((3 : Int) < x4 → zz_J zpX1_even (zz_ret Q X 2 12) 34 [some (vr 100), none, some (vi x2), some (vi (x3 + 1)), none, none] [] ((2, f), S, L, P) (2, 12)) ∧ (¬ (3 : Int) < x4 → ((cx S 204 6 = 0 ∨ cx S 204 6 = 1) ∧ (zz_J zpX1_even (zz_ret Q X 2 12) 80 [some (vr 100), none, some (vi x2), some (vi x3), some (vi x4), some (vi (x3 - x4))] [] ((2, f), cxW S 108 (cx S 204), L, P) (2, 12)))))))) ∧ (¬ (3 : Int) ≤ x3 → (R32 x4 ∧ (R32 x3 ∧ ((x3 < x4 → zz_J zpX1_even (zz_ret Q X 2 12) 34 [some (vr 100), none, some (vi x2), some (vi (x3 + 1)), none, none] [] ((2, f), S, L, P) (2, 12)) ∧ (¬ x3 < x4 → ((cx S 204 6 = 0 ∨ cx S 204 6 = 1) ∧ (zz_J zpX1_even (zz_ret Q X 2 12) 80 [some (vr 100), none, some (vi x2), some (vi x3), some (vi x4), some (vi (x3 - x4))] [] ((2, f), cxW S 108 (cx S 204), L, P) (2, 12)))))))))) : zz_J zpX1_even (zz_ret Q X 2 12) 49 [some (vr 100), none, some (vi x2), some (vi x3), some (vi x4), none] [] ((2, f), S, L, P) (2, 12) := zz_J.go [(34, [1, 4, 5]), (49, [1, 5]), (80, [1]), (137, [1])] 400 h
theorem zwX1_even_80 {Q : Option zv → zz_M → Prop} {X : Nat → zz_M → Prop} {f : Nat → Nat × Nat} {S L : Nat → Nat → Int} {P : Nat → Nat → Option Nat} {x2 : Int} {x3 : Int} {x4 : Int} {x5 : Int} (h : (scV (cx (mm_up (mm_up (mm_up (mm_up S 109 0 (-x5)) 109 1 x4) 108 4 0) 108 5 0) 108) ∧ ((∃ a_2 : Nat, cN P 116 a_2 ∧ ((nuR (cx (mm_up (mm_up (mm_up (mm_up S 109 0 (-x5)) 109 1 x4) 108 4 0) 108 5 0) 108)) < 0 → -4 ≤ (nuR (cx (mm_up (mm_up (mm_up (mm_up S 109 0 (-x5)) 109 1 x4) 108 4 0) 108 5 0) 108)) ∧ (zz_J zpX1_even (zz_ret Q X 2 12) 137 [some (vr 100), none, some (vi x2), some (vi x3), some (vi x4), some (vi x5)] [vi (((mm_up (mm_up (mm_up (mm_up S 109 0 (-x5)) 109 1 x4) 108 4 0) 108 5 0) 119 (-1 - (nuR (cx (mm_up (mm_up (mm_up (mm_up S 109 0 (-x5)) 109 1 x4) 108 4 0) 108 5 0) 108))).toNat) - 500000000)] ((2, f), mm_up (mm_up (mm_up (mm_up S 109 0 (-x5)) 109 1 x4) 108 4 0) 108 5 0, L, P) (2, 12))) ∧ (0 ≤ (nuR (cx (mm_up (mm_up (mm_up (mm_up S 109 0 (-x5)) 109 1 x4) 108 4 0) 108 5 0) 108)) → (nuR (cx (mm_up (mm_up (mm_up (mm_up S 109 0 (-x5)) 109 1 x4) 108 4 0) 108 5 0) 108)) < 15488 ∧ (zz_J zpX1_even (zz_ret Q X 2 12) 137 [some (vr 100), none, some (vi x2), some (vi x3), some (vi x4), some (vi x5)] [vi (((mm_up (mm_up (mm_up (mm_up S 109 0 (-x5)) 109 1 x4) 108 4 0) 108 5 0) a_2 (nuR (cx (mm_up (mm_up (mm_up (mm_up S 109 0 (-x5)) 109 1 x4) 108 4 0) 108 5 0) 108)).toNat) - 500000000)] ((2, f), mm_up (mm_up (mm_up (mm_up S 109 0 (-x5)) 109 1 x4) 108 4 0) 108 5 0, L, P) (2, 12))))))) : zz_J zpX1_even (zz_ret Q X 2 12) 80 [some (vr 100), none, some (vi x2), some (vi x3), some (vi x4), some (vi x5)] [] ((2, f), S, L, P) (2, 12) := zz_J.go [(34, [1, 4, 5]), (49, [1, 5]), (80, [1]), (137, [1])] 400 h
theorem zwX1_even_137 {Q : Option zv → zz_M → Prop} {X : Nat → zz_M → Prop} {f : Nat → Nat × Nat} {S L : Nat → Nat → Int} {P : Nat → Nat → Option Nat} {x2 : Int} {x3 : Int} {x4 : Int} {x5 : Int} {t0 : Int} (h : ((-2147483648 < t0 ∧ t0 < 2147483648) ∧ (0 ≤ t0 → (R32 t0 ∧ (R32 (1000 * x2) ∧ (((1000 * x2) < t0 → zz_J zpX1_even (zz_ret Q X 2 12) 49 [some (vr 100), none, some (vi x2), some (vi x3), some (vi (x4 + 1)), none] [] ((2, f), S, L, P) (2, 12)) ∧ (¬ (1000 * x2) < t0 → Q (some (vi ((10 * x5) + x4))) ((2, f), S, L, P)))))) ∧ (t0 < 0 → (R32 (-t0) ∧ (R32 (1000 * x2) ∧ (((1000 * x2) < (-t0) → zz_J zpX1_even (zz_ret Q X 2 12) 49 [some (vr 100), none, some (vi x2), some (vi x3), some (vi (x4 + 1)), none] [] ((2, f), S, L, P) (2, 12)) ∧ (¬ (1000 * x2) < (-t0) → Q (some (vi ((10 * x5) + x4))) ((2, f), S, L, P)))))))) : zz_J zpX1_even (zz_ret Q X 2 12) 137 [some (vr 100), none, some (vi x2), some (vi x3), some (vi x4), some (vi x5)] [vi t0] ((2, f), S, L, P) (2, 12) := zz_J.go [(34, [1, 4, 5]), (49, [1, 5]), (80, [1]), (137, [1])] 400 h

theorem evI_go {ok : Nat → Nat → Bool} : ∀ (d r i : Nat), (∀ j, i ≤ j → j < i + d → ¬ (j % 4 ≤ j / 4 ∧ j / 4 ≤ j % 4 + 3)) → evI ok (r + d) i = evI ok r (i + d)
  | 0, _, _, _ => rfl
  | d + 1, r, i, h => by
    have e := evI_go (ok := ok) d r (i + 1) (fun j h1 h2 => h j (by omega) (by omega))
    show evI ok ((r + d) + 1) i = _
    rw [evI, if_neg (fun c => h i (Nat.le_refl _) (by omega) c.1), e, show i + 1 + d = i + (d + 1) by omega]
theorem evI_ok {ok : Nat → Nat → Bool} {r s g : Nat} (h : g ≤ s ∧ s ≤ g + 3 ∧ g ≤ 3) : evI ok (r + 1) (4 * s + g) = if ok (s - g) g = true then ((10 * (s - g) + g : Nat) : Int) else evI ok r (4 * s + g + 1) := by
  rw [evI, show (4 * s + g) / 4 = s by omega, show (4 * s + g) % 4 = g by omega]
  by_cases e : ok (s - g) g = true
  · rw [if_pos ⟨⟨h.1, h.2.1⟩, e⟩, if_pos e]
  · rw [if_neg (fun c => e c.2), if_neg e]
theorem zmX1_even (l : Launch) (hl : l.stackTraces = false) : mm_Spec l yX1_even (ws_ yX1_even cX1_even 6 (some .int)) (mm_rm 24 2 12) (zE zX1_even) := by
  refine zz_Met.J hl (by decide) (fun C G hnh => ztX1_even G hnh) ?_
  rintro as ⟨⟨t_, f⟩, S, L, P⟩ Q X h
  unfold zX1_even at h
  split at h
  rotate_left
  · exact h.elim
  rename_i h_ n m
  obtain ⟨e1_, e2_, h⟩ := mm_and2 h (fun q => q)
  cases mm_beq e1_
  cases mm_beq e2_
  try dsimp only at h
  refine ⟨rfl, ?_⟩
  obtain ⟨hn, hm, w, rs, top, hc, q1, q0⟩ := h
  refine zwX1_even_0 ⟨hn, fun c => ⟨hm, by decide, by decide, fun d => ⟨fun _ => hc.sty fun T PT z y => ?_, fun e => absurd e (by decide), Or.inr rfl⟩, fun d => ⟨fun e => absurd e (by decide), fun _ => q1 (fun x => d x.2), Or.inl rfl⟩⟩, fun c => q1 (fun x => c x.1)⟩
  have q0 := q0 ⟨c, d⟩
  obtain ⟨yo, yk, yl, ys⟩ := y
  obtain ⟨h1, ⟨h2, h2b⟩, h3, h456, ⟨h7, h8, h8b⟩, ⟨a, h9⟩, ⟨b', h10⟩, ⟨c', h11⟩⟩ := yo
  have a2 := h9.1
  have s01 := h8.2.1
  have hV := scV_xE h8 h7
  have x6 : cx T 204 6 = 0 ∨ cx T 204 6 = 1 := by
    rcases hV.2.2 with ⟨-, e⟩ | ⟨-, e, -⟩ | ⟨-, e, -⟩ <;> omega
  refine ⟨by decide, a, h9, fun S1 s1 s2 s3 s4 => ⟨by omega, w, stT w, a, 0, 0, -1, -1, ?_, fun T1 P1 b t1 t2 t3 => ?_⟩⟩
  · obtain ⟨f1, f2, f3⟩ := fr_ch ys h1.2.2.2.2.2 yl (T := S1) (fun h k hh => s1 h k (by omega) (by omega) (by omega))
    refine ⟨⟨s2, Or.inl rfl, Or.inl rfl⟩, f1, stT_G w, h9, fun c hc _ => ?_, s3, f2, f3, h2, h2b⟩
    rw [s4 c hc]
    rfl
  rw [Nat.zero_add] at t3
  have fr1 : ∀ h k, ¬ (116 ≤ h ∧ h ≤ 119) → T1 h k = T h k := fun h k hh => by rw [t1 h (by omega) (by omega), s1 h k (by omega) (by omega) (by omega)]
  have zz : ∀ T2 : Nat → Nat → Int, (∀ h k, ¬ (108 ≤ h ∧ h ≤ 111) → T2 h k = T1 h k) → cZ S P w T2 P1 := fun T2 u1 => z.tr ⟨⟨sck_o fun h k a _ => by rw [u1 h k (by omega)]; exact fr1 h k (by omega), spk_o fun h k _ a => t2 h k (by omega)⟩, Or.inr ⟨by rw [u1 100 8 (by omega), fr1 100 8 (by omega)]; exact yk, yl.w rfl rfl fun h hh k => by rw [u1 h k (by omega)]; exact fr1 h k (by omega)⟩, ⟨b, t3.2.2.2.1⟩, ⟨b', h10.fr (t2 120 0 (by omega)) (t2 120 1 (by omega))⟩, ⟨c', h11.fr (t2 124 0 (by omega)) (t2 124 1 (by omega))⟩⟩
  generalize hok : evB (tbR w (stT w) 0 (-1) n.toNat) (nwW w) m = ok at q0
  have fin : ∀ (T2 : Nat → Nat → Int) (v : Int), (∀ h k, ¬ (108 ≤ h ∧ h ≤ 111) → T2 h k = T1 h k) → v = evI ok 28 0 → Q (some (vi v)) ((2, f), T2, L, P1) := fun T2 v u1 e => by
    rw [e]
    exact q0 T2 P1 (zz T2 u1)
  have t34 : ∀ (k s : Nat) (T2 : Nat → Nat → Int), s + k = 7 → (∀ h k, ¬ (108 ≤ h ∧ h ≤ 111) → T2 h k = T1 h k) → evI ok (28 - 4 * s) (4 * s) = evI ok 28 0 → zz_J zpX1_even (zz_ret Q X 2 12) 34 [some (vr 100), none, some (vi m), some (vi (s : Int)), none, none] [] ((2, f), T2, L, P1) (2, 12) := by
    intro k
    induction k with
    | zero =>
      intro s T2 hs u1 e
      have s7 : s = 7 := by omega
      subst s7
      exact zwX1_even_34 ⟨by omega, fun _ => fin T2 (-1) u1 e, fun d => absurd (by omega) d⟩
    | succ k ih =>
      intro s T2 hs u1 e
      have s6 : s ≤ 6 := by omega
      have t49 : ∀ (j g : Nat) (T3 : Nat → Nat → Int), g + j = 4 → s ≤ g + 3 → (g ≤ s ∨ g = s + 1) → (∀ h k, ¬ (108 ≤ h ∧ h ≤ 111) → T3 h k = T1 h k) → evI ok (28 - (4 * s + g)) (4 * s + g) = evI ok 28 0 → zz_J zpX1_even (zz_ret Q X 2 12) 49 [some (vr 100), none, some (vi m), some (vi (s : Int)), some (vi (g : Int)), none] [] ((2, f), T3, L, P1) (2, 12) := by
        intro j
        induction j with
        | zero =>
          intro g T3 hg g1 g2 u3 e3
          have g4 : g = 4 := by omega
          subst g4
          have nx := ih (s + 1) T3 (by omega) u3 (by rw [← e3]; congr 1)
          refine zwX1_even_49 ⟨by decide, by omega, fun c1 => ⟨by omega, by decide, fun _ => nx, fun d => absurd (by omega) d⟩, fun c1 => ⟨by omega, by omega, fun _ => nx, fun d => absurd (by omega) d⟩⟩
        | succ j ihj =>
          intro g T3 hg g1 g2 u3 e3
          have g3 : g ≤ 3 := by omega
          have out : ¬ g ≤ s → zz_J zpX1_even (zz_ret Q X 2 12) 34 [some (vr 100), none, some (vi m), some (vi ((s : Int) + 1)), none, none] [] ((2, f), T3, L, P1) (2, 12) := fun hgs => by
            refine ih (s + 1) T3 (by omega) u3 ?_
            have := evI_go (ok := ok) (4 - g) (28 - 4 * (s + 1)) (4 * s + g) (fun x h1 h2 => by omega)
            rw [show 4 * s + g + (4 - g) = 4 * (s + 1) by omega] at this
            rw [← this, show 28 - 4 * (s + 1) + (4 - g) = 28 - (4 * s + g) by omega]
            exact e3
          have ex3 : cx T3 204 = cx T 204 := cx_fr fun h k h1 h2 => by rw [u3 h k (by omega), fr1 h k (by omega)]
          have inn : g ≤ s → zz_J zpX1_even (zz_ret Q X 2 12) 80 [some (vr 100), none, some (vi m), some (vi (s : Int)), some (vi (g : Int)), some (vi ((s : Int) - g))] [] ((2, f), cxW T3 108 (cx T3 204), L, P1) (2, 12) := fun hgs => by
            refine zwX1_even_80 ?_
            generalize hM : mm_up (mm_up (mm_up (mm_up (cxW T3 108 (cx T3 204)) 109 0 (-((s : Int) - g))) 109 1 (g : Int)) 108 4 0) 108 5 0 = M
            have m0 : cx M 108 0 = -((s - g : Nat) : Int) := by
              have : cx M 108 0 = -((s : Int) - g) := by rw [← hM]; rfl
              rw [this]
              omega
            have m1 : cx M 108 1 = (g : Int) := by rw [← hM]; rfl
            have m2 : cx M 108 2 = nwW w 2 := by
              have : cx M 108 2 = cx (cxW T3 108 (cx T3 204)) 108 2 := by rw [← hM]; rfl
              rw [this, cx_cxW T3 108 _ (cx_9 T3 204), ex3]
              exact h7.2.2.1
            have m3 : cx M 108 3 = 0 := by rw [← hM]; rfl
            have m6 : cx M 108 6 = 0 := by rw [← hM]; rfl
            have hVM : scV (cx M 108) := by
              refine ⟨?_, by omega, Or.inl ⟨m3, m6⟩⟩
              unfold pV
              omega
            have hnu := nuR_in hVM
            have hcb : cbR (nuR (cx M 108)) = true := nuR_cb hVM
            have en : nuR (cx M 108) = nuR (hcX (nwW w) (s - g) g) := by
              have b0 : hcX (nwW w) (s - g) g 0 = -((s - g : Nat) : Int) := rfl
              have b1 : hcX (nwW w) (s - g) g 1 = (g : Int) := rfl
              have b2 : hcX (nwW w) (s - g) g 2 = nwW w 2 := rfl
              have b3 : hcX (nwW w) (s - g) g 3 = 0 := rfl
              unfold nuR nuC
              rw [m0, m1, m2, m3, b0, b1, b2, b3]
              simp
            have uM : ∀ h k, ¬ (108 ≤ h ∧ h ≤ 111) → M h k = T1 h k := fun h k hh => by
              rw [← hM]
              simp only [up_eq]
              rw [if_neg (by omega), if_neg (by omega), if_neg (by omega), if_neg (by omega), cxW_o T3 108 _ (by omega) (by omega) (by omega) (by omega)]
              exact u3 h k hh
            have hIM : chI M P1 116 w (stT w) b 0 (-1) (-1) n.toNat := t3.o fun h k g1 _ => uM h k g1
            have hv := hIM.2.2.2.2.1 (nuR (cx M 108)).toNat (by omega) (by rw [Int.toNat_of_nonneg hnu.1]; exact hcb)
            have hvb := kT_G (w := w) (st := stT w) (p := 0) (th := -1) (ch := -1) (Or.inl rfl) h2 h2b (stT_G w) n.toNat (nuR (cx M 108)).toNat (by omega)
            have ev : M b (nuR (cx M 108)).toNat = tbR w (stT w) 0 (-1) n.toNat (nuR (hcX (nwW w) (s - g) g)).toNat := by
              rw [hv, en]
              unfold kT
              rw [if_pos rfl]
            rw [hv] at ev
            refine ⟨hVM, b, t3.2.2.2.1, fun e => by omega, fun _ => ⟨hnu.2, ?_⟩⟩
            rw [hv]
            generalize hvv : kT w (stT w) 0 (-1) (-1) n.toNat (nuR (cx M 108)).toNat = v at hvb ev
            obtain ⟨v0, v1⟩ := hvb
            have eok : ok (s - g) g = true ↔ (v - 500000000 ≤ 1000 * m ∧ -(1000 * m) ≤ v - 500000000) := by
              rw [← hok]
              unfold evB
              rw [Bool.and_eq_true, decide_eq_true_eq, decide_eq_true_eq, ← ev]
            have er := evI_ok (ok := ok) (r := 28 - (4 * s + (g + 1))) (s := s) (g := g) ⟨hgs, g1, g3⟩
            rw [show 28 - (4 * s + (g + 1)) + 1 = 28 - (4 * s + g) by omega, e3] at er
            have yes : (v - 500000000 ≤ 1000 * m ∧ -(1000 * m) ≤ v - 500000000) → Q (some (vi ((10 * ((s : Int) - g)) + g))) ((2, f), M, L, P1) := fun h => by
              refine fin M _ uM ?_
              rw [er, if_pos (eok.mpr h)]
              omega
            have no : ¬ (v - 500000000 ≤ 1000 * m ∧ -(1000 * m) ≤ v - 500000000) → zz_J zpX1_even (zz_ret Q X 2 12) 49 [some (vr 100), none, some (vi m), some (vi (s : Int)), some (vi ((g : Int) + 1)), none] [] ((2, f), M, L, P1) (2, 12) := fun h => by
              refine ihj (g + 1) M (by omega) (by omega) (by omega) uM ?_
              rw [er, if_neg (fun c => h (eok.mp c))]
              rfl
            refine zwX1_even_137 ⟨by omega, fun c1 => ⟨by omega, by omega, fun c2 => no (by omega), fun c2 => yes (by omega)⟩, fun c1 => ⟨by omega, by omega, fun c2 => no (by omega), fun c2 => yes (by omega)⟩⟩
          refine zwX1_even_49 ⟨by decide, by omega, fun c1 => ⟨by omega, by decide, fun d => absurd d (by omega), fun d => ⟨by rw [ex3]; exact x6, inn (by omega)⟩⟩, fun c1 => ⟨by omega, by omega, fun d => out (by omega), fun d => ⟨by rw [ex3]; exact x6, inn (by omega)⟩⟩⟩
      have lo : ∀ g : Nat, g ≤ 3 → s ≤ g + 3 → (∀ g', g' < g → g' + 3 < s) → g ≤ s → evI ok (28 - (4 * s + g)) (4 * s + g) = evI ok 28 0 := fun g h1 h2 h3 h4 => by
        have := evI_go (ok := ok) g (28 - (4 * s + g)) (4 * s) (fun x k1 k2 => by have := h3 (x - 4 * s) (by omega); omega)
        rw [← this, show 28 - (4 * s + g) + g = 28 - 4 * s by omega]
        exact e
      refine zwX1_even_34 ⟨by omega, fun d => absurd d (by omega), fun _ => ⟨by decide, by omega, fun d => ?_, fun d => ?_⟩⟩
      · exact t49 4 0 T2 rfl (by omega) (by omega) u1 (lo 0 (by omega) (by omega) (fun g' h => absurd h (Nat.not_lt_zero _)) (by omega))
      · have := t49 (4 - (s - 3)) (s - 3) T2 (by omega) (by omega) (by omega) u1 (lo (s - 3) (by omega) (by omega) (fun g' h => by omega) (by omega))
        rw [show ((s - 3 : Nat) : Int) = (s : Int) - 3 by omega] at this
        exact this
  exact t34 7 0 T1 rfl (fun _ _ _ => rfl) rfl
