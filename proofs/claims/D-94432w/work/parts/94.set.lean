/-! ===== the component's sets ===== -/
set_option maxRecDepth 100000
theorem stO_st {wy : Nat → Int} {G p : Int} : ∀ (r : Nat) (a b : Int) (s : Nat), a ≤ G → b ≤ G → G - a + (G - b) ≤ (r : Int) → stO wy G p r a b s = stO wy G p (r + 1) a b s
  | 0, a, b, s, ha, hb, h => by
    have : G ≤ a ∨ G ≤ b := by omega
    rw [stO_o this, stO_o this]
  | r + 1, a, b, s, ha, hb, h => by
    by_cases o : G ≤ a ∨ G ≤ b
    · rw [stO_o o, stO_o o]
    · rw [stO_s o, stO_s o, stO_st r (a + 1) b 0 (by omega) hb (by omega), stO_st r (a + 1) b 1 (by omega) hb (by omega), stO_st r a (b + 1) 0 ha (by omega) (by omega), stO_st r a (b + 1) 1 ha (by omega) (by omega)]
def sbS (F c : Nat → Int) : Nat → Int
  | 0 => 0
  | k + 1 => sbS F c k + F k * c k / 1000000000
/-- what is behind each of the four ways -/
def bcV (wy : Nat → Int) (G p a b : Int) (k : Nat) : Int := stO wy G p 12 (if k < 2 then a + 1 else a) (if k < 2 then b else b + 1) (k % 2)
def sbV (wy : Nat → Int) (G p : Int) (F : Nat → Int) (a b : Int) : Int := if G ≤ a ∨ G ≤ b then (if G ≤ (if p = 0 then a else b) then 1000000000 else 0) else sbS F (bcV wy G p a b) 4
def fG (F : Nat → Int) : Prop := (∀ k, k < 4 → 0 ≤ F k ∧ F k ≤ 1000000000) ∧ F 0 + F 1 + F 2 + F 3 ≤ 1000000000
theorem sbV_st {wy : Nat → Int} {G p a b : Int} {s : Nat} {F : Nat → Int} (hF : ∀ k, k < 4 → F k = wy (4 * s + k)) (ha : a ≤ G) (hb : b ≤ G) (h : G - a + (G - b) ≤ 12) : sbV wy G p F a b = stO wy G p 12 a b s := by
  unfold sbV
  split
  · next o => rw [stO_o o]
  · next o =>
    rw [stO_s o 11, stO_st 11 (a + 1) b 0 (by omega) hb (by omega), stO_st 11 (a + 1) b 1 (by omega) hb (by omega), stO_st 11 a (b + 1) 0 ha (by omega) (by omega), stO_st 11 a (b + 1) 1 ha (by omega) (by omega)]
    have f0 := hF 0 (by decide)
    have f1 := hF 1 (by decide)
    have f2 := hF 2 (by decide)
    have f3 := hF 3 (by decide)
    show 0 + F 0 * stO wy G p 12 (a + 1) b 0 / 1000000000 + F 1 * stO wy G p 12 (a + 1) b 1 / 1000000000 + F 2 * stO wy G p 12 a (b + 1) 0 / 1000000000 + F 3 * stO wy G p 12 a (b + 1) 1 / 1000000000 = _
    rw [f0, f1, f2, f3, Int.zero_add]
    rfl
theorem bcV_in {wy : Nat → Int} {G p a b : Int} (hw : wyG wy) (k : Nat) : 0 ≤ bcV wy G p a b k ∧ bcV wy G p a b k ≤ 1000000000 := stO_in hw 12 _ _ _ (by omega)
theorem sbS_in {F c : Nat → Int} (hF : fG F) (hc : ∀ k, 0 ≤ c k ∧ c k ≤ 1000000000) : ∀ k, k ≤ 4 → 0 ≤ sbS F c k ∧ sbS F c k ≤ 1000000000 * (k : Int)
  | 0, _ => by show (0 : Int) ≤ 0 ∧ (0 : Int) ≤ 1000000000 * ((0 : Nat) : Int); omega
  | k + 1, hk => by
    have ih := sbS_in hF hc k (by omega)
    have m := mul_sure (hF.1 k (by omega)).1 (hc k).1 (hc k).2
    have := (hF.1 k (by omega)).2
    unfold sbS
    omega
/-- what is known of sets -/
def meI (S : Nat → Nat → Int) (wy : Nat → Int) (G p : Int) : Prop := ∀ a b s : Nat, a ≤ 6 → b ≤ 6 → s < 2 → S 131 ((7 * a + b) * 2 + s) = -1 ∨ S 131 ((7 * a + b) * 2 + s) = stO wy G p 12 (a : Int) (b : Int) s
theorem meI.up {S : Nat → Nat → Int} {wy : Nat → Int} {G p : Int} (h : meI S wy G p) {a b s : Nat} (ha : a ≤ 6) (hb : b ≤ 6) (hs : s < 2) : meI (mm_up S 131 ((7 * a + b) * 2 + s) (stO wy G p 12 (a : Int) (b : Int) s)) wy G p := by
  intro a' b' s' ha' hb' hs'
  by_cases e : a' = a ∧ b' = b ∧ s' = s
  · obtain ⟨rfl, rfl, rfl⟩ := e
    exact Or.inr (by rw [up_eq, if_pos ⟨rfl, rfl⟩])
  · rw [up_eq, if_neg (by omega)]
    exact h a' b' s' ha' hb' hs'
def zX1_setBy_0 : zz_Sp := fun as M Q X => match as with
  | [.inr (.inr (some h_)), .inl p, .inl a, .inl b, .inl s, .inl fr] => bif Nat.beq h_ 100 && Nat.beq M.1.1 2 then ((p = 0 ∨ p = 1) ∧ (s = 0 ∨ s = 1) ∧ (fr = 1 + s ∨ fr = 0) ∧ (0 ≤ a ∧ a ≤ M.2.1 200 1) ∧ (0 ≤ b ∧ b ≤ M.2.1 200 1) ∧ (1 ≤ M.2.1 200 1 ∧ M.2.1 200 1 ≤ 6) ∧ M.2.1 200 1 - a + (M.2.1 200 1 - b) ≤ 0 ∧ ∃ wy_ : Nat → Int, wyG wy_ ∧ (∀ s_ k_, s_ < 2 → k_ < 4 → M.2.1 (129 + s_) k_ = wy_ (4 * s_ + k_)) ∧ fG (M.2.1 (128 + fr.toNat)) ∧ meI M.2.1 wy_ (M.2.1 200 1) p ∧ (∀ S_ : Nat → Nat → Int, (∀ j_, j_ ≠ 131 → S_ j_ = M.2.1 j_) → meI S_ wy_ (M.2.1 200 1) p → Q (some (vi (sbV wy_ (M.2.1 200 1) p (M.2.1 (128 + fr.toNat)) a b))) ((2, M.1.2), S_, M.2.2.1, M.2.2.2))) else False
  | _ => False

def zpX1_setBy_0 : zz_P := [(0, zo_ild 1 2), (1, zo_ald 2 0), (2, zo_get 5 0 2 0), (5, zo_get 8 1 0 1), (8, zo_cge false false 11 22), (11, zo_ild 12 3), (12, zo_ald 13 0), (13, zo_get 16 0 2 0), (16, zo_get 19 1 0 1), (19, zo_clt false false 22 49), (22, zo_ild 23 1), (23, zo_ifne false 26 30), (26, zo_ild 27 2), (27, zo_goto 31), (30, zo_ild 31 3), (31, zo_ald 32 0), (32, zo_get 35 0 2 0), (35, zo_get 38 1 0 1), (38, zo_clt false false 41 47), (41, zo_c 44 (vi 1000000000)), (44, zo_goto 48), (47, zo_c 48 (vi 0)), (48, zo_iret), (49, zo_c 51 (vi 7)), (51, zo_ild 52 2), (52, zo_imul 53), (53, zo_ild 54 3), (54, zo_iadd 55), (55, zo_c 56 (vi 2)), (56, zo_imul 57), (57, zo_ild 59 4), (59, zo_iadd 60), (60, zo_ist 62 6), (62, zo_ild 64 5), (64, zo_ifle false 67 85), (67, zo_ald 68 0), (68, zo_get 71 0 2 15), (71, zo_ild 73 6), (73, zo_iald 74), (74, zo_iflt false 77 85), (77, zo_ald 78 0), (78, zo_get 81 0 2 15), (81, zo_ild 83 6), (83, zo_iald 84), (84, zo_iret), (85, zo_c 86 (vl 0)), (86, zo_lst 88 7), (88, zo_c 89 (vi 0)), (89, zo_ist 91 9), (91, zo_ild 93 9), (93, zo_c 94 (vi 4)), (94, zo_cge false true 97 181), (97, zo_ild 99 9), (99, zo_c 100 (vi 2)), (100, zo_cge false true 103 107), (103, zo_c 104 (vi 1)), (104, zo_goto 108), (107, zo_c 108 (vi 0)), (108, zo_ist 110 10), (110, zo_ald 111 0), (111, zo_ild 112 1), (112, zo_ild 113 2), (113, zo_ild 115 10), (115, zo_zifeq 118 122), (118, zo_c 119 (vi 1)), (119, zo_goto 123), (122, zo_c 123 (vi 0)), (123, zo_iadd 124), (124, zo_ild 125 3), (125, zo_ild 127 10), (127, zo_zifeq 130 134), (130, zo_c 131 (vi 0)), (131, zo_goto 135), (134, zo_c 135 (vi 1)), (135, zo_iadd 136), (136, zo_ild 138 9), (138, zo_c 139 (vi 2)), (139, zo_irem 140), (140, zo_c 141 (vi 1)), (141, zo_ild 143 9), (143, zo_c 144 (vi 2)), (144, zo_irem 145), (145, zo_iadd 146), (146, zo_bad), (149, zo_ist 151 11), (151, zo_lld 153 7), (153, zo_ald 154 0), (154, zo_get 157 0 2 14), (157, zo_ild 159 5), (159, zo_aald 160), (160, zo_ild 162 9), (162, zo_iald 163), (163, zo_i2l 164), (164, zo_ild 166 11), (166, zo_i2l 167), (167, zo_lmul 168), (168, zo_c 171 (vl 1000000000)), (171, zo_ldiv 172), (172, zo_ladd 173), (173, zo_lst 175 7), (175, zo_inc 178 9 1), (178, zo_goto 91), (181, zo_ild 183 5), (183, zo_ifle false 186 196), (186, zo_ald 187 0), (187, zo_get 190 0 2 15), (190, zo_ild 192 6), (192, zo_lld 194 7), (194, zo_l2i 195), (195, zo_iasd 196), (196, zo_lld 198 7), (198, zo_l2i 199), (199, zo_iret)]
theorem ztX1_setBy_0 {C : mm_C} (G : mm_G C RX1 cX1_setBy (some .int) 12 (mm_rm 5 0 0)) (hnh : mm_nh C) : zz_OKs C zpX1_setBy_0 :=
  ⟨zz_of (ok_iload_n G dX1_setBy_0 rfl rfl) (z_ild _ _),
   zz_of (ok_aload_n G dX1_setBy_1 rfl rfl) (z_ald _ _),
   zz_of (ok_get G (nx := 5) (ci := 0) (kd := 2) (k := 0) (RX1, TX1, 19) rfl (by decide) rfl q399 dX1_setBy_2 rfl) (z_get _ _ _ _),
   zz_of (ok_getN G (nx := 8) (ci := 1) (kd := 0) (k := 1) (RX2, TX2, 11) rfl (by decide) rfl q218 dX1_setBy_5 rfl) (z_get _ _ _ _),
   zz_of (ok_cge G dX1_setBy_8 rfl rfl) (z_cge _ _ _ _),
   zz_of (ok_iload_n G dX1_setBy_11 rfl rfl) (z_ild _ _),
   zz_of (ok_aload_n G dX1_setBy_12 rfl rfl) (z_ald _ _),
   zz_of (ok_get G (nx := 16) (ci := 0) (kd := 2) (k := 0) (RX1, TX1, 19) rfl (by decide) rfl q399 dX1_setBy_13 rfl) (z_get _ _ _ _),
   zz_of (ok_getN G (nx := 19) (ci := 1) (kd := 0) (k := 1) (RX2, TX2, 11) rfl (by decide) rfl q218 dX1_setBy_16 rfl) (z_get _ _ _ _),
   zz_of (ok_clt G dX1_setBy_19 rfl rfl) (z_clt _ _ _ _),
   zz_of (ok_iload_n G dX1_setBy_22 rfl rfl) (z_ild _ _),
   zz_of (ok_ifne G dX1_setBy_23 rfl rfl) (z_ifne _ _ _),
   zz_of (ok_iload_n G dX1_setBy_26 rfl rfl) (z_ild _ _),
   zz_of (ok_goto G dX1_setBy_27 rfl) (z_goto _),
   zz_of (ok_iload_n G dX1_setBy_30 rfl rfl) (z_ild _ _),
   zz_of (ok_aload_n G dX1_setBy_31 rfl rfl) (z_ald _ _),
   zz_of (ok_get G (nx := 35) (ci := 0) (kd := 2) (k := 0) (RX1, TX1, 19) rfl (by decide) rfl q399 dX1_setBy_32 rfl) (z_get _ _ _ _),
   zz_of (ok_getN G (nx := 38) (ci := 1) (kd := 0) (k := 1) (RX2, TX2, 11) rfl (by decide) rfl q218 dX1_setBy_35 rfl) (z_get _ _ _ _),
   zz_of (ok_clt G dX1_setBy_38 rfl rfl) (z_clt _ _ _ _),
   zz_of (ok_ldcw G (v := 1000000000) q1700 dX1_setBy_41 rfl) (z_cn 44 1000000000),
   zz_of (ok_goto G dX1_setBy_44 rfl) (z_goto _),
   zz_of (ok_iconst G (v := 0) dX1_setBy_47 (by decide) rfl) (z_cn 48 0),
   zz_of (ok_iret G dX1_setBy_48) (z_iret),
   zz_of (ok_bipush G (v := 7) dX1_setBy_49 (by decide) rfl) (z_cn 51 7),
   zz_of (ok_iload_n G dX1_setBy_51 rfl rfl) (z_ild _ _),
   zz_of (ok_imul G dX1_setBy_52 rfl) (z_imul _),
   zz_of (ok_iload_n G dX1_setBy_53 rfl rfl) (z_ild _ _),
   zz_of (ok_iadd G dX1_setBy_54 rfl) (z_iadd _),
   zz_of (ok_iconst G (v := 2) dX1_setBy_55 (by decide) rfl) (z_cn 56 2),
   zz_of (ok_imul G dX1_setBy_56 rfl) (z_imul _),
   zz_of (ok_iload G dX1_setBy_57 rfl) (z_ild _ _),
   zz_of (ok_iadd G dX1_setBy_59 rfl) (z_iadd _),
   zz_of (ok_istore G dX1_setBy_60 rfl (by decide)) (z_ist _ _),
   zz_of (ok_iload G dX1_setBy_62 rfl) (z_ild _ _),
   zz_of (ok_ifle G dX1_setBy_64 rfl rfl) (z_ifle _ _ _),
   zz_of (ok_aload_n G dX1_setBy_67 rfl rfl) (z_ald _ _),
   zz_of (ok_get G (nx := 71) (ci := 0) (kd := 2) (k := 15) (RX1, TX1, 19) rfl (by decide) rfl q426 dX1_setBy_68 rfl) (z_get _ _ _ _),
   zz_of (ok_iload G dX1_setBy_71 rfl) (z_ild _ _),
   zz_of (ok_iald G dX1_setBy_73 rfl) (z_iald _),
   zz_of (ok_iflt G dX1_setBy_74 rfl rfl) (z_iflt _ _ _),
   zz_of (ok_aload_n G dX1_setBy_77 rfl rfl) (z_ald _ _),
   zz_of (ok_get G (nx := 81) (ci := 0) (kd := 2) (k := 15) (RX1, TX1, 19) rfl (by decide) rfl q426 dX1_setBy_78 rfl) (z_get _ _ _ _),
   zz_of (ok_iload G dX1_setBy_81 rfl) (z_ild _ _),
   zz_of (ok_iald G dX1_setBy_83 rfl) (z_iald _),
   zz_of (ok_iret G dX1_setBy_84) (z_iret),
   zz_of (ok_lconst G (v := 0) dX1_setBy_85 (by decide) rfl) (z_cl 86 0),
   zz_of (ok_lstore G dX1_setBy_86 rfl (by decide)) (z_lst _ _),
   zz_of (ok_iconst G (v := 0) dX1_setBy_88 (by decide) rfl) (z_cn 89 0),
   zz_of (ok_istore G dX1_setBy_89 rfl (by decide)) (z_ist _ _),
   zz_of (ok_iload G dX1_setBy_91 rfl) (z_ild _ _),
   zz_of (ok_iconst G (v := 4) dX1_setBy_93 (by decide) rfl) (z_cn 94 4),
   zz_of (ok_cge G dX1_setBy_94 rfl rfl) (z_cge _ _ _ _),
   zz_of (ok_iload G dX1_setBy_97 rfl) (z_ild _ _),
   zz_of (ok_iconst G (v := 2) dX1_setBy_99 (by decide) rfl) (z_cn 100 2),
   zz_of (ok_cge G dX1_setBy_100 rfl rfl) (z_cge _ _ _ _),
   zz_of (ok_iconst G (v := 1) dX1_setBy_103 (by decide) rfl) (z_cn 104 1),
   zz_of (ok_goto G dX1_setBy_104 rfl) (z_goto _),
   zz_of (ok_iconst G (v := 0) dX1_setBy_107 (by decide) rfl) (z_cn 108 0),
   zz_of (ok_istore G dX1_setBy_108 rfl (by decide)) (z_ist _ _),
   zz_of (ok_aload_n G dX1_setBy_110 rfl rfl) (z_ald _ _),
   zz_of (ok_iload_n G dX1_setBy_111 rfl rfl) (z_ild _ _),
   zz_of (ok_iload_n G dX1_setBy_112 rfl rfl) (z_ild _ _),
   zz_of (ok_iload G dX1_setBy_113 rfl) (z_ild _ _),
   zz_of (ok_ifeq G dX1_setBy_115 rfl rfl) (z_zifeq _ _),
   zz_of (ok_iconst G (v := 1) dX1_setBy_118 (by decide) rfl) (z_cn 119 1),
   zz_of (ok_goto G dX1_setBy_119 rfl) (z_goto _),
   zz_of (ok_iconst G (v := 0) dX1_setBy_122 (by decide) rfl) (z_cn 123 0),
   zz_of (ok_iadd G dX1_setBy_123 rfl) (z_iadd _),
   zz_of (ok_iload_n G dX1_setBy_124 rfl rfl) (z_ild _ _),
   zz_of (ok_iload G dX1_setBy_125 rfl) (z_ild _ _),
   zz_of (ok_ifeq G dX1_setBy_127 rfl rfl) (z_zifeq _ _),
   zz_of (ok_iconst G (v := 0) dX1_setBy_130 (by decide) rfl) (z_cn 131 0),
   zz_of (ok_goto G dX1_setBy_131 rfl) (z_goto _),
   zz_of (ok_iconst G (v := 1) dX1_setBy_134 (by decide) rfl) (z_cn 135 1),
   zz_of (ok_iadd G dX1_setBy_135 rfl) (z_iadd _),
   zz_of (ok_iload G dX1_setBy_136 rfl) (z_ild _ _),
   zz_of (ok_iconst G (v := 2) dX1_setBy_138 (by decide) rfl) (z_cn 139 2),
   zz_of (ok_irem G dX1_setBy_139 rfl) (z_irem _),
   zz_of (ok_iconst G (v := 1) dX1_setBy_140 (by decide) rfl) (z_cn 141 1),
   zz_of (ok_iload G dX1_setBy_141 rfl) (z_ild _ _),
   zz_of (ok_iconst G (v := 2) dX1_setBy_143 (by decide) rfl) (z_cn 144 2),
   zz_of (ok_irem G dX1_setBy_144 rfl) (z_irem _),
   zz_of (ok_iadd G dX1_setBy_145 rfl) (z_iadd _),
   zz_of (ok_bad) (z_bad),
   zz_of (ok_istore G dX1_setBy_149 rfl (by decide)) (z_ist _ _),
   zz_of (ok_lload G dX1_setBy_151 rfl) (z_lld _ _),
   zz_of (ok_aload_n G dX1_setBy_153 rfl rfl) (z_ald _ _),
   zz_of (ok_get G (nx := 157) (ci := 0) (kd := 2) (k := 14) (RX1, TX1, 19) rfl (by decide) rfl q425 dX1_setBy_154 rfl) (z_get _ _ _ _),
   zz_of (ok_iload G dX1_setBy_157 rfl) (z_ild _ _),
   zz_of (ok_aald G dX1_setBy_159 rfl) (z_aald _),
   zz_of (ok_iload G dX1_setBy_160 rfl) (z_ild _ _),
   zz_of (ok_iald G dX1_setBy_162 rfl) (z_iald _),
   zz_of (ok_i2l G dX1_setBy_163 rfl) (z_i2l _),
   zz_of (ok_iload G dX1_setBy_164 rfl) (z_ild _ _),
   zz_of (ok_i2l G dX1_setBy_166 rfl) (z_i2l _),
   zz_of (ok_lmul G dX1_setBy_167 rfl) (z_lmul _),
   zz_of (ok_ldc2 G (v := 1000000000) q1710 dX1_setBy_168 rfl) (z_cl 171 1000000000),
   zz_of (ok_ldiv G dX1_setBy_171 rfl) (z_ldiv _),
   zz_of (ok_ladd G dX1_setBy_172 rfl) (z_ladd _),
   zz_of (ok_lstore G dX1_setBy_173 rfl (by decide)) (z_lst _ _),
   zz_of (ok_iinc G (v := 1) dX1_setBy_175 (by decide) rfl (by decide)) (z_incn 178 9 1),
   zz_of (ok_goto G dX1_setBy_178 rfl) (z_goto _),
   zz_of (ok_iload G dX1_setBy_181 rfl) (z_ild _ _),
   zz_of (ok_ifle G dX1_setBy_183 rfl rfl) (z_ifle _ _ _),
   zz_of (ok_aload_n G dX1_setBy_186 rfl rfl) (z_ald _ _),
   zz_of (ok_get G (nx := 190) (ci := 0) (kd := 2) (k := 15) (RX1, TX1, 19) rfl (by decide) rfl q426 dX1_setBy_187 rfl) (z_get _ _ _ _),
   zz_of (ok_iload G dX1_setBy_190 rfl) (z_ild _ _),
   zz_of (ok_lload G dX1_setBy_192 rfl) (z_lld _ _),
   zz_of (ok_l2i G dX1_setBy_194 rfl) (z_l2i _),
   zz_of (ok_iast G dX1_setBy_195 rfl) (z_iasd _),
   zz_of (ok_lload G dX1_setBy_196 rfl) (z_lld _ _),
   zz_of (ok_l2i G dX1_setBy_198 rfl) (z_l2i _),
   zz_of (ok_iret G dX1_setBy_199) (z_iret), trivial⟩

theorem zwX1_setBy_0_0 {Q : Option zv → zz_M → Prop} {X : Nat → zz_M → Prop} {f : Nat → Nat × Nat} {S L : Nat → Nat → Int} {P : Nat → Nat → Option Nat} {p : Int} {a : Int} {b : Int} {s : Int} {fr : Int} (h : R32 a ∧ (R32 (S 200 1) ∧ (((S 200 1) ≤ a → R32 p ∧ ((¬ p = 0 → R32 b ∧ (R32 (S 200 1) ∧ ((b < (S 200 1) → Q (some (vi 0)) ((2, f), S, L, P)) ∧ (¬ b < (S 200 1) → Q (some (vi 1000000000)) ((2, f), S, L, P))))) ∧ (p = 0 → R32 a ∧ (R32 (S 200 1) ∧ ((a < (S 200 1) → Q (some (vi 0)) ((2, f), S, L, P)) ∧ (¬ a < (S 200 1) → Q (some (vi 1000000000)) ((2, f), S, L, P))))))) ∧ (¬ (S 200 1) ≤ a → R32 b ∧ (R32 (S 200 1) ∧ ((b < (S 200 1) → R32 fr ∧ ((fr ≤ 0 → zz_J zpX1_setBy_0 (zz_ret Q X 0 0) 91 [some (vr 100), some (vi p), some (vi a), some (vi b), none, some (vi fr), some (vi ((((7 * a) + b) * 2) + s)), some (vl 0), none, some (vi 0), none, none] [] ((2, f), S, L, P) (0, 0)) ∧ (¬ fr ≤ 0 → (0 ≤ ((((7 * a) + b) * 2) + s) ∧ ((((7 * a) + b) * 2) + s) < 98) ∧ (R32 (S 131 (((((7 * a) + b) * 2) + s).toNat)) ∧ (((S 131 (((((7 * a) + b) * 2) + s).toNat)) < 0 → zz_J zpX1_setBy_0 (zz_ret Q X 0 0) 91 [some (vr 100), some (vi p), some (vi a), some (vi b), none, some (vi fr), some (vi ((((7 * a) + b) * 2) + s)), some (vl 0), none, some (vi 0), none, none] [] ((2, f), S, L, P) (0, 0)) ∧ (¬ (S 131 (((((7 * a) + b) * 2) + s).toNat)) < 0 → (0 ≤ ((((7 * a) + b) * 2) + s) ∧ ((((7 * a) + b) * 2) + s) < 98) ∧ (Q (some (vi (S 131 (((((7 * a) + b) * 2) + s).toNat)))) ((2, f), S, L, P)))))))) ∧ (¬ b < (S 200 1) → R32 p ∧ ((¬ p = 0 → R32 b ∧ (R32 (S 200 1) ∧ ((b < (S 200 1) → Q (some (vi 0)) ((2, f), S, L, P)) ∧ (¬ b < (S 200 1) → Q (some (vi 1000000000)) ((2, f), S, L, P))))) ∧ (p = 0 → R32 a ∧ (R32 (S 200 1) ∧ ((a < (S 200 1) → Q (some (vi 0)) ((2, f), S, L, P)) ∧ (¬ a < (S 200 1) → Q (some (vi 1000000000)) ((2, f), S, L, P))))))))))))) : zz_J zpX1_setBy_0 (zz_ret Q X 0 0) 0 [some (vr 100), some (vi p), some (vi a), some (vi b), some (vi s), some (vi fr), none, none, none, none, none, none] [] ((2, f), S, L, P) (0, 0) := zz_J.go [(91, [4, 8, 10, 11])] 400 h
theorem zwX1_setBy_0_91 {Q : Option zv → zz_M → Prop} {X : Nat → zz_M → Prop} {f : Nat → Nat × Nat} {S L : Nat → Nat → Int} {P : Nat → Nat → Option Nat} {x1 : Int} {x2 : Int} {x3 : Int} {x5 : Int} {x6 : Int} {x7 : Int} {x9 : Int} (h : R32 x9 ∧ ((4 ≤ x9 → R32 x5 ∧ ((x5 ≤ 0 → R64 x7 ∧ (Q (some (vi x7)) ((2, f), S, L, P))) ∧ (¬ x5 ≤ 0 → R64 x7 ∧ ((0 ≤ x6 ∧ x6 < 98) ∧ (R64 x7 ∧ (Q (some (vi x7)) ((2, f), mm_up S 131 x6.toNat x7, L, P))))))) ∧ (¬ 4 ≤ x9 → R32 x9 ∧ ((2 ≤ x9 → (0 ≤ x9 ∧ x9 < 2147483648) ∧ ((0 ≤ x9 ∧ x9 < 2147483648) ∧ (False))) ∧ (¬ 2 ≤ x9 → (0 ≤ x9 ∧ x9 < 2147483648) ∧ ((0 ≤ x9 ∧ x9 < 2147483648) ∧ (False))))))) : zz_J zpX1_setBy_0 (zz_ret Q X 0 0) 91 [some (vr 100), some (vi x1), some (vi x2), some (vi x3), none, some (vi x5), some (vi x6), some (vl x7), none, some (vi x9), none, none] [] ((2, f), S, L, P) (0, 0) := zz_J.go [(91, [4, 8, 10, 11])] 400 h

theorem zmX1_setBy_0 (l : Launch) (hl : l.stackTraces = false) : mm_Spec l yX1_setBy (ws_ yX1_setBy cX1_setBy 12 (some .int)) (mm_rm 5 0 0) (zE zX1_setBy_0) := by
  refine zz_Met.J hl (by decide) (fun C G hnh => ztX1_setBy_0 G hnh) ?_
  rintro as ⟨⟨t_, f⟩, S, L, P⟩ Q X h
  unfold zX1_setBy_0 at h
  split at h
  rotate_left
  · exact h.elim
  rename_i h_ p a b s fr
  obtain ⟨e1_, e2_, h⟩ := mm_and2 h (fun q => q)
  cases mm_beq e1_
  cases mm_beq e2_
  try dsimp only at h
  refine ⟨rfl, ?_⟩
  obtain ⟨hp, hs, hfr, ha, hb, hG, hr, wy, hw, hrow, hF, hme, hq⟩ := h
  have hq := hq S (fun _ _ => rfl) hme
  have o : S 200 1 ≤ a ∨ S 200 1 ≤ b := by omega
  unfold sbV at hq
  rw [if_pos o] at hq
  refine zwX1_setBy_0_0 ⟨by omega, by omega, fun c => ⟨by omega, fun d => ⟨by omega, by omega, fun e => ?_, fun e => ?_⟩, fun d => ⟨by omega, by omega, fun e => ?_, fun e => ?_⟩⟩, fun c => absurd (by omega) c⟩
  · rw [if_neg (by rw [if_neg d]; omega)] at hq; exact hq
  · rw [if_pos (by rw [if_neg d]; omega)] at hq; exact hq
  · rw [if_neg (by rw [if_pos d]; omega)] at hq; exact hq
  · rw [if_pos (by rw [if_pos d]; omega)] at hq; exact hq
theorem ways_at {f : Nat → Nat × Nat} {S L : Nat → Nat → Int} {P : Nat → Nat → Option Nat} {n : Nat} (h : n < 3) : zpt ((2, f), S, L, P) 127 n = some (128 + n) ∧ zsh ((2, f), S, L, P) (128 + n) = (2, 4) := by
  have e : n = 0 ∨ n = 1 ∨ n = 2 := by omega
  rcases e with e | e | e <;> subst e <;> exact ⟨rfl, rfl⟩
def zX1_setBy_1 : zz_Sp := fun as M Q X => match as with
  | [.inr (.inr (some h_)), .inl p, .inl a, .inl b, .inl s, .inl fr] => bif Nat.beq h_ 100 && Nat.beq M.1.1 2 then ((p = 0 ∨ p = 1) ∧ (s = 0 ∨ s = 1) ∧ (fr = 1 + s ∨ fr = 0) ∧ (0 ≤ a ∧ a ≤ M.2.1 200 1) ∧ (0 ≤ b ∧ b ≤ M.2.1 200 1) ∧ (1 ≤ M.2.1 200 1 ∧ M.2.1 200 1 ≤ 6) ∧ M.2.1 200 1 - a + (M.2.1 200 1 - b) ≤ 1 ∧ ∃ wy_ : Nat → Int, wyG wy_ ∧ (∀ s_ k_, s_ < 2 → k_ < 4 → M.2.1 (129 + s_) k_ = wy_ (4 * s_ + k_)) ∧ fG (M.2.1 (128 + fr.toNat)) ∧ meI M.2.1 wy_ (M.2.1 200 1) p ∧ (∀ S_ : Nat → Nat → Int, (∀ j_, j_ ≠ 131 → S_ j_ = M.2.1 j_) → meI S_ wy_ (M.2.1 200 1) p → Q (some (vi (sbV wy_ (M.2.1 200 1) p (M.2.1 (128 + fr.toNat)) a b))) ((2, M.1.2), S_, M.2.2.1, M.2.2.2))) else False
  | _ => False

def zpX1_setBy_1 : zz_P := [(0, zo_ild 1 2), (1, zo_ald 2 0), (2, zo_get 5 0 2 0), (5, zo_get 8 1 0 1), (8, zo_cge false false 11 22), (11, zo_ild 12 3), (12, zo_ald 13 0), (13, zo_get 16 0 2 0), (16, zo_get 19 1 0 1), (19, zo_clt false false 22 49), (22, zo_ild 23 1), (23, zo_ifne false 26 30), (26, zo_ild 27 2), (27, zo_goto 31), (30, zo_ild 31 3), (31, zo_ald 32 0), (32, zo_get 35 0 2 0), (35, zo_get 38 1 0 1), (38, zo_clt false false 41 47), (41, zo_c 44 (vi 1000000000)), (44, zo_goto 48), (47, zo_c 48 (vi 0)), (48, zo_iret), (49, zo_c 51 (vi 7)), (51, zo_ild 52 2), (52, zo_imul 53), (53, zo_ild 54 3), (54, zo_iadd 55), (55, zo_c 56 (vi 2)), (56, zo_imul 57), (57, zo_ild 59 4), (59, zo_iadd 60), (60, zo_ist 62 6), (62, zo_ild 64 5), (64, zo_ifle false 67 85), (67, zo_ald 68 0), (68, zo_get 71 0 2 15), (71, zo_ild 73 6), (73, zo_iald 74), (74, zo_iflt false 77 85), (77, zo_ald 78 0), (78, zo_get 81 0 2 15), (81, zo_ild 83 6), (83, zo_iald 84), (84, zo_iret), (85, zo_c 86 (vl 0)), (86, zo_lst 88 7), (88, zo_c 89 (vi 0)), (89, zo_ist 91 9), (91, zo_ild 93 9), (93, zo_c 94 (vi 4)), (94, zo_cge false true 97 181), (97, zo_ild 99 9), (99, zo_c 100 (vi 2)), (100, zo_cge false true 103 107), (103, zo_c 104 (vi 1)), (104, zo_goto 108), (107, zo_c 108 (vi 0)), (108, zo_ist 110 10), (110, zo_ald 111 0), (111, zo_ild 112 1), (112, zo_ild 113 2), (113, zo_ild 115 10), (115, zo_ifeq false 118 122), (118, zo_c 119 (vi 1)), (119, zo_goto 123), (122, zo_c 123 (vi 0)), (123, zo_iadd 124), (124, zo_ild 125 3), (125, zo_ild 127 10), (127, zo_ifeq false 130 134), (130, zo_c 131 (vi 0)), (131, zo_goto 135), (134, zo_c 135 (vi 1)), (135, zo_iadd 136), (136, zo_ild 138 9), (138, zo_c 139 (vi 2)), (139, zo_irem 140), (140, zo_c 141 (vi 1)), (141, zo_ild 143 9), (143, zo_c 144 (vi 2)), (144, zo_irem 145), (145, zo_iadd 146), (146, zo_callv 149 6 0 zX1_setBy_0), (149, zo_ist 151 11), (151, zo_lld 153 7), (153, zo_ald 154 0), (154, zo_get 157 0 2 14), (157, zo_ild 159 5), (159, zo_aald 160), (160, zo_ild 162 9), (162, zo_ialp 163), (163, zo_i2l 164), (164, zo_ild 166 11), (166, zo_i2l 167), (167, zo_lmul 168), (168, zo_c 171 (vl 1000000000)), (171, zo_ldiv 172), (172, zo_ladd 173), (173, zo_lst 175 7), (175, zo_inc 178 9 1), (178, zo_goto 91), (181, zo_ild 183 5), (183, zo_ifle false 186 196), (186, zo_ald 187 0), (187, zo_get 190 0 2 15), (190, zo_ild 192 6), (192, zo_lld 194 7), (194, zo_l2i 195), (195, zo_iasd 196), (196, zo_lld 198 7), (198, zo_l2i 199), (199, zo_iret)]
theorem ztX1_setBy_1 {C : mm_C} (G : mm_G C RX1 cX1_setBy (some .int) 12 (mm_rm 6 0 0)) (hnh : mm_nh C) : zz_OKs C zpX1_setBy_1 :=
  ⟨zz_of (ok_iload_n G dX1_setBy_0 rfl rfl) (z_ild _ _),
   zz_of (ok_aload_n G dX1_setBy_1 rfl rfl) (z_ald _ _),
   zz_of (ok_get G (nx := 5) (ci := 0) (kd := 2) (k := 0) (RX1, TX1, 19) rfl (by decide) rfl q399 dX1_setBy_2 rfl) (z_get _ _ _ _),
   zz_of (ok_getN G (nx := 8) (ci := 1) (kd := 0) (k := 1) (RX2, TX2, 11) rfl (by decide) rfl q218 dX1_setBy_5 rfl) (z_get _ _ _ _),
   zz_of (ok_cge G dX1_setBy_8 rfl rfl) (z_cge _ _ _ _),
   zz_of (ok_iload_n G dX1_setBy_11 rfl rfl) (z_ild _ _),
   zz_of (ok_aload_n G dX1_setBy_12 rfl rfl) (z_ald _ _),
   zz_of (ok_get G (nx := 16) (ci := 0) (kd := 2) (k := 0) (RX1, TX1, 19) rfl (by decide) rfl q399 dX1_setBy_13 rfl) (z_get _ _ _ _),
   zz_of (ok_getN G (nx := 19) (ci := 1) (kd := 0) (k := 1) (RX2, TX2, 11) rfl (by decide) rfl q218 dX1_setBy_16 rfl) (z_get _ _ _ _),
   zz_of (ok_clt G dX1_setBy_19 rfl rfl) (z_clt _ _ _ _),
   zz_of (ok_iload_n G dX1_setBy_22 rfl rfl) (z_ild _ _),
   zz_of (ok_ifne G dX1_setBy_23 rfl rfl) (z_ifne _ _ _),
   zz_of (ok_iload_n G dX1_setBy_26 rfl rfl) (z_ild _ _),
   zz_of (ok_goto G dX1_setBy_27 rfl) (z_goto _),
   zz_of (ok_iload_n G dX1_setBy_30 rfl rfl) (z_ild _ _),
   zz_of (ok_aload_n G dX1_setBy_31 rfl rfl) (z_ald _ _),
   zz_of (ok_get G (nx := 35) (ci := 0) (kd := 2) (k := 0) (RX1, TX1, 19) rfl (by decide) rfl q399 dX1_setBy_32 rfl) (z_get _ _ _ _),
   zz_of (ok_getN G (nx := 38) (ci := 1) (kd := 0) (k := 1) (RX2, TX2, 11) rfl (by decide) rfl q218 dX1_setBy_35 rfl) (z_get _ _ _ _),
   zz_of (ok_clt G dX1_setBy_38 rfl rfl) (z_clt _ _ _ _),
   zz_of (ok_ldcw G (v := 1000000000) q1700 dX1_setBy_41 rfl) (z_cn 44 1000000000),
   zz_of (ok_goto G dX1_setBy_44 rfl) (z_goto _),
   zz_of (ok_iconst G (v := 0) dX1_setBy_47 (by decide) rfl) (z_cn 48 0),
   zz_of (ok_iret G dX1_setBy_48) (z_iret),
   zz_of (ok_bipush G (v := 7) dX1_setBy_49 (by decide) rfl) (z_cn 51 7),
   zz_of (ok_iload_n G dX1_setBy_51 rfl rfl) (z_ild _ _),
   zz_of (ok_imul G dX1_setBy_52 rfl) (z_imul _),
   zz_of (ok_iload_n G dX1_setBy_53 rfl rfl) (z_ild _ _),
   zz_of (ok_iadd G dX1_setBy_54 rfl) (z_iadd _),
   zz_of (ok_iconst G (v := 2) dX1_setBy_55 (by decide) rfl) (z_cn 56 2),
   zz_of (ok_imul G dX1_setBy_56 rfl) (z_imul _),
   zz_of (ok_iload G dX1_setBy_57 rfl) (z_ild _ _),
   zz_of (ok_iadd G dX1_setBy_59 rfl) (z_iadd _),
   zz_of (ok_istore G dX1_setBy_60 rfl (by decide)) (z_ist _ _),
   zz_of (ok_iload G dX1_setBy_62 rfl) (z_ild _ _),
   zz_of (ok_ifle G dX1_setBy_64 rfl rfl) (z_ifle _ _ _),
   zz_of (ok_aload_n G dX1_setBy_67 rfl rfl) (z_ald _ _),
   zz_of (ok_get G (nx := 71) (ci := 0) (kd := 2) (k := 15) (RX1, TX1, 19) rfl (by decide) rfl q426 dX1_setBy_68 rfl) (z_get _ _ _ _),
   zz_of (ok_iload G dX1_setBy_71 rfl) (z_ild _ _),
   zz_of (ok_iald G dX1_setBy_73 rfl) (z_iald _),
   zz_of (ok_iflt G dX1_setBy_74 rfl rfl) (z_iflt _ _ _),
   zz_of (ok_aload_n G dX1_setBy_77 rfl rfl) (z_ald _ _),
   zz_of (ok_get G (nx := 81) (ci := 0) (kd := 2) (k := 15) (RX1, TX1, 19) rfl (by decide) rfl q426 dX1_setBy_78 rfl) (z_get _ _ _ _),
   zz_of (ok_iload G dX1_setBy_81 rfl) (z_ild _ _),
   zz_of (ok_iald G dX1_setBy_83 rfl) (z_iald _),
   zz_of (ok_iret G dX1_setBy_84) (z_iret),
   zz_of (ok_lconst G (v := 0) dX1_setBy_85 (by decide) rfl) (z_cl 86 0),
   zz_of (ok_lstore G dX1_setBy_86 rfl (by decide)) (z_lst _ _),
   zz_of (ok_iconst G (v := 0) dX1_setBy_88 (by decide) rfl) (z_cn 89 0),
   zz_of (ok_istore G dX1_setBy_89 rfl (by decide)) (z_ist _ _),
   zz_of (ok_iload G dX1_setBy_91 rfl) (z_ild _ _),
   zz_of (ok_iconst G (v := 4) dX1_setBy_93 (by decide) rfl) (z_cn 94 4),
   zz_of (ok_cge G dX1_setBy_94 rfl rfl) (z_cge _ _ _ _),
   zz_of (ok_iload G dX1_setBy_97 rfl) (z_ild _ _),
   zz_of (ok_iconst G (v := 2) dX1_setBy_99 (by decide) rfl) (z_cn 100 2),
   zz_of (ok_cge G dX1_setBy_100 rfl rfl) (z_cge _ _ _ _),
   zz_of (ok_iconst G (v := 1) dX1_setBy_103 (by decide) rfl) (z_cn 104 1),
   zz_of (ok_goto G dX1_setBy_104 rfl) (z_goto _),
   zz_of (ok_iconst G (v := 0) dX1_setBy_107 (by decide) rfl) (z_cn 108 0),
   zz_of (ok_istore G dX1_setBy_108 rfl (by decide)) (z_ist _ _),
   zz_of (ok_aload_n G dX1_setBy_110 rfl rfl) (z_ald _ _),
   zz_of (ok_iload_n G dX1_setBy_111 rfl rfl) (z_ild _ _),
   zz_of (ok_iload_n G dX1_setBy_112 rfl rfl) (z_ild _ _),
   zz_of (ok_iload G dX1_setBy_113 rfl) (z_ild _ _),
   zz_of (ok_ifeq G dX1_setBy_115 rfl rfl) (z_ifeq _ _ _),
   zz_of (ok_iconst G (v := 1) dX1_setBy_118 (by decide) rfl) (z_cn 119 1),
   zz_of (ok_goto G dX1_setBy_119 rfl) (z_goto _),
   zz_of (ok_iconst G (v := 0) dX1_setBy_122 (by decide) rfl) (z_cn 123 0),
   zz_of (ok_iadd G dX1_setBy_123 rfl) (z_iadd _),
   zz_of (ok_iload_n G dX1_setBy_124 rfl rfl) (z_ild _ _),
   zz_of (ok_iload G dX1_setBy_125 rfl) (z_ild _ _),
   zz_of (ok_ifeq G dX1_setBy_127 rfl rfl) (z_ifeq _ _ _),
   zz_of (ok_iconst G (v := 0) dX1_setBy_130 (by decide) rfl) (z_cn 131 0),
   zz_of (ok_goto G dX1_setBy_131 rfl) (z_goto _),
   zz_of (ok_iconst G (v := 1) dX1_setBy_134 (by decide) rfl) (z_cn 135 1),
   zz_of (ok_iadd G dX1_setBy_135 rfl) (z_iadd _),
   zz_of (ok_iload G dX1_setBy_136 rfl) (z_ild _ _),
   zz_of (ok_iconst G (v := 2) dX1_setBy_138 (by decide) rfl) (z_cn 139 2),
   zz_of (ok_irem G dX1_setBy_139 rfl) (z_irem _),
   zz_of (ok_iconst G (v := 1) dX1_setBy_140 (by decide) rfl) (z_cn 141 1),
   zz_of (ok_iload G dX1_setBy_141 rfl) (z_ild _ _),
   zz_of (ok_iconst G (v := 2) dX1_setBy_143 (by decide) rfl) (z_cn 144 2),
   zz_of (ok_irem G dX1_setBy_144 rfl) (z_irem _),
   zz_of (ok_iadd G dX1_setBy_145 rfl) (z_iadd _),
   zz_of (ok_callv G hnh (zmX1_setBy_0 _ G.hst) rfl rfl (RX1, TX1, 19) rfl q1706 q1708 qs33 q82 q1709 (by decide +kernel) ⟨by decide, by decide⟩ dX1_setBy_146 rfl) (z_callv _ _ _ _),
   zz_of (ok_istore G dX1_setBy_149 rfl (by decide)) (z_ist _ _),
   zz_of (ok_lload G dX1_setBy_151 rfl) (z_lld _ _),
   zz_of (ok_aload_n G dX1_setBy_153 rfl rfl) (z_ald _ _),
   zz_of (ok_get G (nx := 157) (ci := 0) (kd := 2) (k := 14) (RX1, TX1, 19) rfl (by decide) rfl q425 dX1_setBy_154 rfl) (z_get _ _ _ _),
   zz_of (ok_iload G dX1_setBy_157 rfl) (z_ild _ _),
   zz_of (ok_aald G dX1_setBy_159 rfl) (z_aald _),
   zz_of (ok_iload G dX1_setBy_160 rfl) (z_ild _ _),
   zz_of (ok_iald G dX1_setBy_162 rfl) (z_ialp _),
   zz_of (ok_i2l G dX1_setBy_163 rfl) (z_i2l _),
   zz_of (ok_iload G dX1_setBy_164 rfl) (z_ild _ _),
   zz_of (ok_i2l G dX1_setBy_166 rfl) (z_i2l _),
   zz_of (ok_lmul G dX1_setBy_167 rfl) (z_lmul _),
   zz_of (ok_ldc2 G (v := 1000000000) q1710 dX1_setBy_168 rfl) (z_cl 171 1000000000),
   zz_of (ok_ldiv G dX1_setBy_171 rfl) (z_ldiv _),
   zz_of (ok_ladd G dX1_setBy_172 rfl) (z_ladd _),
   zz_of (ok_lstore G dX1_setBy_173 rfl (by decide)) (z_lst _ _),
   zz_of (ok_iinc G (v := 1) dX1_setBy_175 (by decide) rfl (by decide)) (z_incn 178 9 1),
   zz_of (ok_goto G dX1_setBy_178 rfl) (z_goto _),
   zz_of (ok_iload G dX1_setBy_181 rfl) (z_ild _ _),
   zz_of (ok_ifle G dX1_setBy_183 rfl rfl) (z_ifle _ _ _),
   zz_of (ok_aload_n G dX1_setBy_186 rfl rfl) (z_ald _ _),
   zz_of (ok_get G (nx := 190) (ci := 0) (kd := 2) (k := 15) (RX1, TX1, 19) rfl (by decide) rfl q426 dX1_setBy_187 rfl) (z_get _ _ _ _),
   zz_of (ok_iload G dX1_setBy_190 rfl) (z_ild _ _),
   zz_of (ok_lload G dX1_setBy_192 rfl) (z_lld _ _),
   zz_of (ok_l2i G dX1_setBy_194 rfl) (z_l2i _),
   zz_of (ok_iast G dX1_setBy_195 rfl) (z_iasd _),
   zz_of (ok_lload G dX1_setBy_196 rfl) (z_lld _ _),
   zz_of (ok_l2i G dX1_setBy_198 rfl) (z_l2i _),
   zz_of (ok_iret G dX1_setBy_199) (z_iret), trivial⟩

theorem zwX1_setBy_1_0 {Q : Option zv → zz_M → Prop} {X : Nat → zz_M → Prop} {f : Nat → Nat × Nat} {S L : Nat → Nat → Int} {P : Nat → Nat → Option Nat} {p : Int} {a : Int} {b : Int} {s : Int} {fr : Int} (h : R32 a ∧ (R32 (S 200 1) ∧ (((S 200 1) ≤ a → R32 p ∧ ((¬ p = 0 → R32 b ∧ (R32 (S 200 1) ∧ ((b < (S 200 1) → Q (some (vi 0)) ((2, f), S, L, P)) ∧ (¬ b < (S 200 1) → Q (some (vi 1000000000)) ((2, f), S, L, P))))) ∧ (p = 0 → R32 a ∧ (R32 (S 200 1) ∧ ((a < (S 200 1) → Q (some (vi 0)) ((2, f), S, L, P)) ∧ (¬ a < (S 200 1) → Q (some (vi 1000000000)) ((2, f), S, L, P))))))) ∧ (¬ (S 200 1) ≤ a → R32 b ∧ (R32 (S 200 1) ∧ ((b < (S 200 1) → R32 fr ∧ ((fr ≤ 0 → zz_J zpX1_setBy_1 (zz_ret Q X 0 0) 91 [some (vr 100), some (vi p), some (vi a), some (vi b), none, some (vi fr), some (vi ((((7 * a) + b) * 2) + s)), some (vl 0), none, some (vi 0), none, none] [] ((2, f), S, L, P) (0, 0)) ∧ (¬ fr ≤ 0 → (0 ≤ ((((7 * a) + b) * 2) + s) ∧ ((((7 * a) + b) * 2) + s) < 98) ∧ (R32 (S 131 (((((7 * a) + b) * 2) + s).toNat)) ∧ (((S 131 (((((7 * a) + b) * 2) + s).toNat)) < 0 → zz_J zpX1_setBy_1 (zz_ret Q X 0 0) 91 [some (vr 100), some (vi p), some (vi a), some (vi b), none, some (vi fr), some (vi ((((7 * a) + b) * 2) + s)), some (vl 0), none, some (vi 0), none, none] [] ((2, f), S, L, P) (0, 0)) ∧ (¬ (S 131 (((((7 * a) + b) * 2) + s).toNat)) < 0 → (0 ≤ ((((7 * a) + b) * 2) + s) ∧ ((((7 * a) + b) * 2) + s) < 98) ∧ (Q (some (vi (S 131 (((((7 * a) + b) * 2) + s).toNat)))) ((2, f), S, L, P)))))))) ∧ (¬ b < (S 200 1) → R32 p ∧ ((¬ p = 0 → R32 b ∧ (R32 (S 200 1) ∧ ((b < (S 200 1) → Q (some (vi 0)) ((2, f), S, L, P)) ∧ (¬ b < (S 200 1) → Q (some (vi 1000000000)) ((2, f), S, L, P))))) ∧ (p = 0 → R32 a ∧ (R32 (S 200 1) ∧ ((a < (S 200 1) → Q (some (vi 0)) ((2, f), S, L, P)) ∧ (¬ a < (S 200 1) → Q (some (vi 1000000000)) ((2, f), S, L, P))))))))))))) : zz_J zpX1_setBy_1 (zz_ret Q X 0 0) 0 [some (vr 100), some (vi p), some (vi a), some (vi b), some (vi s), some (vi fr), none, none, none, none, none, none] [] ((2, f), S, L, P) (0, 0) := zz_J.go [(91, [4, 8, 10, 11]), (108, [4, 8, 10, 11]), (149, [4, 8, 10, 11]), (181, [1, 2, 3, 4, 8, 9, 10, 11])] 400 h
theorem zwX1_setBy_1_91 {Q : Option zv → zz_M → Prop} {X : Nat → zz_M → Prop} {f : Nat → Nat × Nat} {S L : Nat → Nat → Int} {P : Nat → Nat → Option Nat} {x1 : Int} {x2 : Int} {x3 : Int} {x5 : Int} {x6 : Int} {x7 : Int} {x9 : Int} (h : R32 x9 ∧ ((4 ≤ x9 → zz_J zpX1_setBy_1 (zz_ret Q X 0 0) 181 [some (vr 100), none, none, none, none, some (vi x5), some (vi x6), some (vl x7), none, none, none, none] [] ((2, f), S, L, P) (0, 0)) ∧ (¬ 4 ≤ x9 → R32 x9 ∧ ((2 ≤ x9 → zz_J zpX1_setBy_1 (zz_ret Q X 0 0) 108 [some (vr 100), some (vi x1), some (vi x2), some (vi x3), none, some (vi x5), some (vi x6), some (vl x7), none, some (vi x9), none, none] [vi 0] ((2, f), S, L, P) (0, 0)) ∧ (¬ 2 ≤ x9 → zz_J zpX1_setBy_1 (zz_ret Q X 0 0) 108 [some (vr 100), some (vi x1), some (vi x2), some (vi x3), none, some (vi x5), some (vi x6), some (vl x7), none, some (vi x9), none, none] [vi 1] ((2, f), S, L, P) (0, 0)))))) : zz_J zpX1_setBy_1 (zz_ret Q X 0 0) 91 [some (vr 100), some (vi x1), some (vi x2), some (vi x3), none, some (vi x5), some (vi x6), some (vl x7), none, some (vi x9), none, none] [] ((2, f), S, L, P) (0, 0) := zz_J.go [(91, [4, 8, 10, 11]), (108, [4, 8, 10, 11]), (149, [4, 8, 10, 11]), (181, [1, 2, 3, 4, 8, 9, 10, 11])] 400 h
theorem zwX1_setBy_1_108 {Q : Option zv → zz_M → Prop} {X : Nat → zz_M → Prop} {f : Nat → Nat × Nat} {S L : Nat → Nat → Int} {P : Nat → Nat → Option Nat} {x1 : Int} {x2 : Int} {x3 : Int} {x5 : Int} {x6 : Int} {x7 : Int} {x9 : Int} {t0 : Int} (h : R32 t0 ∧ ((t0 = 0 → R32 t0 ∧ ((t0 = 0 → (0 ≤ x9 ∧ x9 < 2147483648) ∧ ((0 ≤ x9 ∧ x9 < 2147483648) ∧ (((x1 = 0 ∨ x1 = 1) ∧ ((x9 % 2) = 0 ∨ (x9 % 2) = 1) ∧ ((1 + (x9 % 2)) = 1 + (x9 % 2) ∨ (1 + (x9 % 2)) = 0) ∧ (0 ≤ (x2 + 0) ∧ (x2 + 0) ≤ S 200 1) ∧ (0 ≤ (x3 + 1) ∧ (x3 + 1) ≤ S 200 1) ∧ (1 ≤ S 200 1 ∧ S 200 1 ≤ 6) ∧ S 200 1 - (x2 + 0) + (S 200 1 - (x3 + 1)) ≤ 0 ∧ ∃ wy_1 : Nat → Int, wyG wy_1 ∧ (∀ s_1 k_1, s_1 < 2 → k_1 < 4 → S (129 + s_1) k_1 = wy_1 (4 * s_1 + k_1)) ∧ fG (S (128 + (1 + (x9 % 2)).toNat)) ∧ meI S wy_1 (S 200 1) x1 ∧ (∀ S_1 : Nat → Nat → Int, (∀ j_1, j_1 ≠ 131 → S_1 j_1 = S j_1) → meI S_1 wy_1 (S 200 1) x1 → (zz_J zpX1_setBy_1 (zz_ret Q X 0 0) 149 [some (vr 100), some (vi x1), some (vi x2), some (vi x3), none, some (vi x5), some (vi x6), some (vl x7), none, some (vi x9), none, none] [vi (sbV wy_1 (S 200 1) x1 (S (128 + (1 + (x9 % 2)).toNat)) (x2 + 0) (x3 + 1))] ((2, f), S_1, L, P) (0, 0))))))) ∧ (¬ t0 = 0 → (0 ≤ x9 ∧ x9 < 2147483648) ∧ ((0 ≤ x9 ∧ x9 < 2147483648) ∧ (((x1 = 0 ∨ x1 = 1) ∧ ((x9 % 2) = 0 ∨ (x9 % 2) = 1) ∧ ((1 + (x9 % 2)) = 1 + (x9 % 2) ∨ (1 + (x9 % 2)) = 0) ∧ (0 ≤ (x2 + 0) ∧ (x2 + 0) ≤ S 200 1) ∧ (0 ≤ (x3 + 0) ∧ (x3 + 0) ≤ S 200 1) ∧ (1 ≤ S 200 1 ∧ S 200 1 ≤ 6) ∧ S 200 1 - (x2 + 0) + (S 200 1 - (x3 + 0)) ≤ 0 ∧ ∃ wy_2 : Nat → Int, wyG wy_2 ∧ (∀ s_2 k_2, s_2 < 2 → k_2 < 4 → S (129 + s_2) k_2 = wy_2 (4 * s_2 + k_2)) ∧ fG (S (128 + (1 + (x9 % 2)).toNat)) ∧ meI S wy_2 (S 200 1) x1 ∧ (∀ S_2 : Nat → Nat → Int, (∀ j_2, j_2 ≠ 131 → S_2 j_2 = S j_2) → meI S_2 wy_2 (S 200 1) x1 → (zz_J zpX1_setBy_1 (zz_ret Q X 0 0) 149 [some (vr 100), some (vi x1), some (vi x2), some (vi x3), none, some (vi x5), some (vi x6), some (vl x7), none, some (vi x9), none, none] [vi (sbV wy_2 (S 200 1) x1 (S (128 + (1 + (x9 % 2)).toNat)) (x2 + 0) (x3 + 0))] ((2, f), S_2, L, P) (0, 0))))))))) ∧ (¬ t0 = 0 → R32 t0 ∧ ((t0 = 0 → (0 ≤ x9 ∧ x9 < 2147483648) ∧ ((0 ≤ x9 ∧ x9 < 2147483648) ∧ (((x1 = 0 ∨ x1 = 1) ∧ ((x9 % 2) = 0 ∨ (x9 % 2) = 1) ∧ ((1 + (x9 % 2)) = 1 + (x9 % 2) ∨ (1 + (x9 % 2)) = 0) ∧ (0 ≤ (x2 + 1) ∧ (x2 + 1) ≤ S 200 1) ∧ (0 ≤ (x3 + 1) ∧ (x3 + 1) ≤ S 200 1) ∧ (1 ≤ S 200 1 ∧ S 200 1 ≤ 6) ∧ S 200 1 - (x2 + 1) + (S 200 1 - (x3 + 1)) ≤ 0 ∧ ∃ wy_3 : Nat → Int, wyG wy_3 ∧ (∀ s_3 k_3, s_3 < 2 → k_3 < 4 → S (129 + s_3) k_3 = wy_3 (4 * s_3 + k_3)) ∧ fG (S (128 + (1 + (x9 % 2)).toNat)) ∧ meI S wy_3 (S 200 1) x1 ∧ (∀ S_3 : Nat → Nat → Int, (∀ j_3, j_3 ≠ 131 → S_3 j_3 = S j_3) → meI S_3 wy_3 (S 200 1) x1 → (zz_J zpX1_setBy_1 (zz_ret Q X 0 0) 149 [some (vr 100), some (vi x1), some (vi x2), some (vi x3), none, some (vi x5), some (vi x6), some (vl x7), none, some (vi x9), none, none] [vi (sbV wy_3 (S 200 1) x1 (S (128 + (1 + (x9 % 2)).toNat)) (x2 + 1) (x3 + 1))] ((2, f), S_3, L, P) (0, 0))))))) ∧ (¬ t0 = 0 → (0 ≤ x9 ∧ x9 < 2147483648) ∧ ((0 ≤ x9 ∧ x9 < 2147483648) ∧ (((x1 = 0 ∨ x1 = 1) ∧ ((x9 % 2) = 0 ∨ (x9 % 2) = 1) ∧ ((1 + (x9 % 2)) = 1 + (x9 % 2) ∨ (1 + (x9 % 2)) = 0) ∧ (0 ≤ (x2 + 1) ∧ (x2 + 1) ≤ S 200 1) ∧ (0 ≤ (x3 + 0) ∧ (x3 + 0) ≤ S 200 1) ∧ (1 ≤ S 200 1 ∧ S 200 1 ≤ 6) ∧ S 200 1 - (x2 + 1) + (S 200 1 - (x3 + 0)) ≤ 0 ∧ ∃ wy_4 : Nat → Int, wyG wy_4 ∧ (∀ s_4 k_4, s_4 < 2 → k_4 < 4 → S (129 + s_4) k_4 = wy_4 (4 * s_4 + k_4)) ∧ fG (S (128 + (1 + (x9 % 2)).toNat)) ∧ meI S wy_4 (S 200 1) x1 ∧ (∀ S_4 : Nat → Nat → Int, (∀ j_4, j_4 ≠ 131 → S_4 j_4 = S j_4) → meI S_4 wy_4 (S 200 1) x1 → (zz_J zpX1_setBy_1 (zz_ret Q X 0 0) 149 [some (vr 100), some (vi x1), some (vi x2), some (vi x3), none, some (vi x5), some (vi x6), some (vl x7), none, some (vi x9), none, none] [vi (sbV wy_4 (S 200 1) x1 (S (128 + (1 + (x9 % 2)).toNat)) (x2 + 1) (x3 + 0))] ((2, f), S_4, L, P) (0, 0))))))))))) : zz_J zpX1_setBy_1 (zz_ret Q X 0 0) 108 [some (vr 100), some (vi x1), some (vi x2), some (vi x3), none, some (vi x5), some (vi x6), some (vl x7), none, some (vi x9), none, none] [vi t0] ((2, f), S, L, P) (0, 0) := zz_J.go [(91, [4, 8, 10, 11]), (108, [4, 8, 10, 11]), (149, [4, 8, 10, 11]), (181, [1, 2, 3, 4, 8, 9, 10, 11])] 400 h
theorem zwX1_setBy_1_149 {Q : Option zv → zz_M → Prop} {X : Nat → zz_M → Prop} {f : Nat → Nat × Nat} {S L : Nat → Nat → Int} {P : Nat → Nat → Option Nat} {x1 : Int} {x2 : Int} {x3 : Int} {x5 : Int} {x6 : Int} {x7 : Int} {x9 : Int} {t0 : Int} (h : ∃ t_ n_ : Nat, zsh ((2, f), S, L, P) 127 = (t_, n_) ∧ (t_ = 6 ∨ t_ = 7 ∨ t_ = 8) ∧ (n_ : Int) ≤ 2147483647 ∧ (0 ≤ x5 ∧ x5 < (n_ : Int)) ∧ (∀ b1 : Nat, zpt ((2, f), S, L, P) 127 x5.toNat = some b1 → ∃ n_ : Nat, zsh ((2, f), S, L, P) b1 = (2, n_) ∧ (n_ : Int) ≤ 2147483647 ∧ (0 ≤ x9 ∧ x9 < (n_ : Int)) ∧ (R32 (S b1 x9.toNat) ∧ (R32 t0 ∧ ((0 ≤ ((S b1 x9.toNat) * t0) ∧ ((S b1 x9.toNat) * t0) < 9223372036854775808) ∧ (zz_J zpX1_setBy_1 (zz_ret Q X 0 0) 91 [some (vr 100), some (vi x1), some (vi x2), some (vi x3), none, some (vi x5), some (vi x6), some (vl (x7 + (((S b1 x9.toNat) * t0) / 1000000000))), none, some (vi (x9 + 1)), none, none] [] ((2, f), S, L, P) (0, 0)))))) ∧ (zpt ((2, f), S, L, P) 127 x5.toNat = none → False)) : zz_J zpX1_setBy_1 (zz_ret Q X 0 0) 149 [some (vr 100), some (vi x1), some (vi x2), some (vi x3), none, some (vi x5), some (vi x6), some (vl x7), none, some (vi x9), none, none] [vi t0] ((2, f), S, L, P) (0, 0) := zz_J.go [(91, [4, 8, 10, 11]), (108, [4, 8, 10, 11]), (149, [4, 8, 10, 11]), (181, [1, 2, 3, 4, 8, 9, 10, 11])] 400 h
theorem zwX1_setBy_1_181 {Q : Option zv → zz_M → Prop} {X : Nat → zz_M → Prop} {f : Nat → Nat × Nat} {S L : Nat → Nat → Int} {P : Nat → Nat → Option Nat} {x5 : Int} {x6 : Int} {x7 : Int} (h : R32 x5 ∧ ((x5 ≤ 0 → R64 x7 ∧ (Q (some (vi x7)) ((2, f), S, L, P))) ∧ (¬ x5 ≤ 0 → R64 x7 ∧ ((0 ≤ x6 ∧ x6 < 98) ∧ (R64 x7 ∧ (Q (some (vi x7)) ((2, f), mm_up S 131 x6.toNat x7, L, P))))))) : zz_J zpX1_setBy_1 (zz_ret Q X 0 0) 181 [some (vr 100), none, none, none, none, some (vi x5), some (vi x6), some (vl x7), none, none, none, none] [] ((2, f), S, L, P) (0, 0) := zz_J.go [(91, [4, 8, 10, 11]), (108, [4, 8, 10, 11]), (149, [4, 8, 10, 11]), (181, [1, 2, 3, 4, 8, 9, 10, 11])] 400 h

theorem zmX1_setBy_1 (l : Launch) (hl : l.stackTraces = false) : mm_Spec l yX1_setBy (ws_ yX1_setBy cX1_setBy 12 (some .int)) (mm_rm 6 0 0) (zE zX1_setBy_1) := by
  refine zz_Met.J hl (by decide) (fun C G hnh => ztX1_setBy_1 G hnh) ?_
  rintro as ⟨⟨t_, f⟩, S, L, P⟩ Q X h
  unfold zX1_setBy_1 at h
  split at h
  rotate_left
  · exact h.elim
  rename_i h_ p a b s fr
  obtain ⟨e1_, e2_, h⟩ := mm_and2 h (fun q => q)
  cases mm_beq e1_
  cases mm_beq e2_
  try dsimp only at h
  refine ⟨rfl, ?_⟩
  obtain ⟨hp, hs, hfr, ha, hb, hG, hr, wy, hw, hrow, hF, hme, hq⟩ := h
  by_cases o : S 200 1 ≤ a ∨ S 200 1 ≤ b
  · have hq := hq S (fun _ _ => rfl) hme
    unfold sbV at hq
    rw [if_pos o] at hq
    have k1 : ¬ p = 0 → R32 b ∧ (R32 (S 200 1) ∧ ((b < (S 200 1) → Q (some (vi 0)) ((2, f), S, L, P)) ∧ (¬ b < (S 200 1) → Q (some (vi 1000000000)) ((2, f), S, L, P)))) := fun d => ⟨by omega, by omega, fun e => by rw [if_neg (by rw [if_neg d]; omega)] at hq; exact hq, fun e => by rw [if_pos (by rw [if_neg d]; omega)] at hq; exact hq⟩
    have k0 : p = 0 → R32 a ∧ (R32 (S 200 1) ∧ ((a < (S 200 1) → Q (some (vi 0)) ((2, f), S, L, P)) ∧ (¬ a < (S 200 1) → Q (some (vi 1000000000)) ((2, f), S, L, P)))) := fun d => ⟨by omega, by omega, fun e => by rw [if_neg (by rw [if_pos d]; omega)] at hq; exact hq, fun e => by rw [if_pos (by rw [if_pos d]; omega)] at hq; exact hq⟩
    exact zwX1_setBy_1_0 ⟨by omega, by omega, fun c => ⟨by omega, k1, k0⟩, fun c => ⟨by omega, by omega, fun e => absurd o (by omega), fun e => ⟨by omega, k1, k0⟩⟩⟩
  obtain ⟨a', rfl⟩ : ∃ a' : Nat, a = (a' : Int) := ⟨a.toNat, by omega⟩
  obtain ⟨b', rfl⟩ : ∃ b' : Nat, b = (b' : Int) := ⟨b.toNat, by omega⟩
  obtain ⟨s', hs', es⟩ : ∃ s' : Nat, s' < 2 ∧ s = (s' : Int) := ⟨s.toNat, by omega, by omega⟩
  obtain ⟨r', hr', er⟩ : ∃ r' : Nat, r' < 3 ∧ fr = (r' : Int) := ⟨fr.toNat, by omega, by omega⟩
  subst es er
  have hcv := fun k => bcV_in (G := S 200 1) (p := p) (a := (a' : Int)) (b := (b' : Int)) hw k
  rw [Int.toNat_natCast] at hF hq
  have sin := sbS_in hF hcv
  have hq : ∀ S_ : Nat → Nat → Int, (∀ j, j ≠ 131 → S_ j = S j) → meI S_ wy (S 200 1) p → Q (some (vi (sbS (S (128 + r')) (bcV wy (S 200 1) p a' b') 4))) ((2, f), S_, L, P) := fun S_ e1 e2 => by
    have hq := hq S_ e1 e2
    unfold sbV at hq
    rw [if_neg o] at hq
    exact hq
  have est : (1 : Int) + s' = r' → sbS (S (128 + r')) (bcV wy (S 200 1) p a' b') 4 = stO wy (S 200 1) p 12 a' b' s' := fun e => by
    have e2 : r' = 1 + s' := by omega
    have := sbV_st (wy := wy) (G := S 200 1) (p := p) (a := (a' : Int)) (b := (b' : Int)) (s := s') (F := S (128 + r')) (fun k hk => by rw [e2, show 128 + (1 + s') = 129 + s' by omega]; exact hrow s' k hs' hk) (by omega) (by omega) (by omega)
    unfold sbV at this
    rw [if_neg o] at this
    exact this
  have wy4 : ∀ s : Nat, s < 2 → fG (S (129 + s)) := fun s hs => by
    refine ⟨fun k hk => by rw [hrow s k hs hk]; exact hw.1 _ (by omega), ?_⟩
    rw [hrow s 0 hs (by decide), hrow s 1 hs (by decide), hrow s 2 hs (by decide), hrow s 3 hs (by decide)]
    have : s = 0 ∨ s = 1 := by omega
    rcases this with e | e <;> subst e
    · exact hw.2.1
    · exact hw.2.2
  have t91 : ∀ (m k : Nat) (T : Nat → Nat → Int), k + m = 4 → (∀ j, j ≠ 131 → T j = S j) → meI T wy (S 200 1) p → zz_J zpX1_setBy_1 (zz_ret Q X 0 0) 91 [some (vr 100), some (vi p), some (vi (a' : Int)), some (vi (b' : Int)), none, some (vi (r' : Int)), some (vi ((((7 * (a' : Int)) + b') * 2) + s')), some (vl (sbS (S (128 + r')) (bcV wy (S 200 1) p a' b') k)), none, some (vi (k : Int)), none, none] [] ((2, f), T, L, P) (0, 0) := by
    intro m
    induction m with
    | zero =>
      intro k T hk eT mT
      have k4 : k = 4 := by omega
      subst k4
      have s4 := sin 4 (by decide)
      have R4 : R64 (sbS (S (128 + r')) (bcV wy (S 200 1) p a' b') 4) := by omega
      refine zwX1_setBy_1_91 ⟨by omega, fun _ => zwX1_setBy_1_181 ⟨by omega, fun c => ⟨R4, hq T eT mT⟩, fun c => ⟨R4, by omega, R4, ?_⟩⟩, fun d => absurd (by omega) d⟩
      have ei : ((((7 * (a' : Int)) + b') * 2) + s').toNat = (7 * a' + b') * 2 + s' := by omega
      have e1 := est (by omega)
      refine hq _ (fun j hj => ?_) ?_
      · funext x
        rw [up_eq, if_neg (by omega), eT j hj]
      · rw [ei, e1]
        exact mT.up (by omega) (by omega) hs'
    | succ m ih =>
      intro k T hk eT mT
      have k4 : k < 4 := by omega
      have eG : T 200 1 = S 200 1 := by rw [eT 200 (by decide)]
      have t149 : ∀ (U : Nat → Nat → Int), (∀ j, j ≠ 131 → U j = S j) → meI U wy (S 200 1) p → zz_J zpX1_setBy_1 (zz_ret Q X 0 0) 149 [some (vr 100), some (vi p), some (vi (a' : Int)), some (vi (b' : Int)), none, some (vi (r' : Int)), some (vi ((((7 * (a' : Int)) + b') * 2) + s')), some (vl (sbS (S (128 + r')) (bcV wy (S 200 1) p a' b') k)), none, some (vi (k : Int)), none, none] [vi (bcV wy (S 200 1) p a' b' k)] ((2, f), U, L, P) (0, 0) := by
        intro U eU mU
        obtain ⟨w1, w2⟩ := ways_at (f := f) (S := U) (L := L) (P := P) hr'
        have fk := hF.1 k k4
        have ck := hcv k
        have m9 := mul_sure fk.1 ck.1 ck.2
        refine zwX1_setBy_1_149 ⟨6, 3, rfl, Or.inl rfl, by decide, by omega, fun b1 hb1 => ?_, fun hb1 => ?_⟩
        · rw [Int.toNat_natCast, w1] at hb1
          cases hb1
          refine ⟨4, w2, by decide, by omega, ?_⟩
          rw [Int.toNat_natCast, eU (128 + r') (by omega)]
          exact ⟨by omega, by omega, by omega, ih (k + 1) U (by omega) eU mU⟩
        · rw [Int.toNat_natCast, w1] at hb1
          cases hb1
      have rowT : ∀ s_ k_, s_ < 2 → k_ < 4 → T (129 + s_) k_ = wy (4 * s_ + k_) := fun s_ k_ g1 g2 => by rw [eT (129 + s_) (by omega)]; exact hrow s_ k_ g1 g2
      have mk : ((k : Int) % 2 = 0 ∨ (k : Int) % 2 = 1) := by omega
      have ek2 : ((k : Int) % 2).toNat = k % 2 := by omega
      have ek3 : 128 + (1 + (k : Int) % 2).toNat = 129 + k % 2 := by omega
      have nxt : ∀ x y : Int, (x ≤ S 200 1 ∧ y ≤ S 200 1 ∧ S 200 1 - x + (S 200 1 - y) ≤ 12) → stO wy (S 200 1) p 12 x y (k % 2) = bcV wy (S 200 1) p a' b' k → ∀ S_ : Nat → Nat → Int, (∀ j, j ≠ 131 → S_ j = T j) → meI S_ wy (T 200 1) p → zz_J zpX1_setBy_1 (zz_ret Q X 0 0) 149 [some (vr 100), some (vi p), some (vi (a' : Int)), some (vi (b' : Int)), none, some (vi (r' : Int)), some (vi ((((7 * (a' : Int)) + b') * 2) + s')), some (vl (sbS (S (128 + r')) (bcV wy (S 200 1) p a' b') k)), none, some (vi (k : Int)), none, none] [vi (sbV wy (T 200 1) p (T (128 + (1 + (k : Int) % 2).toNat)) x y)] ((2, f), S_, L, P) (0, 0) := by
        intro x y hxy e S_ e1 e2
        rw [eG] at e2 ⊢
        rw [ek3, sbV_st (s := k % 2) (fun j hj => rowT (k % 2) j (by omega) hj) hxy.1 hxy.2.1 hxy.2.2, e]
        exact t149 S_ (fun j hj => by rw [e1 j hj, eT j hj]) e2
      have fGk : fG (T (128 + (1 + (k : Int) % 2).toNat)) := by
        rw [ek3, eT (129 + k % 2) (by omega)]
        exact wy4 (k % 2) (by omega)
      refine zwX1_setBy_1_91 ⟨by omega, fun d => absurd d (by omega), fun _ => ⟨by omega, fun c => zwX1_setBy_1_108 ⟨by decide, fun _ => ⟨by decide, fun _ => ⟨by omega, by omega, hp, mk, Or.inl rfl, by omega, by omega, by omega, by omega, wy, hw, rowT, fGk, by rw [eG]; exact mT, ?_⟩, fun d => absurd rfl d⟩, fun d => absurd rfl d⟩, fun c => zwX1_setBy_1_108 ⟨by decide, fun d => absurd d (by decide), fun _ => ⟨by decide, fun d => absurd d (by decide), fun _ => ⟨by omega, by omega, hp, mk, Or.inl rfl, by omega, by omega, by omega, by omega, wy, hw, rowT, fGk, by rw [eG]; exact mT, ?_⟩⟩⟩⟩⟩
      · refine nxt _ _ (by omega) ?_
        unfold bcV
        rw [if_neg (by omega), if_neg (by omega), Int.add_zero]
      · refine nxt _ _ (by omega) ?_
        unfold bcV
        rw [if_pos (by omega), if_pos (by omega), Int.add_zero]
  have t0 := t91 4 0 S rfl (fun _ _ => rfl) hme
  refine zwX1_setBy_1_0 ⟨by omega, by omega, fun c => absurd (Or.inl c) o, fun c => ⟨by omega, by omega, fun c2 => ⟨by omega, fun d => t0, fun d => ⟨by omega, ?_⟩⟩, fun c2 => absurd (by omega) o⟩⟩
  have ei : ((((7 * (a' : Int)) + b') * 2) + s').toNat = (7 * a' + b') * 2 + s' := by omega
  have me := hme a' b' s' (by omega) (by omega) hs'
  have hin := stO_in (G := S 200 1) (p := p) hw 12 (a' : Int) (b' : Int) s' hs'
  rw [ei]
  refine ⟨by rcases me with e | e <;> rw [e] <;> omega, fun _ => t0, fun d2 => ⟨by omega, ?_⟩⟩
  have e2 := me.resolve_left (by omega)
  rw [e2, ← est (by omega)]
  exact hq S (fun _ _ => rfl) hme
def zX1_setBy_2 : zz_Sp := fun as M Q X => match as with
  | [.inr (.inr (some h_)), .inl p, .inl a, .inl b, .inl s, .inl fr] => bif Nat.beq h_ 100 && Nat.beq M.1.1 2 then ((p = 0 ∨ p = 1) ∧ (s = 0 ∨ s = 1) ∧ (fr = 1 + s ∨ fr = 0) ∧ (0 ≤ a ∧ a ≤ M.2.1 200 1) ∧ (0 ≤ b ∧ b ≤ M.2.1 200 1) ∧ (1 ≤ M.2.1 200 1 ∧ M.2.1 200 1 ≤ 6) ∧ M.2.1 200 1 - a + (M.2.1 200 1 - b) ≤ 2 ∧ ∃ wy_ : Nat → Int, wyG wy_ ∧ (∀ s_ k_, s_ < 2 → k_ < 4 → M.2.1 (129 + s_) k_ = wy_ (4 * s_ + k_)) ∧ fG (M.2.1 (128 + fr.toNat)) ∧ meI M.2.1 wy_ (M.2.1 200 1) p ∧ (∀ S_ : Nat → Nat → Int, (∀ j_, j_ ≠ 131 → S_ j_ = M.2.1 j_) → meI S_ wy_ (M.2.1 200 1) p → Q (some (vi (sbV wy_ (M.2.1 200 1) p (M.2.1 (128 + fr.toNat)) a b))) ((2, M.1.2), S_, M.2.2.1, M.2.2.2))) else False
  | _ => False

def zpX1_setBy_2 : zz_P := [(0, zo_ild 1 2), (1, zo_ald 2 0), (2, zo_get 5 0 2 0), (5, zo_get 8 1 0 1), (8, zo_cge false false 11 22), (11, zo_ild 12 3), (12, zo_ald 13 0), (13, zo_get 16 0 2 0), (16, zo_get 19 1 0 1), (19, zo_clt false false 22 49), (22, zo_ild 23 1), (23, zo_ifne false 26 30), (26, zo_ild 27 2), (27, zo_goto 31), (30, zo_ild 31 3), (31, zo_ald 32 0), (32, zo_get 35 0 2 0), (35, zo_get 38 1 0 1), (38, zo_clt false false 41 47), (41, zo_c 44 (vi 1000000000)), (44, zo_goto 48), (47, zo_c 48 (vi 0)), (48, zo_iret), (49, zo_c 51 (vi 7)), (51, zo_ild 52 2), (52, zo_imul 53), (53, zo_ild 54 3), (54, zo_iadd 55), (55, zo_c 56 (vi 2)), (56, zo_imul 57), (57, zo_ild 59 4), (59, zo_iadd 60), (60, zo_ist 62 6), (62, zo_ild 64 5), (64, zo_ifle false 67 85), (67, zo_ald 68 0), (68, zo_get 71 0 2 15), (71, zo_ild 73 6), (73, zo_iald 74), (74, zo_iflt false 77 85), (77, zo_ald 78 0), (78, zo_get 81 0 2 15), (81, zo_ild 83 6), (83, zo_iald 84), (84, zo_iret), (85, zo_c 86 (vl 0)), (86, zo_lst 88 7), (88, zo_c 89 (vi 0)), (89, zo_ist 91 9), (91, zo_ild 93 9), (93, zo_c 94 (vi 4)), (94, zo_cge false true 97 181), (97, zo_ild 99 9), (99, zo_c 100 (vi 2)), (100, zo_cge false true 103 107), (103, zo_c 104 (vi 1)), (104, zo_goto 108), (107, zo_c 108 (vi 0)), (108, zo_ist 110 10), (110, zo_ald 111 0), (111, zo_ild 112 1), (112, zo_ild 113 2), (113, zo_ild 115 10), (115, zo_ifeq false 118 122), (118, zo_c 119 (vi 1)), (119, zo_goto 123), (122, zo_c 123 (vi 0)), (123, zo_iadd 124), (124, zo_ild 125 3), (125, zo_ild 127 10), (127, zo_ifeq false 130 134), (130, zo_c 131 (vi 0)), (131, zo_goto 135), (134, zo_c 135 (vi 1)), (135, zo_iadd 136), (136, zo_ild 138 9), (138, zo_c 139 (vi 2)), (139, zo_irem 140), (140, zo_c 141 (vi 1)), (141, zo_ild 143 9), (143, zo_c 144 (vi 2)), (144, zo_irem 145), (145, zo_iadd 146), (146, zo_callv 149 6 0 zX1_setBy_1), (149, zo_ist 151 11), (151, zo_lld 153 7), (153, zo_ald 154 0), (154, zo_get 157 0 2 14), (157, zo_ild 159 5), (159, zo_aald 160), (160, zo_ild 162 9), (162, zo_ialp 163), (163, zo_i2l 164), (164, zo_ild 166 11), (166, zo_i2l 167), (167, zo_lmul 168), (168, zo_c 171 (vl 1000000000)), (171, zo_ldiv 172), (172, zo_ladd 173), (173, zo_lst 175 7), (175, zo_inc 178 9 1), (178, zo_goto 91), (181, zo_ild 183 5), (183, zo_ifle false 186 196), (186, zo_ald 187 0), (187, zo_get 190 0 2 15), (190, zo_ild 192 6), (192, zo_lld 194 7), (194, zo_l2i 195), (195, zo_iasd 196), (196, zo_lld 198 7), (198, zo_l2i 199), (199, zo_iret)]
theorem ztX1_setBy_2 {C : mm_C} (G : mm_G C RX1 cX1_setBy (some .int) 12 (mm_rm 7 0 0)) (hnh : mm_nh C) : zz_OKs C zpX1_setBy_2 :=
  ⟨zz_of (ok_iload_n G dX1_setBy_0 rfl rfl) (z_ild _ _),
   zz_of (ok_aload_n G dX1_setBy_1 rfl rfl) (z_ald _ _),
   zz_of (ok_get G (nx := 5) (ci := 0) (kd := 2) (k := 0) (RX1, TX1, 19) rfl (by decide) rfl q399 dX1_setBy_2 rfl) (z_get _ _ _ _),
   zz_of (ok_getN G (nx := 8) (ci := 1) (kd := 0) (k := 1) (RX2, TX2, 11) rfl (by decide) rfl q218 dX1_setBy_5 rfl) (z_get _ _ _ _),
   zz_of (ok_cge G dX1_setBy_8 rfl rfl) (z_cge _ _ _ _),
   zz_of (ok_iload_n G dX1_setBy_11 rfl rfl) (z_ild _ _),
   zz_of (ok_aload_n G dX1_setBy_12 rfl rfl) (z_ald _ _),
   zz_of (ok_get G (nx := 16) (ci := 0) (kd := 2) (k := 0) (RX1, TX1, 19) rfl (by decide) rfl q399 dX1_setBy_13 rfl) (z_get _ _ _ _),
   zz_of (ok_getN G (nx := 19) (ci := 1) (kd := 0) (k := 1) (RX2, TX2, 11) rfl (by decide) rfl q218 dX1_setBy_16 rfl) (z_get _ _ _ _),
   zz_of (ok_clt G dX1_setBy_19 rfl rfl) (z_clt _ _ _ _),
   zz_of (ok_iload_n G dX1_setBy_22 rfl rfl) (z_ild _ _),
   zz_of (ok_ifne G dX1_setBy_23 rfl rfl) (z_ifne _ _ _),
   zz_of (ok_iload_n G dX1_setBy_26 rfl rfl) (z_ild _ _),
   zz_of (ok_goto G dX1_setBy_27 rfl) (z_goto _),
   zz_of (ok_iload_n G dX1_setBy_30 rfl rfl) (z_ild _ _),
   zz_of (ok_aload_n G dX1_setBy_31 rfl rfl) (z_ald _ _),
   zz_of (ok_get G (nx := 35) (ci := 0) (kd := 2) (k := 0) (RX1, TX1, 19) rfl (by decide) rfl q399 dX1_setBy_32 rfl) (z_get _ _ _ _),
   zz_of (ok_getN G (nx := 38) (ci := 1) (kd := 0) (k := 1) (RX2, TX2, 11) rfl (by decide) rfl q218 dX1_setBy_35 rfl) (z_get _ _ _ _),
   zz_of (ok_clt G dX1_setBy_38 rfl rfl) (z_clt _ _ _ _),
   zz_of (ok_ldcw G (v := 1000000000) q1700 dX1_setBy_41 rfl) (z_cn 44 1000000000),
   zz_of (ok_goto G dX1_setBy_44 rfl) (z_goto _),
   zz_of (ok_iconst G (v := 0) dX1_setBy_47 (by decide) rfl) (z_cn 48 0),
   zz_of (ok_iret G dX1_setBy_48) (z_iret),
   zz_of (ok_bipush G (v := 7) dX1_setBy_49 (by decide) rfl) (z_cn 51 7),
   zz_of (ok_iload_n G dX1_setBy_51 rfl rfl) (z_ild _ _),
   zz_of (ok_imul G dX1_setBy_52 rfl) (z_imul _),
   zz_of (ok_iload_n G dX1_setBy_53 rfl rfl) (z_ild _ _),
   zz_of (ok_iadd G dX1_setBy_54 rfl) (z_iadd _),
   zz_of (ok_iconst G (v := 2) dX1_setBy_55 (by decide) rfl) (z_cn 56 2),
   zz_of (ok_imul G dX1_setBy_56 rfl) (z_imul _),
   zz_of (ok_iload G dX1_setBy_57 rfl) (z_ild _ _),
   zz_of (ok_iadd G dX1_setBy_59 rfl) (z_iadd _),
   zz_of (ok_istore G dX1_setBy_60 rfl (by decide)) (z_ist _ _),
   zz_of (ok_iload G dX1_setBy_62 rfl) (z_ild _ _),
   zz_of (ok_ifle G dX1_setBy_64 rfl rfl) (z_ifle _ _ _),
   zz_of (ok_aload_n G dX1_setBy_67 rfl rfl) (z_ald _ _),
   zz_of (ok_get G (nx := 71) (ci := 0) (kd := 2) (k := 15) (RX1, TX1, 19) rfl (by decide) rfl q426 dX1_setBy_68 rfl) (z_get _ _ _ _),
   zz_of (ok_iload G dX1_setBy_71 rfl) (z_ild _ _),
   zz_of (ok_iald G dX1_setBy_73 rfl) (z_iald _),
   zz_of (ok_iflt G dX1_setBy_74 rfl rfl) (z_iflt _ _ _),
   zz_of (ok_aload_n G dX1_setBy_77 rfl rfl) (z_ald _ _),
   zz_of (ok_get G (nx := 81) (ci := 0) (kd := 2) (k := 15) (RX1, TX1, 19) rfl (by decide) rfl q426 dX1_setBy_78 rfl) (z_get _ _ _ _),
   zz_of (ok_iload G dX1_setBy_81 rfl) (z_ild _ _),
   zz_of (ok_iald G dX1_setBy_83 rfl) (z_iald _),
   zz_of (ok_iret G dX1_setBy_84) (z_iret),
   zz_of (ok_lconst G (v := 0) dX1_setBy_85 (by decide) rfl) (z_cl 86 0),
   zz_of (ok_lstore G dX1_setBy_86 rfl (by decide)) (z_lst _ _),
   zz_of (ok_iconst G (v := 0) dX1_setBy_88 (by decide) rfl) (z_cn 89 0),
   zz_of (ok_istore G dX1_setBy_89 rfl (by decide)) (z_ist _ _),
   zz_of (ok_iload G dX1_setBy_91 rfl) (z_ild _ _),
   zz_of (ok_iconst G (v := 4) dX1_setBy_93 (by decide) rfl) (z_cn 94 4),
   zz_of (ok_cge G dX1_setBy_94 rfl rfl) (z_cge _ _ _ _),
   zz_of (ok_iload G dX1_setBy_97 rfl) (z_ild _ _),
   zz_of (ok_iconst G (v := 2) dX1_setBy_99 (by decide) rfl) (z_cn 100 2),
   zz_of (ok_cge G dX1_setBy_100 rfl rfl) (z_cge _ _ _ _),
   zz_of (ok_iconst G (v := 1) dX1_setBy_103 (by decide) rfl) (z_cn 104 1),
   zz_of (ok_goto G dX1_setBy_104 rfl) (z_goto _),
   zz_of (ok_iconst G (v := 0) dX1_setBy_107 (by decide) rfl) (z_cn 108 0),
   zz_of (ok_istore G dX1_setBy_108 rfl (by decide)) (z_ist _ _),
   zz_of (ok_aload_n G dX1_setBy_110 rfl rfl) (z_ald _ _),
   zz_of (ok_iload_n G dX1_setBy_111 rfl rfl) (z_ild _ _),
   zz_of (ok_iload_n G dX1_setBy_112 rfl rfl) (z_ild _ _),
   zz_of (ok_iload G dX1_setBy_113 rfl) (z_ild _ _),
   zz_of (ok_ifeq G dX1_setBy_115 rfl rfl) (z_ifeq _ _ _),
   zz_of (ok_iconst G (v := 1) dX1_setBy_118 (by decide) rfl) (z_cn 119 1),
   zz_of (ok_goto G dX1_setBy_119 rfl) (z_goto _),
   zz_of (ok_iconst G (v := 0) dX1_setBy_122 (by decide) rfl) (z_cn 123 0),
   zz_of (ok_iadd G dX1_setBy_123 rfl) (z_iadd _),
   zz_of (ok_iload_n G dX1_setBy_124 rfl rfl) (z_ild _ _),
   zz_of (ok_iload G dX1_setBy_125 rfl) (z_ild _ _),
   zz_of (ok_ifeq G dX1_setBy_127 rfl rfl) (z_ifeq _ _ _),
   zz_of (ok_iconst G (v := 0) dX1_setBy_130 (by decide) rfl) (z_cn 131 0),
   zz_of (ok_goto G dX1_setBy_131 rfl) (z_goto _),
   zz_of (ok_iconst G (v := 1) dX1_setBy_134 (by decide) rfl) (z_cn 135 1),
   zz_of (ok_iadd G dX1_setBy_135 rfl) (z_iadd _),
   zz_of (ok_iload G dX1_setBy_136 rfl) (z_ild _ _),
   zz_of (ok_iconst G (v := 2) dX1_setBy_138 (by decide) rfl) (z_cn 139 2),
   zz_of (ok_irem G dX1_setBy_139 rfl) (z_irem _),
   zz_of (ok_iconst G (v := 1) dX1_setBy_140 (by decide) rfl) (z_cn 141 1),
   zz_of (ok_iload G dX1_setBy_141 rfl) (z_ild _ _),
   zz_of (ok_iconst G (v := 2) dX1_setBy_143 (by decide) rfl) (z_cn 144 2),
   zz_of (ok_irem G dX1_setBy_144 rfl) (z_irem _),
   zz_of (ok_iadd G dX1_setBy_145 rfl) (z_iadd _),
   zz_of (ok_callv G hnh (zmX1_setBy_1 _ G.hst) rfl rfl (RX1, TX1, 19) rfl q1706 q1708 qs33 q82 q1709 (by decide +kernel) ⟨by decide, by decide⟩ dX1_setBy_146 rfl) (z_callv _ _ _ _),
   zz_of (ok_istore G dX1_setBy_149 rfl (by decide)) (z_ist _ _),
   zz_of (ok_lload G dX1_setBy_151 rfl) (z_lld _ _),
   zz_of (ok_aload_n G dX1_setBy_153 rfl rfl) (z_ald _ _),
   zz_of (ok_get G (nx := 157) (ci := 0) (kd := 2) (k := 14) (RX1, TX1, 19) rfl (by decide) rfl q425 dX1_setBy_154 rfl) (z_get _ _ _ _),
   zz_of (ok_iload G dX1_setBy_157 rfl) (z_ild _ _),
   zz_of (ok_aald G dX1_setBy_159 rfl) (z_aald _),
   zz_of (ok_iload G dX1_setBy_160 rfl) (z_ild _ _),
   zz_of (ok_iald G dX1_setBy_162 rfl) (z_ialp _),
   zz_of (ok_i2l G dX1_setBy_163 rfl) (z_i2l _),
   zz_of (ok_iload G dX1_setBy_164 rfl) (z_ild _ _),
   zz_of (ok_i2l G dX1_setBy_166 rfl) (z_i2l _),
   zz_of (ok_lmul G dX1_setBy_167 rfl) (z_lmul _),
   zz_of (ok_ldc2 G (v := 1000000000) q1710 dX1_setBy_168 rfl) (z_cl 171 1000000000),
   zz_of (ok_ldiv G dX1_setBy_171 rfl) (z_ldiv _),
   zz_of (ok_ladd G dX1_setBy_172 rfl) (z_ladd _),
   zz_of (ok_lstore G dX1_setBy_173 rfl (by decide)) (z_lst _ _),
   zz_of (ok_iinc G (v := 1) dX1_setBy_175 (by decide) rfl (by decide)) (z_incn 178 9 1),
   zz_of (ok_goto G dX1_setBy_178 rfl) (z_goto _),
   zz_of (ok_iload G dX1_setBy_181 rfl) (z_ild _ _),
   zz_of (ok_ifle G dX1_setBy_183 rfl rfl) (z_ifle _ _ _),
   zz_of (ok_aload_n G dX1_setBy_186 rfl rfl) (z_ald _ _),
   zz_of (ok_get G (nx := 190) (ci := 0) (kd := 2) (k := 15) (RX1, TX1, 19) rfl (by decide) rfl q426 dX1_setBy_187 rfl) (z_get _ _ _ _),
   zz_of (ok_iload G dX1_setBy_190 rfl) (z_ild _ _),
   zz_of (ok_lload G dX1_setBy_192 rfl) (z_lld _ _),
   zz_of (ok_l2i G dX1_setBy_194 rfl) (z_l2i _),
   zz_of (ok_iast G dX1_setBy_195 rfl) (z_iasd _),
   zz_of (ok_lload G dX1_setBy_196 rfl) (z_lld _ _),
   zz_of (ok_l2i G dX1_setBy_198 rfl) (z_l2i _),
   zz_of (ok_iret G dX1_setBy_199) (z_iret), trivial⟩

theorem zwX1_setBy_2_0 {Q : Option zv → zz_M → Prop} {X : Nat → zz_M → Prop} {f : Nat → Nat × Nat} {S L : Nat → Nat → Int} {P : Nat → Nat → Option Nat} {p : Int} {a : Int} {b : Int} {s : Int} {fr : Int} (h : R32 a ∧ (R32 (S 200 1) ∧ (((S 200 1) ≤ a → R32 p ∧ ((¬ p = 0 → R32 b ∧ (R32 (S 200 1) ∧ ((b < (S 200 1) → Q (some (vi 0)) ((2, f), S, L, P)) ∧ (¬ b < (S 200 1) → Q (some (vi 1000000000)) ((2, f), S, L, P))))) ∧ (p = 0 → R32 a ∧ (R32 (S 200 1) ∧ ((a < (S 200 1) → Q (some (vi 0)) ((2, f), S, L, P)) ∧ (¬ a < (S 200 1) → Q (some (vi 1000000000)) ((2, f), S, L, P))))))) ∧ (¬ (S 200 1) ≤ a → R32 b ∧ (R32 (S 200 1) ∧ ((b < (S 200 1) → R32 fr ∧ ((fr ≤ 0 → zz_J zpX1_setBy_2 (zz_ret Q X 0 0) 91 [some (vr 100), some (vi p), some (vi a), some (vi b), none, some (vi fr), some (vi ((((7 * a) + b) * 2) + s)), some (vl 0), none, some (vi 0), none, none] [] ((2, f), S, L, P) (0, 0)) ∧ (¬ fr ≤ 0 → (0 ≤ ((((7 * a) + b) * 2) + s) ∧ ((((7 * a) + b) * 2) + s) < 98) ∧ (R32 (S 131 (((((7 * a) + b) * 2) + s).toNat)) ∧ (((S 131 (((((7 * a) + b) * 2) + s).toNat)) < 0 → zz_J zpX1_setBy_2 (zz_ret Q X 0 0) 91 [some (vr 100), some (vi p), some (vi a), some (vi b), none, some (vi fr), some (vi ((((7 * a) + b) * 2) + s)), some (vl 0), none, some (vi 0), none, none] [] ((2, f), S, L, P) (0, 0)) ∧ (¬ (S 131 (((((7 * a) + b) * 2) + s).toNat)) < 0 → (0 ≤ ((((7 * a) + b) * 2) + s) ∧ ((((7 * a) + b) * 2) + s) < 98) ∧ (Q (some (vi (S 131 (((((7 * a) + b) * 2) + s).toNat)))) ((2, f), S, L, P)))))))) ∧ (¬ b < (S 200 1) → R32 p ∧ ((¬ p = 0 → R32 b ∧ (R32 (S 200 1) ∧ ((b < (S 200 1) → Q (some (vi 0)) ((2, f), S, L, P)) ∧ (¬ b < (S 200 1) → Q (some (vi 1000000000)) ((2, f), S, L, P))))) ∧ (p = 0 → R32 a ∧ (R32 (S 200 1) ∧ ((a < (S 200 1) → Q (some (vi 0)) ((2, f), S, L, P)) ∧ (¬ a < (S 200 1) → Q (some (vi 1000000000)) ((2, f), S, L, P))))))))))))) : zz_J zpX1_setBy_2 (zz_ret Q X 0 0) 0 [some (vr 100), some (vi p), some (vi a), some (vi b), some (vi s), some (vi fr), none, none, none, none, none, none] [] ((2, f), S, L, P) (0, 0) := zz_J.go [(91, [4, 8, 10, 11]), (108, [4, 8, 10, 11]), (149, [4, 8, 10, 11]), (181, [1, 2, 3, 4, 8, 9, 10, 11])] 400 h
theorem zwX1_setBy_2_91 {Q : Option zv → zz_M → Prop} {X : Nat → zz_M → Prop} {f : Nat → Nat × Nat} {S L : Nat → Nat → Int} {P : Nat → Nat → Option Nat} {x1 : Int} {x2 : Int} {x3 : Int} {x5 : Int} {x6 : Int} {x7 : Int} {x9 : Int} (h : R32 x9 ∧ ((4 ≤ x9 → zz_J zpX1_setBy_2 (zz_ret Q X 0 0) 181 [some (vr 100), none, none, none, none, some (vi x5), some (vi x6), some (vl x7), none, none, none, none] [] ((2, f), S, L, P) (0, 0)) ∧ (¬ 4 ≤ x9 → R32 x9 ∧ ((2 ≤ x9 → zz_J zpX1_setBy_2 (zz_ret Q X 0 0) 108 [some (vr 100), some (vi x1), some (vi x2), some (vi x3), none, some (vi x5), some (vi x6), some (vl x7), none, some (vi x9), none, none] [vi 0] ((2, f), S, L, P) (0, 0)) ∧ (¬ 2 ≤ x9 → zz_J zpX1_setBy_2 (zz_ret Q X 0 0) 108 [some (vr 100), some (vi x1), some (vi x2), some (vi x3), none, some (vi x5), some (vi x6), some (vl x7), none, some (vi x9), none, none] [vi 1] ((2, f), S, L, P) (0, 0)))))) : zz_J zpX1_setBy_2 (zz_ret Q X 0 0) 91 [some (vr 100), some (vi x1), some (vi x2), some (vi x3), none, some (vi x5), some (vi x6), some (vl x7), none, some (vi x9), none, none] [] ((2, f), S, L, P) (0, 0) := zz_J.go [(91, [4, 8, 10, 11]), (108, [4, 8, 10, 11]), (149, [4, 8, 10, 11]), (181, [1, 2, 3, 4, 8, 9, 10, 11])] 400 h
theorem zwX1_setBy_2_108 {Q : Option zv → zz_M → Prop} {X : Nat → zz_M → Prop} {f : Nat → Nat × Nat} {S L : Nat → Nat → Int} {P : Nat → Nat → Option Nat} {x1 : Int} {x2 : Int} {x3 : Int} {x5 : Int} {x6 : Int} {x7 : Int} {x9 : Int} {t0 : Int} (h : R32 t0 ∧ ((t0 = 0 → R32 t0 ∧ ((t0 = 0 → (0 ≤ x9 ∧ x9 < 2147483648) ∧ ((0 ≤ x9 ∧ x9 < 2147483648) ∧ (((x1 = 0 ∨ x1 = 1) ∧ ((x9 % 2) = 0 ∨ (x9 % 2) = 1) ∧ ((1 + (x9 % 2)) = 1 + (x9 % 2) ∨ (1 + (x9 % 2)) = 0) ∧ (0 ≤ (x2 + 0) ∧ (x2 + 0) ≤ S 200 1) ∧ (0 ≤ (x3 + 1) ∧ (x3 + 1) ≤ S 200 1) ∧ (1 ≤ S 200 1 ∧ S 200 1 ≤ 6) ∧ S 200 1 - (x2 + 0) + (S 200 1 - (x3 + 1)) ≤ 1 ∧ ∃ wy_1 : Nat → Int, wyG wy_1 ∧ (∀ s_1 k_1, s_1 < 2 → k_1 < 4 → S (129 + s_1) k_1 = wy_1 (4 * s_1 + k_1)) ∧ fG (S (128 + (1 + (x9 % 2)).toNat)) ∧ meI S wy_1 (S 200 1) x1 ∧ (∀ S_1 : Nat → Nat → Int, (∀ j_1, j_1 ≠ 131 → S_1 j_1 = S j_1) → meI S_1 wy_1 (S 200 1) x1 → (zz_J zpX1_setBy_2 (zz_ret Q X 0 0) 149 [some (vr 100), some (vi x1), some (vi x2), some (vi x3), none, some (vi x5), some (vi x6), some (vl x7), none, some (vi x9), none, none] [vi (sbV wy_1 (S 200 1) x1 (S (128 + (1 + (x9 % 2)).toNat)) (x2 + 0) (x3 + 1))] ((2, f), S_1, L, P) (0, 0))))))) ∧ (¬ t0 = 0 → (0 ≤ x9 ∧ x9 < 2147483648) ∧ ((0 ≤ x9 ∧ x9 < 2147483648) ∧ (((x1 = 0 ∨ x1 = 1) ∧ ((x9 % 2) = 0 ∨ (x9 % 2) = 1) ∧ ((1 + (x9 % 2)) = 1 + (x9 % 2) ∨ (1 + (x9 % 2)) = 0) ∧ (0 ≤ (x2 + 0) ∧ (x2 + 0) ≤ S 200 1) ∧ (0 ≤ (x3 + 0) ∧ (x3 + 0) ≤ S 200 1) ∧ (1 ≤ S 200 1 ∧ S 200 1 ≤ 6) ∧ S 200 1 - (x2 + 0) + (S 200 1 - (x3 + 0)) ≤ 1 ∧ ∃ wy_2 : Nat → Int, wyG wy_2 ∧ (∀ s_2 k_2, s_2 < 2 → k_2 < 4 → S (129 + s_2) k_2 = wy_2 (4 * s_2 + k_2)) ∧ fG (S (128 + (1 + (x9 % 2)).toNat)) ∧ meI S wy_2 (S 200 1) x1 ∧ (∀ S_2 : Nat → Nat → Int, (∀ j_2, j_2 ≠ 131 → S_2 j_2 = S j_2) → meI S_2 wy_2 (S 200 1) x1 → (zz_J zpX1_setBy_2 (zz_ret Q X 0 0) 149 [some (vr 100), some (vi x1), some (vi x2), some (vi x3), none, some (vi x5), some (vi x6), some (vl x7), none, some (vi x9), none, none] [vi (sbV wy_2 (S 200 1) x1 (S (128 + (1 + (x9 % 2)).toNat)) (x2 + 0) (x3 + 0))] ((2, f), S_2, L, P) (0, 0))))))))) ∧ (¬ t0 = 0 → R32 t0 ∧ ((t0 = 0 → (0 ≤ x9 ∧ x9 < 2147483648) ∧ ((0 ≤ x9 ∧ x9 < 2147483648) ∧ (((x1 = 0 ∨ x1 = 1) ∧ ((x9 % 2) = 0 ∨ (x9 % 2) = 1) ∧ ((1 + (x9 % 2)) = 1 + (x9 % 2) ∨ (1 + (x9 % 2)) = 0) ∧ (0 ≤ (x2 + 1) ∧ (x2 + 1) ≤ S 200 1) ∧ (0 ≤ (x3 + 1) ∧ (x3 + 1) ≤ S 200 1) ∧ (1 ≤ S 200 1 ∧ S 200 1 ≤ 6) ∧ S 200 1 - (x2 + 1) + (S 200 1 - (x3 + 1)) ≤ 1 ∧ ∃ wy_3 : Nat → Int, wyG wy_3 ∧ (∀ s_3 k_3, s_3 < 2 → k_3 < 4 → S (129 + s_3) k_3 = wy_3 (4 * s_3 + k_3)) ∧ fG (S (128 + (1 + (x9 % 2)).toNat)) ∧ meI S wy_3 (S 200 1) x1 ∧ (∀ S_3 : Nat → Nat → Int, (∀ j_3, j_3 ≠ 131 → S_3 j_3 = S j_3) → meI S_3 wy_3 (S 200 1) x1 → (zz_J zpX1_setBy_2 (zz_ret Q X 0 0) 149 [some (vr 100), some (vi x1), some (vi x2), some (vi x3), none, some (vi x5), some (vi x6), some (vl x7), none, some (vi x9), none, none] [vi (sbV wy_3 (S 200 1) x1 (S (128 + (1 + (x9 % 2)).toNat)) (x2 + 1) (x3 + 1))] ((2, f), S_3, L, P) (0, 0))))))) ∧ (¬ t0 = 0 → (0 ≤ x9 ∧ x9 < 2147483648) ∧ ((0 ≤ x9 ∧ x9 < 2147483648) ∧ (((x1 = 0 ∨ x1 = 1) ∧ ((x9 % 2) = 0 ∨ (x9 % 2) = 1) ∧ ((1 + (x9 % 2)) = 1 + (x9 % 2) ∨ (1 + (x9 % 2)) = 0) ∧ (0 ≤ (x2 + 1) ∧ (x2 + 1) ≤ S 200 1) ∧ (0 ≤ (x3 + 0) ∧ (x3 + 0) ≤ S 200 1) ∧ (1 ≤ S 200 1 ∧ S 200 1 ≤ 6) ∧ S 200 1 - (x2 + 1) + (S 200 1 - (x3 + 0)) ≤ 1 ∧ ∃ wy_4 : Nat → Int, wyG wy_4 ∧ (∀ s_4 k_4, s_4 < 2 → k_4 < 4 → S (129 + s_4) k_4 = wy_4 (4 * s_4 + k_4)) ∧ fG (S (128 + (1 + (x9 % 2)).toNat)) ∧ meI S wy_4 (S 200 1) x1 ∧ (∀ S_4 : Nat → Nat → Int, (∀ j_4, j_4 ≠ 131 → S_4 j_4 = S j_4) → meI S_4 wy_4 (S 200 1) x1 → (zz_J zpX1_setBy_2 (zz_ret Q X 0 0) 149 [some (vr 100), some (vi x1), some (vi x2), some (vi x3), none, some (vi x5), some (vi x6), some (vl x7), none, some (vi x9), none, none] [vi (sbV wy_4 (S 200 1) x1 (S (128 + (1 + (x9 % 2)).toNat)) (x2 + 1) (x3 + 0))] ((2, f), S_4, L, P) (0, 0))))))))))) : zz_J zpX1_setBy_2 (zz_ret Q X 0 0) 108 [some (vr 100), some (vi x1), some (vi x2), some (vi x3), none, some (vi x5), some (vi x6), some (vl x7), none, some (vi x9), none, none] [vi t0] ((2, f), S, L, P) (0, 0) := zz_J.go [(91, [4, 8, 10, 11]), (108, [4, 8, 10, 11]), (149, [4, 8, 10, 11]), (181, [1, 2, 3, 4, 8, 9, 10, 11])] 400 h
theorem zwX1_setBy_2_149 {Q : Option zv → zz_M → Prop} {X : Nat → zz_M → Prop} {f : Nat → Nat × Nat} {S L : Nat → Nat → Int} {P : Nat → Nat → Option Nat} {x1 : Int} {x2 : Int} {x3 : Int} {x5 : Int} {x6 : Int} {x7 : Int} {x9 : Int} {t0 : Int} (h : ∃ t_ n_ : Nat, zsh ((2, f), S, L, P) 127 = (t_, n_) ∧ (t_ = 6 ∨ t_ = 7 ∨ t_ = 8) ∧ (n_ : Int) ≤ 2147483647 ∧ (0 ≤ x5 ∧ x5 < (n_ : Int)) ∧ (∀ b1 : Nat, zpt ((2, f), S, L, P) 127 x5.toNat = some b1 → ∃ n_ : Nat, zsh ((2, f), S, L, P) b1 = (2, n_) ∧ (n_ : Int) ≤ 2147483647 ∧ (0 ≤ x9 ∧ x9 < (n_ : Int)) ∧ (R32 (S b1 x9.toNat) ∧ (R32 t0 ∧ ((0 ≤ ((S b1 x9.toNat) * t0) ∧ ((S b1 x9.toNat) * t0) < 9223372036854775808) ∧ (zz_J zpX1_setBy_2 (zz_ret Q X 0 0) 91 [some (vr 100), some (vi x1), some (vi x2), some (vi x3), none, some (vi x5), some (vi x6), some (vl (x7 + (((S b1 x9.toNat) * t0) / 1000000000))), none, some (vi (x9 + 1)), none, none] [] ((2, f), S, L, P) (0, 0)))))) ∧ (zpt ((2, f), S, L, P) 127 x5.toNat = none → False)) : zz_J zpX1_setBy_2 (zz_ret Q X 0 0) 149 [some (vr 100), some (vi x1), some (vi x2), some (vi x3), none, some (vi x5), some (vi x6), some (vl x7), none, some (vi x9), none, none] [vi t0] ((2, f), S, L, P) (0, 0) := zz_J.go [(91, [4, 8, 10, 11]), (108, [4, 8, 10, 11]), (149, [4, 8, 10, 11]), (181, [1, 2, 3, 4, 8, 9, 10, 11])] 400 h
theorem zwX1_setBy_2_181 {Q : Option zv → zz_M → Prop} {X : Nat → zz_M → Prop} {f : Nat → Nat × Nat} {S L : Nat → Nat → Int} {P : Nat → Nat → Option Nat} {x5 : Int} {x6 : Int} {x7 : Int} (h : R32 x5 ∧ ((x5 ≤ 0 → R64 x7 ∧ (Q (some (vi x7)) ((2, f), S, L, P))) ∧ (¬ x5 ≤ 0 → R64 x7 ∧ ((0 ≤ x6 ∧ x6 < 98) ∧ (R64 x7 ∧ (Q (some (vi x7)) ((2, f), mm_up S 131 x6.toNat x7, L, P))))))) : zz_J zpX1_setBy_2 (zz_ret Q X 0 0) 181 [some (vr 100), none, none, none, none, some (vi x5), some (vi x6), some (vl x7), none, none, none, none] [] ((2, f), S, L, P) (0, 0) := zz_J.go [(91, [4, 8, 10, 11]), (108, [4, 8, 10, 11]), (149, [4, 8, 10, 11]), (181, [1, 2, 3, 4, 8, 9, 10, 11])] 400 h

theorem zmX1_setBy_2 (l : Launch) (hl : l.stackTraces = false) : mm_Spec l yX1_setBy (ws_ yX1_setBy cX1_setBy 12 (some .int)) (mm_rm 7 0 0) (zE zX1_setBy_2) := by
  refine zz_Met.J hl (by decide) (fun C G hnh => ztX1_setBy_2 G hnh) ?_
  rintro as ⟨⟨t_, f⟩, S, L, P⟩ Q X h
  unfold zX1_setBy_2 at h
  split at h
  rotate_left
  · exact h.elim
  rename_i h_ p a b s fr
  obtain ⟨e1_, e2_, h⟩ := mm_and2 h (fun q => q)
  cases mm_beq e1_
  cases mm_beq e2_
  try dsimp only at h
  refine ⟨rfl, ?_⟩
  obtain ⟨hp, hs, hfr, ha, hb, hG, hr, wy, hw, hrow, hF, hme, hq⟩ := h
  by_cases o : S 200 1 ≤ a ∨ S 200 1 ≤ b
  · have hq := hq S (fun _ _ => rfl) hme
    unfold sbV at hq
    rw [if_pos o] at hq
    have k1 : ¬ p = 0 → R32 b ∧ (R32 (S 200 1) ∧ ((b < (S 200 1) → Q (some (vi 0)) ((2, f), S, L, P)) ∧ (¬ b < (S 200 1) → Q (some (vi 1000000000)) ((2, f), S, L, P)))) := fun d => ⟨by omega, by omega, fun e => by rw [if_neg (by rw [if_neg d]; omega)] at hq; exact hq, fun e => by rw [if_pos (by rw [if_neg d]; omega)] at hq; exact hq⟩
    have k0 : p = 0 → R32 a ∧ (R32 (S 200 1) ∧ ((a < (S 200 1) → Q (some (vi 0)) ((2, f), S, L, P)) ∧ (¬ a < (S 200 1) → Q (some (vi 1000000000)) ((2, f), S, L, P)))) := fun d => ⟨by omega, by omega, fun e => by rw [if_neg (by rw [if_pos d]; omega)] at hq; exact hq, fun e => by rw [if_pos (by rw [if_pos d]; omega)] at hq; exact hq⟩
    exact zwX1_setBy_2_0 ⟨by omega, by omega, fun c => ⟨by omega, k1, k0⟩, fun c => ⟨by omega, by omega, fun e => absurd o (by omega), fun e => ⟨by omega, k1, k0⟩⟩⟩
  obtain ⟨a', rfl⟩ : ∃ a' : Nat, a = (a' : Int) := ⟨a.toNat, by omega⟩
  obtain ⟨b', rfl⟩ : ∃ b' : Nat, b = (b' : Int) := ⟨b.toNat, by omega⟩
  obtain ⟨s', hs', es⟩ : ∃ s' : Nat, s' < 2 ∧ s = (s' : Int) := ⟨s.toNat, by omega, by omega⟩
  obtain ⟨r', hr', er⟩ : ∃ r' : Nat, r' < 3 ∧ fr = (r' : Int) := ⟨fr.toNat, by omega, by omega⟩
  subst es er
  have hcv := fun k => bcV_in (G := S 200 1) (p := p) (a := (a' : Int)) (b := (b' : Int)) hw k
  rw [Int.toNat_natCast] at hF hq
  have sin := sbS_in hF hcv
  have hq : ∀ S_ : Nat → Nat → Int, (∀ j, j ≠ 131 → S_ j = S j) → meI S_ wy (S 200 1) p → Q (some (vi (sbS (S (128 + r')) (bcV wy (S 200 1) p a' b') 4))) ((2, f), S_, L, P) := fun S_ e1 e2 => by
    have hq := hq S_ e1 e2
    unfold sbV at hq
    rw [if_neg o] at hq
    exact hq
  have est : (1 : Int) + s' = r' → sbS (S (128 + r')) (bcV wy (S 200 1) p a' b') 4 = stO wy (S 200 1) p 12 a' b' s' := fun e => by
    have e2 : r' = 1 + s' := by omega
    have := sbV_st (wy := wy) (G := S 200 1) (p := p) (a := (a' : Int)) (b := (b' : Int)) (s := s') (F := S (128 + r')) (fun k hk => by rw [e2, show 128 + (1 + s') = 129 + s' by omega]; exact hrow s' k hs' hk) (by omega) (by omega) (by omega)
    unfold sbV at this
    rw [if_neg o] at this
    exact this
  have wy4 : ∀ s : Nat, s < 2 → fG (S (129 + s)) := fun s hs => by
    refine ⟨fun k hk => by rw [hrow s k hs hk]; exact hw.1 _ (by omega), ?_⟩
    rw [hrow s 0 hs (by decide), hrow s 1 hs (by decide), hrow s 2 hs (by decide), hrow s 3 hs (by decide)]
    have : s = 0 ∨ s = 1 := by omega
    rcases this with e | e <;> subst e
    · exact hw.2.1
    · exact hw.2.2
  have t91 : ∀ (m k : Nat) (T : Nat → Nat → Int), k + m = 4 → (∀ j, j ≠ 131 → T j = S j) → meI T wy (S 200 1) p → zz_J zpX1_setBy_2 (zz_ret Q X 0 0) 91 [some (vr 100), some (vi p), some (vi (a' : Int)), some (vi (b' : Int)), none, some (vi (r' : Int)), some (vi ((((7 * (a' : Int)) + b') * 2) + s')), some (vl (sbS (S (128 + r')) (bcV wy (S 200 1) p a' b') k)), none, some (vi (k : Int)), none, none] [] ((2, f), T, L, P) (0, 0) := by
    intro m
    induction m with
    | zero =>
      intro k T hk eT mT
      have k4 : k = 4 := by omega
      subst k4
      have s4 := sin 4 (by decide)
      have R4 : R64 (sbS (S (128 + r')) (bcV wy (S 200 1) p a' b') 4) := by omega
      refine zwX1_setBy_2_91 ⟨by omega, fun _ => zwX1_setBy_2_181 ⟨by omega, fun c => ⟨R4, hq T eT mT⟩, fun c => ⟨R4, by omega, R4, ?_⟩⟩, fun d => absurd (by omega) d⟩
      have ei : ((((7 * (a' : Int)) + b') * 2) + s').toNat = (7 * a' + b') * 2 + s' := by omega
      have e1 := est (by omega)
      refine hq _ (fun j hj => ?_) ?_
      · funext x
        rw [up_eq, if_neg (by omega), eT j hj]
      · rw [ei, e1]
        exact mT.up (by omega) (by omega) hs'
    | succ m ih =>
      intro k T hk eT mT
      have k4 : k < 4 := by omega
      have eG : T 200 1 = S 200 1 := by rw [eT 200 (by decide)]
      have t149 : ∀ (U : Nat → Nat → Int), (∀ j, j ≠ 131 → U j = S j) → meI U wy (S 200 1) p → zz_J zpX1_setBy_2 (zz_ret Q X 0 0) 149 [some (vr 100), some (vi p), some (vi (a' : Int)), some (vi (b' : Int)), none, some (vi (r' : Int)), some (vi ((((7 * (a' : Int)) + b') * 2) + s')), some (vl (sbS (S (128 + r')) (bcV wy (S 200 1) p a' b') k)), none, some (vi (k : Int)), none, none] [vi (bcV wy (S 200 1) p a' b' k)] ((2, f), U, L, P) (0, 0) := by
        intro U eU mU
        obtain ⟨w1, w2⟩ := ways_at (f := f) (S := U) (L := L) (P := P) hr'
        have fk := hF.1 k k4
        have ck := hcv k
        have m9 := mul_sure fk.1 ck.1 ck.2
        refine zwX1_setBy_2_149 ⟨6, 3, rfl, Or.inl rfl, by decide, by omega, fun b1 hb1 => ?_, fun hb1 => ?_⟩
        · rw [Int.toNat_natCast, w1] at hb1
          cases hb1
          refine ⟨4, w2, by decide, by omega, ?_⟩
          rw [Int.toNat_natCast, eU (128 + r') (by omega)]
          exact ⟨by omega, by omega, by omega, ih (k + 1) U (by omega) eU mU⟩
        · rw [Int.toNat_natCast, w1] at hb1
          cases hb1
      have rowT : ∀ s_ k_, s_ < 2 → k_ < 4 → T (129 + s_) k_ = wy (4 * s_ + k_) := fun s_ k_ g1 g2 => by rw [eT (129 + s_) (by omega)]; exact hrow s_ k_ g1 g2
      have mk : ((k : Int) % 2 = 0 ∨ (k : Int) % 2 = 1) := by omega
      have ek2 : ((k : Int) % 2).toNat = k % 2 := by omega
      have ek3 : 128 + (1 + (k : Int) % 2).toNat = 129 + k % 2 := by omega
      have nxt : ∀ x y : Int, (x ≤ S 200 1 ∧ y ≤ S 200 1 ∧ S 200 1 - x + (S 200 1 - y) ≤ 12) → stO wy (S 200 1) p 12 x y (k % 2) = bcV wy (S 200 1) p a' b' k → ∀ S_ : Nat → Nat → Int, (∀ j, j ≠ 131 → S_ j = T j) → meI S_ wy (T 200 1) p → zz_J zpX1_setBy_2 (zz_ret Q X 0 0) 149 [some (vr 100), some (vi p), some (vi (a' : Int)), some (vi (b' : Int)), none, some (vi (r' : Int)), some (vi ((((7 * (a' : Int)) + b') * 2) + s')), some (vl (sbS (S (128 + r')) (bcV wy (S 200 1) p a' b') k)), none, some (vi (k : Int)), none, none] [vi (sbV wy (T 200 1) p (T (128 + (1 + (k : Int) % 2).toNat)) x y)] ((2, f), S_, L, P) (0, 0) := by
        intro x y hxy e S_ e1 e2
        rw [eG] at e2 ⊢
        rw [ek3, sbV_st (s := k % 2) (fun j hj => rowT (k % 2) j (by omega) hj) hxy.1 hxy.2.1 hxy.2.2, e]
        exact t149 S_ (fun j hj => by rw [e1 j hj, eT j hj]) e2
      have fGk : fG (T (128 + (1 + (k : Int) % 2).toNat)) := by
        rw [ek3, eT (129 + k % 2) (by omega)]
        exact wy4 (k % 2) (by omega)
      refine zwX1_setBy_2_91 ⟨by omega, fun d => absurd d (by omega), fun _ => ⟨by omega, fun c => zwX1_setBy_2_108 ⟨by decide, fun _ => ⟨by decide, fun _ => ⟨by omega, by omega, hp, mk, Or.inl rfl, by omega, by omega, by omega, by omega, wy, hw, rowT, fGk, by rw [eG]; exact mT, ?_⟩, fun d => absurd rfl d⟩, fun d => absurd rfl d⟩, fun c => zwX1_setBy_2_108 ⟨by decide, fun d => absurd d (by decide), fun _ => ⟨by decide, fun d => absurd d (by decide), fun _ => ⟨by omega, by omega, hp, mk, Or.inl rfl, by omega, by omega, by omega, by omega, wy, hw, rowT, fGk, by rw [eG]; exact mT, ?_⟩⟩⟩⟩⟩
      · refine nxt _ _ (by omega) ?_
        unfold bcV
        rw [if_neg (by omega), if_neg (by omega), Int.add_zero]
      · refine nxt _ _ (by omega) ?_
        unfold bcV
        rw [if_pos (by omega), if_pos (by omega), Int.add_zero]
  have t0 := t91 4 0 S rfl (fun _ _ => rfl) hme
  refine zwX1_setBy_2_0 ⟨by omega, by omega, fun c => absurd (Or.inl c) o, fun c => ⟨by omega, by omega, fun c2 => ⟨by omega, fun d => t0, fun d => ⟨by omega, ?_⟩⟩, fun c2 => absurd (by omega) o⟩⟩
  have ei : ((((7 * (a' : Int)) + b') * 2) + s').toNat = (7 * a' + b') * 2 + s' := by omega
  have me := hme a' b' s' (by omega) (by omega) hs'
  have hin := stO_in (G := S 200 1) (p := p) hw 12 (a' : Int) (b' : Int) s' hs'
  rw [ei]
  refine ⟨by rcases me with e | e <;> rw [e] <;> omega, fun _ => t0, fun d2 => ⟨by omega, ?_⟩⟩
  have e2 := me.resolve_left (by omega)
  rw [e2, ← est (by omega)]
  exact hq S (fun _ _ => rfl) hme
def zX1_setBy_3 : zz_Sp := fun as M Q X => match as with
  | [.inr (.inr (some h_)), .inl p, .inl a, .inl b, .inl s, .inl fr] => bif Nat.beq h_ 100 && Nat.beq M.1.1 2 then ((p = 0 ∨ p = 1) ∧ (s = 0 ∨ s = 1) ∧ (fr = 1 + s ∨ fr = 0) ∧ (0 ≤ a ∧ a ≤ M.2.1 200 1) ∧ (0 ≤ b ∧ b ≤ M.2.1 200 1) ∧ (1 ≤ M.2.1 200 1 ∧ M.2.1 200 1 ≤ 6) ∧ M.2.1 200 1 - a + (M.2.1 200 1 - b) ≤ 3 ∧ ∃ wy_ : Nat → Int, wyG wy_ ∧ (∀ s_ k_, s_ < 2 → k_ < 4 → M.2.1 (129 + s_) k_ = wy_ (4 * s_ + k_)) ∧ fG (M.2.1 (128 + fr.toNat)) ∧ meI M.2.1 wy_ (M.2.1 200 1) p ∧ (∀ S_ : Nat → Nat → Int, (∀ j_, j_ ≠ 131 → S_ j_ = M.2.1 j_) → meI S_ wy_ (M.2.1 200 1) p → Q (some (vi (sbV wy_ (M.2.1 200 1) p (M.2.1 (128 + fr.toNat)) a b))) ((2, M.1.2), S_, M.2.2.1, M.2.2.2))) else False
  | _ => False

def zpX1_setBy_3 : zz_P := [(0, zo_ild 1 2), (1, zo_ald 2 0), (2, zo_get 5 0 2 0), (5, zo_get 8 1 0 1), (8, zo_cge false false 11 22), (11, zo_ild 12 3), (12, zo_ald 13 0), (13, zo_get 16 0 2 0), (16, zo_get 19 1 0 1), (19, zo_clt false false 22 49), (22, zo_ild 23 1), (23, zo_ifne false 26 30), (26, zo_ild 27 2), (27, zo_goto 31), (30, zo_ild 31 3), (31, zo_ald 32 0), (32, zo_get 35 0 2 0), (35, zo_get 38 1 0 1), (38, zo_clt false false 41 47), (41, zo_c 44 (vi 1000000000)), (44, zo_goto 48), (47, zo_c 48 (vi 0)), (48, zo_iret), (49, zo_c 51 (vi 7)), (51, zo_ild 52 2), (52, zo_imul 53), (53, zo_ild 54 3), (54, zo_iadd 55), (55, zo_c 56 (vi 2)), (56, zo_imul 57), (57, zo_ild 59 4), (59, zo_iadd 60), (60, zo_ist 62 6), (62, zo_ild 64 5), (64, zo_ifle false 67 85), (67, zo_ald 68 0), (68, zo_get 71 0 2 15), (71, zo_ild 73 6), (73, zo_iald 74), (74, zo_iflt false 77 85), (77, zo_ald 78 0), (78, zo_get 81 0 2 15), (81, zo_ild 83 6), (83, zo_iald 84), (84, zo_iret), (85, zo_c 86 (vl 0)), (86, zo_lst 88 7), (88, zo_c 89 (vi 0)), (89, zo_ist 91 9), (91, zo_ild 93 9), (93, zo_c 94 (vi 4)), (94, zo_cge false true 97 181), (97, zo_ild 99 9), (99, zo_c 100 (vi 2)), (100, zo_cge false true 103 107), (103, zo_c 104 (vi 1)), (104, zo_goto 108), (107, zo_c 108 (vi 0)), (108, zo_ist 110 10), (110, zo_ald 111 0), (111, zo_ild 112 1), (112, zo_ild 113 2), (113, zo_ild 115 10), (115, zo_ifeq false 118 122), (118, zo_c 119 (vi 1)), (119, zo_goto 123), (122, zo_c 123 (vi 0)), (123, zo_iadd 124), (124, zo_ild 125 3), (125, zo_ild 127 10), (127, zo_ifeq false 130 134), (130, zo_c 131 (vi 0)), (131, zo_goto 135), (134, zo_c 135 (vi 1)), (135, zo_iadd 136), (136, zo_ild 138 9), (138, zo_c 139 (vi 2)), (139, zo_irem 140), (140, zo_c 141 (vi 1)), (141, zo_ild 143 9), (143, zo_c 144 (vi 2)), (144, zo_irem 145), (145, zo_iadd 146), (146, zo_callv 149 6 0 zX1_setBy_2), (149, zo_ist 151 11), (151, zo_lld 153 7), (153, zo_ald 154 0), (154, zo_get 157 0 2 14), (157, zo_ild 159 5), (159, zo_aald 160), (160, zo_ild 162 9), (162, zo_ialp 163), (163, zo_i2l 164), (164, zo_ild 166 11), (166, zo_i2l 167), (167, zo_lmul 168), (168, zo_c 171 (vl 1000000000)), (171, zo_ldiv 172), (172, zo_ladd 173), (173, zo_lst 175 7), (175, zo_inc 178 9 1), (178, zo_goto 91), (181, zo_ild 183 5), (183, zo_ifle false 186 196), (186, zo_ald 187 0), (187, zo_get 190 0 2 15), (190, zo_ild 192 6), (192, zo_lld 194 7), (194, zo_l2i 195), (195, zo_iasd 196), (196, zo_lld 198 7), (198, zo_l2i 199), (199, zo_iret)]
theorem ztX1_setBy_3 {C : mm_C} (G : mm_G C RX1 cX1_setBy (some .int) 12 (mm_rm 8 0 0)) (hnh : mm_nh C) : zz_OKs C zpX1_setBy_3 :=
  ⟨zz_of (ok_iload_n G dX1_setBy_0 rfl rfl) (z_ild _ _),
   zz_of (ok_aload_n G dX1_setBy_1 rfl rfl) (z_ald _ _),
   zz_of (ok_get G (nx := 5) (ci := 0) (kd := 2) (k := 0) (RX1, TX1, 19) rfl (by decide) rfl q399 dX1_setBy_2 rfl) (z_get _ _ _ _),
   zz_of (ok_getN G (nx := 8) (ci := 1) (kd := 0) (k := 1) (RX2, TX2, 11) rfl (by decide) rfl q218 dX1_setBy_5 rfl) (z_get _ _ _ _),
   zz_of (ok_cge G dX1_setBy_8 rfl rfl) (z_cge _ _ _ _),
   zz_of (ok_iload_n G dX1_setBy_11 rfl rfl) (z_ild _ _),
   zz_of (ok_aload_n G dX1_setBy_12 rfl rfl) (z_ald _ _),
   zz_of (ok_get G (nx := 16) (ci := 0) (kd := 2) (k := 0) (RX1, TX1, 19) rfl (by decide) rfl q399 dX1_setBy_13 rfl) (z_get _ _ _ _),
   zz_of (ok_getN G (nx := 19) (ci := 1) (kd := 0) (k := 1) (RX2, TX2, 11) rfl (by decide) rfl q218 dX1_setBy_16 rfl) (z_get _ _ _ _),
   zz_of (ok_clt G dX1_setBy_19 rfl rfl) (z_clt _ _ _ _),
   zz_of (ok_iload_n G dX1_setBy_22 rfl rfl) (z_ild _ _),
   zz_of (ok_ifne G dX1_setBy_23 rfl rfl) (z_ifne _ _ _),
   zz_of (ok_iload_n G dX1_setBy_26 rfl rfl) (z_ild _ _),
   zz_of (ok_goto G dX1_setBy_27 rfl) (z_goto _),
   zz_of (ok_iload_n G dX1_setBy_30 rfl rfl) (z_ild _ _),
   zz_of (ok_aload_n G dX1_setBy_31 rfl rfl) (z_ald _ _),
   zz_of (ok_get G (nx := 35) (ci := 0) (kd := 2) (k := 0) (RX1, TX1, 19) rfl (by decide) rfl q399 dX1_setBy_32 rfl) (z_get _ _ _ _),
   zz_of (ok_getN G (nx := 38) (ci := 1) (kd := 0) (k := 1) (RX2, TX2, 11) rfl (by decide) rfl q218 dX1_setBy_35 rfl) (z_get _ _ _ _),
   zz_of (ok_clt G dX1_setBy_38 rfl rfl) (z_clt _ _ _ _),
   zz_of (ok_ldcw G (v := 1000000000) q1700 dX1_setBy_41 rfl) (z_cn 44 1000000000),
   zz_of (ok_goto G dX1_setBy_44 rfl) (z_goto _),
   zz_of (ok_iconst G (v := 0) dX1_setBy_47 (by decide) rfl) (z_cn 48 0),
   zz_of (ok_iret G dX1_setBy_48) (z_iret),
   zz_of (ok_bipush G (v := 7) dX1_setBy_49 (by decide) rfl) (z_cn 51 7),
   zz_of (ok_iload_n G dX1_setBy_51 rfl rfl) (z_ild _ _),
   zz_of (ok_imul G dX1_setBy_52 rfl) (z_imul _),
   zz_of (ok_iload_n G dX1_setBy_53 rfl rfl) (z_ild _ _),
   zz_of (ok_iadd G dX1_setBy_54 rfl) (z_iadd _),
   zz_of (ok_iconst G (v := 2) dX1_setBy_55 (by decide) rfl) (z_cn 56 2),
   zz_of (ok_imul G dX1_setBy_56 rfl) (z_imul _),
   zz_of (ok_iload G dX1_setBy_57 rfl) (z_ild _ _),
   zz_of (ok_iadd G dX1_setBy_59 rfl) (z_iadd _),
   zz_of (ok_istore G dX1_setBy_60 rfl (by decide)) (z_ist _ _),
   zz_of (ok_iload G dX1_setBy_62 rfl) (z_ild _ _),
   zz_of (ok_ifle G dX1_setBy_64 rfl rfl) (z_ifle _ _ _),
   zz_of (ok_aload_n G dX1_setBy_67 rfl rfl) (z_ald _ _),
   zz_of (ok_get G (nx := 71) (ci := 0) (kd := 2) (k := 15) (RX1, TX1, 19) rfl (by decide) rfl q426 dX1_setBy_68 rfl) (z_get _ _ _ _),
   zz_of (ok_iload G dX1_setBy_71 rfl) (z_ild _ _),
   zz_of (ok_iald G dX1_setBy_73 rfl) (z_iald _),
   zz_of (ok_iflt G dX1_setBy_74 rfl rfl) (z_iflt _ _ _),
   zz_of (ok_aload_n G dX1_setBy_77 rfl rfl) (z_ald _ _),
   zz_of (ok_get G (nx := 81) (ci := 0) (kd := 2) (k := 15) (RX1, TX1, 19) rfl (by decide) rfl q426 dX1_setBy_78 rfl) (z_get _ _ _ _),
   zz_of (ok_iload G dX1_setBy_81 rfl) (z_ild _ _),
   zz_of (ok_iald G dX1_setBy_83 rfl) (z_iald _),
   zz_of (ok_iret G dX1_setBy_84) (z_iret),
   zz_of (ok_lconst G (v := 0) dX1_setBy_85 (by decide) rfl) (z_cl 86 0),
   zz_of (ok_lstore G dX1_setBy_86 rfl (by decide)) (z_lst _ _),
   zz_of (ok_iconst G (v := 0) dX1_setBy_88 (by decide) rfl) (z_cn 89 0),
   zz_of (ok_istore G dX1_setBy_89 rfl (by decide)) (z_ist _ _),
   zz_of (ok_iload G dX1_setBy_91 rfl) (z_ild _ _),
   zz_of (ok_iconst G (v := 4) dX1_setBy_93 (by decide) rfl) (z_cn 94 4),
   zz_of (ok_cge G dX1_setBy_94 rfl rfl) (z_cge _ _ _ _),
   zz_of (ok_iload G dX1_setBy_97 rfl) (z_ild _ _),
   zz_of (ok_iconst G (v := 2) dX1_setBy_99 (by decide) rfl) (z_cn 100 2),
   zz_of (ok_cge G dX1_setBy_100 rfl rfl) (z_cge _ _ _ _),
   zz_of (ok_iconst G (v := 1) dX1_setBy_103 (by decide) rfl) (z_cn 104 1),
   zz_of (ok_goto G dX1_setBy_104 rfl) (z_goto _),
   zz_of (ok_iconst G (v := 0) dX1_setBy_107 (by decide) rfl) (z_cn 108 0),
   zz_of (ok_istore G dX1_setBy_108 rfl (by decide)) (z_ist _ _),
   zz_of (ok_aload_n G dX1_setBy_110 rfl rfl) (z_ald _ _),
   zz_of (ok_iload_n G dX1_setBy_111 rfl rfl) (z_ild _ _),
   zz_of (ok_iload_n G dX1_setBy_112 rfl rfl) (z_ild _ _),
   zz_of (ok_iload G dX1_setBy_113 rfl) (z_ild _ _),
   zz_of (ok_ifeq G dX1_setBy_115 rfl rfl) (z_ifeq _ _ _),
   zz_of (ok_iconst G (v := 1) dX1_setBy_118 (by decide) rfl) (z_cn 119 1),
   zz_of (ok_goto G dX1_setBy_119 rfl) (z_goto _),
   zz_of (ok_iconst G (v := 0) dX1_setBy_122 (by decide) rfl) (z_cn 123 0),
   zz_of (ok_iadd G dX1_setBy_123 rfl) (z_iadd _),
   zz_of (ok_iload_n G dX1_setBy_124 rfl rfl) (z_ild _ _),
   zz_of (ok_iload G dX1_setBy_125 rfl) (z_ild _ _),
   zz_of (ok_ifeq G dX1_setBy_127 rfl rfl) (z_ifeq _ _ _),
   zz_of (ok_iconst G (v := 0) dX1_setBy_130 (by decide) rfl) (z_cn 131 0),
   zz_of (ok_goto G dX1_setBy_131 rfl) (z_goto _),
   zz_of (ok_iconst G (v := 1) dX1_setBy_134 (by decide) rfl) (z_cn 135 1),
   zz_of (ok_iadd G dX1_setBy_135 rfl) (z_iadd _),
   zz_of (ok_iload G dX1_setBy_136 rfl) (z_ild _ _),
   zz_of (ok_iconst G (v := 2) dX1_setBy_138 (by decide) rfl) (z_cn 139 2),
   zz_of (ok_irem G dX1_setBy_139 rfl) (z_irem _),
   zz_of (ok_iconst G (v := 1) dX1_setBy_140 (by decide) rfl) (z_cn 141 1),
   zz_of (ok_iload G dX1_setBy_141 rfl) (z_ild _ _),
   zz_of (ok_iconst G (v := 2) dX1_setBy_143 (by decide) rfl) (z_cn 144 2),
   zz_of (ok_irem G dX1_setBy_144 rfl) (z_irem _),
   zz_of (ok_iadd G dX1_setBy_145 rfl) (z_iadd _),
   zz_of (ok_callv G hnh (zmX1_setBy_2 _ G.hst) rfl rfl (RX1, TX1, 19) rfl q1706 q1708 qs33 q82 q1709 (by decide +kernel) ⟨by decide, by decide⟩ dX1_setBy_146 rfl) (z_callv _ _ _ _),
   zz_of (ok_istore G dX1_setBy_149 rfl (by decide)) (z_ist _ _),
   zz_of (ok_lload G dX1_setBy_151 rfl) (z_lld _ _),
   zz_of (ok_aload_n G dX1_setBy_153 rfl rfl) (z_ald _ _),
   zz_of (ok_get G (nx := 157) (ci := 0) (kd := 2) (k := 14) (RX1, TX1, 19) rfl (by decide) rfl q425 dX1_setBy_154 rfl) (z_get _ _ _ _),
   zz_of (ok_iload G dX1_setBy_157 rfl) (z_ild _ _),
   zz_of (ok_aald G dX1_setBy_159 rfl) (z_aald _),
   zz_of (ok_iload G dX1_setBy_160 rfl) (z_ild _ _),
   zz_of (ok_iald G dX1_setBy_162 rfl) (z_ialp _),
   zz_of (ok_i2l G dX1_setBy_163 rfl) (z_i2l _),
   zz_of (ok_iload G dX1_setBy_164 rfl) (z_ild _ _),
   zz_of (ok_i2l G dX1_setBy_166 rfl) (z_i2l _),
   zz_of (ok_lmul G dX1_setBy_167 rfl) (z_lmul _),
   zz_of (ok_ldc2 G (v := 1000000000) q1710 dX1_setBy_168 rfl) (z_cl 171 1000000000),
   zz_of (ok_ldiv G dX1_setBy_171 rfl) (z_ldiv _),
   zz_of (ok_ladd G dX1_setBy_172 rfl) (z_ladd _),
   zz_of (ok_lstore G dX1_setBy_173 rfl (by decide)) (z_lst _ _),
   zz_of (ok_iinc G (v := 1) dX1_setBy_175 (by decide) rfl (by decide)) (z_incn 178 9 1),
   zz_of (ok_goto G dX1_setBy_178 rfl) (z_goto _),
   zz_of (ok_iload G dX1_setBy_181 rfl) (z_ild _ _),
   zz_of (ok_ifle G dX1_setBy_183 rfl rfl) (z_ifle _ _ _),
   zz_of (ok_aload_n G dX1_setBy_186 rfl rfl) (z_ald _ _),
   zz_of (ok_get G (nx := 190) (ci := 0) (kd := 2) (k := 15) (RX1, TX1, 19) rfl (by decide) rfl q426 dX1_setBy_187 rfl) (z_get _ _ _ _),
   zz_of (ok_iload G dX1_setBy_190 rfl) (z_ild _ _),
   zz_of (ok_lload G dX1_setBy_192 rfl) (z_lld _ _),
   zz_of (ok_l2i G dX1_setBy_194 rfl) (z_l2i _),
   zz_of (ok_iast G dX1_setBy_195 rfl) (z_iasd _),
   zz_of (ok_lload G dX1_setBy_196 rfl) (z_lld _ _),
   zz_of (ok_l2i G dX1_setBy_198 rfl) (z_l2i _),
   zz_of (ok_iret G dX1_setBy_199) (z_iret), trivial⟩

theorem zwX1_setBy_3_0 {Q : Option zv → zz_M → Prop} {X : Nat → zz_M → Prop} {f : Nat → Nat × Nat} {S L : Nat → Nat → Int} {P : Nat → Nat → Option Nat} {p : Int} {a : Int} {b : Int} {s : Int} {fr : Int} (h : R32 a ∧ (R32 (S 200 1) ∧ (((S 200 1) ≤ a → R32 p ∧ ((¬ p = 0 → R32 b ∧ (R32 (S 200 1) ∧ ((b < (S 200 1) → Q (some (vi 0)) ((2, f), S, L, P)) ∧ (¬ b < (S 200 1) → Q (some (vi 1000000000)) ((2, f), S, L, P))))) ∧ (p = 0 → R32 a ∧ (R32 (S 200 1) ∧ ((a < (S 200 1) → Q (some (vi 0)) ((2, f), S, L, P)) ∧ (¬ a < (S 200 1) → Q (some (vi 1000000000)) ((2, f), S, L, P))))))) ∧ (¬ (S 200 1) ≤ a → R32 b ∧ (R32 (S 200 1) ∧ ((b < (S 200 1) → R32 fr ∧ ((fr ≤ 0 → zz_J zpX1_setBy_3 (zz_ret Q X 0 0) 91 [some (vr 100), some (vi p), some (vi a), some (vi b), none, some (vi fr), some (vi ((((7 * a) + b) * 2) + s)), some (vl 0), none, some (vi 0), none, none] [] ((2, f), S, L, P) (0, 0)) ∧ (¬ fr ≤ 0 → (0 ≤ ((((7 * a) + b) * 2) + s) ∧ ((((7 * a) + b) * 2) + s) < 98) ∧ (R32 (S 131 (((((7 * a) + b) * 2) + s).toNat)) ∧ (((S 131 (((((7 * a) + b) * 2) + s).toNat)) < 0 → zz_J zpX1_setBy_3 (zz_ret Q X 0 0) 91 [some (vr 100), some (vi p), some (vi a), some (vi b), none, some (vi fr), some (vi ((((7 * a) + b) * 2) + s)), some (vl 0), none, some (vi 0), none, none] [] ((2, f), S, L, P) (0, 0)) ∧ (¬ (S 131 (((((7 * a) + b) * 2) + s).toNat)) < 0 → (0 ≤ ((((7 * a) + b) * 2) + s) ∧ ((((7 * a) + b) * 2) + s) < 98) ∧ (Q (some (vi (S 131 (((((7 * a) + b) * 2) + s).toNat)))) ((2, f), S, L, P)))))))) ∧ (¬ b < (S 200 1) → R32 p ∧ ((¬ p = 0 → R32 b ∧ (R32 (S 200 1) ∧ ((b < (S 200 1) → Q (some (vi 0)) ((2, f), S, L, P)) ∧ (¬ b < (S 200 1) → Q (some (vi 1000000000)) ((2, f), S, L, P))))) ∧ (p = 0 → R32 a ∧ (R32 (S 200 1) ∧ ((a < (S 200 1) → Q (some (vi 0)) ((2, f), S, L, P)) ∧ (¬ a < (S 200 1) → Q (some (vi 1000000000)) ((2, f), S, L, P))))))))))))) : zz_J zpX1_setBy_3 (zz_ret Q X 0 0) 0 [some (vr 100), some (vi p), some (vi a), some (vi b), some (vi s), some (vi fr), none, none, none, none, none, none] [] ((2, f), S, L, P) (0, 0) := zz_J.go [(91, [4, 8, 10, 11]), (108, [4, 8, 10, 11]), (149, [4, 8, 10, 11]), (181, [1, 2, 3, 4, 8, 9, 10, 11])] 400 h
theorem zwX1_setBy_3_91 {Q : Option zv → zz_M → Prop} {X : Nat → zz_M → Prop} {f : Nat → Nat × Nat} {S L : Nat → Nat → Int} {P : Nat → Nat → Option Nat} {x1 : Int} {x2 : Int} {x3 : Int} {x5 : Int} {x6 : Int} {x7 : Int} {x9 : Int} (h : R32 x9 ∧ ((4 ≤ x9 → zz_J zpX1_setBy_3 (zz_ret Q X 0 0) 181 [some (vr 100), none, none, none, none, some (vi x5), some (vi x6), some (vl x7), none, none, none, none] [] ((2, f), S, L, P) (0, 0)) ∧ (¬ 4 ≤ x9 → R32 x9 ∧ ((2 ≤ x9 → zz_J zpX1_setBy_3 (zz_ret Q X 0 0) 108 [some (vr 100), some (vi x1), some (vi x2), some (vi x3), none, some (vi x5), some (vi x6), some (vl x7), none, some (vi x9), none, none] [vi 0] ((2, f), S, L, P) (0, 0)) ∧ (¬ 2 ≤ x9 → zz_J zpX1_setBy_3 (zz_ret Q X 0 0) 108 [some (vr 100), some (vi x1), some (vi x2), some (vi x3), none, some (vi x5), some (vi x6), some (vl x7), none, some (vi x9), none, none] [vi 1] ((2, f), S, L, P) (0, 0)))))) : zz_J zpX1_setBy_3 (zz_ret Q X 0 0) 91 [some (vr 100), some (vi x1), some (vi x2), some (vi x3), none, some (vi x5), some (vi x6), some (vl x7), none, some (vi x9), none, none] [] ((2, f), S, L, P) (0, 0) := zz_J.go [(91, [4, 8, 10, 11]), (108, [4, 8, 10, 11]), (149, [4, 8, 10, 11]), (181, [1, 2, 3, 4, 8, 9, 10, 11])] 400 h
theorem zwX1_setBy_3_108 {Q : Option zv → zz_M → Prop} {X : Nat → zz_M → Prop} {f : Nat → Nat × Nat} {S L : Nat → Nat → Int} {P : Nat → Nat → Option Nat} {x1 : Int} {x2 : Int} {x3 : Int} {x5 : Int} {x6 : Int} {x7 : Int} {x9 : Int} {t0 : Int} (h : R32 t0 ∧ ((t0 = 0 → R32 t0 ∧ ((t0 = 0 → (0 ≤ x9 ∧ x9 < 2147483648) ∧ ((0 ≤ x9 ∧ x9 < 2147483648) ∧ (((x1 = 0 ∨ x1 = 1) ∧ ((x9 % 2) = 0 ∨ (x9 % 2) = 1) ∧ ((1 + (x9 % 2)) = 1 + (x9 % 2) ∨ (1 + (x9 % 2)) = 0) ∧ (0 ≤ (x2 + 0) ∧ (x2 + 0) ≤ S 200 1) ∧ (0 ≤ (x3 + 1) ∧ (x3 + 1) ≤ S 200 1) ∧ (1 ≤ S 200 1 ∧ S 200 1 ≤ 6) ∧ S 200 1 - (x2 + 0) + (S 200 1 - (x3 + 1)) ≤ 2 ∧ ∃ wy_1 : Nat → Int, wyG wy_1 ∧ (∀ s_1 k_1, s_1 < 2 → k_1 < 4 → S (129 + s_1) k_1 = wy_1 (4 * s_1 + k_1)) ∧ fG (S (128 + (1 + (x9 % 2)).toNat)) ∧ meI S wy_1 (S 200 1) x1 ∧ (∀ S_1 : Nat → Nat → Int, (∀ j_1, j_1 ≠ 131 → S_1 j_1 = S j_1) → meI S_1 wy_1 (S 200 1) x1 → (zz_J zpX1_setBy_3 (zz_ret Q X 0 0) 149 [some (vr 100), some (vi x1), some (vi x2), some (vi x3), none, some (vi x5), some (vi x6), some (vl x7), none, some (vi x9), none, none] [vi (sbV wy_1 (S 200 1) x1 (S (128 + (1 + (x9 % 2)).toNat)) (x2 + 0) (x3 + 1))] ((2, f), S_1, L, P) (0, 0))))))) ∧ (¬ t0 = 0 → (0 ≤ x9 ∧ x9 < 2147483648) ∧ ((0 ≤ x9 ∧ x9 < 2147483648) ∧ (((x1 = 0 ∨ x1 = 1) ∧ ((x9 % 2) = 0 ∨ (x9 % 2) = 1) ∧ ((1 + (x9 % 2)) = 1 + (x9 % 2) ∨ (1 + (x9 % 2)) = 0) ∧ (0 ≤ (x2 + 0) ∧ (x2 + 0) ≤ S 200 1) ∧ (0 ≤ (x3 + 0) ∧ (x3 + 0) ≤ S 200 1) ∧ (1 ≤ S 200 1 ∧ S 200 1 ≤ 6) ∧ S 200 1 - (x2 + 0) + (S 200 1 - (x3 + 0)) ≤ 2 ∧ ∃ wy_2 : Nat → Int, wyG wy_2 ∧ (∀ s_2 k_2, s_2 < 2 → k_2 < 4 → S (129 + s_2) k_2 = wy_2 (4 * s_2 + k_2)) ∧ fG (S (128 + (1 + (x9 % 2)).toNat)) ∧ meI S wy_2 (S 200 1) x1 ∧ (∀ S_2 : Nat → Nat → Int, (∀ j_2, j_2 ≠ 131 → S_2 j_2 = S j_2) → meI S_2 wy_2 (S 200 1) x1 → (zz_J zpX1_setBy_3 (zz_ret Q X 0 0) 149 [some (vr 100), some (vi x1), some (vi x2), some (vi x3), none, some (vi x5), some (vi x6), some (vl x7), none, some (vi x9), none, none] [vi (sbV wy_2 (S 200 1) x1 (S (128 + (1 + (x9 % 2)).toNat)) (x2 + 0) (x3 + 0))] ((2, f), S_2, L, P) (0, 0))))))))) ∧ (¬ t0 = 0 → R32 t0 ∧ ((t0 = 0 → (0 ≤ x9 ∧ x9 < 2147483648) ∧ ((0 ≤ x9 ∧ x9 < 2147483648) ∧ (((x1 = 0 ∨ x1 = 1) ∧ ((x9 % 2) = 0 ∨ (x9 % 2) = 1) ∧ ((1 + (x9 % 2)) = 1 + (x9 % 2) ∨ (1 + (x9 % 2)) = 0) ∧ (0 ≤ (x2 + 1) ∧ (x2 + 1) ≤ S 200 1) ∧ (0 ≤ (x3 + 1) ∧ (x3 + 1) ≤ S 200 1) ∧ (1 ≤ S 200 1 ∧ S 200 1 ≤ 6) ∧ S 200 1 - (x2 + 1) + (S 200 1 - (x3 + 1)) ≤ 2 ∧ ∃ wy_3 : Nat → Int, wyG wy_3 ∧ (∀ s_3 k_3, s_3 < 2 → k_3 < 4 → S (129 + s_3) k_3 = wy_3 (4 * s_3 + k_3)) ∧ fG (S (128 + (1 + (x9 % 2)).toNat)) ∧ meI S wy_3 (S 200 1) x1 ∧ (∀ S_3 : Nat → Nat → Int, (∀ j_3, j_3 ≠ 131 → S_3 j_3 = S j_3) → meI S_3 wy_3 (S 200 1) x1 → (zz_J zpX1_setBy_3 (zz_ret Q X 0 0) 149 [some (vr 100), some (vi x1), some (vi x2), some (vi x3), none, some (vi x5), some (vi x6), some (vl x7), none, some (vi x9), none, none] [vi (sbV wy_3 (S 200 1) x1 (S (128 + (1 + (x9 % 2)).toNat)) (x2 + 1) (x3 + 1))] ((2, f), S_3, L, P) (0, 0))))))) ∧ (¬ t0 = 0 → (0 ≤ x9 ∧ x9 < 2147483648) ∧ ((0 ≤ x9 ∧ x9 < 2147483648) ∧ (((x1 = 0 ∨ x1 = 1) ∧ ((x9 % 2) = 0 ∨ (x9 % 2) = 1) ∧ ((1 + (x9 % 2)) = 1 + (x9 % 2) ∨ (1 + (x9 % 2)) = 0) ∧ (0 ≤ (x2 + 1) ∧ (x2 + 1) ≤ S 200 1) ∧ (0 ≤ (x3 + 0) ∧ (x3 + 0) ≤ S 200 1) ∧ (1 ≤ S 200 1 ∧ S 200 1 ≤ 6) ∧ S 200 1 - (x2 + 1) + (S 200 1 - (x3 + 0)) ≤ 2 ∧ ∃ wy_4 : Nat → Int, wyG wy_4 ∧ (∀ s_4 k_4, s_4 < 2 → k_4 < 4 → S (129 + s_4) k_4 = wy_4 (4 * s_4 + k_4)) ∧ fG (S (128 + (1 + (x9 % 2)).toNat)) ∧ meI S wy_4 (S 200 1) x1 ∧ (∀ S_4 : Nat → Nat → Int, (∀ j_4, j_4 ≠ 131 → S_4 j_4 = S j_4) → meI S_4 wy_4 (S 200 1) x1 → (zz_J zpX1_setBy_3 (zz_ret Q X 0 0) 149 [some (vr 100), some (vi x1), some (vi x2), some (vi x3), none, some (vi x5), some (vi x6), some (vl x7), none, some (vi x9), none, none] [vi (sbV wy_4 (S 200 1) x1 (S (128 + (1 + (x9 % 2)).toNat)) (x2 + 1) (x3 + 0))] ((2, f), S_4, L, P) (0, 0))))))))))) : zz_J zpX1_setBy_3 (zz_ret Q X 0 0) 108 [some (vr 100), some (vi x1), some (vi x2), some (vi x3), none, some (vi x5), some (vi x6), some (vl x7), none, some (vi x9), none, none] [vi t0] ((2, f), S, L, P) (0, 0) := zz_J.go [(91, [4, 8, 10, 11]), (108, [4, 8, 10, 11]), (149, [4, 8, 10, 11]), (181, [1, 2, 3, 4, 8, 9, 10, 11])] 400 h
theorem zwX1_setBy_3_149 {Q : Option zv → zz_M → Prop} {X : Nat → zz_M → Prop} {f : Nat → Nat × Nat} {S L : Nat → Nat → Int} {P : Nat → Nat → Option Nat} {x1 : Int} {x2 : Int} {x3 : Int} {x5 : Int} {x6 : Int} {x7 : Int} {x9 : Int} {t0 : Int} (h : ∃ t_ n_ : Nat, zsh ((2, f), S, L, P) 127 = (t_, n_) ∧ (t_ = 6 ∨ t_ = 7 ∨ t_ = 8) ∧ (n_ : Int) ≤ 2147483647 ∧ (0 ≤ x5 ∧ x5 < (n_ : Int)) ∧ (∀ b1 : Nat, zpt ((2, f), S, L, P) 127 x5.toNat = some b1 → ∃ n_ : Nat, zsh ((2, f), S, L, P) b1 = (2, n_) ∧ (n_ : Int) ≤ 2147483647 ∧ (0 ≤ x9 ∧ x9 < (n_ : Int)) ∧ (R32 (S b1 x9.toNat) ∧ (R32 t0 ∧ ((0 ≤ ((S b1 x9.toNat) * t0) ∧ ((S b1 x9.toNat) * t0) < 9223372036854775808) ∧ (zz_J zpX1_setBy_3 (zz_ret Q X 0 0) 91 [some (vr 100), some (vi x1), some (vi x2), some (vi x3), none, some (vi x5), some (vi x6), some (vl (x7 + (((S b1 x9.toNat) * t0) / 1000000000))), none, some (vi (x9 + 1)), none, none] [] ((2, f), S, L, P) (0, 0)))))) ∧ (zpt ((2, f), S, L, P) 127 x5.toNat = none → False)) : zz_J zpX1_setBy_3 (zz_ret Q X 0 0) 149 [some (vr 100), some (vi x1), some (vi x2), some (vi x3), none, some (vi x5), some (vi x6), some (vl x7), none, some (vi x9), none, none] [vi t0] ((2, f), S, L, P) (0, 0) := zz_J.go [(91, [4, 8, 10, 11]), (108, [4, 8, 10, 11]), (149, [4, 8, 10, 11]), (181, [1, 2, 3, 4, 8, 9, 10, 11])] 400 h
theorem zwX1_setBy_3_181 {Q : Option zv → zz_M → Prop} {X : Nat → zz_M → Prop} {f : Nat → Nat × Nat} {S L : Nat → Nat → Int} {P : Nat → Nat → Option Nat} {x5 : Int} {x6 : Int} {x7 : Int} (h : R32 x5 ∧ ((x5 ≤ 0 → R64 x7 ∧ (Q (some (vi x7)) ((2, f), S, L, P))) ∧ (¬ x5 ≤ 0 → R64 x7 ∧ ((0 ≤ x6 ∧ x6 < 98) ∧ (R64 x7 ∧ (Q (some (vi x7)) ((2, f), mm_up S 131 x6.toNat x7, L, P))))))) : zz_J zpX1_setBy_3 (zz_ret Q X 0 0) 181 [some (vr 100), none, none, none, none, some (vi x5), some (vi x6), some (vl x7), none, none, none, none] [] ((2, f), S, L, P) (0, 0) := zz_J.go [(91, [4, 8, 10, 11]), (108, [4, 8, 10, 11]), (149, [4, 8, 10, 11]), (181, [1, 2, 3, 4, 8, 9, 10, 11])] 400 h

theorem zmX1_setBy_3 (l : Launch) (hl : l.stackTraces = false) : mm_Spec l yX1_setBy (ws_ yX1_setBy cX1_setBy 12 (some .int)) (mm_rm 8 0 0) (zE zX1_setBy_3) := by
  refine zz_Met.J hl (by decide) (fun C G hnh => ztX1_setBy_3 G hnh) ?_
  rintro as ⟨⟨t_, f⟩, S, L, P⟩ Q X h
  unfold zX1_setBy_3 at h
  split at h
  rotate_left
  · exact h.elim
  rename_i h_ p a b s fr
  obtain ⟨e1_, e2_, h⟩ := mm_and2 h (fun q => q)
  cases mm_beq e1_
  cases mm_beq e2_
  try dsimp only at h
  refine ⟨rfl, ?_⟩
  obtain ⟨hp, hs, hfr, ha, hb, hG, hr, wy, hw, hrow, hF, hme, hq⟩ := h
  by_cases o : S 200 1 ≤ a ∨ S 200 1 ≤ b
  · have hq := hq S (fun _ _ => rfl) hme
    unfold sbV at hq
    rw [if_pos o] at hq
    have k1 : ¬ p = 0 → R32 b ∧ (R32 (S 200 1) ∧ ((b < (S 200 1) → Q (some (vi 0)) ((2, f), S, L, P)) ∧ (¬ b < (S 200 1) → Q (some (vi 1000000000)) ((2, f), S, L, P)))) := fun d => ⟨by omega, by omega, fun e => by rw [if_neg (by rw [if_neg d]; omega)] at hq; exact hq, fun e => by rw [if_pos (by rw [if_neg d]; omega)] at hq; exact hq⟩
    have k0 : p = 0 → R32 a ∧ (R32 (S 200 1) ∧ ((a < (S 200 1) → Q (some (vi 0)) ((2, f), S, L, P)) ∧ (¬ a < (S 200 1) → Q (some (vi 1000000000)) ((2, f), S, L, P)))) := fun d => ⟨by omega, by omega, fun e => by rw [if_neg (by rw [if_pos d]; omega)] at hq; exact hq, fun e => by rw [if_pos (by rw [if_pos d]; omega)] at hq; exact hq⟩
    exact zwX1_setBy_3_0 ⟨by omega, by omega, fun c => ⟨by omega, k1, k0⟩, fun c => ⟨by omega, by omega, fun e => absurd o (by omega), fun e => ⟨by omega, k1, k0⟩⟩⟩
  obtain ⟨a', rfl⟩ : ∃ a' : Nat, a = (a' : Int) := ⟨a.toNat, by omega⟩
  obtain ⟨b', rfl⟩ : ∃ b' : Nat, b = (b' : Int) := ⟨b.toNat, by omega⟩
  obtain ⟨s', hs', es⟩ : ∃ s' : Nat, s' < 2 ∧ s = (s' : Int) := ⟨s.toNat, by omega, by omega⟩
  obtain ⟨r', hr', er⟩ : ∃ r' : Nat, r' < 3 ∧ fr = (r' : Int) := ⟨fr.toNat, by omega, by omega⟩
  subst es er
  have hcv := fun k => bcV_in (G := S 200 1) (p := p) (a := (a' : Int)) (b := (b' : Int)) hw k
  rw [Int.toNat_natCast] at hF hq
  have sin := sbS_in hF hcv
  have hq : ∀ S_ : Nat → Nat → Int, (∀ j, j ≠ 131 → S_ j = S j) → meI S_ wy (S 200 1) p → Q (some (vi (sbS (S (128 + r')) (bcV wy (S 200 1) p a' b') 4))) ((2, f), S_, L, P) := fun S_ e1 e2 => by
    have hq := hq S_ e1 e2
    unfold sbV at hq
    rw [if_neg o] at hq
    exact hq
  have est : (1 : Int) + s' = r' → sbS (S (128 + r')) (bcV wy (S 200 1) p a' b') 4 = stO wy (S 200 1) p 12 a' b' s' := fun e => by
    have e2 : r' = 1 + s' := by omega
    have := sbV_st (wy := wy) (G := S 200 1) (p := p) (a := (a' : Int)) (b := (b' : Int)) (s := s') (F := S (128 + r')) (fun k hk => by rw [e2, show 128 + (1 + s') = 129 + s' by omega]; exact hrow s' k hs' hk) (by omega) (by omega) (by omega)
    unfold sbV at this
    rw [if_neg o] at this
    exact this
  have wy4 : ∀ s : Nat, s < 2 → fG (S (129 + s)) := fun s hs => by
    refine ⟨fun k hk => by rw [hrow s k hs hk]; exact hw.1 _ (by omega), ?_⟩
    rw [hrow s 0 hs (by decide), hrow s 1 hs (by decide), hrow s 2 hs (by decide), hrow s 3 hs (by decide)]
    have : s = 0 ∨ s = 1 := by omega
    rcases this with e | e <;> subst e
    · exact hw.2.1
    · exact hw.2.2
  have t91 : ∀ (m k : Nat) (T : Nat → Nat → Int), k + m = 4 → (∀ j, j ≠ 131 → T j = S j) → meI T wy (S 200 1) p → zz_J zpX1_setBy_3 (zz_ret Q X 0 0) 91 [some (vr 100), some (vi p), some (vi (a' : Int)), some (vi (b' : Int)), none, some (vi (r' : Int)), some (vi ((((7 * (a' : Int)) + b') * 2) + s')), some (vl (sbS (S (128 + r')) (bcV wy (S 200 1) p a' b') k)), none, some (vi (k : Int)), none, none] [] ((2, f), T, L, P) (0, 0) := by
    intro m
    induction m with
    | zero =>
      intro k T hk eT mT
      have k4 : k = 4 := by omega
      subst k4
      have s4 := sin 4 (by decide)
      have R4 : R64 (sbS (S (128 + r')) (bcV wy (S 200 1) p a' b') 4) := by omega
      refine zwX1_setBy_3_91 ⟨by omega, fun _ => zwX1_setBy_3_181 ⟨by omega, fun c => ⟨R4, hq T eT mT⟩, fun c => ⟨R4, by omega, R4, ?_⟩⟩, fun d => absurd (by omega) d⟩
      have ei : ((((7 * (a' : Int)) + b') * 2) + s').toNat = (7 * a' + b') * 2 + s' := by omega
      have e1 := est (by omega)
      refine hq _ (fun j hj => ?_) ?_
      · funext x
        rw [up_eq, if_neg (by omega), eT j hj]
      · rw [ei, e1]
        exact mT.up (by omega) (by omega) hs'
    | succ m ih =>
      intro k T hk eT mT
      have k4 : k < 4 := by omega
      have eG : T 200 1 = S 200 1 := by rw [eT 200 (by decide)]
      have t149 : ∀ (U : Nat → Nat → Int), (∀ j, j ≠ 131 → U j = S j) → meI U wy (S 200 1) p → zz_J zpX1_setBy_3 (zz_ret Q X 0 0) 149 [some (vr 100), some (vi p), some (vi (a' : Int)), some (vi (b' : Int)), none, some (vi (r' : Int)), some (vi ((((7 * (a' : Int)) + b') * 2) + s')), some (vl (sbS (S (128 + r')) (bcV wy (S 200 1) p a' b') k)), none, some (vi (k : Int)), none, none] [vi (bcV wy (S 200 1) p a' b' k)] ((2, f), U, L, P) (0, 0) := by
        intro U eU mU
        obtain ⟨w1, w2⟩ := ways_at (f := f) (S := U) (L := L) (P := P) hr'
        have fk := hF.1 k k4
        have ck := hcv k
        have m9 := mul_sure fk.1 ck.1 ck.2
        refine zwX1_setBy_3_149 ⟨6, 3, rfl, Or.inl rfl, by decide, by omega, fun b1 hb1 => ?_, fun hb1 => ?_⟩
        · rw [Int.toNat_natCast, w1] at hb1
          cases hb1
          refine ⟨4, w2, by decide, by omega, ?_⟩
          rw [Int.toNat_natCast, eU (128 + r') (by omega)]
          exact ⟨by omega, by omega, by omega, ih (k + 1) U (by omega) eU mU⟩
        · rw [Int.toNat_natCast, w1] at hb1
          cases hb1
      have rowT : ∀ s_ k_, s_ < 2 → k_ < 4 → T (129 + s_) k_ = wy (4 * s_ + k_) := fun s_ k_ g1 g2 => by rw [eT (129 + s_) (by omega)]; exact hrow s_ k_ g1 g2
      have mk : ((k : Int) % 2 = 0 ∨ (k : Int) % 2 = 1) := by omega
      have ek2 : ((k : Int) % 2).toNat = k % 2 := by omega
      have ek3 : 128 + (1 + (k : Int) % 2).toNat = 129 + k % 2 := by omega
      have nxt : ∀ x y : Int, (x ≤ S 200 1 ∧ y ≤ S 200 1 ∧ S 200 1 - x + (S 200 1 - y) ≤ 12) → stO wy (S 200 1) p 12 x y (k % 2) = bcV wy (S 200 1) p a' b' k → ∀ S_ : Nat → Nat → Int, (∀ j, j ≠ 131 → S_ j = T j) → meI S_ wy (T 200 1) p → zz_J zpX1_setBy_3 (zz_ret Q X 0 0) 149 [some (vr 100), some (vi p), some (vi (a' : Int)), some (vi (b' : Int)), none, some (vi (r' : Int)), some (vi ((((7 * (a' : Int)) + b') * 2) + s')), some (vl (sbS (S (128 + r')) (bcV wy (S 200 1) p a' b') k)), none, some (vi (k : Int)), none, none] [vi (sbV wy (T 200 1) p (T (128 + (1 + (k : Int) % 2).toNat)) x y)] ((2, f), S_, L, P) (0, 0) := by
        intro x y hxy e S_ e1 e2
        rw [eG] at e2 ⊢
        rw [ek3, sbV_st (s := k % 2) (fun j hj => rowT (k % 2) j (by omega) hj) hxy.1 hxy.2.1 hxy.2.2, e]
        exact t149 S_ (fun j hj => by rw [e1 j hj, eT j hj]) e2
      have fGk : fG (T (128 + (1 + (k : Int) % 2).toNat)) := by
        rw [ek3, eT (129 + k % 2) (by omega)]
        exact wy4 (k % 2) (by omega)
      refine zwX1_setBy_3_91 ⟨by omega, fun d => absurd d (by omega), fun _ => ⟨by omega, fun c => zwX1_setBy_3_108 ⟨by decide, fun _ => ⟨by decide, fun _ => ⟨by omega, by omega, hp, mk, Or.inl rfl, by omega, by omega, by omega, by omega, wy, hw, rowT, fGk, by rw [eG]; exact mT, ?_⟩, fun d => absurd rfl d⟩, fun d => absurd rfl d⟩, fun c => zwX1_setBy_3_108 ⟨by decide, fun d => absurd d (by decide), fun _ => ⟨by decide, fun d => absurd d (by decide), fun _ => ⟨by omega, by omega, hp, mk, Or.inl rfl, by omega, by omega, by omega, by omega, wy, hw, rowT, fGk, by rw [eG]; exact mT, ?_⟩⟩⟩⟩⟩
      · refine nxt _ _ (by omega) ?_
        unfold bcV
        rw [if_neg (by omega), if_neg (by omega), Int.add_zero]
      · refine nxt _ _ (by omega) ?_
        unfold bcV
        rw [if_pos (by omega), if_pos (by omega), Int.add_zero]
  have t0 := t91 4 0 S rfl (fun _ _ => rfl) hme
  refine zwX1_setBy_3_0 ⟨by omega, by omega, fun c => absurd (Or.inl c) o, fun c => ⟨by omega, by omega, fun c2 => ⟨by omega, fun d => t0, fun d => ⟨by omega, ?_⟩⟩, fun c2 => absurd (by omega) o⟩⟩
  have ei : ((((7 * (a' : Int)) + b') * 2) + s').toNat = (7 * a' + b') * 2 + s' := by omega
  have me := hme a' b' s' (by omega) (by omega) hs'
  have hin := stO_in (G := S 200 1) (p := p) hw 12 (a' : Int) (b' : Int) s' hs'
  rw [ei]
  refine ⟨by rcases me with e | e <;> rw [e] <;> omega, fun _ => t0, fun d2 => ⟨by omega, ?_⟩⟩
  have e2 := me.resolve_left (by omega)
  rw [e2, ← est (by omega)]
  exact hq S (fun _ _ => rfl) hme
def zX1_setBy_4 : zz_Sp := fun as M Q X => match as with
  | [.inr (.inr (some h_)), .inl p, .inl a, .inl b, .inl s, .inl fr] => bif Nat.beq h_ 100 && Nat.beq M.1.1 2 then ((p = 0 ∨ p = 1) ∧ (s = 0 ∨ s = 1) ∧ (fr = 1 + s ∨ fr = 0) ∧ (0 ≤ a ∧ a ≤ M.2.1 200 1) ∧ (0 ≤ b ∧ b ≤ M.2.1 200 1) ∧ (1 ≤ M.2.1 200 1 ∧ M.2.1 200 1 ≤ 6) ∧ M.2.1 200 1 - a + (M.2.1 200 1 - b) ≤ 4 ∧ ∃ wy_ : Nat → Int, wyG wy_ ∧ (∀ s_ k_, s_ < 2 → k_ < 4 → M.2.1 (129 + s_) k_ = wy_ (4 * s_ + k_)) ∧ fG (M.2.1 (128 + fr.toNat)) ∧ meI M.2.1 wy_ (M.2.1 200 1) p ∧ (∀ S_ : Nat → Nat → Int, (∀ j_, j_ ≠ 131 → S_ j_ = M.2.1 j_) → meI S_ wy_ (M.2.1 200 1) p → Q (some (vi (sbV wy_ (M.2.1 200 1) p (M.2.1 (128 + fr.toNat)) a b))) ((2, M.1.2), S_, M.2.2.1, M.2.2.2))) else False
  | _ => False

def zpX1_setBy_4 : zz_P := [(0, zo_ild 1 2), (1, zo_ald 2 0), (2, zo_get 5 0 2 0), (5, zo_get 8 1 0 1), (8, zo_cge false false 11 22), (11, zo_ild 12 3), (12, zo_ald 13 0), (13, zo_get 16 0 2 0), (16, zo_get 19 1 0 1), (19, zo_clt false false 22 49), (22, zo_ild 23 1), (23, zo_ifne false 26 30), (26, zo_ild 27 2), (27, zo_goto 31), (30, zo_ild 31 3), (31, zo_ald 32 0), (32, zo_get 35 0 2 0), (35, zo_get 38 1 0 1), (38, zo_clt false false 41 47), (41, zo_c 44 (vi 1000000000)), (44, zo_goto 48), (47, zo_c 48 (vi 0)), (48, zo_iret), (49, zo_c 51 (vi 7)), (51, zo_ild 52 2), (52, zo_imul 53), (53, zo_ild 54 3), (54, zo_iadd 55), (55, zo_c 56 (vi 2)), (56, zo_imul 57), (57, zo_ild 59 4), (59, zo_iadd 60), (60, zo_ist 62 6), (62, zo_ild 64 5), (64, zo_ifle false 67 85), (67, zo_ald 68 0), (68, zo_get 71 0 2 15), (71, zo_ild 73 6), (73, zo_iald 74), (74, zo_iflt false 77 85), (77, zo_ald 78 0), (78, zo_get 81 0 2 15), (81, zo_ild 83 6), (83, zo_iald 84), (84, zo_iret), (85, zo_c 86 (vl 0)), (86, zo_lst 88 7), (88, zo_c 89 (vi 0)), (89, zo_ist 91 9), (91, zo_ild 93 9), (93, zo_c 94 (vi 4)), (94, zo_cge false true 97 181), (97, zo_ild 99 9), (99, zo_c 100 (vi 2)), (100, zo_cge false true 103 107), (103, zo_c 104 (vi 1)), (104, zo_goto 108), (107, zo_c 108 (vi 0)), (108, zo_ist 110 10), (110, zo_ald 111 0), (111, zo_ild 112 1), (112, zo_ild 113 2), (113, zo_ild 115 10), (115, zo_ifeq false 118 122), (118, zo_c 119 (vi 1)), (119, zo_goto 123), (122, zo_c 123 (vi 0)), (123, zo_iadd 124), (124, zo_ild 125 3), (125, zo_ild 127 10), (127, zo_ifeq false 130 134), (130, zo_c 131 (vi 0)), (131, zo_goto 135), (134, zo_c 135 (vi 1)), (135, zo_iadd 136), (136, zo_ild 138 9), (138, zo_c 139 (vi 2)), (139, zo_irem 140), (140, zo_c 141 (vi 1)), (141, zo_ild 143 9), (143, zo_c 144 (vi 2)), (144, zo_irem 145), (145, zo_iadd 146), (146, zo_callv 149 6 0 zX1_setBy_3), (149, zo_ist 151 11), (151, zo_lld 153 7), (153, zo_ald 154 0), (154, zo_get 157 0 2 14), (157, zo_ild 159 5), (159, zo_aald 160), (160, zo_ild 162 9), (162, zo_ialp 163), (163, zo_i2l 164), (164, zo_ild 166 11), (166, zo_i2l 167), (167, zo_lmul 168), (168, zo_c 171 (vl 1000000000)), (171, zo_ldiv 172), (172, zo_ladd 173), (173, zo_lst 175 7), (175, zo_inc 178 9 1), (178, zo_goto 91), (181, zo_ild 183 5), (183, zo_ifle false 186 196), (186, zo_ald 187 0), (187, zo_get 190 0 2 15), (190, zo_ild 192 6), (192, zo_lld 194 7), (194, zo_l2i 195), (195, zo_iasd 196), (196, zo_lld 198 7), (198, zo_l2i 199), (199, zo_iret)]
theorem ztX1_setBy_4 {C : mm_C} (G : mm_G C RX1 cX1_setBy (some .int) 12 (mm_rm 9 0 0)) (hnh : mm_nh C) : zz_OKs C zpX1_setBy_4 :=
  ⟨zz_of (ok_iload_n G dX1_setBy_0 rfl rfl) (z_ild _ _),
   zz_of (ok_aload_n G dX1_setBy_1 rfl rfl) (z_ald _ _),
   zz_of (ok_get G (nx := 5) (ci := 0) (kd := 2) (k := 0) (RX1, TX1, 19) rfl (by decide) rfl q399 dX1_setBy_2 rfl) (z_get _ _ _ _),
   zz_of (ok_getN G (nx := 8) (ci := 1) (kd := 0) (k := 1) (RX2, TX2, 11) rfl (by decide) rfl q218 dX1_setBy_5 rfl) (z_get _ _ _ _),
   zz_of (ok_cge G dX1_setBy_8 rfl rfl) (z_cge _ _ _ _),
   zz_of (ok_iload_n G dX1_setBy_11 rfl rfl) (z_ild _ _),
   zz_of (ok_aload_n G dX1_setBy_12 rfl rfl) (z_ald _ _),
   zz_of (ok_get G (nx := 16) (ci := 0) (kd := 2) (k := 0) (RX1, TX1, 19) rfl (by decide) rfl q399 dX1_setBy_13 rfl) (z_get _ _ _ _),
   zz_of (ok_getN G (nx := 19) (ci := 1) (kd := 0) (k := 1) (RX2, TX2, 11) rfl (by decide) rfl q218 dX1_setBy_16 rfl) (z_get _ _ _ _),
   zz_of (ok_clt G dX1_setBy_19 rfl rfl) (z_clt _ _ _ _),
   zz_of (ok_iload_n G dX1_setBy_22 rfl rfl) (z_ild _ _),
   zz_of (ok_ifne G dX1_setBy_23 rfl rfl) (z_ifne _ _ _),
   zz_of (ok_iload_n G dX1_setBy_26 rfl rfl) (z_ild _ _),
   zz_of (ok_goto G dX1_setBy_27 rfl) (z_goto _),
   zz_of (ok_iload_n G dX1_setBy_30 rfl rfl) (z_ild _ _),
   zz_of (ok_aload_n G dX1_setBy_31 rfl rfl) (z_ald _ _),
   zz_of (ok_get G (nx := 35) (ci := 0) (kd := 2) (k := 0) (RX1, TX1, 19) rfl (by decide) rfl q399 dX1_setBy_32 rfl) (z_get _ _ _ _),
   zz_of (ok_getN G (nx := 38) (ci := 1) (kd := 0) (k := 1) (RX2, TX2, 11) rfl (by decide) rfl q218 dX1_setBy_35 rfl) (z_get _ _ _ _),
   zz_of (ok_clt G dX1_setBy_38 rfl rfl) (z_clt _ _ _ _),
   zz_of (ok_ldcw G (v := 1000000000) q1700 dX1_setBy_41 rfl) (z_cn 44 1000000000),
   zz_of (ok_goto G dX1_setBy_44 rfl) (z_goto _),
   zz_of (ok_iconst G (v := 0) dX1_setBy_47 (by decide) rfl) (z_cn 48 0),
   zz_of (ok_iret G dX1_setBy_48) (z_iret),
   zz_of (ok_bipush G (v := 7) dX1_setBy_49 (by decide) rfl) (z_cn 51 7),
   zz_of (ok_iload_n G dX1_setBy_51 rfl rfl) (z_ild _ _),
   zz_of (ok_imul G dX1_setBy_52 rfl) (z_imul _),
   zz_of (ok_iload_n G dX1_setBy_53 rfl rfl) (z_ild _ _),
   zz_of (ok_iadd G dX1_setBy_54 rfl) (z_iadd _),
   zz_of (ok_iconst G (v := 2) dX1_setBy_55 (by decide) rfl) (z_cn 56 2),
   zz_of (ok_imul G dX1_setBy_56 rfl) (z_imul _),
   zz_of (ok_iload G dX1_setBy_57 rfl) (z_ild _ _),
   zz_of (ok_iadd G dX1_setBy_59 rfl) (z_iadd _),
   zz_of (ok_istore G dX1_setBy_60 rfl (by decide)) (z_ist _ _),
   zz_of (ok_iload G dX1_setBy_62 rfl) (z_ild _ _),
   zz_of (ok_ifle G dX1_setBy_64 rfl rfl) (z_ifle _ _ _),
   zz_of (ok_aload_n G dX1_setBy_67 rfl rfl) (z_ald _ _),
   zz_of (ok_get G (nx := 71) (ci := 0) (kd := 2) (k := 15) (RX1, TX1, 19) rfl (by decide) rfl q426 dX1_setBy_68 rfl) (z_get _ _ _ _),
   zz_of (ok_iload G dX1_setBy_71 rfl) (z_ild _ _),
   zz_of (ok_iald G dX1_setBy_73 rfl) (z_iald _),
   zz_of (ok_iflt G dX1_setBy_74 rfl rfl) (z_iflt _ _ _),
   zz_of (ok_aload_n G dX1_setBy_77 rfl rfl) (z_ald _ _),
   zz_of (ok_get G (nx := 81) (ci := 0) (kd := 2) (k := 15) (RX1, TX1, 19) rfl (by decide) rfl q426 dX1_setBy_78 rfl) (z_get _ _ _ _),
   zz_of (ok_iload G dX1_setBy_81 rfl) (z_ild _ _),
   zz_of (ok_iald G dX1_setBy_83 rfl) (z_iald _),
   zz_of (ok_iret G dX1_setBy_84) (z_iret),
   zz_of (ok_lconst G (v := 0) dX1_setBy_85 (by decide) rfl) (z_cl 86 0),
   zz_of (ok_lstore G dX1_setBy_86 rfl (by decide)) (z_lst _ _),
   zz_of (ok_iconst G (v := 0) dX1_setBy_88 (by decide) rfl) (z_cn 89 0),
   zz_of (ok_istore G dX1_setBy_89 rfl (by decide)) (z_ist _ _),
   zz_of (ok_iload G dX1_setBy_91 rfl) (z_ild _ _),
   zz_of (ok_iconst G (v := 4) dX1_setBy_93 (by decide) rfl) (z_cn 94 4),
   zz_of (ok_cge G dX1_setBy_94 rfl rfl) (z_cge _ _ _ _),
   zz_of (ok_iload G dX1_setBy_97 rfl) (z_ild _ _),
   zz_of (ok_iconst G (v := 2) dX1_setBy_99 (by decide) rfl) (z_cn 100 2),
   zz_of (ok_cge G dX1_setBy_100 rfl rfl) (z_cge _ _ _ _),
   zz_of (ok_iconst G (v := 1) dX1_setBy_103 (by decide) rfl) (z_cn 104 1),
   zz_of (ok_goto G dX1_setBy_104 rfl) (z_goto _),
   zz_of (ok_iconst G (v := 0) dX1_setBy_107 (by decide) rfl) (z_cn 108 0),
   zz_of (ok_istore G dX1_setBy_108 rfl (by decide)) (z_ist _ _),
   zz_of (ok_aload_n G dX1_setBy_110 rfl rfl) (z_ald _ _),
   zz_of (ok_iload_n G dX1_setBy_111 rfl rfl) (z_ild _ _),
   zz_of (ok_iload_n G dX1_setBy_112 rfl rfl) (z_ild _ _),
   zz_of (ok_iload G dX1_setBy_113 rfl) (z_ild _ _),
   zz_of (ok_ifeq G dX1_setBy_115 rfl rfl) (z_ifeq _ _ _),
   zz_of (ok_iconst G (v := 1) dX1_setBy_118 (by decide) rfl) (z_cn 119 1),
   zz_of (ok_goto G dX1_setBy_119 rfl) (z_goto _),
   zz_of (ok_iconst G (v := 0) dX1_setBy_122 (by decide) rfl) (z_cn 123 0),
   zz_of (ok_iadd G dX1_setBy_123 rfl) (z_iadd _),
   zz_of (ok_iload_n G dX1_setBy_124 rfl rfl) (z_ild _ _),
   zz_of (ok_iload G dX1_setBy_125 rfl) (z_ild _ _),
   zz_of (ok_ifeq G dX1_setBy_127 rfl rfl) (z_ifeq _ _ _),
   zz_of (ok_iconst G (v := 0) dX1_setBy_130 (by decide) rfl) (z_cn 131 0),
   zz_of (ok_goto G dX1_setBy_131 rfl) (z_goto _),
   zz_of (ok_iconst G (v := 1) dX1_setBy_134 (by decide) rfl) (z_cn 135 1),
   zz_of (ok_iadd G dX1_setBy_135 rfl) (z_iadd _),
   zz_of (ok_iload G dX1_setBy_136 rfl) (z_ild _ _),
   zz_of (ok_iconst G (v := 2) dX1_setBy_138 (by decide) rfl) (z_cn 139 2),
   zz_of (ok_irem G dX1_setBy_139 rfl) (z_irem _),
   zz_of (ok_iconst G (v := 1) dX1_setBy_140 (by decide) rfl) (z_cn 141 1),
   zz_of (ok_iload G dX1_setBy_141 rfl) (z_ild _ _),
   zz_of (ok_iconst G (v := 2) dX1_setBy_143 (by decide) rfl) (z_cn 144 2),
   zz_of (ok_irem G dX1_setBy_144 rfl) (z_irem _),
   zz_of (ok_iadd G dX1_setBy_145 rfl) (z_iadd _),
   zz_of (ok_callv G hnh (zmX1_setBy_3 _ G.hst) rfl rfl (RX1, TX1, 19) rfl q1706 q1708 qs33 q82 q1709 (by decide +kernel) ⟨by decide, by decide⟩ dX1_setBy_146 rfl) (z_callv _ _ _ _),
   zz_of (ok_istore G dX1_setBy_149 rfl (by decide)) (z_ist _ _),
   zz_of (ok_lload G dX1_setBy_151 rfl) (z_lld _ _),
   zz_of (ok_aload_n G dX1_setBy_153 rfl rfl) (z_ald _ _),
   zz_of (ok_get G (nx := 157) (ci := 0) (kd := 2) (k := 14) (RX1, TX1, 19) rfl (by decide) rfl q425 dX1_setBy_154 rfl) (z_get _ _ _ _),
   zz_of (ok_iload G dX1_setBy_157 rfl) (z_ild _ _),
   zz_of (ok_aald G dX1_setBy_159 rfl) (z_aald _),
   zz_of (ok_iload G dX1_setBy_160 rfl) (z_ild _ _),
   zz_of (ok_iald G dX1_setBy_162 rfl) (z_ialp _),
   zz_of (ok_i2l G dX1_setBy_163 rfl) (z_i2l _),
   zz_of (ok_iload G dX1_setBy_164 rfl) (z_ild _ _),
   zz_of (ok_i2l G dX1_setBy_166 rfl) (z_i2l _),
   zz_of (ok_lmul G dX1_setBy_167 rfl) (z_lmul _),
   zz_of (ok_ldc2 G (v := 1000000000) q1710 dX1_setBy_168 rfl) (z_cl 171 1000000000),
   zz_of (ok_ldiv G dX1_setBy_171 rfl) (z_ldiv _),
   zz_of (ok_ladd G dX1_setBy_172 rfl) (z_ladd _),
   zz_of (ok_lstore G dX1_setBy_173 rfl (by decide)) (z_lst _ _),
   zz_of (ok_iinc G (v := 1) dX1_setBy_175 (by decide) rfl (by decide)) (z_incn 178 9 1),
   zz_of (ok_goto G dX1_setBy_178 rfl) (z_goto _),
   zz_of (ok_iload G dX1_setBy_181 rfl) (z_ild _ _),
   zz_of (ok_ifle G dX1_setBy_183 rfl rfl) (z_ifle _ _ _),
   zz_of (ok_aload_n G dX1_setBy_186 rfl rfl) (z_ald _ _),
   zz_of (ok_get G (nx := 190) (ci := 0) (kd := 2) (k := 15) (RX1, TX1, 19) rfl (by decide) rfl q426 dX1_setBy_187 rfl) (z_get _ _ _ _),
   zz_of (ok_iload G dX1_setBy_190 rfl) (z_ild _ _),
   zz_of (ok_lload G dX1_setBy_192 rfl) (z_lld _ _),
   zz_of (ok_l2i G dX1_setBy_194 rfl) (z_l2i _),
   zz_of (ok_iast G dX1_setBy_195 rfl) (z_iasd _),
   zz_of (ok_lload G dX1_setBy_196 rfl) (z_lld _ _),
   zz_of (ok_l2i G dX1_setBy_198 rfl) (z_l2i _),
   zz_of (ok_iret G dX1_setBy_199) (z_iret), trivial⟩

theorem zwX1_setBy_4_0 {Q : Option zv → zz_M → Prop} {X : Nat → zz_M → Prop} {f : Nat → Nat × Nat} {S L : Nat → Nat → Int} {P : Nat → Nat → Option Nat} {p : Int} {a : Int} {b : Int} {s : Int} {fr : Int} (h : R32 a ∧ (R32 (S 200 1) ∧ (((S 200 1) ≤ a → R32 p ∧ ((¬ p = 0 → R32 b ∧ (R32 (S 200 1) ∧ ((b < (S 200 1) → Q (some (vi 0)) ((2, f), S, L, P)) ∧ (¬ b < (S 200 1) → Q (some (vi 1000000000)) ((2, f), S, L, P))))) ∧ (p = 0 → R32 a ∧ (R32 (S 200 1) ∧ ((a < (S 200 1) → Q (some (vi 0)) ((2, f), S, L, P)) ∧ (¬ a < (S 200 1) → Q (some (vi 1000000000)) ((2, f), S, L, P))))))) ∧ (¬ (S 200 1) ≤ a → R32 b ∧ (R32 (S 200 1) ∧ ((b < (S 200 1) → R32 fr ∧ ((fr ≤ 0 → zz_J zpX1_setBy_4 (zz_ret Q X 0 0) 91 [some (vr 100), some (vi p), some (vi a), some (vi b), none, some (vi fr), some (vi ((((7 * a) + b) * 2) + s)), some (vl 0), none, some (vi 0), none, none] [] ((2, f), S, L, P) (0, 0)) ∧ (¬ fr ≤ 0 → (0 ≤ ((((7 * a) + b) * 2) + s) ∧ ((((7 * a) + b) * 2) + s) < 98) ∧ (R32 (S 131 (((((7 * a) + b) * 2) + s).toNat)) ∧ (((S 131 (((((7 * a) + b) * 2) + s).toNat)) < 0 → zz_J zpX1_setBy_4 (zz_ret Q X 0 0) 91 [some (vr 100), some (vi p), some (vi a), some (vi b), none, some (vi fr), some (vi ((((7 * a) + b) * 2) + s)), some (vl 0), none, some (vi 0), none, none] [] ((2, f), S, L, P) (0, 0)) ∧ (¬ (S 131 (((((7 * a) + b) * 2) + s).toNat)) < 0 → (0 ≤ ((((7 * a) + b) * 2) + s) ∧ ((((7 * a) + b) * 2) + s) < 98) ∧ (Q (some (vi (S 131 (((((7 * a) + b) * 2) + s).toNat)))) ((2, f), S, L, P)))))))) ∧ (¬ b < (S 200 1) → R32 p ∧ ((¬ p = 0 → R32 b ∧ (R32 (S 200 1) ∧ ((b < (S 200 1) → Q (some (vi 0)) ((2, f), S, L, P)) ∧ (¬ b < (S 200 1) → Q (some (vi 1000000000)) ((2, f), S, L, P))))) ∧ (p = 0 → R32 a ∧ (R32 (S 200 1) ∧ ((a < (S 200 1) → Q (some (vi 0)) ((2, f), S, L, P)) ∧ (¬ a < (S 200 1) → Q (some (vi 1000000000)) ((2, f), S, L, P))))))))))))) : zz_J zpX1_setBy_4 (zz_ret Q X 0 0) 0 [some (vr 100), some (vi p), some (vi a), some (vi b), some (vi s), some (vi fr), none, none, none, none, none, none] [] ((2, f), S, L, P) (0, 0) := zz_J.go [(91, [4, 8, 10, 11]), (108, [4, 8, 10, 11]), (149, [4, 8, 10, 11]), (181, [1, 2, 3, 4, 8, 9, 10, 11])] 400 h
theorem zwX1_setBy_4_91 {Q : Option zv → zz_M → Prop} {X : Nat → zz_M → Prop} {f : Nat → Nat × Nat} {S L : Nat → Nat → Int} {P : Nat → Nat → Option Nat} {x1 : Int} {x2 : Int} {x3 : Int} {x5 : Int} {x6 : Int} {x7 : Int} {x9 : Int} (h : R32 x9 ∧ ((4 ≤ x9 → zz_J zpX1_setBy_4 (zz_ret Q X 0 0) 181 [some (vr 100), none, none, none, none, some (vi x5), some (vi x6), some (vl x7), none, none, none, none] [] ((2, f), S, L, P) (0, 0)) ∧ (¬ 4 ≤ x9 → R32 x9 ∧ ((2 ≤ x9 → zz_J zpX1_setBy_4 (zz_ret Q X 0 0) 108 [some (vr 100), some (vi x1), some (vi x2), some (vi x3), none, some (vi x5), some (vi x6), some (vl x7), none, some (vi x9), none, none] [vi 0] ((2, f), S, L, P) (0, 0)) ∧ (¬ 2 ≤ x9 → zz_J zpX1_setBy_4 (zz_ret Q X 0 0) 108 [some (vr 100), some (vi x1), some (vi x2), some (vi x3), none, some (vi x5), some (vi x6), some (vl x7), none, some (vi x9), none, none] [vi 1] ((2, f), S, L, P) (0, 0)))))) : zz_J zpX1_setBy_4 (zz_ret Q X 0 0) 91 [some (vr 100), some (vi x1), some (vi x2), some (vi x3), none, some (vi x5), some (vi x6), some (vl x7), none, some (vi x9), none, none] [] ((2, f), S, L, P) (0, 0) := zz_J.go [(91, [4, 8, 10, 11]), (108, [4, 8, 10, 11]), (149, [4, 8, 10, 11]), (181, [1, 2, 3, 4, 8, 9, 10, 11])] 400 h
theorem zwX1_setBy_4_108 {Q : Option zv → zz_M → Prop} {X : Nat → zz_M → Prop} {f : Nat → Nat × Nat} {S L : Nat → Nat → Int} {P : Nat → Nat → Option Nat} {x1 : Int} {x2 : Int} {x3 : Int} {x5 : Int} {x6 : Int} {x7 : Int} {x9 : Int} {t0 : Int} (h : R32 t0 ∧ ((t0 = 0 → R32 t0 ∧ ((t0 = 0 → (0 ≤ x9 ∧ x9 < 2147483648) ∧ ((0 ≤ x9 ∧ x9 < 2147483648) ∧ (((x1 = 0 ∨ x1 = 1) ∧ ((x9 % 2) = 0 ∨ (x9 % 2) = 1) ∧ ((1 + (x9 % 2)) = 1 + (x9 % 2) ∨ (1 + (x9 % 2)) = 0) ∧ (0 ≤ (x2 + 0) ∧ (x2 + 0) ≤ S 200 1) ∧ (0 ≤ (x3 + 1) ∧ (x3 + 1) ≤ S 200 1) ∧ (1 ≤ S 200 1 ∧ S 200 1 ≤ 6) ∧ S 200 1 - (x2 + 0) + (S 200 1 - (x3 + 1)) ≤ 3 ∧ ∃ wy_1 : Nat → Int, wyG wy_1 ∧ (∀ s_1 k_1, s_1 < 2 → k_1 < 4 → S (129 + s_1) k_1 = wy_1 (4 * s_1 + k_1)) ∧ fG (S (128 + (1 + (x9 % 2)).toNat)) ∧ meI S wy_1 (S 200 1) x1 ∧ (∀ S_1 : Nat → Nat → Int, (∀ j_1, j_1 ≠ 131 → S_1 j_1 = S j_1) → meI S_1 wy_1 (S 200 1) x1 → (zz_J zpX1_setBy_4 (zz_ret Q X 0 0) 149 [some (vr 100), some (vi x1), some (vi x2), some (vi x3), none, some (vi x5), some (vi x6), some (vl x7), none, some (vi x9), none, none] [vi (sbV wy_1 (S 200 1) x1 (S (128 + (1 + (x9 % 2)).toNat)) (x2 + 0) (x3 + 1))] ((2, f), S_1, L, P) (0, 0))))))) ∧ (¬ t0 = 0 → (0 ≤ x9 ∧ x9 < 2147483648) ∧ ((0 ≤ x9 ∧ x9 < 2147483648) ∧ (((x1 = 0 ∨ x1 = 1) ∧ ((x9 % 2) = 0 ∨ (x9 % 2) = 1) ∧ ((1 + (x9 % 2)) = 1 + (x9 % 2) ∨ (1 + (x9 % 2)) = 0) ∧ (0 ≤ (x2 + 0) ∧ (x2 + 0) ≤ S 200 1) ∧ (0 ≤ (x3 + 0) ∧ (x3 + 0) ≤ S 200 1) ∧ (1 ≤ S 200 1 ∧ S 200 1 ≤ 6) ∧ S 200 1 - (x2 + 0) + (S 200 1 - (x3 + 0)) ≤ 3 ∧ ∃ wy_2 : Nat → Int, wyG wy_2 ∧ (∀ s_2 k_2, s_2 < 2 → k_2 < 4 → S (129 + s_2) k_2 = wy_2 (4 * s_2 + k_2)) ∧ fG (S (128 + (1 + (x9 % 2)).toNat)) ∧ meI S wy_2 (S 200 1) x1 ∧ (∀ S_2 : Nat → Nat → Int, (∀ j_2, j_2 ≠ 131 → S_2 j_2 = S j_2) → meI S_2 wy_2 (S 200 1) x1 → (zz_J zpX1_setBy_4 (zz_ret Q X 0 0) 149 [some (vr 100), some (vi x1), some (vi x2), some (vi x3), none, some (vi x5), some (vi x6), some (vl x7), none, some (vi x9), none, none] [vi (sbV wy_2 (S 200 1) x1 (S (128 + (1 + (x9 % 2)).toNat)) (x2 + 0) (x3 + 0))] ((2, f), S_2, L, P) (0, 0))))))))) ∧ (¬ t0 = 0 → R32 t0 ∧ ((t0 = 0 → (0 ≤ x9 ∧ x9 < 2147483648) ∧ ((0 ≤ x9 ∧ x9 < 2147483648) ∧ (((x1 = 0 ∨ x1 = 1) ∧ ((x9 % 2) = 0 ∨ (x9 % 2) = 1) ∧ ((1 + (x9 % 2)) = 1 + (x9 % 2) ∨ (1 + (x9 % 2)) = 0) ∧ (0 ≤ (x2 + 1) ∧ (x2 + 1) ≤ S 200 1) ∧ (0 ≤ (x3 + 1) ∧ (x3 + 1) ≤ S 200 1) ∧ (1 ≤ S 200 1 ∧ S 200 1 ≤ 6) ∧ S 200 1 - (x2 + 1) + (S 200 1 - (x3 + 1)) ≤ 3 ∧ ∃ wy_3 : Nat → Int, wyG wy_3 ∧ (∀ s_3 k_3, s_3 < 2 → k_3 < 4 → S (129 + s_3) k_3 = wy_3 (4 * s_3 + k_3)) ∧ fG (S (128 + (1 + (x9 % 2)).toNat)) ∧ meI S wy_3 (S 200 1) x1 ∧ (∀ S_3 : Nat → Nat → Int, (∀ j_3, j_3 ≠ 131 → S_3 j_3 = S j_3) → meI S_3 wy_3 (S 200 1) x1 → (zz_J zpX1_setBy_4 (zz_ret Q X 0 0) 149 [some (vr 100), some (vi x1), some (vi x2), some (vi x3), none, some (vi x5), some (vi x6), some (vl x7), none, some (vi x9), none, none] [vi (sbV wy_3 (S 200 1) x1 (S (128 + (1 + (x9 % 2)).toNat)) (x2 + 1) (x3 + 1))] ((2, f), S_3, L, P) (0, 0))))))) ∧ (¬ t0 = 0 → (0 ≤ x9 ∧ x9 < 2147483648) ∧ ((0 ≤ x9 ∧ x9 < 2147483648) ∧ (((x1 = 0 ∨ x1 = 1) ∧ ((x9 % 2) = 0 ∨ (x9 % 2) = 1) ∧ ((1 + (x9 % 2)) = 1 + (x9 % 2) ∨ (1 + (x9 % 2)) = 0) ∧ (0 ≤ (x2 + 1) ∧ (x2 + 1) ≤ S 200 1) ∧ (0 ≤ (x3 + 0) ∧ (x3 + 0) ≤ S 200 1) ∧ (1 ≤ S 200 1 ∧ S 200 1 ≤ 6) ∧ S 200 1 - (x2 + 1) + (S 200 1 - (x3 + 0)) ≤ 3 ∧ ∃ wy_4 : Nat → Int, wyG wy_4 ∧ (∀ s_4 k_4, s_4 < 2 → k_4 < 4 → S (129 + s_4) k_4 = wy_4 (4 * s_4 + k_4)) ∧ fG (S (128 + (1 + (x9 % 2)).toNat)) ∧ meI S wy_4 (S 200 1) x1 ∧ (∀ S_4 : Nat → Nat → Int, (∀ j_4, j_4 ≠ 131 → S_4 j_4 = S j_4) → meI S_4 wy_4 (S 200 1) x1 → (zz_J zpX1_setBy_4 (zz_ret Q X 0 0) 149 [some (vr 100), some (vi x1), some (vi x2), some (vi x3), none, some (vi x5), some (vi x6), some (vl x7), none, some (vi x9), none, none] [vi (sbV wy_4 (S 200 1) x1 (S (128 + (1 + (x9 % 2)).toNat)) (x2 + 1) (x3 + 0))] ((2, f), S_4, L, P) (0, 0))))))))))) : zz_J zpX1_setBy_4 (zz_ret Q X 0 0) 108 [some (vr 100), some (vi x1), some (vi x2), some (vi x3), none, some (vi x5), some (vi x6), some (vl x7), none, some (vi x9), none, none] [vi t0] ((2, f), S, L, P) (0, 0) := zz_J.go [(91, [4, 8, 10, 11]), (108, [4, 8, 10, 11]), (149, [4, 8, 10, 11]), (181, [1, 2, 3, 4, 8, 9, 10, 11])] 400 h
theorem zwX1_setBy_4_149 {Q : Option zv → zz_M → Prop} {X : Nat → zz_M → Prop} {f : Nat → Nat × Nat} {S L : Nat → Nat → Int} {P : Nat → Nat → Option Nat} {x1 : Int} {x2 : Int} {x3 : Int} {x5 : Int} {x6 : Int} {x7 : Int} {x9 : Int} {t0 : Int} (h : ∃ t_ n_ : Nat, zsh ((2, f), S, L, P) 127 = (t_, n_) ∧ (t_ = 6 ∨ t_ = 7 ∨ t_ = 8) ∧ (n_ : Int) ≤ 2147483647 ∧ (0 ≤ x5 ∧ x5 < (n_ : Int)) ∧ (∀ b1 : Nat, zpt ((2, f), S, L, P) 127 x5.toNat = some b1 → ∃ n_ : Nat, zsh ((2, f), S, L, P) b1 = (2, n_) ∧ (n_ : Int) ≤ 2147483647 ∧ (0 ≤ x9 ∧ x9 < (n_ : Int)) ∧ (R32 (S b1 x9.toNat) ∧ (R32 t0 ∧ ((0 ≤ ((S b1 x9.toNat) * t0) ∧ ((S b1 x9.toNat) * t0) < 9223372036854775808) ∧ (zz_J zpX1_setBy_4 (zz_ret Q X 0 0) 91 [some (vr 100), some (vi x1), some (vi x2), some (vi x3), none, some (vi x5), some (vi x6), some (vl (x7 + (((S b1 x9.toNat) * t0) / 1000000000))), none, some (vi (x9 + 1)), none, none] [] ((2, f), S, L, P) (0, 0)))))) ∧ (zpt ((2, f), S, L, P) 127 x5.toNat = none → False)) : zz_J zpX1_setBy_4 (zz_ret Q X 0 0) 149 [some (vr 100), some (vi x1), some (vi x2), some (vi x3), none, some (vi x5), some (vi x6), some (vl x7), none, some (vi x9), none, none] [vi t0] ((2, f), S, L, P) (0, 0) := zz_J.go [(91, [4, 8, 10, 11]), (108, [4, 8, 10, 11]), (149, [4, 8, 10, 11]), (181, [1, 2, 3, 4, 8, 9, 10, 11])] 400 h
theorem zwX1_setBy_4_181 {Q : Option zv → zz_M → Prop} {X : Nat → zz_M → Prop} {f : Nat → Nat × Nat} {S L : Nat → Nat → Int} {P : Nat → Nat → Option Nat} {x5 : Int} {x6 : Int} {x7 : Int} (h : R32 x5 ∧ ((x5 ≤ 0 → R64 x7 ∧ (Q (some (vi x7)) ((2, f), S, L, P))) ∧ (¬ x5 ≤ 0 → R64 x7 ∧ ((0 ≤ x6 ∧ x6 < 98) ∧ (R64 x7 ∧ (Q (some (vi x7)) ((2, f), mm_up S 131 x6.toNat x7, L, P))))))) : zz_J zpX1_setBy_4 (zz_ret Q X 0 0) 181 [some (vr 100), none, none, none, none, some (vi x5), some (vi x6), some (vl x7), none, none, none, none] [] ((2, f), S, L, P) (0, 0) := zz_J.go [(91, [4, 8, 10, 11]), (108, [4, 8, 10, 11]), (149, [4, 8, 10, 11]), (181, [1, 2, 3, 4, 8, 9, 10, 11])] 400 h

theorem zmX1_setBy_4 (l : Launch) (hl : l.stackTraces = false) : mm_Spec l yX1_setBy (ws_ yX1_setBy cX1_setBy 12 (some .int)) (mm_rm 9 0 0) (zE zX1_setBy_4) := by
  refine zz_Met.J hl (by decide) (fun C G hnh => ztX1_setBy_4 G hnh) ?_
  rintro as ⟨⟨t_, f⟩, S, L, P⟩ Q X h
  unfold zX1_setBy_4 at h
  split at h
  rotate_left
  · exact h.elim
  rename_i h_ p a b s fr
  obtain ⟨e1_, e2_, h⟩ := mm_and2 h (fun q => q)
  cases mm_beq e1_
  cases mm_beq e2_
  try dsimp only at h
  refine ⟨rfl, ?_⟩
  obtain ⟨hp, hs, hfr, ha, hb, hG, hr, wy, hw, hrow, hF, hme, hq⟩ := h
  by_cases o : S 200 1 ≤ a ∨ S 200 1 ≤ b
  · have hq := hq S (fun _ _ => rfl) hme
    unfold sbV at hq
    rw [if_pos o] at hq
    have k1 : ¬ p = 0 → R32 b ∧ (R32 (S 200 1) ∧ ((b < (S 200 1) → Q (some (vi 0)) ((2, f), S, L, P)) ∧ (¬ b < (S 200 1) → Q (some (vi 1000000000)) ((2, f), S, L, P)))) := fun d => ⟨by omega, by omega, fun e => by rw [if_neg (by rw [if_neg d]; omega)] at hq; exact hq, fun e => by rw [if_pos (by rw [if_neg d]; omega)] at hq; exact hq⟩
    have k0 : p = 0 → R32 a ∧ (R32 (S 200 1) ∧ ((a < (S 200 1) → Q (some (vi 0)) ((2, f), S, L, P)) ∧ (¬ a < (S 200 1) → Q (some (vi 1000000000)) ((2, f), S, L, P)))) := fun d => ⟨by omega, by omega, fun e => by rw [if_neg (by rw [if_pos d]; omega)] at hq; exact hq, fun e => by rw [if_pos (by rw [if_pos d]; omega)] at hq; exact hq⟩
    exact zwX1_setBy_4_0 ⟨by omega, by omega, fun c => ⟨by omega, k1, k0⟩, fun c => ⟨by omega, by omega, fun e => absurd o (by omega), fun e => ⟨by omega, k1, k0⟩⟩⟩
  obtain ⟨a', rfl⟩ : ∃ a' : Nat, a = (a' : Int) := ⟨a.toNat, by omega⟩
  obtain ⟨b', rfl⟩ : ∃ b' : Nat, b = (b' : Int) := ⟨b.toNat, by omega⟩
  obtain ⟨s', hs', es⟩ : ∃ s' : Nat, s' < 2 ∧ s = (s' : Int) := ⟨s.toNat, by omega, by omega⟩
  obtain ⟨r', hr', er⟩ : ∃ r' : Nat, r' < 3 ∧ fr = (r' : Int) := ⟨fr.toNat, by omega, by omega⟩
  subst es er
  have hcv := fun k => bcV_in (G := S 200 1) (p := p) (a := (a' : Int)) (b := (b' : Int)) hw k
  rw [Int.toNat_natCast] at hF hq
  have sin := sbS_in hF hcv
  have hq : ∀ S_ : Nat → Nat → Int, (∀ j, j ≠ 131 → S_ j = S j) → meI S_ wy (S 200 1) p → Q (some (vi (sbS (S (128 + r')) (bcV wy (S 200 1) p a' b') 4))) ((2, f), S_, L, P) := fun S_ e1 e2 => by
    have hq := hq S_ e1 e2
    unfold sbV at hq
    rw [if_neg o] at hq
    exact hq
  have est : (1 : Int) + s' = r' → sbS (S (128 + r')) (bcV wy (S 200 1) p a' b') 4 = stO wy (S 200 1) p 12 a' b' s' := fun e => by
    have e2 : r' = 1 + s' := by omega
    have := sbV_st (wy := wy) (G := S 200 1) (p := p) (a := (a' : Int)) (b := (b' : Int)) (s := s') (F := S (128 + r')) (fun k hk => by rw [e2, show 128 + (1 + s') = 129 + s' by omega]; exact hrow s' k hs' hk) (by omega) (by omega) (by omega)
    unfold sbV at this
    rw [if_neg o] at this
    exact this
  have wy4 : ∀ s : Nat, s < 2 → fG (S (129 + s)) := fun s hs => by
    refine ⟨fun k hk => by rw [hrow s k hs hk]; exact hw.1 _ (by omega), ?_⟩
    rw [hrow s 0 hs (by decide), hrow s 1 hs (by decide), hrow s 2 hs (by decide), hrow s 3 hs (by decide)]
    have : s = 0 ∨ s = 1 := by omega
    rcases this with e | e <;> subst e
    · exact hw.2.1
    · exact hw.2.2
  have t91 : ∀ (m k : Nat) (T : Nat → Nat → Int), k + m = 4 → (∀ j, j ≠ 131 → T j = S j) → meI T wy (S 200 1) p → zz_J zpX1_setBy_4 (zz_ret Q X 0 0) 91 [some (vr 100), some (vi p), some (vi (a' : Int)), some (vi (b' : Int)), none, some (vi (r' : Int)), some (vi ((((7 * (a' : Int)) + b') * 2) + s')), some (vl (sbS (S (128 + r')) (bcV wy (S 200 1) p a' b') k)), none, some (vi (k : Int)), none, none] [] ((2, f), T, L, P) (0, 0) := by
    intro m
    induction m with
    | zero =>
      intro k T hk eT mT
      have k4 : k = 4 := by omega
      subst k4
      have s4 := sin 4 (by decide)
      have R4 : R64 (sbS (S (128 + r')) (bcV wy (S 200 1) p a' b') 4) := by omega
      refine zwX1_setBy_4_91 ⟨by omega, fun _ => zwX1_setBy_4_181 ⟨by omega, fun c => ⟨R4, hq T eT mT⟩, fun c => ⟨R4, by omega, R4, ?_⟩⟩, fun d => absurd (by omega) d⟩
      have ei : ((((7 * (a' : Int)) + b') * 2) + s').toNat = (7 * a' + b') * 2 + s' := by omega
      have e1 := est (by omega)
      refine hq _ (fun j hj => ?_) ?_
      · funext x
        rw [up_eq, if_neg (by omega), eT j hj]
      · rw [ei, e1]
        exact mT.up (by omega) (by omega) hs'
    | succ m ih =>
      intro k T hk eT mT
      have k4 : k < 4 := by omega
      have eG : T 200 1 = S 200 1 := by rw [eT 200 (by decide)]
      have t149 : ∀ (U : Nat → Nat → Int), (∀ j, j ≠ 131 → U j = S j) → meI U wy (S 200 1) p → zz_J zpX1_setBy_4 (zz_ret Q X 0 0) 149 [some (vr 100), some (vi p), some (vi (a' : Int)), some (vi (b' : Int)), none, some (vi (r' : Int)), some (vi ((((7 * (a' : Int)) + b') * 2) + s')), some (vl (sbS (S (128 + r')) (bcV wy (S 200 1) p a' b') k)), none, some (vi (k : Int)), none, none] [vi (bcV wy (S 200 1) p a' b' k)] ((2, f), U, L, P) (0, 0) := by
        intro U eU mU
        obtain ⟨w1, w2⟩ := ways_at (f := f) (S := U) (L := L) (P := P) hr'
        have fk := hF.1 k k4
        have ck := hcv k
        have m9 := mul_sure fk.1 ck.1 ck.2
        refine zwX1_setBy_4_149 ⟨6, 3, rfl, Or.inl rfl, by decide, by omega, fun b1 hb1 => ?_, fun hb1 => ?_⟩
        · rw [Int.toNat_natCast, w1] at hb1
          cases hb1
          refine ⟨4, w2, by decide, by omega, ?_⟩
          rw [Int.toNat_natCast, eU (128 + r') (by omega)]
          exact ⟨by omega, by omega, by omega, ih (k + 1) U (by omega) eU mU⟩
        · rw [Int.toNat_natCast, w1] at hb1
          cases hb1
      have rowT : ∀ s_ k_, s_ < 2 → k_ < 4 → T (129 + s_) k_ = wy (4 * s_ + k_) := fun s_ k_ g1 g2 => by rw [eT (129 + s_) (by omega)]; exact hrow s_ k_ g1 g2
      have mk : ((k : Int) % 2 = 0 ∨ (k : Int) % 2 = 1) := by omega
      have ek2 : ((k : Int) % 2).toNat = k % 2 := by omega
      have ek3 : 128 + (1 + (k : Int) % 2).toNat = 129 + k % 2 := by omega
      have nxt : ∀ x y : Int, (x ≤ S 200 1 ∧ y ≤ S 200 1 ∧ S 200 1 - x + (S 200 1 - y) ≤ 12) → stO wy (S 200 1) p 12 x y (k % 2) = bcV wy (S 200 1) p a' b' k → ∀ S_ : Nat → Nat → Int, (∀ j, j ≠ 131 → S_ j = T j) → meI S_ wy (T 200 1) p → zz_J zpX1_setBy_4 (zz_ret Q X 0 0) 149 [some (vr 100), some (vi p), some (vi (a' : Int)), some (vi (b' : Int)), none, some (vi (r' : Int)), some (vi ((((7 * (a' : Int)) + b') * 2) + s')), some (vl (sbS (S (128 + r')) (bcV wy (S 200 1) p a' b') k)), none, some (vi (k : Int)), none, none] [vi (sbV wy (T 200 1) p (T (128 + (1 + (k : Int) % 2).toNat)) x y)] ((2, f), S_, L, P) (0, 0) := by
        intro x y hxy e S_ e1 e2
        rw [eG] at e2 ⊢
        rw [ek3, sbV_st (s := k % 2) (fun j hj => rowT (k % 2) j (by omega) hj) hxy.1 hxy.2.1 hxy.2.2, e]
        exact t149 S_ (fun j hj => by rw [e1 j hj, eT j hj]) e2
      have fGk : fG (T (128 + (1 + (k : Int) % 2).toNat)) := by
        rw [ek3, eT (129 + k % 2) (by omega)]
        exact wy4 (k % 2) (by omega)
      refine zwX1_setBy_4_91 ⟨by omega, fun d => absurd d (by omega), fun _ => ⟨by omega, fun c => zwX1_setBy_4_108 ⟨by decide, fun _ => ⟨by decide, fun _ => ⟨by omega, by omega, hp, mk, Or.inl rfl, by omega, by omega, by omega, by omega, wy, hw, rowT, fGk, by rw [eG]; exact mT, ?_⟩, fun d => absurd rfl d⟩, fun d => absurd rfl d⟩, fun c => zwX1_setBy_4_108 ⟨by decide, fun d => absurd d (by decide), fun _ => ⟨by decide, fun d => absurd d (by decide), fun _ => ⟨by omega, by omega, hp, mk, Or.inl rfl, by omega, by omega, by omega, by omega, wy, hw, rowT, fGk, by rw [eG]; exact mT, ?_⟩⟩⟩⟩⟩
      · refine nxt _ _ (by omega) ?_
        unfold bcV
        rw [if_neg (by omega), if_neg (by omega), Int.add_zero]
      · refine nxt _ _ (by omega) ?_
        unfold bcV
        rw [if_pos (by omega), if_pos (by omega), Int.add_zero]
  have t0 := t91 4 0 S rfl (fun _ _ => rfl) hme
  refine zwX1_setBy_4_0 ⟨by omega, by omega, fun c => absurd (Or.inl c) o, fun c => ⟨by omega, by omega, fun c2 => ⟨by omega, fun d => t0, fun d => ⟨by omega, ?_⟩⟩, fun c2 => absurd (by omega) o⟩⟩
  have ei : ((((7 * (a' : Int)) + b') * 2) + s').toNat = (7 * a' + b') * 2 + s' := by omega
  have me := hme a' b' s' (by omega) (by omega) hs'
  have hin := stO_in (G := S 200 1) (p := p) hw 12 (a' : Int) (b' : Int) s' hs'
  rw [ei]
  refine ⟨by rcases me with e | e <;> rw [e] <;> omega, fun _ => t0, fun d2 => ⟨by omega, ?_⟩⟩
  have e2 := me.resolve_left (by omega)
  rw [e2, ← est (by omega)]
  exact hq S (fun _ _ => rfl) hme
def zX1_setBy_5 : zz_Sp := fun as M Q X => match as with
  | [.inr (.inr (some h_)), .inl p, .inl a, .inl b, .inl s, .inl fr] => bif Nat.beq h_ 100 && Nat.beq M.1.1 2 then ((p = 0 ∨ p = 1) ∧ (s = 0 ∨ s = 1) ∧ (fr = 1 + s ∨ fr = 0) ∧ (0 ≤ a ∧ a ≤ M.2.1 200 1) ∧ (0 ≤ b ∧ b ≤ M.2.1 200 1) ∧ (1 ≤ M.2.1 200 1 ∧ M.2.1 200 1 ≤ 6) ∧ M.2.1 200 1 - a + (M.2.1 200 1 - b) ≤ 5 ∧ ∃ wy_ : Nat → Int, wyG wy_ ∧ (∀ s_ k_, s_ < 2 → k_ < 4 → M.2.1 (129 + s_) k_ = wy_ (4 * s_ + k_)) ∧ fG (M.2.1 (128 + fr.toNat)) ∧ meI M.2.1 wy_ (M.2.1 200 1) p ∧ (∀ S_ : Nat → Nat → Int, (∀ j_, j_ ≠ 131 → S_ j_ = M.2.1 j_) → meI S_ wy_ (M.2.1 200 1) p → Q (some (vi (sbV wy_ (M.2.1 200 1) p (M.2.1 (128 + fr.toNat)) a b))) ((2, M.1.2), S_, M.2.2.1, M.2.2.2))) else False
  | _ => False

def zpX1_setBy_5 : zz_P := [(0, zo_ild 1 2), (1, zo_ald 2 0), (2, zo_get 5 0 2 0), (5, zo_get 8 1 0 1), (8, zo_cge false false 11 22), (11, zo_ild 12 3), (12, zo_ald 13 0), (13, zo_get 16 0 2 0), (16, zo_get 19 1 0 1), (19, zo_clt false false 22 49), (22, zo_ild 23 1), (23, zo_ifne false 26 30), (26, zo_ild 27 2), (27, zo_goto 31), (30, zo_ild 31 3), (31, zo_ald 32 0), (32, zo_get 35 0 2 0), (35, zo_get 38 1 0 1), (38, zo_clt false false 41 47), (41, zo_c 44 (vi 1000000000)), (44, zo_goto 48), (47, zo_c 48 (vi 0)), (48, zo_iret), (49, zo_c 51 (vi 7)), (51, zo_ild 52 2), (52, zo_imul 53), (53, zo_ild 54 3), (54, zo_iadd 55), (55, zo_c 56 (vi 2)), (56, zo_imul 57), (57, zo_ild 59 4), (59, zo_iadd 60), (60, zo_ist 62 6), (62, zo_ild 64 5), (64, zo_ifle false 67 85), (67, zo_ald 68 0), (68, zo_get 71 0 2 15), (71, zo_ild 73 6), (73, zo_iald 74), (74, zo_iflt false 77 85), (77, zo_ald 78 0), (78, zo_get 81 0 2 15), (81, zo_ild 83 6), (83, zo_iald 84), (84, zo_iret), (85, zo_c 86 (vl 0)), (86, zo_lst 88 7), (88, zo_c 89 (vi 0)), (89, zo_ist 91 9), (91, zo_ild 93 9), (93, zo_c 94 (vi 4)), (94, zo_cge false true 97 181), (97, zo_ild 99 9), (99, zo_c 100 (vi 2)), (100, zo_cge false true 103 107), (103, zo_c 104 (vi 1)), (104, zo_goto 108), (107, zo_c 108 (vi 0)), (108, zo_ist 110 10), (110, zo_ald 111 0), (111, zo_ild 112 1), (112, zo_ild 113 2), (113, zo_ild 115 10), (115, zo_ifeq false 118 122), (118, zo_c 119 (vi 1)), (119, zo_goto 123), (122, zo_c 123 (vi 0)), (123, zo_iadd 124), (124, zo_ild 125 3), (125, zo_ild 127 10), (127, zo_ifeq false 130 134), (130, zo_c 131 (vi 0)), (131, zo_goto 135), (134, zo_c 135 (vi 1)), (135, zo_iadd 136), (136, zo_ild 138 9), (138, zo_c 139 (vi 2)), (139, zo_irem 140), (140, zo_c 141 (vi 1)), (141, zo_ild 143 9), (143, zo_c 144 (vi 2)), (144, zo_irem 145), (145, zo_iadd 146), (146, zo_callv 149 6 0 zX1_setBy_4), (149, zo_ist 151 11), (151, zo_lld 153 7), (153, zo_ald 154 0), (154, zo_get 157 0 2 14), (157, zo_ild 159 5), (159, zo_aald 160), (160, zo_ild 162 9), (162, zo_ialp 163), (163, zo_i2l 164), (164, zo_ild 166 11), (166, zo_i2l 167), (167, zo_lmul 168), (168, zo_c 171 (vl 1000000000)), (171, zo_ldiv 172), (172, zo_ladd 173), (173, zo_lst 175 7), (175, zo_inc 178 9 1), (178, zo_goto 91), (181, zo_ild 183 5), (183, zo_ifle false 186 196), (186, zo_ald 187 0), (187, zo_get 190 0 2 15), (190, zo_ild 192 6), (192, zo_lld 194 7), (194, zo_l2i 195), (195, zo_iasd 196), (196, zo_lld 198 7), (198, zo_l2i 199), (199, zo_iret)]
theorem ztX1_setBy_5 {C : mm_C} (G : mm_G C RX1 cX1_setBy (some .int) 12 (mm_rm 10 0 0)) (hnh : mm_nh C) : zz_OKs C zpX1_setBy_5 :=
  ⟨zz_of (ok_iload_n G dX1_setBy_0 rfl rfl) (z_ild _ _),
   zz_of (ok_aload_n G dX1_setBy_1 rfl rfl) (z_ald _ _),
   zz_of (ok_get G (nx := 5) (ci := 0) (kd := 2) (k := 0) (RX1, TX1, 19) rfl (by decide) rfl q399 dX1_setBy_2 rfl) (z_get _ _ _ _),
   zz_of (ok_getN G (nx := 8) (ci := 1) (kd := 0) (k := 1) (RX2, TX2, 11) rfl (by decide) rfl q218 dX1_setBy_5 rfl) (z_get _ _ _ _),
   zz_of (ok_cge G dX1_setBy_8 rfl rfl) (z_cge _ _ _ _),
   zz_of (ok_iload_n G dX1_setBy_11 rfl rfl) (z_ild _ _),
   zz_of (ok_aload_n G dX1_setBy_12 rfl rfl) (z_ald _ _),
   zz_of (ok_get G (nx := 16) (ci := 0) (kd := 2) (k := 0) (RX1, TX1, 19) rfl (by decide) rfl q399 dX1_setBy_13 rfl) (z_get _ _ _ _),
   zz_of (ok_getN G (nx := 19) (ci := 1) (kd := 0) (k := 1) (RX2, TX2, 11) rfl (by decide) rfl q218 dX1_setBy_16 rfl) (z_get _ _ _ _),
   zz_of (ok_clt G dX1_setBy_19 rfl rfl) (z_clt _ _ _ _),
   zz_of (ok_iload_n G dX1_setBy_22 rfl rfl) (z_ild _ _),
   zz_of (ok_ifne G dX1_setBy_23 rfl rfl) (z_ifne _ _ _),
   zz_of (ok_iload_n G dX1_setBy_26 rfl rfl) (z_ild _ _),
   zz_of (ok_goto G dX1_setBy_27 rfl) (z_goto _),
   zz_of (ok_iload_n G dX1_setBy_30 rfl rfl) (z_ild _ _),
   zz_of (ok_aload_n G dX1_setBy_31 rfl rfl) (z_ald _ _),
   zz_of (ok_get G (nx := 35) (ci := 0) (kd := 2) (k := 0) (RX1, TX1, 19) rfl (by decide) rfl q399 dX1_setBy_32 rfl) (z_get _ _ _ _),
   zz_of (ok_getN G (nx := 38) (ci := 1) (kd := 0) (k := 1) (RX2, TX2, 11) rfl (by decide) rfl q218 dX1_setBy_35 rfl) (z_get _ _ _ _),
   zz_of (ok_clt G dX1_setBy_38 rfl rfl) (z_clt _ _ _ _),
   zz_of (ok_ldcw G (v := 1000000000) q1700 dX1_setBy_41 rfl) (z_cn 44 1000000000),
   zz_of (ok_goto G dX1_setBy_44 rfl) (z_goto _),
   zz_of (ok_iconst G (v := 0) dX1_setBy_47 (by decide) rfl) (z_cn 48 0),
   zz_of (ok_iret G dX1_setBy_48) (z_iret),
   zz_of (ok_bipush G (v := 7) dX1_setBy_49 (by decide) rfl) (z_cn 51 7),
   zz_of (ok_iload_n G dX1_setBy_51 rfl rfl) (z_ild _ _),
   zz_of (ok_imul G dX1_setBy_52 rfl) (z_imul _),
   zz_of (ok_iload_n G dX1_setBy_53 rfl rfl) (z_ild _ _),
   zz_of (ok_iadd G dX1_setBy_54 rfl) (z_iadd _),
   zz_of (ok_iconst G (v := 2) dX1_setBy_55 (by decide) rfl) (z_cn 56 2),
   zz_of (ok_imul G dX1_setBy_56 rfl) (z_imul _),
   zz_of (ok_iload G dX1_setBy_57 rfl) (z_ild _ _),
   zz_of (ok_iadd G dX1_setBy_59 rfl) (z_iadd _),
   zz_of (ok_istore G dX1_setBy_60 rfl (by decide)) (z_ist _ _),
   zz_of (ok_iload G dX1_setBy_62 rfl) (z_ild _ _),
   zz_of (ok_ifle G dX1_setBy_64 rfl rfl) (z_ifle _ _ _),
   zz_of (ok_aload_n G dX1_setBy_67 rfl rfl) (z_ald _ _),
   zz_of (ok_get G (nx := 71) (ci := 0) (kd := 2) (k := 15) (RX1, TX1, 19) rfl (by decide) rfl q426 dX1_setBy_68 rfl) (z_get _ _ _ _),
   zz_of (ok_iload G dX1_setBy_71 rfl) (z_ild _ _),
   zz_of (ok_iald G dX1_setBy_73 rfl) (z_iald _),
   zz_of (ok_iflt G dX1_setBy_74 rfl rfl) (z_iflt _ _ _),
   zz_of (ok_aload_n G dX1_setBy_77 rfl rfl) (z_ald _ _),
   zz_of (ok_get G (nx := 81) (ci := 0) (kd := 2) (k := 15) (RX1, TX1, 19) rfl (by decide) rfl q426 dX1_setBy_78 rfl) (z_get _ _ _ _),
   zz_of (ok_iload G dX1_setBy_81 rfl) (z_ild _ _),
   zz_of (ok_iald G dX1_setBy_83 rfl) (z_iald _),
   zz_of (ok_iret G dX1_setBy_84) (z_iret),
   zz_of (ok_lconst G (v := 0) dX1_setBy_85 (by decide) rfl) (z_cl 86 0),
   zz_of (ok_lstore G dX1_setBy_86 rfl (by decide)) (z_lst _ _),
   zz_of (ok_iconst G (v := 0) dX1_setBy_88 (by decide) rfl) (z_cn 89 0),
   zz_of (ok_istore G dX1_setBy_89 rfl (by decide)) (z_ist _ _),
   zz_of (ok_iload G dX1_setBy_91 rfl) (z_ild _ _),
   zz_of (ok_iconst G (v := 4) dX1_setBy_93 (by decide) rfl) (z_cn 94 4),
   zz_of (ok_cge G dX1_setBy_94 rfl rfl) (z_cge _ _ _ _),
   zz_of (ok_iload G dX1_setBy_97 rfl) (z_ild _ _),
   zz_of (ok_iconst G (v := 2) dX1_setBy_99 (by decide) rfl) (z_cn 100 2),
   zz_of (ok_cge G dX1_setBy_100 rfl rfl) (z_cge _ _ _ _),
   zz_of (ok_iconst G (v := 1) dX1_setBy_103 (by decide) rfl) (z_cn 104 1),
   zz_of (ok_goto G dX1_setBy_104 rfl) (z_goto _),
   zz_of (ok_iconst G (v := 0) dX1_setBy_107 (by decide) rfl) (z_cn 108 0),
   zz_of (ok_istore G dX1_setBy_108 rfl (by decide)) (z_ist _ _),
   zz_of (ok_aload_n G dX1_setBy_110 rfl rfl) (z_ald _ _),
   zz_of (ok_iload_n G dX1_setBy_111 rfl rfl) (z_ild _ _),
   zz_of (ok_iload_n G dX1_setBy_112 rfl rfl) (z_ild _ _),
   zz_of (ok_iload G dX1_setBy_113 rfl) (z_ild _ _),
   zz_of (ok_ifeq G dX1_setBy_115 rfl rfl) (z_ifeq _ _ _),
   zz_of (ok_iconst G (v := 1) dX1_setBy_118 (by decide) rfl) (z_cn 119 1),
   zz_of (ok_goto G dX1_setBy_119 rfl) (z_goto _),
   zz_of (ok_iconst G (v := 0) dX1_setBy_122 (by decide) rfl) (z_cn 123 0),
   zz_of (ok_iadd G dX1_setBy_123 rfl) (z_iadd _),
   zz_of (ok_iload_n G dX1_setBy_124 rfl rfl) (z_ild _ _),
   zz_of (ok_iload G dX1_setBy_125 rfl) (z_ild _ _),
   zz_of (ok_ifeq G dX1_setBy_127 rfl rfl) (z_ifeq _ _ _),
   zz_of (ok_iconst G (v := 0) dX1_setBy_130 (by decide) rfl) (z_cn 131 0),
   zz_of (ok_goto G dX1_setBy_131 rfl) (z_goto _),
   zz_of (ok_iconst G (v := 1) dX1_setBy_134 (by decide) rfl) (z_cn 135 1),
   zz_of (ok_iadd G dX1_setBy_135 rfl) (z_iadd _),
   zz_of (ok_iload G dX1_setBy_136 rfl) (z_ild _ _),
   zz_of (ok_iconst G (v := 2) dX1_setBy_138 (by decide) rfl) (z_cn 139 2),
   zz_of (ok_irem G dX1_setBy_139 rfl) (z_irem _),
   zz_of (ok_iconst G (v := 1) dX1_setBy_140 (by decide) rfl) (z_cn 141 1),
   zz_of (ok_iload G dX1_setBy_141 rfl) (z_ild _ _),
   zz_of (ok_iconst G (v := 2) dX1_setBy_143 (by decide) rfl) (z_cn 144 2),
   zz_of (ok_irem G dX1_setBy_144 rfl) (z_irem _),
   zz_of (ok_iadd G dX1_setBy_145 rfl) (z_iadd _),
   zz_of (ok_callv G hnh (zmX1_setBy_4 _ G.hst) rfl rfl (RX1, TX1, 19) rfl q1706 q1708 qs33 q82 q1709 (by decide +kernel) ⟨by decide, by decide⟩ dX1_setBy_146 rfl) (z_callv _ _ _ _),
   zz_of (ok_istore G dX1_setBy_149 rfl (by decide)) (z_ist _ _),
   zz_of (ok_lload G dX1_setBy_151 rfl) (z_lld _ _),
   zz_of (ok_aload_n G dX1_setBy_153 rfl rfl) (z_ald _ _),
   zz_of (ok_get G (nx := 157) (ci := 0) (kd := 2) (k := 14) (RX1, TX1, 19) rfl (by decide) rfl q425 dX1_setBy_154 rfl) (z_get _ _ _ _),
   zz_of (ok_iload G dX1_setBy_157 rfl) (z_ild _ _),
   zz_of (ok_aald G dX1_setBy_159 rfl) (z_aald _),
   zz_of (ok_iload G dX1_setBy_160 rfl) (z_ild _ _),
   zz_of (ok_iald G dX1_setBy_162 rfl) (z_ialp _),
   zz_of (ok_i2l G dX1_setBy_163 rfl) (z_i2l _),
   zz_of (ok_iload G dX1_setBy_164 rfl) (z_ild _ _),
   zz_of (ok_i2l G dX1_setBy_166 rfl) (z_i2l _),
   zz_of (ok_lmul G dX1_setBy_167 rfl) (z_lmul _),
   zz_of (ok_ldc2 G (v := 1000000000) q1710 dX1_setBy_168 rfl) (z_cl 171 1000000000),
   zz_of (ok_ldiv G dX1_setBy_171 rfl) (z_ldiv _),
   zz_of (ok_ladd G dX1_setBy_172 rfl) (z_ladd _),
   zz_of (ok_lstore G dX1_setBy_173 rfl (by decide)) (z_lst _ _),
   zz_of (ok_iinc G (v := 1) dX1_setBy_175 (by decide) rfl (by decide)) (z_incn 178 9 1),
   zz_of (ok_goto G dX1_setBy_178 rfl) (z_goto _),
   zz_of (ok_iload G dX1_setBy_181 rfl) (z_ild _ _),
   zz_of (ok_ifle G dX1_setBy_183 rfl rfl) (z_ifle _ _ _),
   zz_of (ok_aload_n G dX1_setBy_186 rfl rfl) (z_ald _ _),
   zz_of (ok_get G (nx := 190) (ci := 0) (kd := 2) (k := 15) (RX1, TX1, 19) rfl (by decide) rfl q426 dX1_setBy_187 rfl) (z_get _ _ _ _),
   zz_of (ok_iload G dX1_setBy_190 rfl) (z_ild _ _),
   zz_of (ok_lload G dX1_setBy_192 rfl) (z_lld _ _),
   zz_of (ok_l2i G dX1_setBy_194 rfl) (z_l2i _),
   zz_of (ok_iast G dX1_setBy_195 rfl) (z_iasd _),
   zz_of (ok_lload G dX1_setBy_196 rfl) (z_lld _ _),
   zz_of (ok_l2i G dX1_setBy_198 rfl) (z_l2i _),
   zz_of (ok_iret G dX1_setBy_199) (z_iret), trivial⟩

theorem zwX1_setBy_5_0 {Q : Option zv → zz_M → Prop} {X : Nat → zz_M → Prop} {f : Nat → Nat × Nat} {S L : Nat → Nat → Int} {P : Nat → Nat → Option Nat} {p : Int} {a : Int} {b : Int} {s : Int} {fr : Int} (h : R32 a ∧ (R32 (S 200 1) ∧ (((S 200 1) ≤ a → R32 p ∧ ((¬ p = 0 → R32 b ∧ (R32 (S 200 1) ∧ ((b < (S 200 1) → Q (some (vi 0)) ((2, f), S, L, P)) ∧ (¬ b < (S 200 1) → Q (some (vi 1000000000)) ((2, f), S, L, P))))) ∧ (p = 0 → R32 a ∧ (R32 (S 200 1) ∧ ((a < (S 200 1) → Q (some (vi 0)) ((2, f), S, L, P)) ∧ (¬ a < (S 200 1) → Q (some (vi 1000000000)) ((2, f), S, L, P))))))) ∧ (¬ (S 200 1) ≤ a → R32 b ∧ (R32 (S 200 1) ∧ ((b < (S 200 1) → R32 fr ∧ ((fr ≤ 0 → zz_J zpX1_setBy_5 (zz_ret Q X 0 0) 91 [some (vr 100), some (vi p), some (vi a), some (vi b), none, some (vi fr), some (vi ((((7 * a) + b) * 2) + s)), some (vl 0), none, some (vi 0), none, none] [] ((2, f), S, L, P) (0, 0)) ∧ (¬ fr ≤ 0 → (0 ≤ ((((7 * a) + b) * 2) + s) ∧ ((((7 * a) + b) * 2) + s) < 98) ∧ (R32 (S 131 (((((7 * a) + b) * 2) + s).toNat)) ∧ (((S 131 (((((7 * a) + b) * 2) + s).toNat)) < 0 → zz_J zpX1_setBy_5 (zz_ret Q X 0 0) 91 [some (vr 100), some (vi p), some (vi a), some (vi b), none, some (vi fr), some (vi ((((7 * a) + b) * 2) + s)), some (vl 0), none, some (vi 0), none, none] [] ((2, f), S, L, P) (0, 0)) ∧ (¬ (S 131 (((((7 * a) + b) * 2) + s).toNat)) < 0 → (0 ≤ ((((7 * a) + b) * 2) + s) ∧ ((((7 * a) + b) * 2) + s) < 98) ∧ (Q (some (vi (S 131 (((((7 * a) + b) * 2) + s).toNat)))) ((2, f), S, L, P)))))))) ∧ (¬ b < (S 200 1) → R32 p ∧ ((¬ p = 0 → R32 b ∧ (R32 (S 200 1) ∧ ((b < (S 200 1) → Q (some (vi 0)) ((2, f), S, L, P)) ∧ (¬ b < (S 200 1) → Q (some (vi 1000000000)) ((2, f), S, L, P))))) ∧ (p = 0 → R32 a ∧ (R32 (S 200 1) ∧ ((a < (S 200 1) → Q (some (vi 0)) ((2, f), S, L, P)) ∧ (¬ a < (S 200 1) → Q (some (vi 1000000000)) ((2, f), S, L, P))))))))))))) : zz_J zpX1_setBy_5 (zz_ret Q X 0 0) 0 [some (vr 100), some (vi p), some (vi a), some (vi b), some (vi s), some (vi fr), none, none, none, none, none, none] [] ((2, f), S, L, P) (0, 0) := zz_J.go [(91, [4, 8, 10, 11]), (108, [4, 8, 10, 11]), (149, [4, 8, 10, 11]), (181, [1, 2, 3, 4, 8, 9, 10, 11])] 400 h
theorem zwX1_setBy_5_91 {Q : Option zv → zz_M → Prop} {X : Nat → zz_M → Prop} {f : Nat → Nat × Nat} {S L : Nat → Nat → Int} {P : Nat → Nat → Option Nat} {x1 : Int} {x2 : Int} {x3 : Int} {x5 : Int} {x6 : Int} {x7 : Int} {x9 : Int} (h : R32 x9 ∧ ((4 ≤ x9 → zz_J zpX1_setBy_5 (zz_ret Q X 0 0) 181 [some (vr 100), none, none, none, none, some (vi x5), some (vi x6), some (vl x7), none, none, none, none] [] ((2, f), S, L, P) (0, 0)) ∧ (¬ 4 ≤ x9 → R32 x9 ∧ ((2 ≤ x9 → zz_J zpX1_setBy_5 (zz_ret Q X 0 0) 108 [some (vr 100), some (vi x1), some (vi x2), some (vi x3), none, some (vi x5), some (vi x6), some (vl x7), none, some (vi x9), none, none] [vi 0] ((2, f), S, L, P) (0, 0)) ∧ (¬ 2 ≤ x9 → zz_J zpX1_setBy_5 (zz_ret Q X 0 0) 108 [some (vr 100), some (vi x1), some (vi x2), some (vi x3), none, some (vi x5), some (vi x6), some (vl x7), none, some (vi x9), none, none] [vi 1] ((2, f), S, L, P) (0, 0)))))) : zz_J zpX1_setBy_5 (zz_ret Q X 0 0) 91 [some (vr 100), some (vi x1), some (vi x2), some (vi x3), none, some (vi x5), some (vi x6), some (vl x7), none, some (vi x9), none, none] [] ((2, f), S, L, P) (0, 0) := zz_J.go [(91, [4, 8, 10, 11]), (108, [4, 8, 10, 11]), (149, [4, 8, 10, 11]), (181, [1, 2, 3, 4, 8, 9, 10, 11])] 400 h
theorem zwX1_setBy_5_108 {Q : Option zv → zz_M → Prop} {X : Nat → zz_M → Prop} {f : Nat → Nat × Nat} {S L : Nat → Nat → Int} {P : Nat → Nat → Option Nat} {x1 : Int} {x2 : Int} {x3 : Int} {x5 : Int} {x6 : Int} {x7 : Int} {x9 : Int} {t0 : Int} (h : R32 t0 ∧ ((t0 = 0 → R32 t0 ∧ ((t0 = 0 → (0 ≤ x9 ∧ x9 < 2147483648) ∧ ((0 ≤ x9 ∧ x9 < 2147483648) ∧ (((x1 = 0 ∨ x1 = 1) ∧ ((x9 % 2) = 0 ∨ (x9 % 2) = 1) ∧ ((1 + (x9 % 2)) = 1 + (x9 % 2) ∨ (1 + (x9 % 2)) = 0) ∧ (0 ≤ (x2 + 0) ∧ (x2 + 0) ≤ S 200 1) ∧ (0 ≤ (x3 + 1) ∧ (x3 + 1) ≤ S 200 1) ∧ (1 ≤ S 200 1 ∧ S 200 1 ≤ 6) ∧ S 200 1 - (x2 + 0) + (S 200 1 - (x3 + 1)) ≤ 4 ∧ ∃ wy_1 : Nat → Int, wyG wy_1 ∧ (∀ s_1 k_1, s_1 < 2 → k_1 < 4 → S (129 + s_1) k_1 = wy_1 (4 * s_1 + k_1)) ∧ fG (S (128 + (1 + (x9 % 2)).toNat)) ∧ meI S wy_1 (S 200 1) x1 ∧ (∀ S_1 : Nat → Nat → Int, (∀ j_1, j_1 ≠ 131 → S_1 j_1 = S j_1) → meI S_1 wy_1 (S 200 1) x1 → (zz_J zpX1_setBy_5 (zz_ret Q X 0 0) 149 [some (vr 100), some (vi x1), some (vi x2), some (vi x3), none, some (vi x5), some (vi x6), some (vl x7), none, some (vi x9), none, none] [vi (sbV wy_1 (S 200 1) x1 (S (128 + (1 + (x9 % 2)).toNat)) (x2 + 0) (x3 + 1))] ((2, f), S_1, L, P) (0, 0))))))) ∧ (¬ t0 = 0 → (0 ≤ x9 ∧ x9 < 2147483648) ∧ ((0 ≤ x9 ∧ x9 < 2147483648) ∧ (((x1 = 0 ∨ x1 = 1) ∧ ((x9 % 2) = 0 ∨ (x9 % 2) = 1) ∧ ((1 + (x9 % 2)) = 1 + (x9 % 2) ∨ (1 + (x9 % 2)) = 0) ∧ (0 ≤ (x2 + 0) ∧ (x2 + 0) ≤ S 200 1) ∧ (0 ≤ (x3 + 0) ∧ (x3 + 0) ≤ S 200 1) ∧ (1 ≤ S 200 1 ∧ S 200 1 ≤ 6) ∧ S 200 1 - (x2 + 0) + (S 200 1 - (x3 + 0)) ≤ 4 ∧ ∃ wy_2 : Nat → Int, wyG wy_2 ∧ (∀ s_2 k_2, s_2 < 2 → k_2 < 4 → S (129 + s_2) k_2 = wy_2 (4 * s_2 + k_2)) ∧ fG (S (128 + (1 + (x9 % 2)).toNat)) ∧ meI S wy_2 (S 200 1) x1 ∧ (∀ S_2 : Nat → Nat → Int, (∀ j_2, j_2 ≠ 131 → S_2 j_2 = S j_2) → meI S_2 wy_2 (S 200 1) x1 → (zz_J zpX1_setBy_5 (zz_ret Q X 0 0) 149 [some (vr 100), some (vi x1), some (vi x2), some (vi x3), none, some (vi x5), some (vi x6), some (vl x7), none, some (vi x9), none, none] [vi (sbV wy_2 (S 200 1) x1 (S (128 + (1 + (x9 % 2)).toNat)) (x2 + 0) (x3 + 0))] ((2, f), S_2, L, P) (0, 0))))))))) ∧ (¬ t0 = 0 → R32 t0 ∧ ((t0 = 0 → (0 ≤ x9 ∧ x9 < 2147483648) ∧ ((0 ≤ x9 ∧ x9 < 2147483648) ∧ (((x1 = 0 ∨ x1 = 1) ∧ ((x9 % 2) = 0 ∨ (x9 % 2) = 1) ∧ ((1 + (x9 % 2)) = 1 + (x9 % 2) ∨ (1 + (x9 % 2)) = 0) ∧ (0 ≤ (x2 + 1) ∧ (x2 + 1) ≤ S 200 1) ∧ (0 ≤ (x3 + 1) ∧ (x3 + 1) ≤ S 200 1) ∧ (1 ≤ S 200 1 ∧ S 200 1 ≤ 6) ∧ S 200 1 - (x2 + 1) + (S 200 1 - (x3 + 1)) ≤ 4 ∧ ∃ wy_3 : Nat → Int, wyG wy_3 ∧ (∀ s_3 k_3, s_3 < 2 → k_3 < 4 → S (129 + s_3) k_3 = wy_3 (4 * s_3 + k_3)) ∧ fG (S (128 + (1 + (x9 % 2)).toNat)) ∧ meI S wy_3 (S 200 1) x1 ∧ (∀ S_3 : Nat → Nat → Int, (∀ j_3, j_3 ≠ 131 → S_3 j_3 = S j_3) → meI S_3 wy_3 (S 200 1) x1 → (zz_J zpX1_setBy_5 (zz_ret Q X 0 0) 149 [some (vr 100), some (vi x1), some (vi x2), some (vi x3), none, some (vi x5), some (vi x6), some (vl x7), none, some (vi x9), none, none] [vi (sbV wy_3 (S 200 1) x1 (S (128 + (1 + (x9 % 2)).toNat)) (x2 + 1) (x3 + 1))] ((2, f), S_3, L, P) (0, 0))))))) ∧ (¬ t0 = 0 → (0 ≤ x9 ∧ x9 < 2147483648) ∧ ((0 ≤ x9 ∧ x9 < 2147483648) ∧ (((x1 = 0 ∨ x1 = 1) ∧ ((x9 % 2) = 0 ∨ (x9 % 2) = 1) ∧ ((1 + (x9 % 2)) = 1 + (x9 % 2) ∨ (1 + (x9 % 2)) = 0) ∧ (0 ≤ (x2 + 1) ∧ (x2 + 1) ≤ S 200 1) ∧ (0 ≤ (x3 + 0) ∧ (x3 + 0) ≤ S 200 1) ∧ (1 ≤ S 200 1 ∧ S 200 1 ≤ 6) ∧ S 200 1 - (x2 + 1) + (S 200 1 - (x3 + 0)) ≤ 4 ∧ ∃ wy_4 : Nat → Int, wyG wy_4 ∧ (∀ s_4 k_4, s_4 < 2 → k_4 < 4 → S (129 + s_4) k_4 = wy_4 (4 * s_4 + k_4)) ∧ fG (S (128 + (1 + (x9 % 2)).toNat)) ∧ meI S wy_4 (S 200 1) x1 ∧ (∀ S_4 : Nat → Nat → Int, (∀ j_4, j_4 ≠ 131 → S_4 j_4 = S j_4) → meI S_4 wy_4 (S 200 1) x1 → (zz_J zpX1_setBy_5 (zz_ret Q X 0 0) 149 [some (vr 100), some (vi x1), some (vi x2), some (vi x3), none, some (vi x5), some (vi x6), some (vl x7), none, some (vi x9), none, none] [vi (sbV wy_4 (S 200 1) x1 (S (128 + (1 + (x9 % 2)).toNat)) (x2 + 1) (x3 + 0))] ((2, f), S_4, L, P) (0, 0))))))))))) : zz_J zpX1_setBy_5 (zz_ret Q X 0 0) 108 [some (vr 100), some (vi x1), some (vi x2), some (vi x3), none, some (vi x5), some (vi x6), some (vl x7), none, some (vi x9), none, none] [vi t0] ((2, f), S, L, P) (0, 0) := zz_J.go [(91, [4, 8, 10, 11]), (108, [4, 8, 10, 11]), (149, [4, 8, 10, 11]), (181, [1, 2, 3, 4, 8, 9, 10, 11])] 400 h
theorem zwX1_setBy_5_149 {Q : Option zv → zz_M → Prop} {X : Nat → zz_M → Prop} {f : Nat → Nat × Nat} {S L : Nat → Nat → Int} {P : Nat → Nat → Option Nat} {x1 : Int} {x2 : Int} {x3 : Int} {x5 : Int} {x6 : Int} {x7 : Int} {x9 : Int} {t0 : Int} (h : ∃ t_ n_ : Nat, zsh ((2, f), S, L, P) 127 = (t_, n_) ∧ (t_ = 6 ∨ t_ = 7 ∨ t_ = 8) ∧ (n_ : Int) ≤ 2147483647 ∧ (0 ≤ x5 ∧ x5 < (n_ : Int)) ∧ (∀ b1 : Nat, zpt ((2, f), S, L, P) 127 x5.toNat = some b1 → ∃ n_ : Nat, zsh ((2, f), S, L, P) b1 = (2, n_) ∧ (n_ : Int) ≤ 2147483647 ∧ (0 ≤ x9 ∧ x9 < (n_ : Int)) ∧ (R32 (S b1 x9.toNat) ∧ (R32 t0 ∧ ((0 ≤ ((S b1 x9.toNat) * t0) ∧ ((S b1 x9.toNat) * t0) < 9223372036854775808) ∧ (zz_J zpX1_setBy_5 (zz_ret Q X 0 0) 91 [some (vr 100), some (vi x1), some (vi x2), some (vi x3), none, some (vi x5), some (vi x6), some (vl (x7 + (((S b1 x9.toNat) * t0) / 1000000000))), none, some (vi (x9 + 1)), none, none] [] ((2, f), S, L, P) (0, 0)))))) ∧ (zpt ((2, f), S, L, P) 127 x5.toNat = none → False)) : zz_J zpX1_setBy_5 (zz_ret Q X 0 0) 149 [some (vr 100), some (vi x1), some (vi x2), some (vi x3), none, some (vi x5), some (vi x6), some (vl x7), none, some (vi x9), none, none] [vi t0] ((2, f), S, L, P) (0, 0) := zz_J.go [(91, [4, 8, 10, 11]), (108, [4, 8, 10, 11]), (149, [4, 8, 10, 11]), (181, [1, 2, 3, 4, 8, 9, 10, 11])] 400 h
theorem zwX1_setBy_5_181 {Q : Option zv → zz_M → Prop} {X : Nat → zz_M → Prop} {f : Nat → Nat × Nat} {S L : Nat → Nat → Int} {P : Nat → Nat → Option Nat} {x5 : Int} {x6 : Int} {x7 : Int} (h : R32 x5 ∧ ((x5 ≤ 0 → R64 x7 ∧ (Q (some (vi x7)) ((2, f), S, L, P))) ∧ (¬ x5 ≤ 0 → R64 x7 ∧ ((0 ≤ x6 ∧ x6 < 98) ∧ (R64 x7 ∧ (Q (some (vi x7)) ((2, f), mm_up S 131 x6.toNat x7, L, P))))))) : zz_J zpX1_setBy_5 (zz_ret Q X 0 0) 181 [some (vr 100), none, none, none, none, some (vi x5), some (vi x6), some (vl x7), none, none, none, none] [] ((2, f), S, L, P) (0, 0) := zz_J.go [(91, [4, 8, 10, 11]), (108, [4, 8, 10, 11]), (149, [4, 8, 10, 11]), (181, [1, 2, 3, 4, 8, 9, 10, 11])] 400 h

theorem zmX1_setBy_5 (l : Launch) (hl : l.stackTraces = false) : mm_Spec l yX1_setBy (ws_ yX1_setBy cX1_setBy 12 (some .int)) (mm_rm 10 0 0) (zE zX1_setBy_5) := by
  refine zz_Met.J hl (by decide) (fun C G hnh => ztX1_setBy_5 G hnh) ?_
  rintro as ⟨⟨t_, f⟩, S, L, P⟩ Q X h
  unfold zX1_setBy_5 at h
  split at h
  rotate_left
  · exact h.elim
  rename_i h_ p a b s fr
  obtain ⟨e1_, e2_, h⟩ := mm_and2 h (fun q => q)
  cases mm_beq e1_
  cases mm_beq e2_
  try dsimp only at h
  refine ⟨rfl, ?_⟩
  obtain ⟨hp, hs, hfr, ha, hb, hG, hr, wy, hw, hrow, hF, hme, hq⟩ := h
  by_cases o : S 200 1 ≤ a ∨ S 200 1 ≤ b
  · have hq := hq S (fun _ _ => rfl) hme
    unfold sbV at hq
    rw [if_pos o] at hq
    have k1 : ¬ p = 0 → R32 b ∧ (R32 (S 200 1) ∧ ((b < (S 200 1) → Q (some (vi 0)) ((2, f), S, L, P)) ∧ (¬ b < (S 200 1) → Q (some (vi 1000000000)) ((2, f), S, L, P)))) := fun d => ⟨by omega, by omega, fun e => by rw [if_neg (by rw [if_neg d]; omega)] at hq; exact hq, fun e => by rw [if_pos (by rw [if_neg d]; omega)] at hq; exact hq⟩
    have k0 : p = 0 → R32 a ∧ (R32 (S 200 1) ∧ ((a < (S 200 1) → Q (some (vi 0)) ((2, f), S, L, P)) ∧ (¬ a < (S 200 1) → Q (some (vi 1000000000)) ((2, f), S, L, P)))) := fun d => ⟨by omega, by omega, fun e => by rw [if_neg (by rw [if_pos d]; omega)] at hq; exact hq, fun e => by rw [if_pos (by rw [if_pos d]; omega)] at hq; exact hq⟩
    exact zwX1_setBy_5_0 ⟨by omega, by omega, fun c => ⟨by omega, k1, k0⟩, fun c => ⟨by omega, by omega, fun e => absurd o (by omega), fun e => ⟨by omega, k1, k0⟩⟩⟩
  obtain ⟨a', rfl⟩ : ∃ a' : Nat, a = (a' : Int) := ⟨a.toNat, by omega⟩
  obtain ⟨b', rfl⟩ : ∃ b' : Nat, b = (b' : Int) := ⟨b.toNat, by omega⟩
  obtain ⟨s', hs', es⟩ : ∃ s' : Nat, s' < 2 ∧ s = (s' : Int) := ⟨s.toNat, by omega, by omega⟩
  obtain ⟨r', hr', er⟩ : ∃ r' : Nat, r' < 3 ∧ fr = (r' : Int) := ⟨fr.toNat, by omega, by omega⟩
  subst es er
  have hcv := fun k => bcV_in (G := S 200 1) (p := p) (a := (a' : Int)) (b := (b' : Int)) hw k
  rw [Int.toNat_natCast] at hF hq
  have sin := sbS_in hF hcv
  have hq : ∀ S_ : Nat → Nat → Int, (∀ j, j ≠ 131 → S_ j = S j) → meI S_ wy (S 200 1) p → Q (some (vi (sbS (S (128 + r')) (bcV wy (S 200 1) p a' b') 4))) ((2, f), S_, L, P) := fun S_ e1 e2 => by
    have hq := hq S_ e1 e2
    unfold sbV at hq
    rw [if_neg o] at hq
    exact hq
  have est : (1 : Int) + s' = r' → sbS (S (128 + r')) (bcV wy (S 200 1) p a' b') 4 = stO wy (S 200 1) p 12 a' b' s' := fun e => by
    have e2 : r' = 1 + s' := by omega
    have := sbV_st (wy := wy) (G := S 200 1) (p := p) (a := (a' : Int)) (b := (b' : Int)) (s := s') (F := S (128 + r')) (fun k hk => by rw [e2, show 128 + (1 + s') = 129 + s' by omega]; exact hrow s' k hs' hk) (by omega) (by omega) (by omega)
    unfold sbV at this
    rw [if_neg o] at this
    exact this
  have wy4 : ∀ s : Nat, s < 2 → fG (S (129 + s)) := fun s hs => by
    refine ⟨fun k hk => by rw [hrow s k hs hk]; exact hw.1 _ (by omega), ?_⟩
    rw [hrow s 0 hs (by decide), hrow s 1 hs (by decide), hrow s 2 hs (by decide), hrow s 3 hs (by decide)]
    have : s = 0 ∨ s = 1 := by omega
    rcases this with e | e <;> subst e
    · exact hw.2.1
    · exact hw.2.2
  have t91 : ∀ (m k : Nat) (T : Nat → Nat → Int), k + m = 4 → (∀ j, j ≠ 131 → T j = S j) → meI T wy (S 200 1) p → zz_J zpX1_setBy_5 (zz_ret Q X 0 0) 91 [some (vr 100), some (vi p), some (vi (a' : Int)), some (vi (b' : Int)), none, some (vi (r' : Int)), some (vi ((((7 * (a' : Int)) + b') * 2) + s')), some (vl (sbS (S (128 + r')) (bcV wy (S 200 1) p a' b') k)), none, some (vi (k : Int)), none, none] [] ((2, f), T, L, P) (0, 0) := by
    intro m
    induction m with
    | zero =>
      intro k T hk eT mT
      have k4 : k = 4 := by omega
      subst k4
      have s4 := sin 4 (by decide)
      have R4 : R64 (sbS (S (128 + r')) (bcV wy (S 200 1) p a' b') 4) := by omega
      refine zwX1_setBy_5_91 ⟨by omega, fun _ => zwX1_setBy_5_181 ⟨by omega, fun c => ⟨R4, hq T eT mT⟩, fun c => ⟨R4, by omega, R4, ?_⟩⟩, fun d => absurd (by omega) d⟩
      have ei : ((((7 * (a' : Int)) + b') * 2) + s').toNat = (7 * a' + b') * 2 + s' := by omega
      have e1 := est (by omega)
      refine hq _ (fun j hj => ?_) ?_
      · funext x
        rw [up_eq, if_neg (by omega), eT j hj]
      · rw [ei, e1]
        exact mT.up (by omega) (by omega) hs'
    | succ m ih =>
      intro k T hk eT mT
      have k4 : k < 4 := by omega
      have eG : T 200 1 = S 200 1 := by rw [eT 200 (by decide)]
      have t149 : ∀ (U : Nat → Nat → Int), (∀ j, j ≠ 131 → U j = S j) → meI U wy (S 200 1) p → zz_J zpX1_setBy_5 (zz_ret Q X 0 0) 149 [some (vr 100), some (vi p), some (vi (a' : Int)), some (vi (b' : Int)), none, some (vi (r' : Int)), some (vi ((((7 * (a' : Int)) + b') * 2) + s')), some (vl (sbS (S (128 + r')) (bcV wy (S 200 1) p a' b') k)), none, some (vi (k : Int)), none, none] [vi (bcV wy (S 200 1) p a' b' k)] ((2, f), U, L, P) (0, 0) := by
        intro U eU mU
        obtain ⟨w1, w2⟩ := ways_at (f := f) (S := U) (L := L) (P := P) hr'
        have fk := hF.1 k k4
        have ck := hcv k
        have m9 := mul_sure fk.1 ck.1 ck.2
        refine zwX1_setBy_5_149 ⟨6, 3, rfl, Or.inl rfl, by decide, by omega, fun b1 hb1 => ?_, fun hb1 => ?_⟩
        · rw [Int.toNat_natCast, w1] at hb1
          cases hb1
          refine ⟨4, w2, by decide, by omega, ?_⟩
          rw [Int.toNat_natCast, eU (128 + r') (by omega)]
          exact ⟨by omega, by omega, by omega, ih (k + 1) U (by omega) eU mU⟩
        · rw [Int.toNat_natCast, w1] at hb1
          cases hb1
      have rowT : ∀ s_ k_, s_ < 2 → k_ < 4 → T (129 + s_) k_ = wy (4 * s_ + k_) := fun s_ k_ g1 g2 => by rw [eT (129 + s_) (by omega)]; exact hrow s_ k_ g1 g2
      have mk : ((k : Int) % 2 = 0 ∨ (k : Int) % 2 = 1) := by omega
      have ek2 : ((k : Int) % 2).toNat = k % 2 := by omega
      have ek3 : 128 + (1 + (k : Int) % 2).toNat = 129 + k % 2 := by omega
      have nxt : ∀ x y : Int, (x ≤ S 200 1 ∧ y ≤ S 200 1 ∧ S 200 1 - x + (S 200 1 - y) ≤ 12) → stO wy (S 200 1) p 12 x y (k % 2) = bcV wy (S 200 1) p a' b' k → ∀ S_ : Nat → Nat → Int, (∀ j, j ≠ 131 → S_ j = T j) → meI S_ wy (T 200 1) p → zz_J zpX1_setBy_5 (zz_ret Q X 0 0) 149 [some (vr 100), some (vi p), some (vi (a' : Int)), some (vi (b' : Int)), none, some (vi (r' : Int)), some (vi ((((7 * (a' : Int)) + b') * 2) + s')), some (vl (sbS (S (128 + r')) (bcV wy (S 200 1) p a' b') k)), none, some (vi (k : Int)), none, none] [vi (sbV wy (T 200 1) p (T (128 + (1 + (k : Int) % 2).toNat)) x y)] ((2, f), S_, L, P) (0, 0) := by
        intro x y hxy e S_ e1 e2
        rw [eG] at e2 ⊢
        rw [ek3, sbV_st (s := k % 2) (fun j hj => rowT (k % 2) j (by omega) hj) hxy.1 hxy.2.1 hxy.2.2, e]
        exact t149 S_ (fun j hj => by rw [e1 j hj, eT j hj]) e2
      have fGk : fG (T (128 + (1 + (k : Int) % 2).toNat)) := by
        rw [ek3, eT (129 + k % 2) (by omega)]
        exact wy4 (k % 2) (by omega)
      refine zwX1_setBy_5_91 ⟨by omega, fun d => absurd d (by omega), fun _ => ⟨by omega, fun c => zwX1_setBy_5_108 ⟨by decide, fun _ => ⟨by decide, fun _ => ⟨by omega, by omega, hp, mk, Or.inl rfl, by omega, by omega, by omega, by omega, wy, hw, rowT, fGk, by rw [eG]; exact mT, ?_⟩, fun d => absurd rfl d⟩, fun d => absurd rfl d⟩, fun c => zwX1_setBy_5_108 ⟨by decide, fun d => absurd d (by decide), fun _ => ⟨by decide, fun d => absurd d (by decide), fun _ => ⟨by omega, by omega, hp, mk, Or.inl rfl, by omega, by omega, by omega, by omega, wy, hw, rowT, fGk, by rw [eG]; exact mT, ?_⟩⟩⟩⟩⟩
      · refine nxt _ _ (by omega) ?_
        unfold bcV
        rw [if_neg (by omega), if_neg (by omega), Int.add_zero]
      · refine nxt _ _ (by omega) ?_
        unfold bcV
        rw [if_pos (by omega), if_pos (by omega), Int.add_zero]
  have t0 := t91 4 0 S rfl (fun _ _ => rfl) hme
  refine zwX1_setBy_5_0 ⟨by omega, by omega, fun c => absurd (Or.inl c) o, fun c => ⟨by omega, by omega, fun c2 => ⟨by omega, fun d => t0, fun d => ⟨by omega, ?_⟩⟩, fun c2 => absurd (by omega) o⟩⟩
  have ei : ((((7 * (a' : Int)) + b') * 2) + s').toNat = (7 * a' + b') * 2 + s' := by omega
  have me := hme a' b' s' (by omega) (by omega) hs'
  have hin := stO_in (G := S 200 1) (p := p) hw 12 (a' : Int) (b' : Int) s' hs'
  rw [ei]
  refine ⟨by rcases me with e | e <;> rw [e] <;> omega, fun _ => t0, fun d2 => ⟨by omega, ?_⟩⟩
  have e2 := me.resolve_left (by omega)
  rw [e2, ← est (by omega)]
  exact hq S (fun _ _ => rfl) hme
def zX1_setBy_6 : zz_Sp := fun as M Q X => match as with
  | [.inr (.inr (some h_)), .inl p, .inl a, .inl b, .inl s, .inl fr] => bif Nat.beq h_ 100 && Nat.beq M.1.1 2 then ((p = 0 ∨ p = 1) ∧ (s = 0 ∨ s = 1) ∧ (fr = 1 + s ∨ fr = 0) ∧ (0 ≤ a ∧ a ≤ M.2.1 200 1) ∧ (0 ≤ b ∧ b ≤ M.2.1 200 1) ∧ (1 ≤ M.2.1 200 1 ∧ M.2.1 200 1 ≤ 6) ∧ M.2.1 200 1 - a + (M.2.1 200 1 - b) ≤ 6 ∧ ∃ wy_ : Nat → Int, wyG wy_ ∧ (∀ s_ k_, s_ < 2 → k_ < 4 → M.2.1 (129 + s_) k_ = wy_ (4 * s_ + k_)) ∧ fG (M.2.1 (128 + fr.toNat)) ∧ meI M.2.1 wy_ (M.2.1 200 1) p ∧ (∀ S_ : Nat → Nat → Int, (∀ j_, j_ ≠ 131 → S_ j_ = M.2.1 j_) → meI S_ wy_ (M.2.1 200 1) p → Q (some (vi (sbV wy_ (M.2.1 200 1) p (M.2.1 (128 + fr.toNat)) a b))) ((2, M.1.2), S_, M.2.2.1, M.2.2.2))) else False
  | _ => False

def zpX1_setBy_6 : zz_P := [(0, zo_ild 1 2), (1, zo_ald 2 0), (2, zo_get 5 0 2 0), (5, zo_get 8 1 0 1), (8, zo_cge false false 11 22), (11, zo_ild 12 3), (12, zo_ald 13 0), (13, zo_get 16 0 2 0), (16, zo_get 19 1 0 1), (19, zo_clt false false 22 49), (22, zo_ild 23 1), (23, zo_ifne false 26 30), (26, zo_ild 27 2), (27, zo_goto 31), (30, zo_ild 31 3), (31, zo_ald 32 0), (32, zo_get 35 0 2 0), (35, zo_get 38 1 0 1), (38, zo_clt false false 41 47), (41, zo_c 44 (vi 1000000000)), (44, zo_goto 48), (47, zo_c 48 (vi 0)), (48, zo_iret), (49, zo_c 51 (vi 7)), (51, zo_ild 52 2), (52, zo_imul 53), (53, zo_ild 54 3), (54, zo_iadd 55), (55, zo_c 56 (vi 2)), (56, zo_imul 57), (57, zo_ild 59 4), (59, zo_iadd 60), (60, zo_ist 62 6), (62, zo_ild 64 5), (64, zo_ifle false 67 85), (67, zo_ald 68 0), (68, zo_get 71 0 2 15), (71, zo_ild 73 6), (73, zo_iald 74), (74, zo_iflt false 77 85), (77, zo_ald 78 0), (78, zo_get 81 0 2 15), (81, zo_ild 83 6), (83, zo_iald 84), (84, zo_iret), (85, zo_c 86 (vl 0)), (86, zo_lst 88 7), (88, zo_c 89 (vi 0)), (89, zo_ist 91 9), (91, zo_ild 93 9), (93, zo_c 94 (vi 4)), (94, zo_cge false true 97 181), (97, zo_ild 99 9), (99, zo_c 100 (vi 2)), (100, zo_cge false true 103 107), (103, zo_c 104 (vi 1)), (104, zo_goto 108), (107, zo_c 108 (vi 0)), (108, zo_ist 110 10), (110, zo_ald 111 0), (111, zo_ild 112 1), (112, zo_ild 113 2), (113, zo_ild 115 10), (115, zo_ifeq false 118 122), (118, zo_c 119 (vi 1)), (119, zo_goto 123), (122, zo_c 123 (vi 0)), (123, zo_iadd 124), (124, zo_ild 125 3), (125, zo_ild 127 10), (127, zo_ifeq false 130 134), (130, zo_c 131 (vi 0)), (131, zo_goto 135), (134, zo_c 135 (vi 1)), (135, zo_iadd 136), (136, zo_ild 138 9), (138, zo_c 139 (vi 2)), (139, zo_irem 140), (140, zo_c 141 (vi 1)), (141, zo_ild 143 9), (143, zo_c 144 (vi 2)), (144, zo_irem 145), (145, zo_iadd 146), (146, zo_callv 149 6 0 zX1_setBy_5), (149, zo_ist 151 11), (151, zo_lld 153 7), (153, zo_ald 154 0), (154, zo_get 157 0 2 14), (157, zo_ild 159 5), (159, zo_aald 160), (160, zo_ild 162 9), (162, zo_ialp 163), (163, zo_i2l 164), (164, zo_ild 166 11), (166, zo_i2l 167), (167, zo_lmul 168), (168, zo_c 171 (vl 1000000000)), (171, zo_ldiv 172), (172, zo_ladd 173), (173, zo_lst 175 7), (175, zo_inc 178 9 1), (178, zo_goto 91), (181, zo_ild 183 5), (183, zo_ifle false 186 196), (186, zo_ald 187 0), (187, zo_get 190 0 2 15), (190, zo_ild 192 6), (192, zo_lld 194 7), (194, zo_l2i 195), (195, zo_iasd 196), (196, zo_lld 198 7), (198, zo_l2i 199), (199, zo_iret)]
theorem ztX1_setBy_6 {C : mm_C} (G : mm_G C RX1 cX1_setBy (some .int) 12 (mm_rm 11 0 0)) (hnh : mm_nh C) : zz_OKs C zpX1_setBy_6 :=
  ⟨zz_of (ok_iload_n G dX1_setBy_0 rfl rfl) (z_ild _ _),
   zz_of (ok_aload_n G dX1_setBy_1 rfl rfl) (z_ald _ _),
   zz_of (ok_get G (nx := 5) (ci := 0) (kd := 2) (k := 0) (RX1, TX1, 19) rfl (by decide) rfl q399 dX1_setBy_2 rfl) (z_get _ _ _ _),
   zz_of (ok_getN G (nx := 8) (ci := 1) (kd := 0) (k := 1) (RX2, TX2, 11) rfl (by decide) rfl q218 dX1_setBy_5 rfl) (z_get _ _ _ _),
   zz_of (ok_cge G dX1_setBy_8 rfl rfl) (z_cge _ _ _ _),
   zz_of (ok_iload_n G dX1_setBy_11 rfl rfl) (z_ild _ _),
   zz_of (ok_aload_n G dX1_setBy_12 rfl rfl) (z_ald _ _),
   zz_of (ok_get G (nx := 16) (ci := 0) (kd := 2) (k := 0) (RX1, TX1, 19) rfl (by decide) rfl q399 dX1_setBy_13 rfl) (z_get _ _ _ _),
   zz_of (ok_getN G (nx := 19) (ci := 1) (kd := 0) (k := 1) (RX2, TX2, 11) rfl (by decide) rfl q218 dX1_setBy_16 rfl) (z_get _ _ _ _),
   zz_of (ok_clt G dX1_setBy_19 rfl rfl) (z_clt _ _ _ _),
   zz_of (ok_iload_n G dX1_setBy_22 rfl rfl) (z_ild _ _),
   zz_of (ok_ifne G dX1_setBy_23 rfl rfl) (z_ifne _ _ _),
   zz_of (ok_iload_n G dX1_setBy_26 rfl rfl) (z_ild _ _),
   zz_of (ok_goto G dX1_setBy_27 rfl) (z_goto _),
   zz_of (ok_iload_n G dX1_setBy_30 rfl rfl) (z_ild _ _),
   zz_of (ok_aload_n G dX1_setBy_31 rfl rfl) (z_ald _ _),
   zz_of (ok_get G (nx := 35) (ci := 0) (kd := 2) (k := 0) (RX1, TX1, 19) rfl (by decide) rfl q399 dX1_setBy_32 rfl) (z_get _ _ _ _),
   zz_of (ok_getN G (nx := 38) (ci := 1) (kd := 0) (k := 1) (RX2, TX2, 11) rfl (by decide) rfl q218 dX1_setBy_35 rfl) (z_get _ _ _ _),
   zz_of (ok_clt G dX1_setBy_38 rfl rfl) (z_clt _ _ _ _),
   zz_of (ok_ldcw G (v := 1000000000) q1700 dX1_setBy_41 rfl) (z_cn 44 1000000000),
   zz_of (ok_goto G dX1_setBy_44 rfl) (z_goto _),
   zz_of (ok_iconst G (v := 0) dX1_setBy_47 (by decide) rfl) (z_cn 48 0),
   zz_of (ok_iret G dX1_setBy_48) (z_iret),
   zz_of (ok_bipush G (v := 7) dX1_setBy_49 (by decide) rfl) (z_cn 51 7),
   zz_of (ok_iload_n G dX1_setBy_51 rfl rfl) (z_ild _ _),
   zz_of (ok_imul G dX1_setBy_52 rfl) (z_imul _),
   zz_of (ok_iload_n G dX1_setBy_53 rfl rfl) (z_ild _ _),
   zz_of (ok_iadd G dX1_setBy_54 rfl) (z_iadd _),
   zz_of (ok_iconst G (v := 2) dX1_setBy_55 (by decide) rfl) (z_cn 56 2),
   zz_of (ok_imul G dX1_setBy_56 rfl) (z_imul _),
   zz_of (ok_iload G dX1_setBy_57 rfl) (z_ild _ _),
   zz_of (ok_iadd G dX1_setBy_59 rfl) (z_iadd _),
   zz_of (ok_istore G dX1_setBy_60 rfl (by decide)) (z_ist _ _),
   zz_of (ok_iload G dX1_setBy_62 rfl) (z_ild _ _),
   zz_of (ok_ifle G dX1_setBy_64 rfl rfl) (z_ifle _ _ _),
   zz_of (ok_aload_n G dX1_setBy_67 rfl rfl) (z_ald _ _),
   zz_of (ok_get G (nx := 71) (ci := 0) (kd := 2) (k := 15) (RX1, TX1, 19) rfl (by decide) rfl q426 dX1_setBy_68 rfl) (z_get _ _ _ _),
   zz_of (ok_iload G dX1_setBy_71 rfl) (z_ild _ _),
   zz_of (ok_iald G dX1_setBy_73 rfl) (z_iald _),
   zz_of (ok_iflt G dX1_setBy_74 rfl rfl) (z_iflt _ _ _),
   zz_of (ok_aload_n G dX1_setBy_77 rfl rfl) (z_ald _ _),
   zz_of (ok_get G (nx := 81) (ci := 0) (kd := 2) (k := 15) (RX1, TX1, 19) rfl (by decide) rfl q426 dX1_setBy_78 rfl) (z_get _ _ _ _),
   zz_of (ok_iload G dX1_setBy_81 rfl) (z_ild _ _),
   zz_of (ok_iald G dX1_setBy_83 rfl) (z_iald _),
   zz_of (ok_iret G dX1_setBy_84) (z_iret),
   zz_of (ok_lconst G (v := 0) dX1_setBy_85 (by decide) rfl) (z_cl 86 0),
   zz_of (ok_lstore G dX1_setBy_86 rfl (by decide)) (z_lst _ _),
   zz_of (ok_iconst G (v := 0) dX1_setBy_88 (by decide) rfl) (z_cn 89 0),
   zz_of (ok_istore G dX1_setBy_89 rfl (by decide)) (z_ist _ _),
   zz_of (ok_iload G dX1_setBy_91 rfl) (z_ild _ _),
   zz_of (ok_iconst G (v := 4) dX1_setBy_93 (by decide) rfl) (z_cn 94 4),
   zz_of (ok_cge G dX1_setBy_94 rfl rfl) (z_cge _ _ _ _),
   zz_of (ok_iload G dX1_setBy_97 rfl) (z_ild _ _),
   zz_of (ok_iconst G (v := 2) dX1_setBy_99 (by decide) rfl) (z_cn 100 2),
   zz_of (ok_cge G dX1_setBy_100 rfl rfl) (z_cge _ _ _ _),
   zz_of (ok_iconst G (v := 1) dX1_setBy_103 (by decide) rfl) (z_cn 104 1),
   zz_of (ok_goto G dX1_setBy_104 rfl) (z_goto _),
   zz_of (ok_iconst G (v := 0) dX1_setBy_107 (by decide) rfl) (z_cn 108 0),
   zz_of (ok_istore G dX1_setBy_108 rfl (by decide)) (z_ist _ _),
   zz_of (ok_aload_n G dX1_setBy_110 rfl rfl) (z_ald _ _),
   zz_of (ok_iload_n G dX1_setBy_111 rfl rfl) (z_ild _ _),
   zz_of (ok_iload_n G dX1_setBy_112 rfl rfl) (z_ild _ _),
   zz_of (ok_iload G dX1_setBy_113 rfl) (z_ild _ _),
   zz_of (ok_ifeq G dX1_setBy_115 rfl rfl) (z_ifeq _ _ _),
   zz_of (ok_iconst G (v := 1) dX1_setBy_118 (by decide) rfl) (z_cn 119 1),
   zz_of (ok_goto G dX1_setBy_119 rfl) (z_goto _),
   zz_of (ok_iconst G (v := 0) dX1_setBy_122 (by decide) rfl) (z_cn 123 0),
   zz_of (ok_iadd G dX1_setBy_123 rfl) (z_iadd _),
   zz_of (ok_iload_n G dX1_setBy_124 rfl rfl) (z_ild _ _),
   zz_of (ok_iload G dX1_setBy_125 rfl) (z_ild _ _),
   zz_of (ok_ifeq G dX1_setBy_127 rfl rfl) (z_ifeq _ _ _),
   zz_of (ok_iconst G (v := 0) dX1_setBy_130 (by decide) rfl) (z_cn 131 0),
   zz_of (ok_goto G dX1_setBy_131 rfl) (z_goto _),
   zz_of (ok_iconst G (v := 1) dX1_setBy_134 (by decide) rfl) (z_cn 135 1),
   zz_of (ok_iadd G dX1_setBy_135 rfl) (z_iadd _),
   zz_of (ok_iload G dX1_setBy_136 rfl) (z_ild _ _),
   zz_of (ok_iconst G (v := 2) dX1_setBy_138 (by decide) rfl) (z_cn 139 2),
   zz_of (ok_irem G dX1_setBy_139 rfl) (z_irem _),
   zz_of (ok_iconst G (v := 1) dX1_setBy_140 (by decide) rfl) (z_cn 141 1),
   zz_of (ok_iload G dX1_setBy_141 rfl) (z_ild _ _),
   zz_of (ok_iconst G (v := 2) dX1_setBy_143 (by decide) rfl) (z_cn 144 2),
   zz_of (ok_irem G dX1_setBy_144 rfl) (z_irem _),
   zz_of (ok_iadd G dX1_setBy_145 rfl) (z_iadd _),
   zz_of (ok_callv G hnh (zmX1_setBy_5 _ G.hst) rfl rfl (RX1, TX1, 19) rfl q1706 q1708 qs33 q82 q1709 (by decide +kernel) ⟨by decide, by decide⟩ dX1_setBy_146 rfl) (z_callv _ _ _ _),
   zz_of (ok_istore G dX1_setBy_149 rfl (by decide)) (z_ist _ _),
   zz_of (ok_lload G dX1_setBy_151 rfl) (z_lld _ _),
   zz_of (ok_aload_n G dX1_setBy_153 rfl rfl) (z_ald _ _),
   zz_of (ok_get G (nx := 157) (ci := 0) (kd := 2) (k := 14) (RX1, TX1, 19) rfl (by decide) rfl q425 dX1_setBy_154 rfl) (z_get _ _ _ _),
   zz_of (ok_iload G dX1_setBy_157 rfl) (z_ild _ _),
   zz_of (ok_aald G dX1_setBy_159 rfl) (z_aald _),
   zz_of (ok_iload G dX1_setBy_160 rfl) (z_ild _ _),
   zz_of (ok_iald G dX1_setBy_162 rfl) (z_ialp _),
   zz_of (ok_i2l G dX1_setBy_163 rfl) (z_i2l _),
   zz_of (ok_iload G dX1_setBy_164 rfl) (z_ild _ _),
   zz_of (ok_i2l G dX1_setBy_166 rfl) (z_i2l _),
   zz_of (ok_lmul G dX1_setBy_167 rfl) (z_lmul _),
   zz_of (ok_ldc2 G (v := 1000000000) q1710 dX1_setBy_168 rfl) (z_cl 171 1000000000),
   zz_of (ok_ldiv G dX1_setBy_171 rfl) (z_ldiv _),
   zz_of (ok_ladd G dX1_setBy_172 rfl) (z_ladd _),
   zz_of (ok_lstore G dX1_setBy_173 rfl (by decide)) (z_lst _ _),
   zz_of (ok_iinc G (v := 1) dX1_setBy_175 (by decide) rfl (by decide)) (z_incn 178 9 1),
   zz_of (ok_goto G dX1_setBy_178 rfl) (z_goto _),
   zz_of (ok_iload G dX1_setBy_181 rfl) (z_ild _ _),
   zz_of (ok_ifle G dX1_setBy_183 rfl rfl) (z_ifle _ _ _),
   zz_of (ok_aload_n G dX1_setBy_186 rfl rfl) (z_ald _ _),
   zz_of (ok_get G (nx := 190) (ci := 0) (kd := 2) (k := 15) (RX1, TX1, 19) rfl (by decide) rfl q426 dX1_setBy_187 rfl) (z_get _ _ _ _),
   zz_of (ok_iload G dX1_setBy_190 rfl) (z_ild _ _),
   zz_of (ok_lload G dX1_setBy_192 rfl) (z_lld _ _),
   zz_of (ok_l2i G dX1_setBy_194 rfl) (z_l2i _),
   zz_of (ok_iast G dX1_setBy_195 rfl) (z_iasd _),
   zz_of (ok_lload G dX1_setBy_196 rfl) (z_lld _ _),
   zz_of (ok_l2i G dX1_setBy_198 rfl) (z_l2i _),
   zz_of (ok_iret G dX1_setBy_199) (z_iret), trivial⟩

theorem zwX1_setBy_6_0 {Q : Option zv → zz_M → Prop} {X : Nat → zz_M → Prop} {f : Nat → Nat × Nat} {S L : Nat → Nat → Int} {P : Nat → Nat → Option Nat} {p : Int} {a : Int} {b : Int} {s : Int} {fr : Int} (h : R32 a ∧ (R32 (S 200 1) ∧ (((S 200 1) ≤ a → R32 p ∧ ((¬ p = 0 → R32 b ∧ (R32 (S 200 1) ∧ ((b < (S 200 1) → Q (some (vi 0)) ((2, f), S, L, P)) ∧ (¬ b < (S 200 1) → Q (some (vi 1000000000)) ((2, f), S, L, P))))) ∧ (p = 0 → R32 a ∧ (R32 (S 200 1) ∧ ((a < (S 200 1) → Q (some (vi 0)) ((2, f), S, L, P)) ∧ (¬ a < (S 200 1) → Q (some (vi 1000000000)) ((2, f), S, L, P))))))) ∧ (¬ (S 200 1) ≤ a → R32 b ∧ (R32 (S 200 1) ∧ ((b < (S 200 1) → R32 fr ∧ ((fr ≤ 0 → zz_J zpX1_setBy_6 (zz_ret Q X 0 0) 91 [some (vr 100), some (vi p), some (vi a), some (vi b), none, some (vi fr), some (vi ((((7 * a) + b) * 2) + s)), some (vl 0), none, some (vi 0), none, none] [] ((2, f), S, L, P) (0, 0)) ∧ (¬ fr ≤ 0 → (0 ≤ ((((7 * a) + b) * 2) + s) ∧ ((((7 * a) + b) * 2) + s) < 98) ∧ (R32 (S 131 (((((7 * a) + b) * 2) + s).toNat)) ∧ (((S 131 (((((7 * a) + b) * 2) + s).toNat)) < 0 → zz_J zpX1_setBy_6 (zz_ret Q X 0 0) 91 [some (vr 100), some (vi p), some (vi a), some (vi b), none, some (vi fr), some (vi ((((7 * a) + b) * 2) + s)), some (vl 0), none, some (vi 0), none, none] [] ((2, f), S, L, P) (0, 0)) ∧ (¬ (S 131 (((((7 * a) + b) * 2) + s).toNat)) < 0 → (0 ≤ ((((7 * a) + b) * 2) + s) ∧ ((((7 * a) + b) * 2) + s) < 98) ∧ (Q (some (vi (S 131 (((((7 * a) + b) * 2) + s).toNat)))) ((2, f), S, L, P)))))))) ∧ (¬ b < (S 200 1) → R32 p ∧ ((¬ p = 0 → R32 b ∧ (R32 (S 200 1) ∧ ((b < (S 200 1) → Q (some (vi 0)) ((2, f), S, L, P)) ∧ (¬ b < (S 200 1) → Q (some (vi 1000000000)) ((2, f), S, L, P))))) ∧ (p = 0 → R32 a ∧ (R32 (S 200 1) ∧ ((a < (S 200 1) → Q (some (vi 0)) ((2, f), S, L, P)) ∧ (¬ a < (S 200 1) → Q (some (vi 1000000000)) ((2, f), S, L, P))))))))))))) : zz_J zpX1_setBy_6 (zz_ret Q X 0 0) 0 [some (vr 100), some (vi p), some (vi a), some (vi b), some (vi s), some (vi fr), none, none, none, none, none, none] [] ((2, f), S, L, P) (0, 0) := zz_J.go [(91, [4, 8, 10, 11]), (108, [4, 8, 10, 11]), (149, [4, 8, 10, 11]), (181, [1, 2, 3, 4, 8, 9, 10, 11])] 400 h
theorem zwX1_setBy_6_91 {Q : Option zv → zz_M → Prop} {X : Nat → zz_M → Prop} {f : Nat → Nat × Nat} {S L : Nat → Nat → Int} {P : Nat → Nat → Option Nat} {x1 : Int} {x2 : Int} {x3 : Int} {x5 : Int} {x6 : Int} {x7 : Int} {x9 : Int} (h : R32 x9 ∧ ((4 ≤ x9 → zz_J zpX1_setBy_6 (zz_ret Q X 0 0) 181 [some (vr 100), none, none, none, none, some (vi x5), some (vi x6), some (vl x7), none, none, none, none] [] ((2, f), S, L, P) (0, 0)) ∧ (¬ 4 ≤ x9 → R32 x9 ∧ ((2 ≤ x9 → zz_J zpX1_setBy_6 (zz_ret Q X 0 0) 108 [some (vr 100), some (vi x1), some (vi x2), some (vi x3), none, some (vi x5), some (vi x6), some (vl x7), none, some (vi x9), none, none] [vi 0] ((2, f), S, L, P) (0, 0)) ∧ (¬ 2 ≤ x9 → zz_J zpX1_setBy_6 (zz_ret Q X 0 0) 108 [some (vr 100), some (vi x1), some (vi x2), some (vi x3), none, some (vi x5), some (vi x6), some (vl x7), none, some (vi x9), none, none] [vi 1] ((2, f), S, L, P) (0, 0)))))) : zz_J zpX1_setBy_6 (zz_ret Q X 0 0) 91 [some (vr 100), some (vi x1), some (vi x2), some (vi x3), none, some (vi x5), some (vi x6), some (vl x7), none, some (vi x9), none, none] [] ((2, f), S, L, P) (0, 0) := zz_J.go [(91, [4, 8, 10, 11]), (108, [4, 8, 10, 11]), (149, [4, 8, 10, 11]), (181, [1, 2, 3, 4, 8, 9, 10, 11])] 400 h
theorem zwX1_setBy_6_108 {Q : Option zv → zz_M → Prop} {X : Nat → zz_M → Prop} {f : Nat → Nat × Nat} {S L : Nat → Nat → Int} {P : Nat → Nat → Option Nat} {x1 : Int} {x2 : Int} {x3 : Int} {x5 : Int} {x6 : Int} {x7 : Int} {x9 : Int} {t0 : Int} (h : R32 t0 ∧ ((t0 = 0 → R32 t0 ∧ ((t0 = 0 → (0 ≤ x9 ∧ x9 < 2147483648) ∧ ((0 ≤ x9 ∧ x9 < 2147483648) ∧ (((x1 = 0 ∨ x1 = 1) ∧ ((x9 % 2) = 0 ∨ (x9 % 2) = 1) ∧ ((1 + (x9 % 2)) = 1 + (x9 % 2) ∨ (1 + (x9 % 2)) = 0) ∧ (0 ≤ (x2 + 0) ∧ (x2 + 0) ≤ S 200 1) ∧ (0 ≤ (x3 + 1) ∧ (x3 + 1) ≤ S 200 1) ∧ (1 ≤ S 200 1 ∧ S 200 1 ≤ 6) ∧ S 200 1 - (x2 + 0) + (S 200 1 - (x3 + 1)) ≤ 5 ∧ ∃ wy_1 : Nat → Int, wyG wy_1 ∧ (∀ s_1 k_1, s_1 < 2 → k_1 < 4 → S (129 + s_1) k_1 = wy_1 (4 * s_1 + k_1)) ∧ fG (S (128 + (1 + (x9 % 2)).toNat)) ∧ meI S wy_1 (S 200 1) x1 ∧ (∀ S_1 : Nat → Nat → Int, (∀ j_1, j_1 ≠ 131 → S_1 j_1 = S j_1) → meI S_1 wy_1 (S 200 1) x1 → (zz_J zpX1_setBy_6 (zz_ret Q X 0 0) 149 [some (vr 100), some (vi x1), some (vi x2), some (vi x3), none, some (vi x5), some (vi x6), some (vl x7), none, some (vi x9), none, none] [vi (sbV wy_1 (S 200 1) x1 (S (128 + (1 + (x9 % 2)).toNat)) (x2 + 0) (x3 + 1))] ((2, f), S_1, L, P) (0, 0))))))) ∧ (¬ t0 = 0 → (0 ≤ x9 ∧ x9 < 2147483648) ∧ ((0 ≤ x9 ∧ x9 < 2147483648) ∧ (((x1 = 0 ∨ x1 = 1) ∧ ((x9 % 2) = 0 ∨ (x9 % 2) = 1) ∧ ((1 + (x9 % 2)) = 1 + (x9 % 2) ∨ (1 + (x9 % 2)) = 0) ∧ (0 ≤ (x2 + 0) ∧ (x2 + 0) ≤ S 200 1) ∧ (0 ≤ (x3 + 0) ∧ (x3 + 0) ≤ S 200 1) ∧ (1 ≤ S 200 1 ∧ S 200 1 ≤ 6) ∧ S 200 1 - (x2 + 0) + (S 200 1 - (x3 + 0)) ≤ 5 ∧ ∃ wy_2 : Nat → Int, wyG wy_2 ∧ (∀ s_2 k_2, s_2 < 2 → k_2 < 4 → S (129 + s_2) k_2 = wy_2 (4 * s_2 + k_2)) ∧ fG (S (128 + (1 + (x9 % 2)).toNat)) ∧ meI S wy_2 (S 200 1) x1 ∧ (∀ S_2 : Nat → Nat → Int, (∀ j_2, j_2 ≠ 131 → S_2 j_2 = S j_2) → meI S_2 wy_2 (S 200 1) x1 → (zz_J zpX1_setBy_6 (zz_ret Q X 0 0) 149 [some (vr 100), some (vi x1), some (vi x2), some (vi x3), none, some (vi x5), some (vi x6), some (vl x7), none, some (vi x9), none, none] [vi (sbV wy_2 (S 200 1) x1 (S (128 + (1 + (x9 % 2)).toNat)) (x2 + 0) (x3 + 0))] ((2, f), S_2, L, P) (0, 0))))))))) ∧ (¬ t0 = 0 → R32 t0 ∧ ((t0 = 0 → (0 ≤ x9 ∧ x9 < 2147483648) ∧ ((0 ≤ x9 ∧ x9 < 2147483648) ∧ (((x1 = 0 ∨ x1 = 1) ∧ ((x9 % 2) = 0 ∨ (x9 % 2) = 1) ∧ ((1 + (x9 % 2)) = 1 + (x9 % 2) ∨ (1 + (x9 % 2)) = 0) ∧ (0 ≤ (x2 + 1) ∧ (x2 + 1) ≤ S 200 1) ∧ (0 ≤ (x3 + 1) ∧ (x3 + 1) ≤ S 200 1) ∧ (1 ≤ S 200 1 ∧ S 200 1 ≤ 6) ∧ S 200 1 - (x2 + 1) + (S 200 1 - (x3 + 1)) ≤ 5 ∧ ∃ wy_3 : Nat → Int, wyG wy_3 ∧ (∀ s_3 k_3, s_3 < 2 → k_3 < 4 → S (129 + s_3) k_3 = wy_3 (4 * s_3 + k_3)) ∧ fG (S (128 + (1 + (x9 % 2)).toNat)) ∧ meI S wy_3 (S 200 1) x1 ∧ (∀ S_3 : Nat → Nat → Int, (∀ j_3, j_3 ≠ 131 → S_3 j_3 = S j_3) → meI S_3 wy_3 (S 200 1) x1 → (zz_J zpX1_setBy_6 (zz_ret Q X 0 0) 149 [some (vr 100), some (vi x1), some (vi x2), some (vi x3), none, some (vi x5), some (vi x6), some (vl x7), none, some (vi x9), none, none] [vi (sbV wy_3 (S 200 1) x1 (S (128 + (1 + (x9 % 2)).toNat)) (x2 + 1) (x3 + 1))] ((2, f), S_3, L, P) (0, 0))))))) ∧ (¬ t0 = 0 → (0 ≤ x9 ∧ x9 < 2147483648) ∧ ((0 ≤ x9 ∧ x9 < 2147483648) ∧ (((x1 = 0 ∨ x1 = 1) ∧ ((x9 % 2) = 0 ∨ (x9 % 2) = 1) ∧ ((1 + (x9 % 2)) = 1 + (x9 % 2) ∨ (1 + (x9 % 2)) = 0) ∧ (0 ≤ (x2 + 1) ∧ (x2 + 1) ≤ S 200 1) ∧ (0 ≤ (x3 + 0) ∧ (x3 + 0) ≤ S 200 1) ∧ (1 ≤ S 200 1 ∧ S 200 1 ≤ 6) ∧ S 200 1 - (x2 + 1) + (S 200 1 - (x3 + 0)) ≤ 5 ∧ ∃ wy_4 : Nat → Int, wyG wy_4 ∧ (∀ s_4 k_4, s_4 < 2 → k_4 < 4 → S (129 + s_4) k_4 = wy_4 (4 * s_4 + k_4)) ∧ fG (S (128 + (1 + (x9 % 2)).toNat)) ∧ meI S wy_4 (S 200 1) x1 ∧ (∀ S_4 : Nat → Nat → Int, (∀ j_4, j_4 ≠ 131 → S_4 j_4 = S j_4) → meI S_4 wy_4 (S 200 1) x1 → (zz_J zpX1_setBy_6 (zz_ret Q X 0 0) 149 [some (vr 100), some (vi x1), some (vi x2), some (vi x3), none, some (vi x5), some (vi x6), some (vl x7), none, some (vi x9), none, none] [vi (sbV wy_4 (S 200 1) x1 (S (128 + (1 + (x9 % 2)).toNat)) (x2 + 1) (x3 + 0))] ((2, f), S_4, L, P) (0, 0))))))))))) : zz_J zpX1_setBy_6 (zz_ret Q X 0 0) 108 [some (vr 100), some (vi x1), some (vi x2), some (vi x3), none, some (vi x5), some (vi x6), some (vl x7), none, some (vi x9), none, none] [vi t0] ((2, f), S, L, P) (0, 0) := zz_J.go [(91, [4, 8, 10, 11]), (108, [4, 8, 10, 11]), (149, [4, 8, 10, 11]), (181, [1, 2, 3, 4, 8, 9, 10, 11])] 400 h
theorem zwX1_setBy_6_149 {Q : Option zv → zz_M → Prop} {X : Nat → zz_M → Prop} {f : Nat → Nat × Nat} {S L : Nat → Nat → Int} {P : Nat → Nat → Option Nat} {x1 : Int} {x2 : Int} {x3 : Int} {x5 : Int} {x6 : Int} {x7 : Int} {x9 : Int} {t0 : Int} (h : ∃ t_ n_ : Nat, zsh ((2, f), S, L, P) 127 = (t_, n_) ∧ (t_ = 6 ∨ t_ = 7 ∨ t_ = 8) ∧ (n_ : Int) ≤ 2147483647 ∧ (0 ≤ x5 ∧ x5 < (n_ : Int)) ∧ (∀ b1 : Nat, zpt ((2, f), S, L, P) 127 x5.toNat = some b1 → ∃ n_ : Nat, zsh ((2, f), S, L, P) b1 = (2, n_) ∧ (n_ : Int) ≤ 2147483647 ∧ (0 ≤ x9 ∧ x9 < (n_ : Int)) ∧ (R32 (S b1 x9.toNat) ∧ (R32 t0 ∧ ((0 ≤ ((S b1 x9.toNat) * t0) ∧ ((S b1 x9.toNat) * t0) < 9223372036854775808) ∧ (zz_J zpX1_setBy_6 (zz_ret Q X 0 0) 91 [some (vr 100), some (vi x1), some (vi x2), some (vi x3), none, some (vi x5), some (vi x6), some (vl (x7 + (((S b1 x9.toNat) * t0) / 1000000000))), none, some (vi (x9 + 1)), none, none] [] ((2, f), S, L, P) (0, 0)))))) ∧ (zpt ((2, f), S, L, P) 127 x5.toNat = none → False)) : zz_J zpX1_setBy_6 (zz_ret Q X 0 0) 149 [some (vr 100), some (vi x1), some (vi x2), some (vi x3), none, some (vi x5), some (vi x6), some (vl x7), none, some (vi x9), none, none] [vi t0] ((2, f), S, L, P) (0, 0) := zz_J.go [(91, [4, 8, 10, 11]), (108, [4, 8, 10, 11]), (149, [4, 8, 10, 11]), (181, [1, 2, 3, 4, 8, 9, 10, 11])] 400 h
theorem zwX1_setBy_6_181 {Q : Option zv → zz_M → Prop} {X : Nat → zz_M → Prop} {f : Nat → Nat × Nat} {S L : Nat → Nat → Int} {P : Nat → Nat → Option Nat} {x5 : Int} {x6 : Int} {x7 : Int} (h : R32 x5 ∧ ((x5 ≤ 0 → R64 x7 ∧ (Q (some (vi x7)) ((2, f), S, L, P))) ∧ (¬ x5 ≤ 0 → R64 x7 ∧ ((0 ≤ x6 ∧ x6 < 98) ∧ (R64 x7 ∧ (Q (some (vi x7)) ((2, f), mm_up S 131 x6.toNat x7, L, P))))))) : zz_J zpX1_setBy_6 (zz_ret Q X 0 0) 181 [some (vr 100), none, none, none, none, some (vi x5), some (vi x6), some (vl x7), none, none, none, none] [] ((2, f), S, L, P) (0, 0) := zz_J.go [(91, [4, 8, 10, 11]), (108, [4, 8, 10, 11]), (149, [4, 8, 10, 11]), (181, [1, 2, 3, 4, 8, 9, 10, 11])] 400 h

theorem zmX1_setBy_6 (l : Launch) (hl : l.stackTraces = false) : mm_Spec l yX1_setBy (ws_ yX1_setBy cX1_setBy 12 (some .int)) (mm_rm 11 0 0) (zE zX1_setBy_6) := by
  refine zz_Met.J hl (by decide) (fun C G hnh => ztX1_setBy_6 G hnh) ?_
  rintro as ⟨⟨t_, f⟩, S, L, P⟩ Q X h
  unfold zX1_setBy_6 at h
  split at h
  rotate_left
  · exact h.elim
  rename_i h_ p a b s fr
  obtain ⟨e1_, e2_, h⟩ := mm_and2 h (fun q => q)
  cases mm_beq e1_
  cases mm_beq e2_
  try dsimp only at h
  refine ⟨rfl, ?_⟩
  obtain ⟨hp, hs, hfr, ha, hb, hG, hr, wy, hw, hrow, hF, hme, hq⟩ := h
  by_cases o : S 200 1 ≤ a ∨ S 200 1 ≤ b
  · have hq := hq S (fun _ _ => rfl) hme
    unfold sbV at hq
    rw [if_pos o] at hq
    have k1 : ¬ p = 0 → R32 b ∧ (R32 (S 200 1) ∧ ((b < (S 200 1) → Q (some (vi 0)) ((2, f), S, L, P)) ∧ (¬ b < (S 200 1) → Q (some (vi 1000000000)) ((2, f), S, L, P)))) := fun d => ⟨by omega, by omega, fun e => by rw [if_neg (by rw [if_neg d]; omega)] at hq; exact hq, fun e => by rw [if_pos (by rw [if_neg d]; omega)] at hq; exact hq⟩
    have k0 : p = 0 → R32 a ∧ (R32 (S 200 1) ∧ ((a < (S 200 1) → Q (some (vi 0)) ((2, f), S, L, P)) ∧ (¬ a < (S 200 1) → Q (some (vi 1000000000)) ((2, f), S, L, P)))) := fun d => ⟨by omega, by omega, fun e => by rw [if_neg (by rw [if_pos d]; omega)] at hq; exact hq, fun e => by rw [if_pos (by rw [if_pos d]; omega)] at hq; exact hq⟩
    exact zwX1_setBy_6_0 ⟨by omega, by omega, fun c => ⟨by omega, k1, k0⟩, fun c => ⟨by omega, by omega, fun e => absurd o (by omega), fun e => ⟨by omega, k1, k0⟩⟩⟩
  obtain ⟨a', rfl⟩ : ∃ a' : Nat, a = (a' : Int) := ⟨a.toNat, by omega⟩
  obtain ⟨b', rfl⟩ : ∃ b' : Nat, b = (b' : Int) := ⟨b.toNat, by omega⟩
  obtain ⟨s', hs', es⟩ : ∃ s' : Nat, s' < 2 ∧ s = (s' : Int) := ⟨s.toNat, by omega, by omega⟩
  obtain ⟨r', hr', er⟩ : ∃ r' : Nat, r' < 3 ∧ fr = (r' : Int) := ⟨fr.toNat, by omega, by omega⟩
  subst es er
  have hcv := fun k => bcV_in (G := S 200 1) (p := p) (a := (a' : Int)) (b := (b' : Int)) hw k
  rw [Int.toNat_natCast] at hF hq
  have sin := sbS_in hF hcv
  have hq : ∀ S_ : Nat → Nat → Int, (∀ j, j ≠ 131 → S_ j = S j) → meI S_ wy (S 200 1) p → Q (some (vi (sbS (S (128 + r')) (bcV wy (S 200 1) p a' b') 4))) ((2, f), S_, L, P) := fun S_ e1 e2 => by
    have hq := hq S_ e1 e2
    unfold sbV at hq
    rw [if_neg o] at hq
    exact hq
  have est : (1 : Int) + s' = r' → sbS (S (128 + r')) (bcV wy (S 200 1) p a' b') 4 = stO wy (S 200 1) p 12 a' b' s' := fun e => by
    have e2 : r' = 1 + s' := by omega
    have := sbV_st (wy := wy) (G := S 200 1) (p := p) (a := (a' : Int)) (b := (b' : Int)) (s := s') (F := S (128 + r')) (fun k hk => by rw [e2, show 128 + (1 + s') = 129 + s' by omega]; exact hrow s' k hs' hk) (by omega) (by omega) (by omega)
    unfold sbV at this
    rw [if_neg o] at this
    exact this
  have wy4 : ∀ s : Nat, s < 2 → fG (S (129 + s)) := fun s hs => by
    refine ⟨fun k hk => by rw [hrow s k hs hk]; exact hw.1 _ (by omega), ?_⟩
    rw [hrow s 0 hs (by decide), hrow s 1 hs (by decide), hrow s 2 hs (by decide), hrow s 3 hs (by decide)]
    have : s = 0 ∨ s = 1 := by omega
    rcases this with e | e <;> subst e
    · exact hw.2.1
    · exact hw.2.2
  have t91 : ∀ (m k : Nat) (T : Nat → Nat → Int), k + m = 4 → (∀ j, j ≠ 131 → T j = S j) → meI T wy (S 200 1) p → zz_J zpX1_setBy_6 (zz_ret Q X 0 0) 91 [some (vr 100), some (vi p), some (vi (a' : Int)), some (vi (b' : Int)), none, some (vi (r' : Int)), some (vi ((((7 * (a' : Int)) + b') * 2) + s')), some (vl (sbS (S (128 + r')) (bcV wy (S 200 1) p a' b') k)), none, some (vi (k : Int)), none, none] [] ((2, f), T, L, P) (0, 0) := by
    intro m
    induction m with
    | zero =>
      intro k T hk eT mT
      have k4 : k = 4 := by omega
      subst k4
      have s4 := sin 4 (by decide)
      have R4 : R64 (sbS (S (128 + r')) (bcV wy (S 200 1) p a' b') 4) := by omega
      refine zwX1_setBy_6_91 ⟨by omega, fun _ => zwX1_setBy_6_181 ⟨by omega, fun c => ⟨R4, hq T eT mT⟩, fun c => ⟨R4, by omega, R4, ?_⟩⟩, fun d => absurd (by omega) d⟩
      have ei : ((((7 * (a' : Int)) + b') * 2) + s').toNat = (7 * a' + b') * 2 + s' := by omega
      have e1 := est (by omega)
      refine hq _ (fun j hj => ?_) ?_
      · funext x
        rw [up_eq, if_neg (by omega), eT j hj]
      · rw [ei, e1]
        exact mT.up (by omega) (by omega) hs'
    | succ m ih =>
      intro k T hk eT mT
      have k4 : k < 4 := by omega
      have eG : T 200 1 = S 200 1 := by rw [eT 200 (by decide)]
      have t149 : ∀ (U : Nat → Nat → Int), (∀ j, j ≠ 131 → U j = S j) → meI U wy (S 200 1) p → zz_J zpX1_setBy_6 (zz_ret Q X 0 0) 149 [some (vr 100), some (vi p), some (vi (a' : Int)), some (vi (b' : Int)), none, some (vi (r' : Int)), some (vi ((((7 * (a' : Int)) + b') * 2) + s')), some (vl (sbS (S (128 + r')) (bcV wy (S 200 1) p a' b') k)), none, some (vi (k : Int)), none, none] [vi (bcV wy (S 200 1) p a' b' k)] ((2, f), U, L, P) (0, 0) := by
        intro U eU mU
        obtain ⟨w1, w2⟩ := ways_at (f := f) (S := U) (L := L) (P := P) hr'
        have fk := hF.1 k k4
        have ck := hcv k
        have m9 := mul_sure fk.1 ck.1 ck.2
        refine zwX1_setBy_6_149 ⟨6, 3, rfl, Or.inl rfl, by decide, by omega, fun b1 hb1 => ?_, fun hb1 => ?_⟩
        · rw [Int.toNat_natCast, w1] at hb1
          cases hb1
          refine ⟨4, w2, by decide, by omega, ?_⟩
          rw [Int.toNat_natCast, eU (128 + r') (by omega)]
          exact ⟨by omega, by omega, by omega, ih (k + 1) U (by omega) eU mU⟩
        · rw [Int.toNat_natCast, w1] at hb1
          cases hb1
      have rowT : ∀ s_ k_, s_ < 2 → k_ < 4 → T (129 + s_) k_ = wy (4 * s_ + k_) := fun s_ k_ g1 g2 => by rw [eT (129 + s_) (by omega)]; exact hrow s_ k_ g1 g2
      have mk : ((k : Int) % 2 = 0 ∨ (k : Int) % 2 = 1) := by omega
      have ek2 : ((k : Int) % 2).toNat = k % 2 := by omega
      have ek3 : 128 + (1 + (k : Int) % 2).toNat = 129 + k % 2 := by omega
      have nxt : ∀ x y : Int, (x ≤ S 200 1 ∧ y ≤ S 200 1 ∧ S 200 1 - x + (S 200 1 - y) ≤ 12) → stO wy (S 200 1) p 12 x y (k % 2) = bcV wy (S 200 1) p a' b' k → ∀ S_ : Nat → Nat → Int, (∀ j, j ≠ 131 → S_ j = T j) → meI S_ wy (T 200 1) p → zz_J zpX1_setBy_6 (zz_ret Q X 0 0) 149 [some (vr 100), some (vi p), some (vi (a' : Int)), some (vi (b' : Int)), none, some (vi (r' : Int)), some (vi ((((7 * (a' : Int)) + b') * 2) + s')), some (vl (sbS (S (128 + r')) (bcV wy (S 200 1) p a' b') k)), none, some (vi (k : Int)), none, none] [vi (sbV wy (T 200 1) p (T (128 + (1 + (k : Int) % 2).toNat)) x y)] ((2, f), S_, L, P) (0, 0) := by
        intro x y hxy e S_ e1 e2
        rw [eG] at e2 ⊢
        rw [ek3, sbV_st (s := k % 2) (fun j hj => rowT (k % 2) j (by omega) hj) hxy.1 hxy.2.1 hxy.2.2, e]
        exact t149 S_ (fun j hj => by rw [e1 j hj, eT j hj]) e2
      have fGk : fG (T (128 + (1 + (k : Int) % 2).toNat)) := by
        rw [ek3, eT (129 + k % 2) (by omega)]
        exact wy4 (k % 2) (by omega)
      refine zwX1_setBy_6_91 ⟨by omega, fun d => absurd d (by omega), fun _ => ⟨by omega, fun c => zwX1_setBy_6_108 ⟨by decide, fun _ => ⟨by decide, fun _ => ⟨by omega, by omega, hp, mk, Or.inl rfl, by omega, by omega, by omega, by omega, wy, hw, rowT, fGk, by rw [eG]; exact mT, ?_⟩, fun d => absurd rfl d⟩, fun d => absurd rfl d⟩, fun c => zwX1_setBy_6_108 ⟨by decide, fun d => absurd d (by decide), fun _ => ⟨by decide, fun d => absurd d (by decide), fun _ => ⟨by omega, by omega, hp, mk, Or.inl rfl, by omega, by omega, by omega, by omega, wy, hw, rowT, fGk, by rw [eG]; exact mT, ?_⟩⟩⟩⟩⟩
      · refine nxt _ _ (by omega) ?_
        unfold bcV
        rw [if_neg (by omega), if_neg (by omega), Int.add_zero]
      · refine nxt _ _ (by omega) ?_
        unfold bcV
        rw [if_pos (by omega), if_pos (by omega), Int.add_zero]
  have t0 := t91 4 0 S rfl (fun _ _ => rfl) hme
  refine zwX1_setBy_6_0 ⟨by omega, by omega, fun c => absurd (Or.inl c) o, fun c => ⟨by omega, by omega, fun c2 => ⟨by omega, fun d => t0, fun d => ⟨by omega, ?_⟩⟩, fun c2 => absurd (by omega) o⟩⟩
  have ei : ((((7 * (a' : Int)) + b') * 2) + s').toNat = (7 * a' + b') * 2 + s' := by omega
  have me := hme a' b' s' (by omega) (by omega) hs'
  have hin := stO_in (G := S 200 1) (p := p) hw 12 (a' : Int) (b' : Int) s' hs'
  rw [ei]
  refine ⟨by rcases me with e | e <;> rw [e] <;> omega, fun _ => t0, fun d2 => ⟨by omega, ?_⟩⟩
  have e2 := me.resolve_left (by omega)
  rw [e2, ← est (by omega)]
  exact hq S (fun _ _ => rfl) hme
def zX1_setBy_7 : zz_Sp := fun as M Q X => match as with
  | [.inr (.inr (some h_)), .inl p, .inl a, .inl b, .inl s, .inl fr] => bif Nat.beq h_ 100 && Nat.beq M.1.1 2 then ((p = 0 ∨ p = 1) ∧ (s = 0 ∨ s = 1) ∧ (fr = 1 + s ∨ fr = 0) ∧ (0 ≤ a ∧ a ≤ M.2.1 200 1) ∧ (0 ≤ b ∧ b ≤ M.2.1 200 1) ∧ (1 ≤ M.2.1 200 1 ∧ M.2.1 200 1 ≤ 6) ∧ M.2.1 200 1 - a + (M.2.1 200 1 - b) ≤ 7 ∧ ∃ wy_ : Nat → Int, wyG wy_ ∧ (∀ s_ k_, s_ < 2 → k_ < 4 → M.2.1 (129 + s_) k_ = wy_ (4 * s_ + k_)) ∧ fG (M.2.1 (128 + fr.toNat)) ∧ meI M.2.1 wy_ (M.2.1 200 1) p ∧ (∀ S_ : Nat → Nat → Int, (∀ j_, j_ ≠ 131 → S_ j_ = M.2.1 j_) → meI S_ wy_ (M.2.1 200 1) p → Q (some (vi (sbV wy_ (M.2.1 200 1) p (M.2.1 (128 + fr.toNat)) a b))) ((2, M.1.2), S_, M.2.2.1, M.2.2.2))) else False
  | _ => False

def zpX1_setBy_7 : zz_P := [(0, zo_ild 1 2), (1, zo_ald 2 0), (2, zo_get 5 0 2 0), (5, zo_get 8 1 0 1), (8, zo_cge false false 11 22), (11, zo_ild 12 3), (12, zo_ald 13 0), (13, zo_get 16 0 2 0), (16, zo_get 19 1 0 1), (19, zo_clt false false 22 49), (22, zo_ild 23 1), (23, zo_ifne false 26 30), (26, zo_ild 27 2), (27, zo_goto 31), (30, zo_ild 31 3), (31, zo_ald 32 0), (32, zo_get 35 0 2 0), (35, zo_get 38 1 0 1), (38, zo_clt false false 41 47), (41, zo_c 44 (vi 1000000000)), (44, zo_goto 48), (47, zo_c 48 (vi 0)), (48, zo_iret), (49, zo_c 51 (vi 7)), (51, zo_ild 52 2), (52, zo_imul 53), (53, zo_ild 54 3), (54, zo_iadd 55), (55, zo_c 56 (vi 2)), (56, zo_imul 57), (57, zo_ild 59 4), (59, zo_iadd 60), (60, zo_ist 62 6), (62, zo_ild 64 5), (64, zo_ifle false 67 85), (67, zo_ald 68 0), (68, zo_get 71 0 2 15), (71, zo_ild 73 6), (73, zo_iald 74), (74, zo_iflt false 77 85), (77, zo_ald 78 0), (78, zo_get 81 0 2 15), (81, zo_ild 83 6), (83, zo_iald 84), (84, zo_iret), (85, zo_c 86 (vl 0)), (86, zo_lst 88 7), (88, zo_c 89 (vi 0)), (89, zo_ist 91 9), (91, zo_ild 93 9), (93, zo_c 94 (vi 4)), (94, zo_cge false true 97 181), (97, zo_ild 99 9), (99, zo_c 100 (vi 2)), (100, zo_cge false true 103 107), (103, zo_c 104 (vi 1)), (104, zo_goto 108), (107, zo_c 108 (vi 0)), (108, zo_ist 110 10), (110, zo_ald 111 0), (111, zo_ild 112 1), (112, zo_ild 113 2), (113, zo_ild 115 10), (115, zo_ifeq false 118 122), (118, zo_c 119 (vi 1)), (119, zo_goto 123), (122, zo_c 123 (vi 0)), (123, zo_iadd 124), (124, zo_ild 125 3), (125, zo_ild 127 10), (127, zo_ifeq false 130 134), (130, zo_c 131 (vi 0)), (131, zo_goto 135), (134, zo_c 135 (vi 1)), (135, zo_iadd 136), (136, zo_ild 138 9), (138, zo_c 139 (vi 2)), (139, zo_irem 140), (140, zo_c 141 (vi 1)), (141, zo_ild 143 9), (143, zo_c 144 (vi 2)), (144, zo_irem 145), (145, zo_iadd 146), (146, zo_callv 149 6 0 zX1_setBy_6), (149, zo_ist 151 11), (151, zo_lld 153 7), (153, zo_ald 154 0), (154, zo_get 157 0 2 14), (157, zo_ild 159 5), (159, zo_aald 160), (160, zo_ild 162 9), (162, zo_ialp 163), (163, zo_i2l 164), (164, zo_ild 166 11), (166, zo_i2l 167), (167, zo_lmul 168), (168, zo_c 171 (vl 1000000000)), (171, zo_ldiv 172), (172, zo_ladd 173), (173, zo_lst 175 7), (175, zo_inc 178 9 1), (178, zo_goto 91), (181, zo_ild 183 5), (183, zo_ifle false 186 196), (186, zo_ald 187 0), (187, zo_get 190 0 2 15), (190, zo_ild 192 6), (192, zo_lld 194 7), (194, zo_l2i 195), (195, zo_iasd 196), (196, zo_lld 198 7), (198, zo_l2i 199), (199, zo_iret)]
theorem ztX1_setBy_7 {C : mm_C} (G : mm_G C RX1 cX1_setBy (some .int) 12 (mm_rm 12 0 0)) (hnh : mm_nh C) : zz_OKs C zpX1_setBy_7 :=
  ⟨zz_of (ok_iload_n G dX1_setBy_0 rfl rfl) (z_ild _ _),
   zz_of (ok_aload_n G dX1_setBy_1 rfl rfl) (z_ald _ _),
   zz_of (ok_get G (nx := 5) (ci := 0) (kd := 2) (k := 0) (RX1, TX1, 19) rfl (by decide) rfl q399 dX1_setBy_2 rfl) (z_get _ _ _ _),
   zz_of (ok_getN G (nx := 8) (ci := 1) (kd := 0) (k := 1) (RX2, TX2, 11) rfl (by decide) rfl q218 dX1_setBy_5 rfl) (z_get _ _ _ _),
   zz_of (ok_cge G dX1_setBy_8 rfl rfl) (z_cge _ _ _ _),
   zz_of (ok_iload_n G dX1_setBy_11 rfl rfl) (z_ild _ _),
   zz_of (ok_aload_n G dX1_setBy_12 rfl rfl) (z_ald _ _),
   zz_of (ok_get G (nx := 16) (ci := 0) (kd := 2) (k := 0) (RX1, TX1, 19) rfl (by decide) rfl q399 dX1_setBy_13 rfl) (z_get _ _ _ _),
   zz_of (ok_getN G (nx := 19) (ci := 1) (kd := 0) (k := 1) (RX2, TX2, 11) rfl (by decide) rfl q218 dX1_setBy_16 rfl) (z_get _ _ _ _),
   zz_of (ok_clt G dX1_setBy_19 rfl rfl) (z_clt _ _ _ _),
   zz_of (ok_iload_n G dX1_setBy_22 rfl rfl) (z_ild _ _),
   zz_of (ok_ifne G dX1_setBy_23 rfl rfl) (z_ifne _ _ _),
   zz_of (ok_iload_n G dX1_setBy_26 rfl rfl) (z_ild _ _),
   zz_of (ok_goto G dX1_setBy_27 rfl) (z_goto _),
   zz_of (ok_iload_n G dX1_setBy_30 rfl rfl) (z_ild _ _),
   zz_of (ok_aload_n G dX1_setBy_31 rfl rfl) (z_ald _ _),
   zz_of (ok_get G (nx := 35) (ci := 0) (kd := 2) (k := 0) (RX1, TX1, 19) rfl (by decide) rfl q399 dX1_setBy_32 rfl) (z_get _ _ _ _),
   zz_of (ok_getN G (nx := 38) (ci := 1) (kd := 0) (k := 1) (RX2, TX2, 11) rfl (by decide) rfl q218 dX1_setBy_35 rfl) (z_get _ _ _ _),
   zz_of (ok_clt G dX1_setBy_38 rfl rfl) (z_clt _ _ _ _),
   zz_of (ok_ldcw G (v := 1000000000) q1700 dX1_setBy_41 rfl) (z_cn 44 1000000000),
   zz_of (ok_goto G dX1_setBy_44 rfl) (z_goto _),
   zz_of (ok_iconst G (v := 0) dX1_setBy_47 (by decide) rfl) (z_cn 48 0),
   zz_of (ok_iret G dX1_setBy_48) (z_iret),
   zz_of (ok_bipush G (v := 7) dX1_setBy_49 (by decide) rfl) (z_cn 51 7),
   zz_of (ok_iload_n G dX1_setBy_51 rfl rfl) (z_ild _ _),
   zz_of (ok_imul G dX1_setBy_52 rfl) (z_imul _),
   zz_of (ok_iload_n G dX1_setBy_53 rfl rfl) (z_ild _ _),
   zz_of (ok_iadd G dX1_setBy_54 rfl) (z_iadd _),
   zz_of (ok_iconst G (v := 2) dX1_setBy_55 (by decide) rfl) (z_cn 56 2),
   zz_of (ok_imul G dX1_setBy_56 rfl) (z_imul _),
   zz_of (ok_iload G dX1_setBy_57 rfl) (z_ild _ _),
   zz_of (ok_iadd G dX1_setBy_59 rfl) (z_iadd _),
   zz_of (ok_istore G dX1_setBy_60 rfl (by decide)) (z_ist _ _),
   zz_of (ok_iload G dX1_setBy_62 rfl) (z_ild _ _),
   zz_of (ok_ifle G dX1_setBy_64 rfl rfl) (z_ifle _ _ _),
   zz_of (ok_aload_n G dX1_setBy_67 rfl rfl) (z_ald _ _),
   zz_of (ok_get G (nx := 71) (ci := 0) (kd := 2) (k := 15) (RX1, TX1, 19) rfl (by decide) rfl q426 dX1_setBy_68 rfl) (z_get _ _ _ _),
   zz_of (ok_iload G dX1_setBy_71 rfl) (z_ild _ _),
   zz_of (ok_iald G dX1_setBy_73 rfl) (z_iald _),
   zz_of (ok_iflt G dX1_setBy_74 rfl rfl) (z_iflt _ _ _),
   zz_of (ok_aload_n G dX1_setBy_77 rfl rfl) (z_ald _ _),
   zz_of (ok_get G (nx := 81) (ci := 0) (kd := 2) (k := 15) (RX1, TX1, 19) rfl (by decide) rfl q426 dX1_setBy_78 rfl) (z_get _ _ _ _),
   zz_of (ok_iload G dX1_setBy_81 rfl) (z_ild _ _),
   zz_of (ok_iald G dX1_setBy_83 rfl) (z_iald _),
   zz_of (ok_iret G dX1_setBy_84) (z_iret),
   zz_of (ok_lconst G (v := 0) dX1_setBy_85 (by decide) rfl) (z_cl 86 0),
   zz_of (ok_lstore G dX1_setBy_86 rfl (by decide)) (z_lst _ _),
   zz_of (ok_iconst G (v := 0) dX1_setBy_88 (by decide) rfl) (z_cn 89 0),
   zz_of (ok_istore G dX1_setBy_89 rfl (by decide)) (z_ist _ _),
   zz_of (ok_iload G dX1_setBy_91 rfl) (z_ild _ _),
   zz_of (ok_iconst G (v := 4) dX1_setBy_93 (by decide) rfl) (z_cn 94 4),
   zz_of (ok_cge G dX1_setBy_94 rfl rfl) (z_cge _ _ _ _),
   zz_of (ok_iload G dX1_setBy_97 rfl) (z_ild _ _),
   zz_of (ok_iconst G (v := 2) dX1_setBy_99 (by decide) rfl) (z_cn 100 2),
   zz_of (ok_cge G dX1_setBy_100 rfl rfl) (z_cge _ _ _ _),
   zz_of (ok_iconst G (v := 1) dX1_setBy_103 (by decide) rfl) (z_cn 104 1),
   zz_of (ok_goto G dX1_setBy_104 rfl) (z_goto _),
   zz_of (ok_iconst G (v := 0) dX1_setBy_107 (by decide) rfl) (z_cn 108 0),
   zz_of (ok_istore G dX1_setBy_108 rfl (by decide)) (z_ist _ _),
   zz_of (ok_aload_n G dX1_setBy_110 rfl rfl) (z_ald _ _),
   zz_of (ok_iload_n G dX1_setBy_111 rfl rfl) (z_ild _ _),
   zz_of (ok_iload_n G dX1_setBy_112 rfl rfl) (z_ild _ _),
   zz_of (ok_iload G dX1_setBy_113 rfl) (z_ild _ _),
   zz_of (ok_ifeq G dX1_setBy_115 rfl rfl) (z_ifeq _ _ _),
   zz_of (ok_iconst G (v := 1) dX1_setBy_118 (by decide) rfl) (z_cn 119 1),
   zz_of (ok_goto G dX1_setBy_119 rfl) (z_goto _),
   zz_of (ok_iconst G (v := 0) dX1_setBy_122 (by decide) rfl) (z_cn 123 0),
   zz_of (ok_iadd G dX1_setBy_123 rfl) (z_iadd _),
   zz_of (ok_iload_n G dX1_setBy_124 rfl rfl) (z_ild _ _),
   zz_of (ok_iload G dX1_setBy_125 rfl) (z_ild _ _),
   zz_of (ok_ifeq G dX1_setBy_127 rfl rfl) (z_ifeq _ _ _),
   zz_of (ok_iconst G (v := 0) dX1_setBy_130 (by decide) rfl) (z_cn 131 0),
   zz_of (ok_goto G dX1_setBy_131 rfl) (z_goto _),
   zz_of (ok_iconst G (v := 1) dX1_setBy_134 (by decide) rfl) (z_cn 135 1),
   zz_of (ok_iadd G dX1_setBy_135 rfl) (z_iadd _),
   zz_of (ok_iload G dX1_setBy_136 rfl) (z_ild _ _),
   zz_of (ok_iconst G (v := 2) dX1_setBy_138 (by decide) rfl) (z_cn 139 2),
   zz_of (ok_irem G dX1_setBy_139 rfl) (z_irem _),
   zz_of (ok_iconst G (v := 1) dX1_setBy_140 (by decide) rfl) (z_cn 141 1),
   zz_of (ok_iload G dX1_setBy_141 rfl) (z_ild _ _),
   zz_of (ok_iconst G (v := 2) dX1_setBy_143 (by decide) rfl) (z_cn 144 2),
   zz_of (ok_irem G dX1_setBy_144 rfl) (z_irem _),
   zz_of (ok_iadd G dX1_setBy_145 rfl) (z_iadd _),
   zz_of (ok_callv G hnh (zmX1_setBy_6 _ G.hst) rfl rfl (RX1, TX1, 19) rfl q1706 q1708 qs33 q82 q1709 (by decide +kernel) ⟨by decide, by decide⟩ dX1_setBy_146 rfl) (z_callv _ _ _ _),
   zz_of (ok_istore G dX1_setBy_149 rfl (by decide)) (z_ist _ _),
   zz_of (ok_lload G dX1_setBy_151 rfl) (z_lld _ _),
   zz_of (ok_aload_n G dX1_setBy_153 rfl rfl) (z_ald _ _),
   zz_of (ok_get G (nx := 157) (ci := 0) (kd := 2) (k := 14) (RX1, TX1, 19) rfl (by decide) rfl q425 dX1_setBy_154 rfl) (z_get _ _ _ _),
   zz_of (ok_iload G dX1_setBy_157 rfl) (z_ild _ _),
   zz_of (ok_aald G dX1_setBy_159 rfl) (z_aald _),
   zz_of (ok_iload G dX1_setBy_160 rfl) (z_ild _ _),
   zz_of (ok_iald G dX1_setBy_162 rfl) (z_ialp _),
   zz_of (ok_i2l G dX1_setBy_163 rfl) (z_i2l _),
   zz_of (ok_iload G dX1_setBy_164 rfl) (z_ild _ _),
   zz_of (ok_i2l G dX1_setBy_166 rfl) (z_i2l _),
   zz_of (ok_lmul G dX1_setBy_167 rfl) (z_lmul _),
   zz_of (ok_ldc2 G (v := 1000000000) q1710 dX1_setBy_168 rfl) (z_cl 171 1000000000),
   zz_of (ok_ldiv G dX1_setBy_171 rfl) (z_ldiv _),
   zz_of (ok_ladd G dX1_setBy_172 rfl) (z_ladd _),
   zz_of (ok_lstore G dX1_setBy_173 rfl (by decide)) (z_lst _ _),
   zz_of (ok_iinc G (v := 1) dX1_setBy_175 (by decide) rfl (by decide)) (z_incn 178 9 1),
   zz_of (ok_goto G dX1_setBy_178 rfl) (z_goto _),
   zz_of (ok_iload G dX1_setBy_181 rfl) (z_ild _ _),
   zz_of (ok_ifle G dX1_setBy_183 rfl rfl) (z_ifle _ _ _),
   zz_of (ok_aload_n G dX1_setBy_186 rfl rfl) (z_ald _ _),
   zz_of (ok_get G (nx := 190) (ci := 0) (kd := 2) (k := 15) (RX1, TX1, 19) rfl (by decide) rfl q426 dX1_setBy_187 rfl) (z_get _ _ _ _),
   zz_of (ok_iload G dX1_setBy_190 rfl) (z_ild _ _),
   zz_of (ok_lload G dX1_setBy_192 rfl) (z_lld _ _),
   zz_of (ok_l2i G dX1_setBy_194 rfl) (z_l2i _),
   zz_of (ok_iast G dX1_setBy_195 rfl) (z_iasd _),
   zz_of (ok_lload G dX1_setBy_196 rfl) (z_lld _ _),
   zz_of (ok_l2i G dX1_setBy_198 rfl) (z_l2i _),
   zz_of (ok_iret G dX1_setBy_199) (z_iret), trivial⟩

theorem zwX1_setBy_7_0 {Q : Option zv → zz_M → Prop} {X : Nat → zz_M → Prop} {f : Nat → Nat × Nat} {S L : Nat → Nat → Int} {P : Nat → Nat → Option Nat} {p : Int} {a : Int} {b : Int} {s : Int} {fr : Int} (h : R32 a ∧ (R32 (S 200 1) ∧ (((S 200 1) ≤ a → R32 p ∧ ((¬ p = 0 → R32 b ∧ (R32 (S 200 1) ∧ ((b < (S 200 1) → Q (some (vi 0)) ((2, f), S, L, P)) ∧ (¬ b < (S 200 1) → Q (some (vi 1000000000)) ((2, f), S, L, P))))) ∧ (p = 0 → R32 a ∧ (R32 (S 200 1) ∧ ((a < (S 200 1) → Q (some (vi 0)) ((2, f), S, L, P)) ∧ (¬ a < (S 200 1) → Q (some (vi 1000000000)) ((2, f), S, L, P))))))) ∧ (¬ (S 200 1) ≤ a → R32 b ∧ (R32 (S 200 1) ∧ ((b < (S 200 1) → R32 fr ∧ ((fr ≤ 0 → zz_J zpX1_setBy_7 (zz_ret Q X 0 0) 91 [some (vr 100), some (vi p), some (vi a), some (vi b), none, some (vi fr), some (vi ((((7 * a) + b) * 2) + s)), some (vl 0), none, some (vi 0), none, none] [] ((2, f), S, L, P) (0, 0)) ∧ (¬ fr ≤ 0 → (0 ≤ ((((7 * a) + b) * 2) + s) ∧ ((((7 * a) + b) * 2) + s) < 98) ∧ (R32 (S 131 (((((7 * a) + b) * 2) + s).toNat)) ∧ (((S 131 (((((7 * a) + b) * 2) + s).toNat)) < 0 → zz_J zpX1_setBy_7 (zz_ret Q X 0 0) 91 [some (vr 100), some (vi p), some (vi a), some (vi b), none, some (vi fr), some (vi ((((7 * a) + b) * 2) + s)), some (vl 0), none, some (vi 0), none, none] [] ((2, f), S, L, P) (0, 0)) ∧ (¬ (S 131 (((((7 * a) + b) * 2) + s).toNat)) < 0 → (0 ≤ ((((7 * a) + b) * 2) + s) ∧ ((((7 * a) + b) * 2) + s) < 98) ∧ (Q (some (vi (S 131 (((((7 * a) + b) * 2) + s).toNat)))) ((2, f), S, L, P)))))))) ∧ (¬ b < (S 200 1) → R32 p ∧ ((¬ p = 0 → R32 b ∧ (R32 (S 200 1) ∧ ((b < (S 200 1) → Q (some (vi 0)) ((2, f), S, L, P)) ∧ (¬ b < (S 200 1) → Q (some (vi 1000000000)) ((2, f), S, L, P))))) ∧ (p = 0 → R32 a ∧ (R32 (S 200 1) ∧ ((a < (S 200 1) → Q (some (vi 0)) ((2, f), S, L, P)) ∧ (¬ a < (S 200 1) → Q (some (vi 1000000000)) ((2, f), S, L, P))))))))))))) : zz_J zpX1_setBy_7 (zz_ret Q X 0 0) 0 [some (vr 100), some (vi p), some (vi a), some (vi b), some (vi s), some (vi fr), none, none, none, none, none, none] [] ((2, f), S, L, P) (0, 0) := zz_J.go [(91, [4, 8, 10, 11]), (108, [4, 8, 10, 11]), (149, [4, 8, 10, 11]), (181, [1, 2, 3, 4, 8, 9, 10, 11])] 400 h
theorem zwX1_setBy_7_91 {Q : Option zv → zz_M → Prop} {X : Nat → zz_M → Prop} {f : Nat → Nat × Nat} {S L : Nat → Nat → Int} {P : Nat → Nat → Option Nat} {x1 : Int} {x2 : Int} {x3 : Int} {x5 : Int} {x6 : Int} {x7 : Int} {x9 : Int} (h : R32 x9 ∧ ((4 ≤ x9 → zz_J zpX1_setBy_7 (zz_ret Q X 0 0) 181 [some (vr 100), none, none, none, none, some (vi x5), some (vi x6), some (vl x7), none, none, none, none] [] ((2, f), S, L, P) (0, 0)) ∧ (¬ 4 ≤ x9 → R32 x9 ∧ ((2 ≤ x9 → zz_J zpX1_setBy_7 (zz_ret Q X 0 0) 108 [some (vr 100), some (vi x1), some (vi x2), some (vi x3), none, some (vi x5), some (vi x6), some (vl x7), none, some (vi x9), none, none] [vi 0] ((2, f), S, L, P) (0, 0)) ∧ (¬ 2 ≤ x9 → zz_J zpX1_setBy_7 (zz_ret Q X 0 0) 108 [some (vr 100), some (vi x1), some (vi x2), some (vi x3), none, some (vi x5), some (vi x6), some (vl x7), none, some (vi x9), none, none] [vi 1] ((2, f), S, L, P) (0, 0)))))) : zz_J zpX1_setBy_7 (zz_ret Q X 0 0) 91 [some (vr 100), some (vi x1), some (vi x2), some (vi x3), none, some (vi x5), some (vi x6), some (vl x7), none, some (vi x9), none, none] [] ((2, f), S, L, P) (0, 0) := zz_J.go [(91, [4, 8, 10, 11]), (108, [4, 8, 10, 11]), (149, [4, 8, 10, 11]), (181, [1, 2, 3, 4, 8, 9, 10, 11])] 400 h
theorem zwX1_setBy_7_108 {Q : Option zv → zz_M → Prop} {X : Nat → zz_M → Prop} {f : Nat → Nat × Nat} {S L : Nat → Nat → Int} {P : Nat → Nat → Option Nat} {x1 : Int} {x2 : Int} {x3 : Int} {x5 : Int} {x6 : Int} {x7 : Int} {x9 : Int} {t0 : Int} (h : R32 t0 ∧ ((t0 = 0 → R32 t0 ∧ ((t0 = 0 → (0 ≤ x9 ∧ x9 < 2147483648) ∧ ((0 ≤ x9 ∧ x9 < 2147483648) ∧ (((x1 = 0 ∨ x1 = 1) ∧ ((x9 % 2) = 0 ∨ (x9 % 2) = 1) ∧ ((1 + (x9 % 2)) = 1 + (x9 % 2) ∨ (1 + (x9 % 2)) = 0) ∧ (0 ≤ (x2 + 0) ∧ (x2 + 0) ≤ S 200 1) ∧ (0 ≤ (x3 + 1) ∧ (x3 + 1) ≤ S 200 1) ∧ (1 ≤ S 200 1 ∧ S 200 1 ≤ 6) ∧ S 200 1 - (x2 + 0) + (S 200 1 - (x3 + 1)) ≤ 6 ∧ ∃ wy_1 : Nat → Int, wyG wy_1 ∧ (∀ s_1 k_1, s_1 < 2 → k_1 < 4 → S (129 + s_1) k_1 = wy_1 (4 * s_1 + k_1)) ∧ fG (S (128 + (1 + (x9 % 2)).toNat)) ∧ meI S wy_1 (S 200 1) x1 ∧ (∀ S_1 : Nat → Nat → Int, (∀ j_1, j_1 ≠ 131 → S_1 j_1 = S j_1) → meI S_1 wy_1 (S 200 1) x1 → (zz_J zpX1_setBy_7 (zz_ret Q X 0 0) 149 [some (vr 100), some (vi x1), some (vi x2), some (vi x3), none, some (vi x5), some (vi x6), some (vl x7), none, some (vi x9), none, none] [vi (sbV wy_1 (S 200 1) x1 (S (128 + (1 + (x9 % 2)).toNat)) (x2 + 0) (x3 + 1))] ((2, f), S_1, L, P) (0, 0))))))) ∧ (¬ t0 = 0 → (0 ≤ x9 ∧ x9 < 2147483648) ∧ ((0 ≤ x9 ∧ x9 < 2147483648) ∧ (((x1 = 0 ∨ x1 = 1) ∧ ((x9 % 2) = 0 ∨ (x9 % 2) = 1) ∧ ((1 + (x9 % 2)) = 1 + (x9 % 2) ∨ (1 + (x9 % 2)) = 0) ∧ (0 ≤ (x2 + 0) ∧ (x2 + 0) ≤ S 200 1) ∧ (0 ≤ (x3 + 0) ∧ (x3 + 0) ≤ S 200 1) ∧ (1 ≤ S 200 1 ∧ S 200 1 ≤ 6) ∧ S 200 1 - (x2 + 0) + (S 200 1 - (x3 + 0)) ≤ 6 ∧ ∃ wy_2 : Nat → Int, wyG wy_2 ∧ (∀ s_2 k_2, s_2 < 2 → k_2 < 4 → S (129 + s_2) k_2 = wy_2 (4 * s_2 + k_2)) ∧ fG (S (128 + (1 + (x9 % 2)).toNat)) ∧ meI S wy_2 (S 200 1) x1 ∧ (∀ S_2 : Nat → Nat → Int, (∀ j_2, j_2 ≠ 131 → S_2 j_2 = S j_2) → meI S_2 wy_2 (S 200 1) x1 → (zz_J zpX1_setBy_7 (zz_ret Q X 0 0) 149 [some (vr 100), some (vi x1), some (vi x2), some (vi x3), none, some (vi x5), some (vi x6), some (vl x7), none, some (vi x9), none, none] [vi (sbV wy_2 (S 200 1) x1 (S (128 + (1 + (x9 % 2)).toNat)) (x2 + 0) (x3 + 0))] ((2, f), S_2, L, P) (0, 0))))))))) ∧ (¬ t0 = 0 → R32 t0 ∧ ((t0 = 0 → (0 ≤ x9 ∧ x9 < 2147483648) ∧ ((0 ≤ x9 ∧ x9 < 2147483648) ∧ (((x1 = 0 ∨ x1 = 1) ∧ ((x9 % 2) = 0 ∨ (x9 % 2) = 1) ∧ ((1 + (x9 % 2)) = 1 + (x9 % 2) ∨ (1 + (x9 % 2)) = 0) ∧ (0 ≤ (x2 + 1) ∧ (x2 + 1) ≤ S 200 1) ∧ (0 ≤ (x3 + 1) ∧ (x3 + 1) ≤ S 200 1) ∧ (1 ≤ S 200 1 ∧ S 200 1 ≤ 6) ∧ S 200 1 - (x2 + 1) + (S 200 1 - (x3 + 1)) ≤ 6 ∧ ∃ wy_3 : Nat → Int, wyG wy_3 ∧ (∀ s_3 k_3, s_3 < 2 → k_3 < 4 → S (129 + s_3) k_3 = wy_3 (4 * s_3 + k_3)) ∧ fG (S (128 + (1 + (x9 % 2)).toNat)) ∧ meI S wy_3 (S 200 1) x1 ∧ (∀ S_3 : Nat → Nat → Int, (∀ j_3, j_3 ≠ 131 → S_3 j_3 = S j_3) → meI S_3 wy_3 (S 200 1) x1 → (zz_J zpX1_setBy_7 (zz_ret Q X 0 0) 149 [some (vr 100), some (vi x1), some (vi x2), some (vi x3), none, some (vi x5), some (vi x6), some (vl x7), none, some (vi x9), none, none] [vi (sbV wy_3 (S 200 1) x1 (S (128 + (1 + (x9 % 2)).toNat)) (x2 + 1) (x3 + 1))] ((2, f), S_3, L, P) (0, 0))))))) ∧ (¬ t0 = 0 → (0 ≤ x9 ∧ x9 < 2147483648) ∧ ((0 ≤ x9 ∧ x9 < 2147483648) ∧ (((x1 = 0 ∨ x1 = 1) ∧ ((x9 % 2) = 0 ∨ (x9 % 2) = 1) ∧ ((1 + (x9 % 2)) = 1 + (x9 % 2) ∨ (1 + (x9 % 2)) = 0) ∧ (0 ≤ (x2 + 1) ∧ (x2 + 1) ≤ S 200 1) ∧ (0 ≤ (x3 + 0) ∧ (x3 + 0) ≤ S 200 1) ∧ (1 ≤ S 200 1 ∧ S 200 1 ≤ 6) ∧ S 200 1 - (x2 + 1) + (S 200 1 - (x3 + 0)) ≤ 6 ∧ ∃ wy_4 : Nat → Int, wyG wy_4 ∧ (∀ s_4 k_4, s_4 < 2 → k_4 < 4 → S (129 + s_4) k_4 = wy_4 (4 * s_4 + k_4)) ∧ fG (S (128 + (1 + (x9 % 2)).toNat)) ∧ meI S wy_4 (S 200 1) x1 ∧ (∀ S_4 : Nat → Nat → Int, (∀ j_4, j_4 ≠ 131 → S_4 j_4 = S j_4) → meI S_4 wy_4 (S 200 1) x1 → (zz_J zpX1_setBy_7 (zz_ret Q X 0 0) 149 [some (vr 100), some (vi x1), some (vi x2), some (vi x3), none, some (vi x5), some (vi x6), some (vl x7), none, some (vi x9), none, none] [vi (sbV wy_4 (S 200 1) x1 (S (128 + (1 + (x9 % 2)).toNat)) (x2 + 1) (x3 + 0))] ((2, f), S_4, L, P) (0, 0))))))))))) : zz_J zpX1_setBy_7 (zz_ret Q X 0 0) 108 [some (vr 100), some (vi x1), some (vi x2), some (vi x3), none, some (vi x5), some (vi x6), some (vl x7), none, some (vi x9), none, none] [vi t0] ((2, f), S, L, P) (0, 0) := zz_J.go [(91, [4, 8, 10, 11]), (108, [4, 8, 10, 11]), (149, [4, 8, 10, 11]), (181, [1, 2, 3, 4, 8, 9, 10, 11])] 400 h
theorem zwX1_setBy_7_149 {Q : Option zv → zz_M → Prop} {X : Nat → zz_M → Prop} {f : Nat → Nat × Nat} {S L : Nat → Nat → Int} {P : Nat → Nat → Option Nat} {x1 : Int} {x2 : Int} {x3 : Int} {x5 : Int} {x6 : Int} {x7 : Int} {x9 : Int} {t0 : Int} (h : ∃ t_ n_ : Nat, zsh ((2, f), S, L, P) 127 = (t_, n_) ∧ (t_ = 6 ∨ t_ = 7 ∨ t_ = 8) ∧ (n_ : Int) ≤ 2147483647 ∧ (0 ≤ x5 ∧ x5 < (n_ : Int)) ∧ (∀ b1 : Nat, zpt ((2, f), S, L, P) 127 x5.toNat = some b1 → ∃ n_ : Nat, zsh ((2, f), S, L, P) b1 = (2, n_) ∧ (n_ : Int) ≤ 2147483647 ∧ (0 ≤ x9 ∧ x9 < (n_ : Int)) ∧ (R32 (S b1 x9.toNat) ∧ (R32 t0 ∧ ((0 ≤ ((S b1 x9.toNat) * t0) ∧ ((S b1 x9.toNat) * t0) < 9223372036854775808) ∧ (zz_J zpX1_setBy_7 (zz_ret Q X 0 0) 91 [some (vr 100), some (vi x1), some (vi x2), some (vi x3), none, some (vi x5), some (vi x6), some (vl (x7 + (((S b1 x9.toNat) * t0) / 1000000000))), none, some (vi (x9 + 1)), none, none] [] ((2, f), S, L, P) (0, 0)))))) ∧ (zpt ((2, f), S, L, P) 127 x5.toNat = none → False)) : zz_J zpX1_setBy_7 (zz_ret Q X 0 0) 149 [some (vr 100), some (vi x1), some (vi x2), some (vi x3), none, some (vi x5), some (vi x6), some (vl x7), none, some (vi x9), none, none] [vi t0] ((2, f), S, L, P) (0, 0) := zz_J.go [(91, [4, 8, 10, 11]), (108, [4, 8, 10, 11]), (149, [4, 8, 10, 11]), (181, [1, 2, 3, 4, 8, 9, 10, 11])] 400 h
theorem zwX1_setBy_7_181 {Q : Option zv → zz_M → Prop} {X : Nat → zz_M → Prop} {f : Nat → Nat × Nat} {S L : Nat → Nat → Int} {P : Nat → Nat → Option Nat} {x5 : Int} {x6 : Int} {x7 : Int} (h : R32 x5 ∧ ((x5 ≤ 0 → R64 x7 ∧ (Q (some (vi x7)) ((2, f), S, L, P))) ∧ (¬ x5 ≤ 0 → R64 x7 ∧ ((0 ≤ x6 ∧ x6 < 98) ∧ (R64 x7 ∧ (Q (some (vi x7)) ((2, f), mm_up S 131 x6.toNat x7, L, P))))))) : zz_J zpX1_setBy_7 (zz_ret Q X 0 0) 181 [some (vr 100), none, none, none, none, some (vi x5), some (vi x6), some (vl x7), none, none, none, none] [] ((2, f), S, L, P) (0, 0) := zz_J.go [(91, [4, 8, 10, 11]), (108, [4, 8, 10, 11]), (149, [4, 8, 10, 11]), (181, [1, 2, 3, 4, 8, 9, 10, 11])] 400 h

theorem zmX1_setBy_7 (l : Launch) (hl : l.stackTraces = false) : mm_Spec l yX1_setBy (ws_ yX1_setBy cX1_setBy 12 (some .int)) (mm_rm 12 0 0) (zE zX1_setBy_7) := by
  refine zz_Met.J hl (by decide) (fun C G hnh => ztX1_setBy_7 G hnh) ?_
  rintro as ⟨⟨t_, f⟩, S, L, P⟩ Q X h
  unfold zX1_setBy_7 at h
  split at h
  rotate_left
  · exact h.elim
  rename_i h_ p a b s fr
  obtain ⟨e1_, e2_, h⟩ := mm_and2 h (fun q => q)
  cases mm_beq e1_
  cases mm_beq e2_
  try dsimp only at h
  refine ⟨rfl, ?_⟩
  obtain ⟨hp, hs, hfr, ha, hb, hG, hr, wy, hw, hrow, hF, hme, hq⟩ := h
  by_cases o : S 200 1 ≤ a ∨ S 200 1 ≤ b
  · have hq := hq S (fun _ _ => rfl) hme
    unfold sbV at hq
    rw [if_pos o] at hq
    have k1 : ¬ p = 0 → R32 b ∧ (R32 (S 200 1) ∧ ((b < (S 200 1) → Q (some (vi 0)) ((2, f), S, L, P)) ∧ (¬ b < (S 200 1) → Q (some (vi 1000000000)) ((2, f), S, L, P)))) := fun d => ⟨by omega, by omega, fun e => by rw [if_neg (by rw [if_neg d]; omega)] at hq; exact hq, fun e => by rw [if_pos (by rw [if_neg d]; omega)] at hq; exact hq⟩
    have k0 : p = 0 → R32 a ∧ (R32 (S 200 1) ∧ ((a < (S 200 1) → Q (some (vi 0)) ((2, f), S, L, P)) ∧ (¬ a < (S 200 1) → Q (some (vi 1000000000)) ((2, f), S, L, P)))) := fun d => ⟨by omega, by omega, fun e => by rw [if_neg (by rw [if_pos d]; omega)] at hq; exact hq, fun e => by rw [if_pos (by rw [if_pos d]; omega)] at hq; exact hq⟩
    exact zwX1_setBy_7_0 ⟨by omega, by omega, fun c => ⟨by omega, k1, k0⟩, fun c => ⟨by omega, by omega, fun e => absurd o (by omega), fun e => ⟨by omega, k1, k0⟩⟩⟩
  obtain ⟨a', rfl⟩ : ∃ a' : Nat, a = (a' : Int) := ⟨a.toNat, by omega⟩
  obtain ⟨b', rfl⟩ : ∃ b' : Nat, b = (b' : Int) := ⟨b.toNat, by omega⟩
  obtain ⟨s', hs', es⟩ : ∃ s' : Nat, s' < 2 ∧ s = (s' : Int) := ⟨s.toNat, by omega, by omega⟩
  obtain ⟨r', hr', er⟩ : ∃ r' : Nat, r' < 3 ∧ fr = (r' : Int) := ⟨fr.toNat, by omega, by omega⟩
  subst es er
  have hcv := fun k => bcV_in (G := S 200 1) (p := p) (a := (a' : Int)) (b := (b' : Int)) hw k
  rw [Int.toNat_natCast] at hF hq
  have sin := sbS_in hF hcv
  have hq : ∀ S_ : Nat → Nat → Int, (∀ j, j ≠ 131 → S_ j = S j) → meI S_ wy (S 200 1) p → Q (some (vi (sbS (S (128 + r')) (bcV wy (S 200 1) p a' b') 4))) ((2, f), S_, L, P) := fun S_ e1 e2 => by
    have hq := hq S_ e1 e2
    unfold sbV at hq
    rw [if_neg o] at hq
    exact hq
  have est : (1 : Int) + s' = r' → sbS (S (128 + r')) (bcV wy (S 200 1) p a' b') 4 = stO wy (S 200 1) p 12 a' b' s' := fun e => by
    have e2 : r' = 1 + s' := by omega
    have := sbV_st (wy := wy) (G := S 200 1) (p := p) (a := (a' : Int)) (b := (b' : Int)) (s := s') (F := S (128 + r')) (fun k hk => by rw [e2, show 128 + (1 + s') = 129 + s' by omega]; exact hrow s' k hs' hk) (by omega) (by omega) (by omega)
    unfold sbV at this
    rw [if_neg o] at this
    exact this
  have wy4 : ∀ s : Nat, s < 2 → fG (S (129 + s)) := fun s hs => by
    refine ⟨fun k hk => by rw [hrow s k hs hk]; exact hw.1 _ (by omega), ?_⟩
    rw [hrow s 0 hs (by decide), hrow s 1 hs (by decide), hrow s 2 hs (by decide), hrow s 3 hs (by decide)]
    have : s = 0 ∨ s = 1 := by omega
    rcases this with e | e <;> subst e
    · exact hw.2.1
    · exact hw.2.2
  have t91 : ∀ (m k : Nat) (T : Nat → Nat → Int), k + m = 4 → (∀ j, j ≠ 131 → T j = S j) → meI T wy (S 200 1) p → zz_J zpX1_setBy_7 (zz_ret Q X 0 0) 91 [some (vr 100), some (vi p), some (vi (a' : Int)), some (vi (b' : Int)), none, some (vi (r' : Int)), some (vi ((((7 * (a' : Int)) + b') * 2) + s')), some (vl (sbS (S (128 + r')) (bcV wy (S 200 1) p a' b') k)), none, some (vi (k : Int)), none, none] [] ((2, f), T, L, P) (0, 0) := by
    intro m
    induction m with
    | zero =>
      intro k T hk eT mT
      have k4 : k = 4 := by omega
      subst k4
      have s4 := sin 4 (by decide)
      have R4 : R64 (sbS (S (128 + r')) (bcV wy (S 200 1) p a' b') 4) := by omega
      refine zwX1_setBy_7_91 ⟨by omega, fun _ => zwX1_setBy_7_181 ⟨by omega, fun c => ⟨R4, hq T eT mT⟩, fun c => ⟨R4, by omega, R4, ?_⟩⟩, fun d => absurd (by omega) d⟩
      have ei : ((((7 * (a' : Int)) + b') * 2) + s').toNat = (7 * a' + b') * 2 + s' := by omega
      have e1 := est (by omega)
      refine hq _ (fun j hj => ?_) ?_
      · funext x
        rw [up_eq, if_neg (by omega), eT j hj]
      · rw [ei, e1]
        exact mT.up (by omega) (by omega) hs'
    | succ m ih =>
      intro k T hk eT mT
      have k4 : k < 4 := by omega
      have eG : T 200 1 = S 200 1 := by rw [eT 200 (by decide)]
      have t149 : ∀ (U : Nat → Nat → Int), (∀ j, j ≠ 131 → U j = S j) → meI U wy (S 200 1) p → zz_J zpX1_setBy_7 (zz_ret Q X 0 0) 149 [some (vr 100), some (vi p), some (vi (a' : Int)), some (vi (b' : Int)), none, some (vi (r' : Int)), some (vi ((((7 * (a' : Int)) + b') * 2) + s')), some (vl (sbS (S (128 + r')) (bcV wy (S 200 1) p a' b') k)), none, some (vi (k : Int)), none, none] [vi (bcV wy (S 200 1) p a' b' k)] ((2, f), U, L, P) (0, 0) := by
        intro U eU mU
        obtain ⟨w1, w2⟩ := ways_at (f := f) (S := U) (L := L) (P := P) hr'
        have fk := hF.1 k k4
        have ck := hcv k
        have m9 := mul_sure fk.1 ck.1 ck.2
        refine zwX1_setBy_7_149 ⟨6, 3, rfl, Or.inl rfl, by decide, by omega, fun b1 hb1 => ?_, fun hb1 => ?_⟩
        · rw [Int.toNat_natCast, w1] at hb1
          cases hb1
          refine ⟨4, w2, by decide, by omega, ?_⟩
          rw [Int.toNat_natCast, eU (128 + r') (by omega)]
          exact ⟨by omega, by omega, by omega, ih (k + 1) U (by omega) eU mU⟩
        · rw [Int.toNat_natCast, w1] at hb1
          cases hb1
      have rowT : ∀ s_ k_, s_ < 2 → k_ < 4 → T (129 + s_) k_ = wy (4 * s_ + k_) := fun s_ k_ g1 g2 => by rw [eT (129 + s_) (by omega)]; exact hrow s_ k_ g1 g2
      have mk : ((k : Int) % 2 = 0 ∨ (k : Int) % 2 = 1) := by omega
      have ek2 : ((k : Int) % 2).toNat = k % 2 := by omega
      have ek3 : 128 + (1 + (k : Int) % 2).toNat = 129 + k % 2 := by omega
      have nxt : ∀ x y : Int, (x ≤ S 200 1 ∧ y ≤ S 200 1 ∧ S 200 1 - x + (S 200 1 - y) ≤ 12) → stO wy (S 200 1) p 12 x y (k % 2) = bcV wy (S 200 1) p a' b' k → ∀ S_ : Nat → Nat → Int, (∀ j, j ≠ 131 → S_ j = T j) → meI S_ wy (T 200 1) p → zz_J zpX1_setBy_7 (zz_ret Q X 0 0) 149 [some (vr 100), some (vi p), some (vi (a' : Int)), some (vi (b' : Int)), none, some (vi (r' : Int)), some (vi ((((7 * (a' : Int)) + b') * 2) + s')), some (vl (sbS (S (128 + r')) (bcV wy (S 200 1) p a' b') k)), none, some (vi (k : Int)), none, none] [vi (sbV wy (T 200 1) p (T (128 + (1 + (k : Int) % 2).toNat)) x y)] ((2, f), S_, L, P) (0, 0) := by
        intro x y hxy e S_ e1 e2
        rw [eG] at e2 ⊢
        rw [ek3, sbV_st (s := k % 2) (fun j hj => rowT (k % 2) j (by omega) hj) hxy.1 hxy.2.1 hxy.2.2, e]
        exact t149 S_ (fun j hj => by rw [e1 j hj, eT j hj]) e2
      have fGk : fG (T (128 + (1 + (k : Int) % 2).toNat)) := by
        rw [ek3, eT (129 + k % 2) (by omega)]
        exact wy4 (k % 2) (by omega)
      refine zwX1_setBy_7_91 ⟨by omega, fun d => absurd d (by omega), fun _ => ⟨by omega, fun c => zwX1_setBy_7_108 ⟨by decide, fun _ => ⟨by decide, fun _ => ⟨by omega, by omega, hp, mk, Or.inl rfl, by omega, by omega, by omega, by omega, wy, hw, rowT, fGk, by rw [eG]; exact mT, ?_⟩, fun d => absurd rfl d⟩, fun d => absurd rfl d⟩, fun c => zwX1_setBy_7_108 ⟨by decide, fun d => absurd d (by decide), fun _ => ⟨by decide, fun d => absurd d (by decide), fun _ => ⟨by omega, by omega, hp, mk, Or.inl rfl, by omega, by omega, by omega, by omega, wy, hw, rowT, fGk, by rw [eG]; exact mT, ?_⟩⟩⟩⟩⟩
      · refine nxt _ _ (by omega) ?_
        unfold bcV
        rw [if_neg (by omega), if_neg (by omega), Int.add_zero]
      · refine nxt _ _ (by omega) ?_
        unfold bcV
        rw [if_pos (by omega), if_pos (by omega), Int.add_zero]
  have t0 := t91 4 0 S rfl (fun _ _ => rfl) hme
  refine zwX1_setBy_7_0 ⟨by omega, by omega, fun c => absurd (Or.inl c) o, fun c => ⟨by omega, by omega, fun c2 => ⟨by omega, fun d => t0, fun d => ⟨by omega, ?_⟩⟩, fun c2 => absurd (by omega) o⟩⟩
  have ei : ((((7 * (a' : Int)) + b') * 2) + s').toNat = (7 * a' + b') * 2 + s' := by omega
  have me := hme a' b' s' (by omega) (by omega) hs'
  have hin := stO_in (G := S 200 1) (p := p) hw 12 (a' : Int) (b' : Int) s' hs'
  rw [ei]
  refine ⟨by rcases me with e | e <;> rw [e] <;> omega, fun _ => t0, fun d2 => ⟨by omega, ?_⟩⟩
  have e2 := me.resolve_left (by omega)
  rw [e2, ← est (by omega)]
  exact hq S (fun _ _ => rfl) hme
def zX1_setBy_8 : zz_Sp := fun as M Q X => match as with
  | [.inr (.inr (some h_)), .inl p, .inl a, .inl b, .inl s, .inl fr] => bif Nat.beq h_ 100 && Nat.beq M.1.1 2 then ((p = 0 ∨ p = 1) ∧ (s = 0 ∨ s = 1) ∧ (fr = 1 + s ∨ fr = 0) ∧ (0 ≤ a ∧ a ≤ M.2.1 200 1) ∧ (0 ≤ b ∧ b ≤ M.2.1 200 1) ∧ (1 ≤ M.2.1 200 1 ∧ M.2.1 200 1 ≤ 6) ∧ M.2.1 200 1 - a + (M.2.1 200 1 - b) ≤ 8 ∧ ∃ wy_ : Nat → Int, wyG wy_ ∧ (∀ s_ k_, s_ < 2 → k_ < 4 → M.2.1 (129 + s_) k_ = wy_ (4 * s_ + k_)) ∧ fG (M.2.1 (128 + fr.toNat)) ∧ meI M.2.1 wy_ (M.2.1 200 1) p ∧ (∀ S_ : Nat → Nat → Int, (∀ j_, j_ ≠ 131 → S_ j_ = M.2.1 j_) → meI S_ wy_ (M.2.1 200 1) p → Q (some (vi (sbV wy_ (M.2.1 200 1) p (M.2.1 (128 + fr.toNat)) a b))) ((2, M.1.2), S_, M.2.2.1, M.2.2.2))) else False
  | _ => False

def zpX1_setBy_8 : zz_P := [(0, zo_ild 1 2), (1, zo_ald 2 0), (2, zo_get 5 0 2 0), (5, zo_get 8 1 0 1), (8, zo_cge false false 11 22), (11, zo_ild 12 3), (12, zo_ald 13 0), (13, zo_get 16 0 2 0), (16, zo_get 19 1 0 1), (19, zo_clt false false 22 49), (22, zo_ild 23 1), (23, zo_ifne false 26 30), (26, zo_ild 27 2), (27, zo_goto 31), (30, zo_ild 31 3), (31, zo_ald 32 0), (32, zo_get 35 0 2 0), (35, zo_get 38 1 0 1), (38, zo_clt false false 41 47), (41, zo_c 44 (vi 1000000000)), (44, zo_goto 48), (47, zo_c 48 (vi 0)), (48, zo_iret), (49, zo_c 51 (vi 7)), (51, zo_ild 52 2), (52, zo_imul 53), (53, zo_ild 54 3), (54, zo_iadd 55), (55, zo_c 56 (vi 2)), (56, zo_imul 57), (57, zo_ild 59 4), (59, zo_iadd 60), (60, zo_ist 62 6), (62, zo_ild 64 5), (64, zo_ifle false 67 85), (67, zo_ald 68 0), (68, zo_get 71 0 2 15), (71, zo_ild 73 6), (73, zo_iald 74), (74, zo_iflt false 77 85), (77, zo_ald 78 0), (78, zo_get 81 0 2 15), (81, zo_ild 83 6), (83, zo_iald 84), (84, zo_iret), (85, zo_c 86 (vl 0)), (86, zo_lst 88 7), (88, zo_c 89 (vi 0)), (89, zo_ist 91 9), (91, zo_ild 93 9), (93, zo_c 94 (vi 4)), (94, zo_cge false true 97 181), (97, zo_ild 99 9), (99, zo_c 100 (vi 2)), (100, zo_cge false true 103 107), (103, zo_c 104 (vi 1)), (104, zo_goto 108), (107, zo_c 108 (vi 0)), (108, zo_ist 110 10), (110, zo_ald 111 0), (111, zo_ild 112 1), (112, zo_ild 113 2), (113, zo_ild 115 10), (115, zo_ifeq false 118 122), (118, zo_c 119 (vi 1)), (119, zo_goto 123), (122, zo_c 123 (vi 0)), (123, zo_iadd 124), (124, zo_ild 125 3), (125, zo_ild 127 10), (127, zo_ifeq false 130 134), (130, zo_c 131 (vi 0)), (131, zo_goto 135), (134, zo_c 135 (vi 1)), (135, zo_iadd 136), (136, zo_ild 138 9), (138, zo_c 139 (vi 2)), (139, zo_irem 140), (140, zo_c 141 (vi 1)), (141, zo_ild 143 9), (143, zo_c 144 (vi 2)), (144, zo_irem 145), (145, zo_iadd 146), (146, zo_callv 149 6 0 zX1_setBy_7), (149, zo_ist 151 11), (151, zo_lld 153 7), (153, zo_ald 154 0), (154, zo_get 157 0 2 14), (157, zo_ild 159 5), (159, zo_aald 160), (160, zo_ild 162 9), (162, zo_ialp 163), (163, zo_i2l 164), (164, zo_ild 166 11), (166, zo_i2l 167), (167, zo_lmul 168), (168, zo_c 171 (vl 1000000000)), (171, zo_ldiv 172), (172, zo_ladd 173), (173, zo_lst 175 7), (175, zo_inc 178 9 1), (178, zo_goto 91), (181, zo_ild 183 5), (183, zo_ifle false 186 196), (186, zo_ald 187 0), (187, zo_get 190 0 2 15), (190, zo_ild 192 6), (192, zo_lld 194 7), (194, zo_l2i 195), (195, zo_iasd 196), (196, zo_lld 198 7), (198, zo_l2i 199), (199, zo_iret)]
theorem ztX1_setBy_8 {C : mm_C} (G : mm_G C RX1 cX1_setBy (some .int) 12 (mm_rm 13 0 0)) (hnh : mm_nh C) : zz_OKs C zpX1_setBy_8 :=
  ⟨zz_of (ok_iload_n G dX1_setBy_0 rfl rfl) (z_ild _ _),
   zz_of (ok_aload_n G dX1_setBy_1 rfl rfl) (z_ald _ _),
   zz_of (ok_get G (nx := 5) (ci := 0) (kd := 2) (k := 0) (RX1, TX1, 19) rfl (by decide) rfl q399 dX1_setBy_2 rfl) (z_get _ _ _ _),
   zz_of (ok_getN G (nx := 8) (ci := 1) (kd := 0) (k := 1) (RX2, TX2, 11) rfl (by decide) rfl q218 dX1_setBy_5 rfl) (z_get _ _ _ _),
   zz_of (ok_cge G dX1_setBy_8 rfl rfl) (z_cge _ _ _ _),
   zz_of (ok_iload_n G dX1_setBy_11 rfl rfl) (z_ild _ _),
   zz_of (ok_aload_n G dX1_setBy_12 rfl rfl) (z_ald _ _),
   zz_of (ok_get G (nx := 16) (ci := 0) (kd := 2) (k := 0) (RX1, TX1, 19) rfl (by decide) rfl q399 dX1_setBy_13 rfl) (z_get _ _ _ _),
   zz_of (ok_getN G (nx := 19) (ci := 1) (kd := 0) (k := 1) (RX2, TX2, 11) rfl (by decide) rfl q218 dX1_setBy_16 rfl) (z_get _ _ _ _),
   zz_of (ok_clt G dX1_setBy_19 rfl rfl) (z_clt _ _ _ _),
   zz_of (ok_iload_n G dX1_setBy_22 rfl rfl) (z_ild _ _),
   zz_of (ok_ifne G dX1_setBy_23 rfl rfl) (z_ifne _ _ _),
   zz_of (ok_iload_n G dX1_setBy_26 rfl rfl) (z_ild _ _),
   zz_of (ok_goto G dX1_setBy_27 rfl) (z_goto _),
   zz_of (ok_iload_n G dX1_setBy_30 rfl rfl) (z_ild _ _),
   zz_of (ok_aload_n G dX1_setBy_31 rfl rfl) (z_ald _ _),
   zz_of (ok_get G (nx := 35) (ci := 0) (kd := 2) (k := 0) (RX1, TX1, 19) rfl (by decide) rfl q399 dX1_setBy_32 rfl) (z_get _ _ _ _),
   zz_of (ok_getN G (nx := 38) (ci := 1) (kd := 0) (k := 1) (RX2, TX2, 11) rfl (by decide) rfl q218 dX1_setBy_35 rfl) (z_get _ _ _ _),
   zz_of (ok_clt G dX1_setBy_38 rfl rfl) (z_clt _ _ _ _),
   zz_of (ok_ldcw G (v := 1000000000) q1700 dX1_setBy_41 rfl) (z_cn 44 1000000000),
   zz_of (ok_goto G dX1_setBy_44 rfl) (z_goto _),
   zz_of (ok_iconst G (v := 0) dX1_setBy_47 (by decide) rfl) (z_cn 48 0),
   zz_of (ok_iret G dX1_setBy_48) (z_iret),
   zz_of (ok_bipush G (v := 7) dX1_setBy_49 (by decide) rfl) (z_cn 51 7),
   zz_of (ok_iload_n G dX1_setBy_51 rfl rfl) (z_ild _ _),
   zz_of (ok_imul G dX1_setBy_52 rfl) (z_imul _),
   zz_of (ok_iload_n G dX1_setBy_53 rfl rfl) (z_ild _ _),
   zz_of (ok_iadd G dX1_setBy_54 rfl) (z_iadd _),
   zz_of (ok_iconst G (v := 2) dX1_setBy_55 (by decide) rfl) (z_cn 56 2),
   zz_of (ok_imul G dX1_setBy_56 rfl) (z_imul _),
   zz_of (ok_iload G dX1_setBy_57 rfl) (z_ild _ _),
   zz_of (ok_iadd G dX1_setBy_59 rfl) (z_iadd _),
   zz_of (ok_istore G dX1_setBy_60 rfl (by decide)) (z_ist _ _),
   zz_of (ok_iload G dX1_setBy_62 rfl) (z_ild _ _),
   zz_of (ok_ifle G dX1_setBy_64 rfl rfl) (z_ifle _ _ _),
   zz_of (ok_aload_n G dX1_setBy_67 rfl rfl) (z_ald _ _),
   zz_of (ok_get G (nx := 71) (ci := 0) (kd := 2) (k := 15) (RX1, TX1, 19) rfl (by decide) rfl q426 dX1_setBy_68 rfl) (z_get _ _ _ _),
   zz_of (ok_iload G dX1_setBy_71 rfl) (z_ild _ _),
   zz_of (ok_iald G dX1_setBy_73 rfl) (z_iald _),
   zz_of (ok_iflt G dX1_setBy_74 rfl rfl) (z_iflt _ _ _),
   zz_of (ok_aload_n G dX1_setBy_77 rfl rfl) (z_ald _ _),
   zz_of (ok_get G (nx := 81) (ci := 0) (kd := 2) (k := 15) (RX1, TX1, 19) rfl (by decide) rfl q426 dX1_setBy_78 rfl) (z_get _ _ _ _),
   zz_of (ok_iload G dX1_setBy_81 rfl) (z_ild _ _),
   zz_of (ok_iald G dX1_setBy_83 rfl) (z_iald _),
   zz_of (ok_iret G dX1_setBy_84) (z_iret),
   zz_of (ok_lconst G (v := 0) dX1_setBy_85 (by decide) rfl) (z_cl 86 0),
   zz_of (ok_lstore G dX1_setBy_86 rfl (by decide)) (z_lst _ _),
   zz_of (ok_iconst G (v := 0) dX1_setBy_88 (by decide) rfl) (z_cn 89 0),
   zz_of (ok_istore G dX1_setBy_89 rfl (by decide)) (z_ist _ _),
   zz_of (ok_iload G dX1_setBy_91 rfl) (z_ild _ _),
   zz_of (ok_iconst G (v := 4) dX1_setBy_93 (by decide) rfl) (z_cn 94 4),
   zz_of (ok_cge G dX1_setBy_94 rfl rfl) (z_cge _ _ _ _),
   zz_of (ok_iload G dX1_setBy_97 rfl) (z_ild _ _),
   zz_of (ok_iconst G (v := 2) dX1_setBy_99 (by decide) rfl) (z_cn 100 2),
   zz_of (ok_cge G dX1_setBy_100 rfl rfl) (z_cge _ _ _ _),
   zz_of (ok_iconst G (v := 1) dX1_setBy_103 (by decide) rfl) (z_cn 104 1),
   zz_of (ok_goto G dX1_setBy_104 rfl) (z_goto _),
   zz_of (ok_iconst G (v := 0) dX1_setBy_107 (by decide) rfl) (z_cn 108 0),
   zz_of (ok_istore G dX1_setBy_108 rfl (by decide)) (z_ist _ _),
   zz_of (ok_aload_n G dX1_setBy_110 rfl rfl) (z_ald _ _),
   zz_of (ok_iload_n G dX1_setBy_111 rfl rfl) (z_ild _ _),
   zz_of (ok_iload_n G dX1_setBy_112 rfl rfl) (z_ild _ _),
   zz_of (ok_iload G dX1_setBy_113 rfl) (z_ild _ _),
   zz_of (ok_ifeq G dX1_setBy_115 rfl rfl) (z_ifeq _ _ _),
   zz_of (ok_iconst G (v := 1) dX1_setBy_118 (by decide) rfl) (z_cn 119 1),
   zz_of (ok_goto G dX1_setBy_119 rfl) (z_goto _),
   zz_of (ok_iconst G (v := 0) dX1_setBy_122 (by decide) rfl) (z_cn 123 0),
   zz_of (ok_iadd G dX1_setBy_123 rfl) (z_iadd _),
   zz_of (ok_iload_n G dX1_setBy_124 rfl rfl) (z_ild _ _),
   zz_of (ok_iload G dX1_setBy_125 rfl) (z_ild _ _),
   zz_of (ok_ifeq G dX1_setBy_127 rfl rfl) (z_ifeq _ _ _),
   zz_of (ok_iconst G (v := 0) dX1_setBy_130 (by decide) rfl) (z_cn 131 0),
   zz_of (ok_goto G dX1_setBy_131 rfl) (z_goto _),
   zz_of (ok_iconst G (v := 1) dX1_setBy_134 (by decide) rfl) (z_cn 135 1),
   zz_of (ok_iadd G dX1_setBy_135 rfl) (z_iadd _),
   zz_of (ok_iload G dX1_setBy_136 rfl) (z_ild _ _),
   zz_of (ok_iconst G (v := 2) dX1_setBy_138 (by decide) rfl) (z_cn 139 2),
   zz_of (ok_irem G dX1_setBy_139 rfl) (z_irem _),
   zz_of (ok_iconst G (v := 1) dX1_setBy_140 (by decide) rfl) (z_cn 141 1),
   zz_of (ok_iload G dX1_setBy_141 rfl) (z_ild _ _),
   zz_of (ok_iconst G (v := 2) dX1_setBy_143 (by decide) rfl) (z_cn 144 2),
   zz_of (ok_irem G dX1_setBy_144 rfl) (z_irem _),
   zz_of (ok_iadd G dX1_setBy_145 rfl) (z_iadd _),
   zz_of (ok_callv G hnh (zmX1_setBy_7 _ G.hst) rfl rfl (RX1, TX1, 19) rfl q1706 q1708 qs33 q82 q1709 (by decide +kernel) ⟨by decide, by decide⟩ dX1_setBy_146 rfl) (z_callv _ _ _ _),
   zz_of (ok_istore G dX1_setBy_149 rfl (by decide)) (z_ist _ _),
   zz_of (ok_lload G dX1_setBy_151 rfl) (z_lld _ _),
   zz_of (ok_aload_n G dX1_setBy_153 rfl rfl) (z_ald _ _),
   zz_of (ok_get G (nx := 157) (ci := 0) (kd := 2) (k := 14) (RX1, TX1, 19) rfl (by decide) rfl q425 dX1_setBy_154 rfl) (z_get _ _ _ _),
   zz_of (ok_iload G dX1_setBy_157 rfl) (z_ild _ _),
   zz_of (ok_aald G dX1_setBy_159 rfl) (z_aald _),
   zz_of (ok_iload G dX1_setBy_160 rfl) (z_ild _ _),
   zz_of (ok_iald G dX1_setBy_162 rfl) (z_ialp _),
   zz_of (ok_i2l G dX1_setBy_163 rfl) (z_i2l _),
   zz_of (ok_iload G dX1_setBy_164 rfl) (z_ild _ _),
   zz_of (ok_i2l G dX1_setBy_166 rfl) (z_i2l _),
   zz_of (ok_lmul G dX1_setBy_167 rfl) (z_lmul _),
   zz_of (ok_ldc2 G (v := 1000000000) q1710 dX1_setBy_168 rfl) (z_cl 171 1000000000),
   zz_of (ok_ldiv G dX1_setBy_171 rfl) (z_ldiv _),
   zz_of (ok_ladd G dX1_setBy_172 rfl) (z_ladd _),
   zz_of (ok_lstore G dX1_setBy_173 rfl (by decide)) (z_lst _ _),
   zz_of (ok_iinc G (v := 1) dX1_setBy_175 (by decide) rfl (by decide)) (z_incn 178 9 1),
   zz_of (ok_goto G dX1_setBy_178 rfl) (z_goto _),
   zz_of (ok_iload G dX1_setBy_181 rfl) (z_ild _ _),
   zz_of (ok_ifle G dX1_setBy_183 rfl rfl) (z_ifle _ _ _),
   zz_of (ok_aload_n G dX1_setBy_186 rfl rfl) (z_ald _ _),
   zz_of (ok_get G (nx := 190) (ci := 0) (kd := 2) (k := 15) (RX1, TX1, 19) rfl (by decide) rfl q426 dX1_setBy_187 rfl) (z_get _ _ _ _),
   zz_of (ok_iload G dX1_setBy_190 rfl) (z_ild _ _),
   zz_of (ok_lload G dX1_setBy_192 rfl) (z_lld _ _),
   zz_of (ok_l2i G dX1_setBy_194 rfl) (z_l2i _),
   zz_of (ok_iast G dX1_setBy_195 rfl) (z_iasd _),
   zz_of (ok_lload G dX1_setBy_196 rfl) (z_lld _ _),
   zz_of (ok_l2i G dX1_setBy_198 rfl) (z_l2i _),
   zz_of (ok_iret G dX1_setBy_199) (z_iret), trivial⟩

theorem zwX1_setBy_8_0 {Q : Option zv → zz_M → Prop} {X : Nat → zz_M → Prop} {f : Nat → Nat × Nat} {S L : Nat → Nat → Int} {P : Nat → Nat → Option Nat} {p : Int} {a : Int} {b : Int} {s : Int} {fr : Int} (h : R32 a ∧ (R32 (S 200 1) ∧ (((S 200 1) ≤ a → R32 p ∧ ((¬ p = 0 → R32 b ∧ (R32 (S 200 1) ∧ ((b < (S 200 1) → Q (some (vi 0)) ((2, f), S, L, P)) ∧ (¬ b < (S 200 1) → Q (some (vi 1000000000)) ((2, f), S, L, P))))) ∧ (p = 0 → R32 a ∧ (R32 (S 200 1) ∧ ((a < (S 200 1) → Q (some (vi 0)) ((2, f), S, L, P)) ∧ (¬ a < (S 200 1) → Q (some (vi 1000000000)) ((2, f), S, L, P))))))) ∧ (¬ (S 200 1) ≤ a → R32 b ∧ (R32 (S 200 1) ∧ ((b < (S 200 1) → R32 fr ∧ ((fr ≤ 0 → zz_J zpX1_setBy_8 (zz_ret Q X 0 0) 91 [some (vr 100), some (vi p), some (vi a), some (vi b), none, some (vi fr), some (vi ((((7 * a) + b) * 2) + s)), some (vl 0), none, some (vi 0), none, none] [] ((2, f), S, L, P) (0, 0)) ∧ (¬ fr ≤ 0 → (0 ≤ ((((7 * a) + b) * 2) + s) ∧ ((((7 * a) + b) * 2) + s) < 98) ∧ (R32 (S 131 (((((7 * a) + b) * 2) + s).toNat)) ∧ (((S 131 (((((7 * a) + b) * 2) + s).toNat)) < 0 → zz_J zpX1_setBy_8 (zz_ret Q X 0 0) 91 [some (vr 100), some (vi p), some (vi a), some (vi b), none, some (vi fr), some (vi ((((7 * a) + b) * 2) + s)), some (vl 0), none, some (vi 0), none, none] [] ((2, f), S, L, P) (0, 0)) ∧ (¬ (S 131 (((((7 * a) + b) * 2) + s).toNat)) < 0 → (0 ≤ ((((7 * a) + b) * 2) + s) ∧ ((((7 * a) + b) * 2) + s) < 98) ∧ (Q (some (vi (S 131 (((((7 * a) + b) * 2) + s).toNat)))) ((2, f), S, L, P)))))))) ∧ (¬ b < (S 200 1) → R32 p ∧ ((¬ p = 0 → R32 b ∧ (R32 (S 200 1) ∧ ((b < (S 200 1) → Q (some (vi 0)) ((2, f), S, L, P)) ∧ (¬ b < (S 200 1) → Q (some (vi 1000000000)) ((2, f), S, L, P))))) ∧ (p = 0 → R32 a ∧ (R32 (S 200 1) ∧ ((a < (S 200 1) → Q (some (vi 0)) ((2, f), S, L, P)) ∧ (¬ a < (S 200 1) → Q (some (vi 1000000000)) ((2, f), S, L, P))))))))))))) : zz_J zpX1_setBy_8 (zz_ret Q X 0 0) 0 [some (vr 100), some (vi p), some (vi a), some (vi b), some (vi s), some (vi fr), none, none, none, none, none, none] [] ((2, f), S, L, P) (0, 0) := zz_J.go [(91, [4, 8, 10, 11]), (108, [4, 8, 10, 11]), (149, [4, 8, 10, 11]), (181, [1, 2, 3, 4, 8, 9, 10, 11])] 400 h
theorem zwX1_setBy_8_91 {Q : Option zv → zz_M → Prop} {X : Nat → zz_M → Prop} {f : Nat → Nat × Nat} {S L : Nat → Nat → Int} {P : Nat → Nat → Option Nat} {x1 : Int} {x2 : Int} {x3 : Int} {x5 : Int} {x6 : Int} {x7 : Int} {x9 : Int} (h : R32 x9 ∧ ((4 ≤ x9 → zz_J zpX1_setBy_8 (zz_ret Q X 0 0) 181 [some (vr 100), none, none, none, none, some (vi x5), some (vi x6), some (vl x7), none, none, none, none] [] ((2, f), S, L, P) (0, 0)) ∧ (¬ 4 ≤ x9 → R32 x9 ∧ ((2 ≤ x9 → zz_J zpX1_setBy_8 (zz_ret Q X 0 0) 108 [some (vr 100), some (vi x1), some (vi x2), some (vi x3), none, some (vi x5), some (vi x6), some (vl x7), none, some (vi x9), none, none] [vi 0] ((2, f), S, L, P) (0, 0)) ∧ (¬ 2 ≤ x9 → zz_J zpX1_setBy_8 (zz_ret Q X 0 0) 108 [some (vr 100), some (vi x1), some (vi x2), some (vi x3), none, some (vi x5), some (vi x6), some (vl x7), none, some (vi x9), none, none] [vi 1] ((2, f), S, L, P) (0, 0)))))) : zz_J zpX1_setBy_8 (zz_ret Q X 0 0) 91 [some (vr 100), some (vi x1), some (vi x2), some (vi x3), none, some (vi x5), some (vi x6), some (vl x7), none, some (vi x9), none, none] [] ((2, f), S, L, P) (0, 0) := zz_J.go [(91, [4, 8, 10, 11]), (108, [4, 8, 10, 11]), (149, [4, 8, 10, 11]), (181, [1, 2, 3, 4, 8, 9, 10, 11])] 400 h
theorem zwX1_setBy_8_108 {Q : Option zv → zz_M → Prop} {X : Nat → zz_M → Prop} {f : Nat → Nat × Nat} {S L : Nat → Nat → Int} {P : Nat → Nat → Option Nat} {x1 : Int} {x2 : Int} {x3 : Int} {x5 : Int} {x6 : Int} {x7 : Int} {x9 : Int} {t0 : Int} (h : R32 t0 ∧ ((t0 = 0 → R32 t0 ∧ ((t0 = 0 → (0 ≤ x9 ∧ x9 < 2147483648) ∧ ((0 ≤ x9 ∧ x9 < 2147483648) ∧ (((x1 = 0 ∨ x1 = 1) ∧ ((x9 % 2) = 0 ∨ (x9 % 2) = 1) ∧ ((1 + (x9 % 2)) = 1 + (x9 % 2) ∨ (1 + (x9 % 2)) = 0) ∧ (0 ≤ (x2 + 0) ∧ (x2 + 0) ≤ S 200 1) ∧ (0 ≤ (x3 + 1) ∧ (x3 + 1) ≤ S 200 1) ∧ (1 ≤ S 200 1 ∧ S 200 1 ≤ 6) ∧ S 200 1 - (x2 + 0) + (S 200 1 - (x3 + 1)) ≤ 7 ∧ ∃ wy_1 : Nat → Int, wyG wy_1 ∧ (∀ s_1 k_1, s_1 < 2 → k_1 < 4 → S (129 + s_1) k_1 = wy_1 (4 * s_1 + k_1)) ∧ fG (S (128 + (1 + (x9 % 2)).toNat)) ∧ meI S wy_1 (S 200 1) x1 ∧ (∀ S_1 : Nat → Nat → Int, (∀ j_1, j_1 ≠ 131 → S_1 j_1 = S j_1) → meI S_1 wy_1 (S 200 1) x1 → (zz_J zpX1_setBy_8 (zz_ret Q X 0 0) 149 [some (vr 100), some (vi x1), some (vi x2), some (vi x3), none, some (vi x5), some (vi x6), some (vl x7), none, some (vi x9), none, none] [vi (sbV wy_1 (S 200 1) x1 (S (128 + (1 + (x9 % 2)).toNat)) (x2 + 0) (x3 + 1))] ((2, f), S_1, L, P) (0, 0))))))) ∧ (¬ t0 = 0 → (0 ≤ x9 ∧ x9 < 2147483648) ∧ ((0 ≤ x9 ∧ x9 < 2147483648) ∧ (((x1 = 0 ∨ x1 = 1) ∧ ((x9 % 2) = 0 ∨ (x9 % 2) = 1) ∧ ((1 + (x9 % 2)) = 1 + (x9 % 2) ∨ (1 + (x9 % 2)) = 0) ∧ (0 ≤ (x2 + 0) ∧ (x2 + 0) ≤ S 200 1) ∧ (0 ≤ (x3 + 0) ∧ (x3 + 0) ≤ S 200 1) ∧ (1 ≤ S 200 1 ∧ S 200 1 ≤ 6) ∧ S 200 1 - (x2 + 0) + (S 200 1 - (x3 + 0)) ≤ 7 ∧ ∃ wy_2 : Nat → Int, wyG wy_2 ∧ (∀ s_2 k_2, s_2 < 2 → k_2 < 4 → S (129 + s_2) k_2 = wy_2 (4 * s_2 + k_2)) ∧ fG (S (128 + (1 + (x9 % 2)).toNat)) ∧ meI S wy_2 (S 200 1) x1 ∧ (∀ S_2 : Nat → Nat → Int, (∀ j_2, j_2 ≠ 131 → S_2 j_2 = S j_2) → meI S_2 wy_2 (S 200 1) x1 → (zz_J zpX1_setBy_8 (zz_ret Q X 0 0) 149 [some (vr 100), some (vi x1), some (vi x2), some (vi x3), none, some (vi x5), some (vi x6), some (vl x7), none, some (vi x9), none, none] [vi (sbV wy_2 (S 200 1) x1 (S (128 + (1 + (x9 % 2)).toNat)) (x2 + 0) (x3 + 0))] ((2, f), S_2, L, P) (0, 0))))))))) ∧ (¬ t0 = 0 → R32 t0 ∧ ((t0 = 0 → (0 ≤ x9 ∧ x9 < 2147483648) ∧ ((0 ≤ x9 ∧ x9 < 2147483648) ∧ (((x1 = 0 ∨ x1 = 1) ∧ ((x9 % 2) = 0 ∨ (x9 % 2) = 1) ∧ ((1 + (x9 % 2)) = 1 + (x9 % 2) ∨ (1 + (x9 % 2)) = 0) ∧ (0 ≤ (x2 + 1) ∧ (x2 + 1) ≤ S 200 1) ∧ (0 ≤ (x3 + 1) ∧ (x3 + 1) ≤ S 200 1) ∧ (1 ≤ S 200 1 ∧ S 200 1 ≤ 6) ∧ S 200 1 - (x2 + 1) + (S 200 1 - (x3 + 1)) ≤ 7 ∧ ∃ wy_3 : Nat → Int, wyG wy_3 ∧ (∀ s_3 k_3, s_3 < 2 → k_3 < 4 → S (129 + s_3) k_3 = wy_3 (4 * s_3 + k_3)) ∧ fG (S (128 + (1 + (x9 % 2)).toNat)) ∧ meI S wy_3 (S 200 1) x1 ∧ (∀ S_3 : Nat → Nat → Int, (∀ j_3, j_3 ≠ 131 → S_3 j_3 = S j_3) → meI S_3 wy_3 (S 200 1) x1 → (zz_J zpX1_setBy_8 (zz_ret Q X 0 0) 149 [some (vr 100), some (vi x1), some (vi x2), some (vi x3), none, some (vi x5), some (vi x6), some (vl x7), none, some (vi x9), none, none] [vi (sbV wy_3 (S 200 1) x1 (S (128 + (1 + (x9 % 2)).toNat)) (x2 + 1) (x3 + 1))] ((2, f), S_3, L, P) (0, 0))))))) ∧ (¬ t0 = 0 → (0 ≤ x9 ∧ x9 < 2147483648) ∧ ((0 ≤ x9 ∧ x9 < 2147483648) ∧ (((x1 = 0 ∨ x1 = 1) ∧ ((x9 % 2) = 0 ∨ (x9 % 2) = 1) ∧ ((1 + (x9 % 2)) = 1 + (x9 % 2) ∨ (1 + (x9 % 2)) = 0) ∧ (0 ≤ (x2 + 1) ∧ (x2 + 1) ≤ S 200 1) ∧ (0 ≤ (x3 + 0) ∧ (x3 + 0) ≤ S 200 1) ∧ (1 ≤ S 200 1 ∧ S 200 1 ≤ 6) ∧ S 200 1 - (x2 + 1) + (S 200 1 - (x3 + 0)) ≤ 7 ∧ ∃ wy_4 : Nat → Int, wyG wy_4 ∧ (∀ s_4 k_4, s_4 < 2 → k_4 < 4 → S (129 + s_4) k_4 = wy_4 (4 * s_4 + k_4)) ∧ fG (S (128 + (1 + (x9 % 2)).toNat)) ∧ meI S wy_4 (S 200 1) x1 ∧ (∀ S_4 : Nat → Nat → Int, (∀ j_4, j_4 ≠ 131 → S_4 j_4 = S j_4) → meI S_4 wy_4 (S 200 1) x1 → (zz_J zpX1_setBy_8 (zz_ret Q X 0 0) 149 [some (vr 100), some (vi x1), some (vi x2), some (vi x3), none, some (vi x5), some (vi x6), some (vl x7), none, some (vi x9), none, none] [vi (sbV wy_4 (S 200 1) x1 (S (128 + (1 + (x9 % 2)).toNat)) (x2 + 1) (x3 + 0))] ((2, f), S_4, L, P) (0, 0))))))))))) : zz_J zpX1_setBy_8 (zz_ret Q X 0 0) 108 [some (vr 100), some (vi x1), some (vi x2), some (vi x3), none, some (vi x5), some (vi x6), some (vl x7), none, some (vi x9), none, none] [vi t0] ((2, f), S, L, P) (0, 0) := zz_J.go [(91, [4, 8, 10, 11]), (108, [4, 8, 10, 11]), (149, [4, 8, 10, 11]), (181, [1, 2, 3, 4, 8, 9, 10, 11])] 400 h
theorem zwX1_setBy_8_149 {Q : Option zv → zz_M → Prop} {X : Nat → zz_M → Prop} {f : Nat → Nat × Nat} {S L : Nat → Nat → Int} {P : Nat → Nat → Option Nat} {x1 : Int} {x2 : Int} {x3 : Int} {x5 : Int} {x6 : Int} {x7 : Int} {x9 : Int} {t0 : Int} (h : ∃ t_ n_ : Nat, zsh ((2, f), S, L, P) 127 = (t_, n_) ∧ (t_ = 6 ∨ t_ = 7 ∨ t_ = 8) ∧ (n_ : Int) ≤ 2147483647 ∧ (0 ≤ x5 ∧ x5 < (n_ : Int)) ∧ (∀ b1 : Nat, zpt ((2, f), S, L, P) 127 x5.toNat = some b1 → ∃ n_ : Nat, zsh ((2, f), S, L, P) b1 = (2, n_) ∧ (n_ : Int) ≤ 2147483647 ∧ (0 ≤ x9 ∧ x9 < (n_ : Int)) ∧ (R32 (S b1 x9.toNat) ∧ (R32 t0 ∧ ((0 ≤ ((S b1 x9.toNat) * t0) ∧ ((S b1 x9.toNat) * t0) < 9223372036854775808) ∧ (zz_J zpX1_setBy_8 (zz_ret Q X 0 0) 91 [some (vr 100), some (vi x1), some (vi x2), some (vi x3), none, some (vi x5), some (vi x6), some (vl (x7 + (((S b1 x9.toNat) * t0) / 1000000000))), none, some (vi (x9 + 1)), none, none] [] ((2, f), S, L, P) (0, 0)))))) ∧ (zpt ((2, f), S, L, P) 127 x5.toNat = none → False)) : zz_J zpX1_setBy_8 (zz_ret Q X 0 0) 149 [some (vr 100), some (vi x1), some (vi x2), some (vi x3), none, some (vi x5), some (vi x6), some (vl x7), none, some (vi x9), none, none] [vi t0] ((2, f), S, L, P) (0, 0) := zz_J.go [(91, [4, 8, 10, 11]), (108, [4, 8, 10, 11]), (149, [4, 8, 10, 11]), (181, [1, 2, 3, 4, 8, 9, 10, 11])] 400 h
theorem zwX1_setBy_8_181 {Q : Option zv → zz_M → Prop} {X : Nat → zz_M → Prop} {f : Nat → Nat × Nat} {S L : Nat → Nat → Int} {P : Nat → Nat → Option Nat} {x5 : Int} {x6 : Int} {x7 : Int} (h : R32 x5 ∧ ((x5 ≤ 0 → R64 x7 ∧ (Q (some (vi x7)) ((2, f), S, L, P))) ∧ (¬ x5 ≤ 0 → R64 x7 ∧ ((0 ≤ x6 ∧ x6 < 98) ∧ (R64 x7 ∧ (Q (some (vi x7)) ((2, f), mm_up S 131 x6.toNat x7, L, P))))))) : zz_J zpX1_setBy_8 (zz_ret Q X 0 0) 181 [some (vr 100), none, none, none, none, some (vi x5), some (vi x6), some (vl x7), none, none, none, none] [] ((2, f), S, L, P) (0, 0) := zz_J.go [(91, [4, 8, 10, 11]), (108, [4, 8, 10, 11]), (149, [4, 8, 10, 11]), (181, [1, 2, 3, 4, 8, 9, 10, 11])] 400 h

theorem zmX1_setBy_8 (l : Launch) (hl : l.stackTraces = false) : mm_Spec l yX1_setBy (ws_ yX1_setBy cX1_setBy 12 (some .int)) (mm_rm 13 0 0) (zE zX1_setBy_8) := by
  refine zz_Met.J hl (by decide) (fun C G hnh => ztX1_setBy_8 G hnh) ?_
  rintro as ⟨⟨t_, f⟩, S, L, P⟩ Q X h
  unfold zX1_setBy_8 at h
  split at h
  rotate_left
  · exact h.elim
  rename_i h_ p a b s fr
  obtain ⟨e1_, e2_, h⟩ := mm_and2 h (fun q => q)
  cases mm_beq e1_
  cases mm_beq e2_
  try dsimp only at h
  refine ⟨rfl, ?_⟩
  obtain ⟨hp, hs, hfr, ha, hb, hG, hr, wy, hw, hrow, hF, hme, hq⟩ := h
  by_cases o : S 200 1 ≤ a ∨ S 200 1 ≤ b
  · have hq := hq S (fun _ _ => rfl) hme
    unfold sbV at hq
    rw [if_pos o] at hq
    have k1 : ¬ p = 0 → R32 b ∧ (R32 (S 200 1) ∧ ((b < (S 200 1) → Q (some (vi 0)) ((2, f), S, L, P)) ∧ (¬ b < (S 200 1) → Q (some (vi 1000000000)) ((2, f), S, L, P)))) := fun d => ⟨by omega, by omega, fun e => by rw [if_neg (by rw [if_neg d]; omega)] at hq; exact hq, fun e => by rw [if_pos (by rw [if_neg d]; omega)] at hq; exact hq⟩
    have k0 : p = 0 → R32 a ∧ (R32 (S 200 1) ∧ ((a < (S 200 1) → Q (some (vi 0)) ((2, f), S, L, P)) ∧ (¬ a < (S 200 1) → Q (some (vi 1000000000)) ((2, f), S, L, P)))) := fun d => ⟨by omega, by omega, fun e => by rw [if_neg (by rw [if_pos d]; omega)] at hq; exact hq, fun e => by rw [if_pos (by rw [if_pos d]; omega)] at hq; exact hq⟩
    exact zwX1_setBy_8_0 ⟨by omega, by omega, fun c => ⟨by omega, k1, k0⟩, fun c => ⟨by omega, by omega, fun e => absurd o (by omega), fun e => ⟨by omega, k1, k0⟩⟩⟩
  obtain ⟨a', rfl⟩ : ∃ a' : Nat, a = (a' : Int) := ⟨a.toNat, by omega⟩
  obtain ⟨b', rfl⟩ : ∃ b' : Nat, b = (b' : Int) := ⟨b.toNat, by omega⟩
  obtain ⟨s', hs', es⟩ : ∃ s' : Nat, s' < 2 ∧ s = (s' : Int) := ⟨s.toNat, by omega, by omega⟩
  obtain ⟨r', hr', er⟩ : ∃ r' : Nat, r' < 3 ∧ fr = (r' : Int) := ⟨fr.toNat, by omega, by omega⟩
  subst es er
  have hcv := fun k => bcV_in (G := S 200 1) (p := p) (a := (a' : Int)) (b := (b' : Int)) hw k
  rw [Int.toNat_natCast] at hF hq
  have sin := sbS_in hF hcv
  have hq : ∀ S_ : Nat → Nat → Int, (∀ j, j ≠ 131 → S_ j = S j) → meI S_ wy (S 200 1) p → Q (some (vi (sbS (S (128 + r')) (bcV wy (S 200 1) p a' b') 4))) ((2, f), S_, L, P) := fun S_ e1 e2 => by
    have hq := hq S_ e1 e2
    unfold sbV at hq
    rw [if_neg o] at hq
    exact hq
  have est : (1 : Int) + s' = r' → sbS (S (128 + r')) (bcV wy (S 200 1) p a' b') 4 = stO wy (S 200 1) p 12 a' b' s' := fun e => by
    have e2 : r' = 1 + s' := by omega
    have := sbV_st (wy := wy) (G := S 200 1) (p := p) (a := (a' : Int)) (b := (b' : Int)) (s := s') (F := S (128 + r')) (fun k hk => by rw [e2, show 128 + (1 + s') = 129 + s' by omega]; exact hrow s' k hs' hk) (by omega) (by omega) (by omega)
    unfold sbV at this
    rw [if_neg o] at this
    exact this
  have wy4 : ∀ s : Nat, s < 2 → fG (S (129 + s)) := fun s hs => by
    refine ⟨fun k hk => by rw [hrow s k hs hk]; exact hw.1 _ (by omega), ?_⟩
    rw [hrow s 0 hs (by decide), hrow s 1 hs (by decide), hrow s 2 hs (by decide), hrow s 3 hs (by decide)]
    have : s = 0 ∨ s = 1 := by omega
    rcases this with e | e <;> subst e
    · exact hw.2.1
    · exact hw.2.2
  have t91 : ∀ (m k : Nat) (T : Nat → Nat → Int), k + m = 4 → (∀ j, j ≠ 131 → T j = S j) → meI T wy (S 200 1) p → zz_J zpX1_setBy_8 (zz_ret Q X 0 0) 91 [some (vr 100), some (vi p), some (vi (a' : Int)), some (vi (b' : Int)), none, some (vi (r' : Int)), some (vi ((((7 * (a' : Int)) + b') * 2) + s')), some (vl (sbS (S (128 + r')) (bcV wy (S 200 1) p a' b') k)), none, some (vi (k : Int)), none, none] [] ((2, f), T, L, P) (0, 0) := by
    intro m
    induction m with
    | zero =>
      intro k T hk eT mT
      have k4 : k = 4 := by omega
      subst k4
      have s4 := sin 4 (by decide)
      have R4 : R64 (sbS (S (128 + r')) (bcV wy (S 200 1) p a' b') 4) := by omega
      refine zwX1_setBy_8_91 ⟨by omega, fun _ => zwX1_setBy_8_181 ⟨by omega, fun c => ⟨R4, hq T eT mT⟩, fun c => ⟨R4, by omega, R4, ?_⟩⟩, fun d => absurd (by omega) d⟩
      have ei : ((((7 * (a' : Int)) + b') * 2) + s').toNat = (7 * a' + b') * 2 + s' := by omega
      have e1 := est (by omega)
      refine hq _ (fun j hj => ?_) ?_
      · funext x
        rw [up_eq, if_neg (by omega), eT j hj]
      · rw [ei, e1]
        exact mT.up (by omega) (by omega) hs'
    | succ m ih =>
      intro k T hk eT mT
      have k4 : k < 4 := by omega
      have eG : T 200 1 = S 200 1 := by rw [eT 200 (by decide)]
      have t149 : ∀ (U : Nat → Nat → Int), (∀ j, j ≠ 131 → U j = S j) → meI U wy (S 200 1) p → zz_J zpX1_setBy_8 (zz_ret Q X 0 0) 149 [some (vr 100), some (vi p), some (vi (a' : Int)), some (vi (b' : Int)), none, some (vi (r' : Int)), some (vi ((((7 * (a' : Int)) + b') * 2) + s')), some (vl (sbS (S (128 + r')) (bcV wy (S 200 1) p a' b') k)), none, some (vi (k : Int)), none, none] [vi (bcV wy (S 200 1) p a' b' k)] ((2, f), U, L, P) (0, 0) := by
        intro U eU mU
        obtain ⟨w1, w2⟩ := ways_at (f := f) (S := U) (L := L) (P := P) hr'
        have fk := hF.1 k k4
        have ck := hcv k
        have m9 := mul_sure fk.1 ck.1 ck.2
        refine zwX1_setBy_8_149 ⟨6, 3, rfl, Or.inl rfl, by decide, by omega, fun b1 hb1 => ?_, fun hb1 => ?_⟩
        · rw [Int.toNat_natCast, w1] at hb1
          cases hb1
          refine ⟨4, w2, by decide, by omega, ?_⟩
          rw [Int.toNat_natCast, eU (128 + r') (by omega)]
          exact ⟨by omega, by omega, by omega, ih (k + 1) U (by omega) eU mU⟩
        · rw [Int.toNat_natCast, w1] at hb1
          cases hb1
      have rowT : ∀ s_ k_, s_ < 2 → k_ < 4 → T (129 + s_) k_ = wy (4 * s_ + k_) := fun s_ k_ g1 g2 => by rw [eT (129 + s_) (by omega)]; exact hrow s_ k_ g1 g2
      have mk : ((k : Int) % 2 = 0 ∨ (k : Int) % 2 = 1) := by omega
      have ek2 : ((k : Int) % 2).toNat = k % 2 := by omega
      have ek3 : 128 + (1 + (k : Int) % 2).toNat = 129 + k % 2 := by omega
      have nxt : ∀ x y : Int, (x ≤ S 200 1 ∧ y ≤ S 200 1 ∧ S 200 1 - x + (S 200 1 - y) ≤ 12) → stO wy (S 200 1) p 12 x y (k % 2) = bcV wy (S 200 1) p a' b' k → ∀ S_ : Nat → Nat → Int, (∀ j, j ≠ 131 → S_ j = T j) → meI S_ wy (T 200 1) p → zz_J zpX1_setBy_8 (zz_ret Q X 0 0) 149 [some (vr 100), some (vi p), some (vi (a' : Int)), some (vi (b' : Int)), none, some (vi (r' : Int)), some (vi ((((7 * (a' : Int)) + b') * 2) + s')), some (vl (sbS (S (128 + r')) (bcV wy (S 200 1) p a' b') k)), none, some (vi (k : Int)), none, none] [vi (sbV wy (T 200 1) p (T (128 + (1 + (k : Int) % 2).toNat)) x y)] ((2, f), S_, L, P) (0, 0) := by
        intro x y hxy e S_ e1 e2
        rw [eG] at e2 ⊢
        rw [ek3, sbV_st (s := k % 2) (fun j hj => rowT (k % 2) j (by omega) hj) hxy.1 hxy.2.1 hxy.2.2, e]
        exact t149 S_ (fun j hj => by rw [e1 j hj, eT j hj]) e2
      have fGk : fG (T (128 + (1 + (k : Int) % 2).toNat)) := by
        rw [ek3, eT (129 + k % 2) (by omega)]
        exact wy4 (k % 2) (by omega)
      refine zwX1_setBy_8_91 ⟨by omega, fun d => absurd d (by omega), fun _ => ⟨by omega, fun c => zwX1_setBy_8_108 ⟨by decide, fun _ => ⟨by decide, fun _ => ⟨by omega, by omega, hp, mk, Or.inl rfl, by omega, by omega, by omega, by omega, wy, hw, rowT, fGk, by rw [eG]; exact mT, ?_⟩, fun d => absurd rfl d⟩, fun d => absurd rfl d⟩, fun c => zwX1_setBy_8_108 ⟨by decide, fun d => absurd d (by decide), fun _ => ⟨by decide, fun d => absurd d (by decide), fun _ => ⟨by omega, by omega, hp, mk, Or.inl rfl, by omega, by omega, by omega, by omega, wy, hw, rowT, fGk, by rw [eG]; exact mT, ?_⟩⟩⟩⟩⟩
      · refine nxt _ _ (by omega) ?_
        unfold bcV
        rw [if_neg (by omega), if_neg (by omega), Int.add_zero]
      · refine nxt _ _ (by omega) ?_
        unfold bcV
        rw [if_pos (by omega), if_pos (by omega), Int.add_zero]
  have t0 := t91 4 0 S rfl (fun _ _ => rfl) hme
  refine zwX1_setBy_8_0 ⟨by omega, by omega, fun c => absurd (Or.inl c) o, fun c => ⟨by omega, by omega, fun c2 => ⟨by omega, fun d => t0, fun d => ⟨by omega, ?_⟩⟩, fun c2 => absurd (by omega) o⟩⟩
  have ei : ((((7 * (a' : Int)) + b') * 2) + s').toNat = (7 * a' + b') * 2 + s' := by omega
  have me := hme a' b' s' (by omega) (by omega) hs'
  have hin := stO_in (G := S 200 1) (p := p) hw 12 (a' : Int) (b' : Int) s' hs'
  rw [ei]
  refine ⟨by rcases me with e | e <;> rw [e] <;> omega, fun _ => t0, fun d2 => ⟨by omega, ?_⟩⟩
  have e2 := me.resolve_left (by omega)
  rw [e2, ← est (by omega)]
  exact hq S (fun _ _ => rfl) hme
def zX1_setBy_9 : zz_Sp := fun as M Q X => match as with
  | [.inr (.inr (some h_)), .inl p, .inl a, .inl b, .inl s, .inl fr] => bif Nat.beq h_ 100 && Nat.beq M.1.1 2 then ((p = 0 ∨ p = 1) ∧ (s = 0 ∨ s = 1) ∧ (fr = 1 + s ∨ fr = 0) ∧ (0 ≤ a ∧ a ≤ M.2.1 200 1) ∧ (0 ≤ b ∧ b ≤ M.2.1 200 1) ∧ (1 ≤ M.2.1 200 1 ∧ M.2.1 200 1 ≤ 6) ∧ M.2.1 200 1 - a + (M.2.1 200 1 - b) ≤ 9 ∧ ∃ wy_ : Nat → Int, wyG wy_ ∧ (∀ s_ k_, s_ < 2 → k_ < 4 → M.2.1 (129 + s_) k_ = wy_ (4 * s_ + k_)) ∧ fG (M.2.1 (128 + fr.toNat)) ∧ meI M.2.1 wy_ (M.2.1 200 1) p ∧ (∀ S_ : Nat → Nat → Int, (∀ j_, j_ ≠ 131 → S_ j_ = M.2.1 j_) → meI S_ wy_ (M.2.1 200 1) p → Q (some (vi (sbV wy_ (M.2.1 200 1) p (M.2.1 (128 + fr.toNat)) a b))) ((2, M.1.2), S_, M.2.2.1, M.2.2.2))) else False
  | _ => False

def zpX1_setBy_9 : zz_P := [(0, zo_ild 1 2), (1, zo_ald 2 0), (2, zo_get 5 0 2 0), (5, zo_get 8 1 0 1), (8, zo_cge false false 11 22), (11, zo_ild 12 3), (12, zo_ald 13 0), (13, zo_get 16 0 2 0), (16, zo_get 19 1 0 1), (19, zo_clt false false 22 49), (22, zo_ild 23 1), (23, zo_ifne false 26 30), (26, zo_ild 27 2), (27, zo_goto 31), (30, zo_ild 31 3), (31, zo_ald 32 0), (32, zo_get 35 0 2 0), (35, zo_get 38 1 0 1), (38, zo_clt false false 41 47), (41, zo_c 44 (vi 1000000000)), (44, zo_goto 48), (47, zo_c 48 (vi 0)), (48, zo_iret), (49, zo_c 51 (vi 7)), (51, zo_ild 52 2), (52, zo_imul 53), (53, zo_ild 54 3), (54, zo_iadd 55), (55, zo_c 56 (vi 2)), (56, zo_imul 57), (57, zo_ild 59 4), (59, zo_iadd 60), (60, zo_ist 62 6), (62, zo_ild 64 5), (64, zo_ifle false 67 85), (67, zo_ald 68 0), (68, zo_get 71 0 2 15), (71, zo_ild 73 6), (73, zo_iald 74), (74, zo_iflt false 77 85), (77, zo_ald 78 0), (78, zo_get 81 0 2 15), (81, zo_ild 83 6), (83, zo_iald 84), (84, zo_iret), (85, zo_c 86 (vl 0)), (86, zo_lst 88 7), (88, zo_c 89 (vi 0)), (89, zo_ist 91 9), (91, zo_ild 93 9), (93, zo_c 94 (vi 4)), (94, zo_cge false true 97 181), (97, zo_ild 99 9), (99, zo_c 100 (vi 2)), (100, zo_cge false true 103 107), (103, zo_c 104 (vi 1)), (104, zo_goto 108), (107, zo_c 108 (vi 0)), (108, zo_ist 110 10), (110, zo_ald 111 0), (111, zo_ild 112 1), (112, zo_ild 113 2), (113, zo_ild 115 10), (115, zo_ifeq false 118 122), (118, zo_c 119 (vi 1)), (119, zo_goto 123), (122, zo_c 123 (vi 0)), (123, zo_iadd 124), (124, zo_ild 125 3), (125, zo_ild 127 10), (127, zo_ifeq false 130 134), (130, zo_c 131 (vi 0)), (131, zo_goto 135), (134, zo_c 135 (vi 1)), (135, zo_iadd 136), (136, zo_ild 138 9), (138, zo_c 139 (vi 2)), (139, zo_irem 140), (140, zo_c 141 (vi 1)), (141, zo_ild 143 9), (143, zo_c 144 (vi 2)), (144, zo_irem 145), (145, zo_iadd 146), (146, zo_callv 149 6 0 zX1_setBy_8), (149, zo_ist 151 11), (151, zo_lld 153 7), (153, zo_ald 154 0), (154, zo_get 157 0 2 14), (157, zo_ild 159 5), (159, zo_aald 160), (160, zo_ild 162 9), (162, zo_ialp 163), (163, zo_i2l 164), (164, zo_ild 166 11), (166, zo_i2l 167), (167, zo_lmul 168), (168, zo_c 171 (vl 1000000000)), (171, zo_ldiv 172), (172, zo_ladd 173), (173, zo_lst 175 7), (175, zo_inc 178 9 1), (178, zo_goto 91), (181, zo_ild 183 5), (183, zo_ifle false 186 196), (186, zo_ald 187 0), (187, zo_get 190 0 2 15), (190, zo_ild 192 6), (192, zo_lld 194 7), (194, zo_l2i 195), (195, zo_iasd 196), (196, zo_lld 198 7), (198, zo_l2i 199), (199, zo_iret)]
theorem ztX1_setBy_9 {C : mm_C} (G : mm_G C RX1 cX1_setBy (some .int) 12 (mm_rm 14 0 0)) (hnh : mm_nh C) : zz_OKs C zpX1_setBy_9 :=
  ⟨zz_of (ok_iload_n G dX1_setBy_0 rfl rfl) (z_ild _ _),
   zz_of (ok_aload_n G dX1_setBy_1 rfl rfl) (z_ald _ _),
   zz_of (ok_get G (nx := 5) (ci := 0) (kd := 2) (k := 0) (RX1, TX1, 19) rfl (by decide) rfl q399 dX1_setBy_2 rfl) (z_get _ _ _ _),
   zz_of (ok_getN G (nx := 8) (ci := 1) (kd := 0) (k := 1) (RX2, TX2, 11) rfl (by decide) rfl q218 dX1_setBy_5 rfl) (z_get _ _ _ _),
   zz_of (ok_cge G dX1_setBy_8 rfl rfl) (z_cge _ _ _ _),
   zz_of (ok_iload_n G dX1_setBy_11 rfl rfl) (z_ild _ _),
   zz_of (ok_aload_n G dX1_setBy_12 rfl rfl) (z_ald _ _),
   zz_of (ok_get G (nx := 16) (ci := 0) (kd := 2) (k := 0) (RX1, TX1, 19) rfl (by decide) rfl q399 dX1_setBy_13 rfl) (z_get _ _ _ _),
   zz_of (ok_getN G (nx := 19) (ci := 1) (kd := 0) (k := 1) (RX2, TX2, 11) rfl (by decide) rfl q218 dX1_setBy_16 rfl) (z_get _ _ _ _),
   zz_of (ok_clt G dX1_setBy_19 rfl rfl) (z_clt _ _ _ _),
   zz_of (ok_iload_n G dX1_setBy_22 rfl rfl) (z_ild _ _),
   zz_of (ok_ifne G dX1_setBy_23 rfl rfl) (z_ifne _ _ _),
   zz_of (ok_iload_n G dX1_setBy_26 rfl rfl) (z_ild _ _),
   zz_of (ok_goto G dX1_setBy_27 rfl) (z_goto _),
   zz_of (ok_iload_n G dX1_setBy_30 rfl rfl) (z_ild _ _),
   zz_of (ok_aload_n G dX1_setBy_31 rfl rfl) (z_ald _ _),
   zz_of (ok_get G (nx := 35) (ci := 0) (kd := 2) (k := 0) (RX1, TX1, 19) rfl (by decide) rfl q399 dX1_setBy_32 rfl) (z_get _ _ _ _),
   zz_of (ok_getN G (nx := 38) (ci := 1) (kd := 0) (k := 1) (RX2, TX2, 11) rfl (by decide) rfl q218 dX1_setBy_35 rfl) (z_get _ _ _ _),
   zz_of (ok_clt G dX1_setBy_38 rfl rfl) (z_clt _ _ _ _),
   zz_of (ok_ldcw G (v := 1000000000) q1700 dX1_setBy_41 rfl) (z_cn 44 1000000000),
   zz_of (ok_goto G dX1_setBy_44 rfl) (z_goto _),
   zz_of (ok_iconst G (v := 0) dX1_setBy_47 (by decide) rfl) (z_cn 48 0),
   zz_of (ok_iret G dX1_setBy_48) (z_iret),
   zz_of (ok_bipush G (v := 7) dX1_setBy_49 (by decide) rfl) (z_cn 51 7),
   zz_of (ok_iload_n G dX1_setBy_51 rfl rfl) (z_ild _ _),
   zz_of (ok_imul G dX1_setBy_52 rfl) (z_imul _),
   zz_of (ok_iload_n G dX1_setBy_53 rfl rfl) (z_ild _ _),
   zz_of (ok_iadd G dX1_setBy_54 rfl) (z_iadd _),
   zz_of (ok_iconst G (v := 2) dX1_setBy_55 (by decide) rfl) (z_cn 56 2),
   zz_of (ok_imul G dX1_setBy_56 rfl) (z_imul _),
   zz_of (ok_iload G dX1_setBy_57 rfl) (z_ild _ _),
   zz_of (ok_iadd G dX1_setBy_59 rfl) (z_iadd _),
   zz_of (ok_istore G dX1_setBy_60 rfl (by decide)) (z_ist _ _),
   zz_of (ok_iload G dX1_setBy_62 rfl) (z_ild _ _),
   zz_of (ok_ifle G dX1_setBy_64 rfl rfl) (z_ifle _ _ _),
   zz_of (ok_aload_n G dX1_setBy_67 rfl rfl) (z_ald _ _),
   zz_of (ok_get G (nx := 71) (ci := 0) (kd := 2) (k := 15) (RX1, TX1, 19) rfl (by decide) rfl q426 dX1_setBy_68 rfl) (z_get _ _ _ _),
   zz_of (ok_iload G dX1_setBy_71 rfl) (z_ild _ _),
   zz_of (ok_iald G dX1_setBy_73 rfl) (z_iald _),
   zz_of (ok_iflt G dX1_setBy_74 rfl rfl) (z_iflt _ _ _),
   zz_of (ok_aload_n G dX1_setBy_77 rfl rfl) (z_ald _ _),
   zz_of (ok_get G (nx := 81) (ci := 0) (kd := 2) (k := 15) (RX1, TX1, 19) rfl (by decide) rfl q426 dX1_setBy_78 rfl) (z_get _ _ _ _),
   zz_of (ok_iload G dX1_setBy_81 rfl) (z_ild _ _),
   zz_of (ok_iald G dX1_setBy_83 rfl) (z_iald _),
   zz_of (ok_iret G dX1_setBy_84) (z_iret),
   zz_of (ok_lconst G (v := 0) dX1_setBy_85 (by decide) rfl) (z_cl 86 0),
   zz_of (ok_lstore G dX1_setBy_86 rfl (by decide)) (z_lst _ _),
   zz_of (ok_iconst G (v := 0) dX1_setBy_88 (by decide) rfl) (z_cn 89 0),
   zz_of (ok_istore G dX1_setBy_89 rfl (by decide)) (z_ist _ _),
   zz_of (ok_iload G dX1_setBy_91 rfl) (z_ild _ _),
   zz_of (ok_iconst G (v := 4) dX1_setBy_93 (by decide) rfl) (z_cn 94 4),
   zz_of (ok_cge G dX1_setBy_94 rfl rfl) (z_cge _ _ _ _),
   zz_of (ok_iload G dX1_setBy_97 rfl) (z_ild _ _),
   zz_of (ok_iconst G (v := 2) dX1_setBy_99 (by decide) rfl) (z_cn 100 2),
   zz_of (ok_cge G dX1_setBy_100 rfl rfl) (z_cge _ _ _ _),
   zz_of (ok_iconst G (v := 1) dX1_setBy_103 (by decide) rfl) (z_cn 104 1),
   zz_of (ok_goto G dX1_setBy_104 rfl) (z_goto _),
   zz_of (ok_iconst G (v := 0) dX1_setBy_107 (by decide) rfl) (z_cn 108 0),
   zz_of (ok_istore G dX1_setBy_108 rfl (by decide)) (z_ist _ _),
   zz_of (ok_aload_n G dX1_setBy_110 rfl rfl) (z_ald _ _),
   zz_of (ok_iload_n G dX1_setBy_111 rfl rfl) (z_ild _ _),
   zz_of (ok_iload_n G dX1_setBy_112 rfl rfl) (z_ild _ _),
   zz_of (ok_iload G dX1_setBy_113 rfl) (z_ild _ _),
   zz_of (ok_ifeq G dX1_setBy_115 rfl rfl) (z_ifeq _ _ _),
   zz_of (ok_iconst G (v := 1) dX1_setBy_118 (by decide) rfl) (z_cn 119 1),
   zz_of (ok_goto G dX1_setBy_119 rfl) (z_goto _),
   zz_of (ok_iconst G (v := 0) dX1_setBy_122 (by decide) rfl) (z_cn 123 0),
   zz_of (ok_iadd G dX1_setBy_123 rfl) (z_iadd _),
   zz_of (ok_iload_n G dX1_setBy_124 rfl rfl) (z_ild _ _),
   zz_of (ok_iload G dX1_setBy_125 rfl) (z_ild _ _),
   zz_of (ok_ifeq G dX1_setBy_127 rfl rfl) (z_ifeq _ _ _),
   zz_of (ok_iconst G (v := 0) dX1_setBy_130 (by decide) rfl) (z_cn 131 0),
   zz_of (ok_goto G dX1_setBy_131 rfl) (z_goto _),
   zz_of (ok_iconst G (v := 1) dX1_setBy_134 (by decide) rfl) (z_cn 135 1),
   zz_of (ok_iadd G dX1_setBy_135 rfl) (z_iadd _),
   zz_of (ok_iload G dX1_setBy_136 rfl) (z_ild _ _),
   zz_of (ok_iconst G (v := 2) dX1_setBy_138 (by decide) rfl) (z_cn 139 2),
   zz_of (ok_irem G dX1_setBy_139 rfl) (z_irem _),
   zz_of (ok_iconst G (v := 1) dX1_setBy_140 (by decide) rfl) (z_cn 141 1),
   zz_of (ok_iload G dX1_setBy_141 rfl) (z_ild _ _),
   zz_of (ok_iconst G (v := 2) dX1_setBy_143 (by decide) rfl) (z_cn 144 2),
   zz_of (ok_irem G dX1_setBy_144 rfl) (z_irem _),
   zz_of (ok_iadd G dX1_setBy_145 rfl) (z_iadd _),
   zz_of (ok_callv G hnh (zmX1_setBy_8 _ G.hst) rfl rfl (RX1, TX1, 19) rfl q1706 q1708 qs33 q82 q1709 (by decide +kernel) ⟨by decide, by decide⟩ dX1_setBy_146 rfl) (z_callv _ _ _ _),
   zz_of (ok_istore G dX1_setBy_149 rfl (by decide)) (z_ist _ _),
   zz_of (ok_lload G dX1_setBy_151 rfl) (z_lld _ _),
   zz_of (ok_aload_n G dX1_setBy_153 rfl rfl) (z_ald _ _),
   zz_of (ok_get G (nx := 157) (ci := 0) (kd := 2) (k := 14) (RX1, TX1, 19) rfl (by decide) rfl q425 dX1_setBy_154 rfl) (z_get _ _ _ _),
   zz_of (ok_iload G dX1_setBy_157 rfl) (z_ild _ _),
   zz_of (ok_aald G dX1_setBy_159 rfl) (z_aald _),
   zz_of (ok_iload G dX1_setBy_160 rfl) (z_ild _ _),
   zz_of (ok_iald G dX1_setBy_162 rfl) (z_ialp _),
   zz_of (ok_i2l G dX1_setBy_163 rfl) (z_i2l _),
   zz_of (ok_iload G dX1_setBy_164 rfl) (z_ild _ _),
   zz_of (ok_i2l G dX1_setBy_166 rfl) (z_i2l _),
   zz_of (ok_lmul G dX1_setBy_167 rfl) (z_lmul _),
   zz_of (ok_ldc2 G (v := 1000000000) q1710 dX1_setBy_168 rfl) (z_cl 171 1000000000),
   zz_of (ok_ldiv G dX1_setBy_171 rfl) (z_ldiv _),
   zz_of (ok_ladd G dX1_setBy_172 rfl) (z_ladd _),
   zz_of (ok_lstore G dX1_setBy_173 rfl (by decide)) (z_lst _ _),
   zz_of (ok_iinc G (v := 1) dX1_setBy_175 (by decide) rfl (by decide)) (z_incn 178 9 1),
   zz_of (ok_goto G dX1_setBy_178 rfl) (z_goto _),
   zz_of (ok_iload G dX1_setBy_181 rfl) (z_ild _ _),
   zz_of (ok_ifle G dX1_setBy_183 rfl rfl) (z_ifle _ _ _),
   zz_of (ok_aload_n G dX1_setBy_186 rfl rfl) (z_ald _ _),
   zz_of (ok_get G (nx := 190) (ci := 0) (kd := 2) (k := 15) (RX1, TX1, 19) rfl (by decide) rfl q426 dX1_setBy_187 rfl) (z_get _ _ _ _),
   zz_of (ok_iload G dX1_setBy_190 rfl) (z_ild _ _),
   zz_of (ok_lload G dX1_setBy_192 rfl) (z_lld _ _),
   zz_of (ok_l2i G dX1_setBy_194 rfl) (z_l2i _),
   zz_of (ok_iast G dX1_setBy_195 rfl) (z_iasd _),
   zz_of (ok_lload G dX1_setBy_196 rfl) (z_lld _ _),
   zz_of (ok_l2i G dX1_setBy_198 rfl) (z_l2i _),
   zz_of (ok_iret G dX1_setBy_199) (z_iret), trivial⟩

theorem zwX1_setBy_9_0 {Q : Option zv → zz_M → Prop} {X : Nat → zz_M → Prop} {f : Nat → Nat × Nat} {S L : Nat → Nat → Int} {P : Nat → Nat → Option Nat} {p : Int} {a : Int} {b : Int} {s : Int} {fr : Int} (h : R32 a ∧ (R32 (S 200 1) ∧ (((S 200 1) ≤ a → R32 p ∧ ((¬ p = 0 → R32 b ∧ (R32 (S 200 1) ∧ ((b < (S 200 1) → Q (some (vi 0)) ((2, f), S, L, P)) ∧ (¬ b < (S 200 1) → Q (some (vi 1000000000)) ((2, f), S, L, P))))) ∧ (p = 0 → R32 a ∧ (R32 (S 200 1) ∧ ((a < (S 200 1) → Q (some (vi 0)) ((2, f), S, L, P)) ∧ (¬ a < (S 200 1) → Q (some (vi 1000000000)) ((2, f), S, L, P))))))) ∧ (¬ (S 200 1) ≤ a → R32 b ∧ (R32 (S 200 1) ∧ ((b < (S 200 1) → R32 fr ∧ ((fr ≤ 0 → zz_J zpX1_setBy_9 (zz_ret Q X 0 0) 91 [some (vr 100), some (vi p), some (vi a), some (vi b), none, some (vi fr), some (vi ((((7 * a) + b) * 2) + s)), some (vl 0), none, some (vi 0), none, none] [] ((2, f), S, L, P) (0, 0)) ∧ (¬ fr ≤ 0 → (0 ≤ ((((7 * a) + b) * 2) + s) ∧ ((((7 * a) + b) * 2) + s) < 98) ∧ (R32 (S 131 (((((7 * a) + b) * 2) + s).toNat)) ∧ (((S 131 (((((7 * a) + b) * 2) + s).toNat)) < 0 → zz_J zpX1_setBy_9 (zz_ret Q X 0 0) 91 [some (vr 100), some (vi p), some (vi a), some (vi b), none, some (vi fr), some (vi ((((7 * a) + b) * 2) + s)), some (vl 0), none, some (vi 0), none, none] [] ((2, f), S, L, P) (0, 0)) ∧ (¬ (S 131 (((((7 * a) + b) * 2) + s).toNat)) < 0 → (0 ≤ ((((7 * a) + b) * 2) + s) ∧ ((((7 * a) + b) * 2) + s) < 98) ∧ (Q (some (vi (S 131 (((((7 * a) + b) * 2) + s).toNat)))) ((2, f), S, L, P)))))))) ∧ (¬ b < (S 200 1) → R32 p ∧ ((¬ p = 0 → R32 b ∧ (R32 (S 200 1) ∧ ((b < (S 200 1) → Q (some (vi 0)) ((2, f), S, L, P)) ∧ (¬ b < (S 200 1) → Q (some (vi 1000000000)) ((2, f), S, L, P))))) ∧ (p = 0 → R32 a ∧ (R32 (S 200 1) ∧ ((a < (S 200 1) → Q (some (vi 0)) ((2, f), S, L, P)) ∧ (¬ a < (S 200 1) → Q (some (vi 1000000000)) ((2, f), S, L, P))))))))))))) : zz_J zpX1_setBy_9 (zz_ret Q X 0 0) 0 [some (vr 100), some (vi p), some (vi a), some (vi b), some (vi s), some (vi fr), none, none, none, none, none, none] [] ((2, f), S, L, P) (0, 0) := zz_J.go [(91, [4, 8, 10, 11]), (108, [4, 8, 10, 11]), (149, [4, 8, 10, 11]), (181, [1, 2, 3, 4, 8, 9, 10, 11])] 400 h
theorem zwX1_setBy_9_91 {Q : Option zv → zz_M → Prop} {X : Nat → zz_M → Prop} {f : Nat → Nat × Nat} {S L : Nat → Nat → Int} {P : Nat → Nat → Option Nat} {x1 : Int} {x2 : Int} {x3 : Int} {x5 : Int} {x6 : Int} {x7 : Int} {x9 : Int} (h : R32 x9 ∧ ((4 ≤ x9 → zz_J zpX1_setBy_9 (zz_ret Q X 0 0) 181 [some (vr 100), none, none, none, none, some (vi x5), some (vi x6), some (vl x7), none, none, none, none] [] ((2, f), S, L, P) (0, 0)) ∧ (¬ 4 ≤ x9 → R32 x9 ∧ ((2 ≤ x9 → zz_J zpX1_setBy_9 (zz_ret Q X 0 0) 108 [some (vr 100), some (vi x1), some (vi x2), some (vi x3), none, some (vi x5), some (vi x6), some (vl x7), none, some (vi x9), none, none] [vi 0] ((2, f), S, L, P) (0, 0)) ∧ (¬ 2 ≤ x9 → zz_J zpX1_setBy_9 (zz_ret Q X 0 0) 108 [some (vr 100), some (vi x1), some (vi x2), some (vi x3), none, some (vi x5), some (vi x6), some (vl x7), none, some (vi x9), none, none] [vi 1] ((2, f), S, L, P) (0, 0)))))) : zz_J zpX1_setBy_9 (zz_ret Q X 0 0) 91 [some (vr 100), some (vi x1), some (vi x2), some (vi x3), none, some (vi x5), some (vi x6), some (vl x7), none, some (vi x9), none, none] [] ((2, f), S, L, P) (0, 0) := zz_J.go [(91, [4, 8, 10, 11]), (108, [4, 8, 10, 11]), (149, [4, 8, 10, 11]), (181, [1, 2, 3, 4, 8, 9, 10, 11])] 400 h
theorem zwX1_setBy_9_108 {Q : Option zv → zz_M → Prop} {X : Nat → zz_M → Prop} {f : Nat → Nat × Nat} {S L : Nat → Nat → Int} {P : Nat → Nat → Option Nat} {x1 : Int} {x2 : Int} {x3 : Int} {x5 : Int} {x6 : Int} {x7 : Int} {x9 : Int} {t0 : Int} (h : R32 t0 ∧ ((t0 = 0 → R32 t0 ∧ ((t0 = 0 → (0 ≤ x9 ∧ x9 < 2147483648) ∧ ((0 ≤ x9 ∧ x9 < 2147483648) ∧ (((x1 = 0 ∨ x1 = 1) ∧ ((x9 % 2) = 0 ∨ (x9 % 2) = 1) ∧ ((1 + (x9 % 2)) = 1 + (x9 % 2) ∨ (1 + (x9 % 2)) = 0) ∧ (0 ≤ (x2 + 0) ∧ (x2 + 0) ≤ S 200 1) ∧ (0 ≤ (x3 + 1) ∧ (x3 + 1) ≤ S 200 1) ∧ (1 ≤ S 200 1 ∧ S 200 1 ≤ 6) ∧ S 200 1 - (x2 + 0) + (S 200 1 - (x3 + 1)) ≤ 8 ∧ ∃ wy_1 : Nat → Int, wyG wy_1 ∧ (∀ s_1 k_1, s_1 < 2 → k_1 < 4 → S (129 + s_1) k_1 = wy_1 (4 * s_1 + k_1)) ∧ fG (S (128 + (1 + (x9 % 2)).toNat)) ∧ meI S wy_1 (S 200 1) x1 ∧ (∀ S_1 : Nat → Nat → Int, (∀ j_1, j_1 ≠ 131 → S_1 j_1 = S j_1) → meI S_1 wy_1 (S 200 1) x1 → (zz_J zpX1_setBy_9 (zz_ret Q X 0 0) 149 [some (vr 100), some (vi x1), some (vi x2), some (vi x3), none, some (vi x5), some (vi x6), some (vl x7), none, some (vi x9), none, none] [vi (sbV wy_1 (S 200 1) x1 (S (128 + (1 + (x9 % 2)).toNat)) (x2 + 0) (x3 + 1))] ((2, f), S_1, L, P) (0, 0))))))) ∧ (¬ t0 = 0 → (0 ≤ x9 ∧ x9 < 2147483648) ∧ ((0 ≤ x9 ∧ x9 < 2147483648) ∧ (((x1 = 0 ∨ x1 = 1) ∧ ((x9 % 2) = 0 ∨ (x9 % 2) = 1) ∧ ((1 + (x9 % 2)) = 1 + (x9 % 2) ∨ (1 + (x9 % 2)) = 0) ∧ (0 ≤ (x2 + 0) ∧ (x2 + 0) ≤ S 200 1) ∧ (0 ≤ (x3 + 0) ∧ (x3 + 0) ≤ S 200 1) ∧ (1 ≤ S 200 1 ∧ S 200 1 ≤ 6) ∧ S 200 1 - (x2 + 0) + (S 200 1 - (x3 + 0)) ≤ 8 ∧ ∃ wy_2 : Nat → Int, wyG wy_2 ∧ (∀ s_2 k_2, s_2 < 2 → k_2 < 4 → S (129 + s_2) k_2 = wy_2 (4 * s_2 + k_2)) ∧ fG (S (128 + (1 + (x9 % 2)).toNat)) ∧ meI S wy_2 (S 200 1) x1 ∧ (∀ S_2 : Nat → Nat → Int, (∀ j_2, j_2 ≠ 131 → S_2 j_2 = S j_2) → meI S_2 wy_2 (S 200 1) x1 → (zz_J zpX1_setBy_9 (zz_ret Q X 0 0) 149 [some (vr 100), some (vi x1), some (vi x2), some (vi x3), none, some (vi x5), some (vi x6), some (vl x7), none, some (vi x9), none, none] [vi (sbV wy_2 (S 200 1) x1 (S (128 + (1 + (x9 % 2)).toNat)) (x2 + 0) (x3 + 0))] ((2, f), S_2, L, P) (0, 0))))))))) ∧ (¬ t0 = 0 → R32 t0 ∧ ((t0 = 0 → (0 ≤ x9 ∧ x9 < 2147483648) ∧ ((0 ≤ x9 ∧ x9 < 2147483648) ∧ (((x1 = 0 ∨ x1 = 1) ∧ ((x9 % 2) = 0 ∨ (x9 % 2) = 1) ∧ ((1 + (x9 % 2)) = 1 + (x9 % 2) ∨ (1 + (x9 % 2)) = 0) ∧ (0 ≤ (x2 + 1) ∧ (x2 + 1) ≤ S 200 1) ∧ (0 ≤ (x3 + 1) ∧ (x3 + 1) ≤ S 200 1) ∧ (1 ≤ S 200 1 ∧ S 200 1 ≤ 6) ∧ S 200 1 - (x2 + 1) + (S 200 1 - (x3 + 1)) ≤ 8 ∧ ∃ wy_3 : Nat → Int, wyG wy_3 ∧ (∀ s_3 k_3, s_3 < 2 → k_3 < 4 → S (129 + s_3) k_3 = wy_3 (4 * s_3 + k_3)) ∧ fG (S (128 + (1 + (x9 % 2)).toNat)) ∧ meI S wy_3 (S 200 1) x1 ∧ (∀ S_3 : Nat → Nat → Int, (∀ j_3, j_3 ≠ 131 → S_3 j_3 = S j_3) → meI S_3 wy_3 (S 200 1) x1 → (zz_J zpX1_setBy_9 (zz_ret Q X 0 0) 149 [some (vr 100), some (vi x1), some (vi x2), some (vi x3), none, some (vi x5), some (vi x6), some (vl x7), none, some (vi x9), none, none] [vi (sbV wy_3 (S 200 1) x1 (S (128 + (1 + (x9 % 2)).toNat)) (x2 + 1) (x3 + 1))] ((2, f), S_3, L, P) (0, 0))))))) ∧ (¬ t0 = 0 → (0 ≤ x9 ∧ x9 < 2147483648) ∧ ((0 ≤ x9 ∧ x9 < 2147483648) ∧ (((x1 = 0 ∨ x1 = 1) ∧ ((x9 % 2) = 0 ∨ (x9 % 2) = 1) ∧ ((1 + (x9 % 2)) = 1 + (x9 % 2) ∨ (1 + (x9 % 2)) = 0) ∧ (0 ≤ (x2 + 1) ∧ (x2 + 1) ≤ S 200 1) ∧ (0 ≤ (x3 + 0) ∧ (x3 + 0) ≤ S 200 1) ∧ (1 ≤ S 200 1 ∧ S 200 1 ≤ 6) ∧ S 200 1 - (x2 + 1) + (S 200 1 - (x3 + 0)) ≤ 8 ∧ ∃ wy_4 : Nat → Int, wyG wy_4 ∧ (∀ s_4 k_4, s_4 < 2 → k_4 < 4 → S (129 + s_4) k_4 = wy_4 (4 * s_4 + k_4)) ∧ fG (S (128 + (1 + (x9 % 2)).toNat)) ∧ meI S wy_4 (S 200 1) x1 ∧ (∀ S_4 : Nat → Nat → Int, (∀ j_4, j_4 ≠ 131 → S_4 j_4 = S j_4) → meI S_4 wy_4 (S 200 1) x1 → (zz_J zpX1_setBy_9 (zz_ret Q X 0 0) 149 [some (vr 100), some (vi x1), some (vi x2), some (vi x3), none, some (vi x5), some (vi x6), some (vl x7), none, some (vi x9), none, none] [vi (sbV wy_4 (S 200 1) x1 (S (128 + (1 + (x9 % 2)).toNat)) (x2 + 1) (x3 + 0))] ((2, f), S_4, L, P) (0, 0))))))))))) : zz_J zpX1_setBy_9 (zz_ret Q X 0 0) 108 [some (vr 100), some (vi x1), some (vi x2), some (vi x3), none, some (vi x5), some (vi x6), some (vl x7), none, some (vi x9), none, none] [vi t0] ((2, f), S, L, P) (0, 0) := zz_J.go [(91, [4, 8, 10, 11]), (108, [4, 8, 10, 11]), (149, [4, 8, 10, 11]), (181, [1, 2, 3, 4, 8, 9, 10, 11])] 400 h
theorem zwX1_setBy_9_149 {Q : Option zv → zz_M → Prop} {X : Nat → zz_M → Prop} {f : Nat → Nat × Nat} {S L : Nat → Nat → Int} {P : Nat → Nat → Option Nat} {x1 : Int} {x2 : Int} {x3 : Int} {x5 : Int} {x6 : Int} {x7 : Int} {x9 : Int} {t0 : Int} (h : ∃ t_ n_ : Nat, zsh ((2, f), S, L, P) 127 = (t_, n_) ∧ (t_ = 6 ∨ t_ = 7 ∨ t_ = 8) ∧ (n_ : Int) ≤ 2147483647 ∧ (0 ≤ x5 ∧ x5 < (n_ : Int)) ∧ (∀ b1 : Nat, zpt ((2, f), S, L, P) 127 x5.toNat = some b1 → ∃ n_ : Nat, zsh ((2, f), S, L, P) b1 = (2, n_) ∧ (n_ : Int) ≤ 2147483647 ∧ (0 ≤ x9 ∧ x9 < (n_ : Int)) ∧ (R32 (S b1 x9.toNat) ∧ (R32 t0 ∧ ((0 ≤ ((S b1 x9.toNat) * t0) ∧ ((S b1 x9.toNat) * t0) < 9223372036854775808) ∧ (zz_J zpX1_setBy_9 (zz_ret Q X 0 0) 91 [some (vr 100), some (vi x1), some (vi x2), some (vi x3), none, some (vi x5), some (vi x6), some (vl (x7 + (((S b1 x9.toNat) * t0) / 1000000000))), none, some (vi (x9 + 1)), none, none] [] ((2, f), S, L, P) (0, 0)))))) ∧ (zpt ((2, f), S, L, P) 127 x5.toNat = none → False)) : zz_J zpX1_setBy_9 (zz_ret Q X 0 0) 149 [some (vr 100), some (vi x1), some (vi x2), some (vi x3), none, some (vi x5), some (vi x6), some (vl x7), none, some (vi x9), none, none] [vi t0] ((2, f), S, L, P) (0, 0) := zz_J.go [(91, [4, 8, 10, 11]), (108, [4, 8, 10, 11]), (149, [4, 8, 10, 11]), (181, [1, 2, 3, 4, 8, 9, 10, 11])] 400 h
theorem zwX1_setBy_9_181 {Q : Option zv → zz_M → Prop} {X : Nat → zz_M → Prop} {f : Nat → Nat × Nat} {S L : Nat → Nat → Int} {P : Nat → Nat → Option Nat} {x5 : Int} {x6 : Int} {x7 : Int} (h : R32 x5 ∧ ((x5 ≤ 0 → R64 x7 ∧ (Q (some (vi x7)) ((2, f), S, L, P))) ∧ (¬ x5 ≤ 0 → R64 x7 ∧ ((0 ≤ x6 ∧ x6 < 98) ∧ (R64 x7 ∧ (Q (some (vi x7)) ((2, f), mm_up S 131 x6.toNat x7, L, P))))))) : zz_J zpX1_setBy_9 (zz_ret Q X 0 0) 181 [some (vr 100), none, none, none, none, some (vi x5), some (vi x6), some (vl x7), none, none, none, none] [] ((2, f), S, L, P) (0, 0) := zz_J.go [(91, [4, 8, 10, 11]), (108, [4, 8, 10, 11]), (149, [4, 8, 10, 11]), (181, [1, 2, 3, 4, 8, 9, 10, 11])] 400 h

theorem zmX1_setBy_9 (l : Launch) (hl : l.stackTraces = false) : mm_Spec l yX1_setBy (ws_ yX1_setBy cX1_setBy 12 (some .int)) (mm_rm 14 0 0) (zE zX1_setBy_9) := by
  refine zz_Met.J hl (by decide) (fun C G hnh => ztX1_setBy_9 G hnh) ?_
  rintro as ⟨⟨t_, f⟩, S, L, P⟩ Q X h
  unfold zX1_setBy_9 at h
  split at h
  rotate_left
  · exact h.elim
  rename_i h_ p a b s fr
  obtain ⟨e1_, e2_, h⟩ := mm_and2 h (fun q => q)
  cases mm_beq e1_
  cases mm_beq e2_
  try dsimp only at h
  refine ⟨rfl, ?_⟩
  obtain ⟨hp, hs, hfr, ha, hb, hG, hr, wy, hw, hrow, hF, hme, hq⟩ := h
  by_cases o : S 200 1 ≤ a ∨ S 200 1 ≤ b
  · have hq := hq S (fun _ _ => rfl) hme
    unfold sbV at hq
    rw [if_pos o] at hq
    have k1 : ¬ p = 0 → R32 b ∧ (R32 (S 200 1) ∧ ((b < (S 200 1) → Q (some (vi 0)) ((2, f), S, L, P)) ∧ (¬ b < (S 200 1) → Q (some (vi 1000000000)) ((2, f), S, L, P)))) := fun d => ⟨by omega, by omega, fun e => by rw [if_neg (by rw [if_neg d]; omega)] at hq; exact hq, fun e => by rw [if_pos (by rw [if_neg d]; omega)] at hq; exact hq⟩
    have k0 : p = 0 → R32 a ∧ (R32 (S 200 1) ∧ ((a < (S 200 1) → Q (some (vi 0)) ((2, f), S, L, P)) ∧ (¬ a < (S 200 1) → Q (some (vi 1000000000)) ((2, f), S, L, P)))) := fun d => ⟨by omega, by omega, fun e => by rw [if_neg (by rw [if_pos d]; omega)] at hq; exact hq, fun e => by rw [if_pos (by rw [if_pos d]; omega)] at hq; exact hq⟩
    exact zwX1_setBy_9_0 ⟨by omega, by omega, fun c => ⟨by omega, k1, k0⟩, fun c => ⟨by omega, by omega, fun e => absurd o (by omega), fun e => ⟨by omega, k1, k0⟩⟩⟩
  obtain ⟨a', rfl⟩ : ∃ a' : Nat, a = (a' : Int) := ⟨a.toNat, by omega⟩
  obtain ⟨b', rfl⟩ : ∃ b' : Nat, b = (b' : Int) := ⟨b.toNat, by omega⟩
  obtain ⟨s', hs', es⟩ : ∃ s' : Nat, s' < 2 ∧ s = (s' : Int) := ⟨s.toNat, by omega, by omega⟩
  obtain ⟨r', hr', er⟩ : ∃ r' : Nat, r' < 3 ∧ fr = (r' : Int) := ⟨fr.toNat, by omega, by omega⟩
  subst es er
  have hcv := fun k => bcV_in (G := S 200 1) (p := p) (a := (a' : Int)) (b := (b' : Int)) hw k
  rw [Int.toNat_natCast] at hF hq
  have sin := sbS_in hF hcv
  have hq : ∀ S_ : Nat → Nat → Int, (∀ j, j ≠ 131 → S_ j = S j) → meI S_ wy (S 200 1) p → Q (some (vi (sbS (S (128 + r')) (bcV wy (S 200 1) p a' b') 4))) ((2, f), S_, L, P) := fun S_ e1 e2 => by
    have hq := hq S_ e1 e2
    unfold sbV at hq
    rw [if_neg o] at hq
    exact hq
  have est : (1 : Int) + s' = r' → sbS (S (128 + r')) (bcV wy (S 200 1) p a' b') 4 = stO wy (S 200 1) p 12 a' b' s' := fun e => by
    have e2 : r' = 1 + s' := by omega
    have := sbV_st (wy := wy) (G := S 200 1) (p := p) (a := (a' : Int)) (b := (b' : Int)) (s := s') (F := S (128 + r')) (fun k hk => by rw [e2, show 128 + (1 + s') = 129 + s' by omega]; exact hrow s' k hs' hk) (by omega) (by omega) (by omega)
    unfold sbV at this
    rw [if_neg o] at this
    exact this
  have wy4 : ∀ s : Nat, s < 2 → fG (S (129 + s)) := fun s hs => by
    refine ⟨fun k hk => by rw [hrow s k hs hk]; exact hw.1 _ (by omega), ?_⟩
    rw [hrow s 0 hs (by decide), hrow s 1 hs (by decide), hrow s 2 hs (by decide), hrow s 3 hs (by decide)]
    have : s = 0 ∨ s = 1 := by omega
    rcases this with e | e <;> subst e
    · exact hw.2.1
    · exact hw.2.2
  have t91 : ∀ (m k : Nat) (T : Nat → Nat → Int), k + m = 4 → (∀ j, j ≠ 131 → T j = S j) → meI T wy (S 200 1) p → zz_J zpX1_setBy_9 (zz_ret Q X 0 0) 91 [some (vr 100), some (vi p), some (vi (a' : Int)), some (vi (b' : Int)), none, some (vi (r' : Int)), some (vi ((((7 * (a' : Int)) + b') * 2) + s')), some (vl (sbS (S (128 + r')) (bcV wy (S 200 1) p a' b') k)), none, some (vi (k : Int)), none, none] [] ((2, f), T, L, P) (0, 0) := by
    intro m
    induction m with
    | zero =>
      intro k T hk eT mT
      have k4 : k = 4 := by omega
      subst k4
      have s4 := sin 4 (by decide)
      have R4 : R64 (sbS (S (128 + r')) (bcV wy (S 200 1) p a' b') 4) := by omega
      refine zwX1_setBy_9_91 ⟨by omega, fun _ => zwX1_setBy_9_181 ⟨by omega, fun c => ⟨R4, hq T eT mT⟩, fun c => ⟨R4, by omega, R4, ?_⟩⟩, fun d => absurd (by omega) d⟩
      have ei : ((((7 * (a' : Int)) + b') * 2) + s').toNat = (7 * a' + b') * 2 + s' := by omega
      have e1 := est (by omega)
      refine hq _ (fun j hj => ?_) ?_
      · funext x
        rw [up_eq, if_neg (by omega), eT j hj]
      · rw [ei, e1]
        exact mT.up (by omega) (by omega) hs'
    | succ m ih =>
      intro k T hk eT mT
      have k4 : k < 4 := by omega
      have eG : T 200 1 = S 200 1 := by rw [eT 200 (by decide)]
      have t149 : ∀ (U : Nat → Nat → Int), (∀ j, j ≠ 131 → U j = S j) → meI U wy (S 200 1) p → zz_J zpX1_setBy_9 (zz_ret Q X 0 0) 149 [some (vr 100), some (vi p), some (vi (a' : Int)), some (vi (b' : Int)), none, some (vi (r' : Int)), some (vi ((((7 * (a' : Int)) + b') * 2) + s')), some (vl (sbS (S (128 + r')) (bcV wy (S 200 1) p a' b') k)), none, some (vi (k : Int)), none, none] [vi (bcV wy (S 200 1) p a' b' k)] ((2, f), U, L, P) (0, 0) := by
        intro U eU mU
        obtain ⟨w1, w2⟩ := ways_at (f := f) (S := U) (L := L) (P := P) hr'
        have fk := hF.1 k k4
        have ck := hcv k
        have m9 := mul_sure fk.1 ck.1 ck.2
        refine zwX1_setBy_9_149 ⟨6, 3, rfl, Or.inl rfl, by decide, by omega, fun b1 hb1 => ?_, fun hb1 => ?_⟩
        · rw [Int.toNat_natCast, w1] at hb1
          cases hb1
          refine ⟨4, w2, by decide, by omega, ?_⟩
          rw [Int.toNat_natCast, eU (128 + r') (by omega)]
          exact ⟨by omega, by omega, by omega, ih (k + 1) U (by omega) eU mU⟩
        · rw [Int.toNat_natCast, w1] at hb1
          cases hb1
      have rowT : ∀ s_ k_, s_ < 2 → k_ < 4 → T (129 + s_) k_ = wy (4 * s_ + k_) := fun s_ k_ g1 g2 => by rw [eT (129 + s_) (by omega)]; exact hrow s_ k_ g1 g2
      have mk : ((k : Int) % 2 = 0 ∨ (k : Int) % 2 = 1) := by omega
      have ek2 : ((k : Int) % 2).toNat = k % 2 := by omega
      have ek3 : 128 + (1 + (k : Int) % 2).toNat = 129 + k % 2 := by omega
      have nxt : ∀ x y : Int, (x ≤ S 200 1 ∧ y ≤ S 200 1 ∧ S 200 1 - x + (S 200 1 - y) ≤ 12) → stO wy (S 200 1) p 12 x y (k % 2) = bcV wy (S 200 1) p a' b' k → ∀ S_ : Nat → Nat → Int, (∀ j, j ≠ 131 → S_ j = T j) → meI S_ wy (T 200 1) p → zz_J zpX1_setBy_9 (zz_ret Q X 0 0) 149 [some (vr 100), some (vi p), some (vi (a' : Int)), some (vi (b' : Int)), none, some (vi (r' : Int)), some (vi ((((7 * (a' : Int)) + b') * 2) + s')), some (vl (sbS (S (128 + r')) (bcV wy (S 200 1) p a' b') k)), none, some (vi (k : Int)), none, none] [vi (sbV wy (T 200 1) p (T (128 + (1 + (k : Int) % 2).toNat)) x y)] ((2, f), S_, L, P) (0, 0) := by
        intro x y hxy e S_ e1 e2
        rw [eG] at e2 ⊢
        rw [ek3, sbV_st (s := k % 2) (fun j hj => rowT (k % 2) j (by omega) hj) hxy.1 hxy.2.1 hxy.2.2, e]
        exact t149 S_ (fun j hj => by rw [e1 j hj, eT j hj]) e2
      have fGk : fG (T (128 + (1 + (k : Int) % 2).toNat)) := by
        rw [ek3, eT (129 + k % 2) (by omega)]
        exact wy4 (k % 2) (by omega)
      refine zwX1_setBy_9_91 ⟨by omega, fun d => absurd d (by omega), fun _ => ⟨by omega, fun c => zwX1_setBy_9_108 ⟨by decide, fun _ => ⟨by decide, fun _ => ⟨by omega, by omega, hp, mk, Or.inl rfl, by omega, by omega, by omega, by omega, wy, hw, rowT, fGk, by rw [eG]; exact mT, ?_⟩, fun d => absurd rfl d⟩, fun d => absurd rfl d⟩, fun c => zwX1_setBy_9_108 ⟨by decide, fun d => absurd d (by decide), fun _ => ⟨by decide, fun d => absurd d (by decide), fun _ => ⟨by omega, by omega, hp, mk, Or.inl rfl, by omega, by omega, by omega, by omega, wy, hw, rowT, fGk, by rw [eG]; exact mT, ?_⟩⟩⟩⟩⟩
      · refine nxt _ _ (by omega) ?_
        unfold bcV
        rw [if_neg (by omega), if_neg (by omega), Int.add_zero]
      · refine nxt _ _ (by omega) ?_
        unfold bcV
        rw [if_pos (by omega), if_pos (by omega), Int.add_zero]
  have t0 := t91 4 0 S rfl (fun _ _ => rfl) hme
  refine zwX1_setBy_9_0 ⟨by omega, by omega, fun c => absurd (Or.inl c) o, fun c => ⟨by omega, by omega, fun c2 => ⟨by omega, fun d => t0, fun d => ⟨by omega, ?_⟩⟩, fun c2 => absurd (by omega) o⟩⟩
  have ei : ((((7 * (a' : Int)) + b') * 2) + s').toNat = (7 * a' + b') * 2 + s' := by omega
  have me := hme a' b' s' (by omega) (by omega) hs'
  have hin := stO_in (G := S 200 1) (p := p) hw 12 (a' : Int) (b' : Int) s' hs'
  rw [ei]
  refine ⟨by rcases me with e | e <;> rw [e] <;> omega, fun _ => t0, fun d2 => ⟨by omega, ?_⟩⟩
  have e2 := me.resolve_left (by omega)
  rw [e2, ← est (by omega)]
  exact hq S (fun _ _ => rfl) hme
def zX1_setBy_10 : zz_Sp := fun as M Q X => match as with
  | [.inr (.inr (some h_)), .inl p, .inl a, .inl b, .inl s, .inl fr] => bif Nat.beq h_ 100 && Nat.beq M.1.1 2 then ((p = 0 ∨ p = 1) ∧ (s = 0 ∨ s = 1) ∧ (fr = 1 + s ∨ fr = 0) ∧ (0 ≤ a ∧ a ≤ M.2.1 200 1) ∧ (0 ≤ b ∧ b ≤ M.2.1 200 1) ∧ (1 ≤ M.2.1 200 1 ∧ M.2.1 200 1 ≤ 6) ∧ M.2.1 200 1 - a + (M.2.1 200 1 - b) ≤ 10 ∧ ∃ wy_ : Nat → Int, wyG wy_ ∧ (∀ s_ k_, s_ < 2 → k_ < 4 → M.2.1 (129 + s_) k_ = wy_ (4 * s_ + k_)) ∧ fG (M.2.1 (128 + fr.toNat)) ∧ meI M.2.1 wy_ (M.2.1 200 1) p ∧ (∀ S_ : Nat → Nat → Int, (∀ j_, j_ ≠ 131 → S_ j_ = M.2.1 j_) → meI S_ wy_ (M.2.1 200 1) p → Q (some (vi (sbV wy_ (M.2.1 200 1) p (M.2.1 (128 + fr.toNat)) a b))) ((2, M.1.2), S_, M.2.2.1, M.2.2.2))) else False
  | _ => False

def zpX1_setBy_10 : zz_P := [(0, zo_ild 1 2), (1, zo_ald 2 0), (2, zo_get 5 0 2 0), (5, zo_get 8 1 0 1), (8, zo_cge false false 11 22), (11, zo_ild 12 3), (12, zo_ald 13 0), (13, zo_get 16 0 2 0), (16, zo_get 19 1 0 1), (19, zo_clt false false 22 49), (22, zo_ild 23 1), (23, zo_ifne false 26 30), (26, zo_ild 27 2), (27, zo_goto 31), (30, zo_ild 31 3), (31, zo_ald 32 0), (32, zo_get 35 0 2 0), (35, zo_get 38 1 0 1), (38, zo_clt false false 41 47), (41, zo_c 44 (vi 1000000000)), (44, zo_goto 48), (47, zo_c 48 (vi 0)), (48, zo_iret), (49, zo_c 51 (vi 7)), (51, zo_ild 52 2), (52, zo_imul 53), (53, zo_ild 54 3), (54, zo_iadd 55), (55, zo_c 56 (vi 2)), (56, zo_imul 57), (57, zo_ild 59 4), (59, zo_iadd 60), (60, zo_ist 62 6), (62, zo_ild 64 5), (64, zo_ifle false 67 85), (67, zo_ald 68 0), (68, zo_get 71 0 2 15), (71, zo_ild 73 6), (73, zo_iald 74), (74, zo_iflt false 77 85), (77, zo_ald 78 0), (78, zo_get 81 0 2 15), (81, zo_ild 83 6), (83, zo_iald 84), (84, zo_iret), (85, zo_c 86 (vl 0)), (86, zo_lst 88 7), (88, zo_c 89 (vi 0)), (89, zo_ist 91 9), (91, zo_ild 93 9), (93, zo_c 94 (vi 4)), (94, zo_cge false true 97 181), (97, zo_ild 99 9), (99, zo_c 100 (vi 2)), (100, zo_cge false true 103 107), (103, zo_c 104 (vi 1)), (104, zo_goto 108), (107, zo_c 108 (vi 0)), (108, zo_ist 110 10), (110, zo_ald 111 0), (111, zo_ild 112 1), (112, zo_ild 113 2), (113, zo_ild 115 10), (115, zo_ifeq false 118 122), (118, zo_c 119 (vi 1)), (119, zo_goto 123), (122, zo_c 123 (vi 0)), (123, zo_iadd 124), (124, zo_ild 125 3), (125, zo_ild 127 10), (127, zo_ifeq false 130 134), (130, zo_c 131 (vi 0)), (131, zo_goto 135), (134, zo_c 135 (vi 1)), (135, zo_iadd 136), (136, zo_ild 138 9), (138, zo_c 139 (vi 2)), (139, zo_irem 140), (140, zo_c 141 (vi 1)), (141, zo_ild 143 9), (143, zo_c 144 (vi 2)), (144, zo_irem 145), (145, zo_iadd 146), (146, zo_callv 149 6 0 zX1_setBy_9), (149, zo_ist 151 11), (151, zo_lld 153 7), (153, zo_ald 154 0), (154, zo_get 157 0 2 14), (157, zo_ild 159 5), (159, zo_aald 160), (160, zo_ild 162 9), (162, zo_ialp 163), (163, zo_i2l 164), (164, zo_ild 166 11), (166, zo_i2l 167), (167, zo_lmul 168), (168, zo_c 171 (vl 1000000000)), (171, zo_ldiv 172), (172, zo_ladd 173), (173, zo_lst 175 7), (175, zo_inc 178 9 1), (178, zo_goto 91), (181, zo_ild 183 5), (183, zo_ifle false 186 196), (186, zo_ald 187 0), (187, zo_get 190 0 2 15), (190, zo_ild 192 6), (192, zo_lld 194 7), (194, zo_l2i 195), (195, zo_iasd 196), (196, zo_lld 198 7), (198, zo_l2i 199), (199, zo_iret)]
theorem ztX1_setBy_10 {C : mm_C} (G : mm_G C RX1 cX1_setBy (some .int) 12 (mm_rm 15 0 0)) (hnh : mm_nh C) : zz_OKs C zpX1_setBy_10 :=
  ⟨zz_of (ok_iload_n G dX1_setBy_0 rfl rfl) (z_ild _ _),
   zz_of (ok_aload_n G dX1_setBy_1 rfl rfl) (z_ald _ _),
   zz_of (ok_get G (nx := 5) (ci := 0) (kd := 2) (k := 0) (RX1, TX1, 19) rfl (by decide) rfl q399 dX1_setBy_2 rfl) (z_get _ _ _ _),
   zz_of (ok_getN G (nx := 8) (ci := 1) (kd := 0) (k := 1) (RX2, TX2, 11) rfl (by decide) rfl q218 dX1_setBy_5 rfl) (z_get _ _ _ _),
   zz_of (ok_cge G dX1_setBy_8 rfl rfl) (z_cge _ _ _ _),
   zz_of (ok_iload_n G dX1_setBy_11 rfl rfl) (z_ild _ _),
   zz_of (ok_aload_n G dX1_setBy_12 rfl rfl) (z_ald _ _),
   zz_of (ok_get G (nx := 16) (ci := 0) (kd := 2) (k := 0) (RX1, TX1, 19) rfl (by decide) rfl q399 dX1_setBy_13 rfl) (z_get _ _ _ _),
   zz_of (ok_getN G (nx := 19) (ci := 1) (kd := 0) (k := 1) (RX2, TX2, 11) rfl (by decide) rfl q218 dX1_setBy_16 rfl) (z_get _ _ _ _),
   zz_of (ok_clt G dX1_setBy_19 rfl rfl) (z_clt _ _ _ _),
   zz_of (ok_iload_n G dX1_setBy_22 rfl rfl) (z_ild _ _),
   zz_of (ok_ifne G dX1_setBy_23 rfl rfl) (z_ifne _ _ _),
   zz_of (ok_iload_n G dX1_setBy_26 rfl rfl) (z_ild _ _),
   zz_of (ok_goto G dX1_setBy_27 rfl) (z_goto _),
   zz_of (ok_iload_n G dX1_setBy_30 rfl rfl) (z_ild _ _),
   zz_of (ok_aload_n G dX1_setBy_31 rfl rfl) (z_ald _ _),
   zz_of (ok_get G (nx := 35) (ci := 0) (kd := 2) (k := 0) (RX1, TX1, 19) rfl (by decide) rfl q399 dX1_setBy_32 rfl) (z_get _ _ _ _),
   zz_of (ok_getN G (nx := 38) (ci := 1) (kd := 0) (k := 1) (RX2, TX2, 11) rfl (by decide) rfl q218 dX1_setBy_35 rfl) (z_get _ _ _ _),
   zz_of (ok_clt G dX1_setBy_38 rfl rfl) (z_clt _ _ _ _),
   zz_of (ok_ldcw G (v := 1000000000) q1700 dX1_setBy_41 rfl) (z_cn 44 1000000000),
   zz_of (ok_goto G dX1_setBy_44 rfl) (z_goto _),
   zz_of (ok_iconst G (v := 0) dX1_setBy_47 (by decide) rfl) (z_cn 48 0),
   zz_of (ok_iret G dX1_setBy_48) (z_iret),
   zz_of (ok_bipush G (v := 7) dX1_setBy_49 (by decide) rfl) (z_cn 51 7),
   zz_of (ok_iload_n G dX1_setBy_51 rfl rfl) (z_ild _ _),
   zz_of (ok_imul G dX1_setBy_52 rfl) (z_imul _),
   zz_of (ok_iload_n G dX1_setBy_53 rfl rfl) (z_ild _ _),
   zz_of (ok_iadd G dX1_setBy_54 rfl) (z_iadd _),
   zz_of (ok_iconst G (v := 2) dX1_setBy_55 (by decide) rfl) (z_cn 56 2),
   zz_of (ok_imul G dX1_setBy_56 rfl) (z_imul _),
   zz_of (ok_iload G dX1_setBy_57 rfl) (z_ild _ _),
   zz_of (ok_iadd G dX1_setBy_59 rfl) (z_iadd _),
   zz_of (ok_istore G dX1_setBy_60 rfl (by decide)) (z_ist _ _),
   zz_of (ok_iload G dX1_setBy_62 rfl) (z_ild _ _),
   zz_of (ok_ifle G dX1_setBy_64 rfl rfl) (z_ifle _ _ _),
   zz_of (ok_aload_n G dX1_setBy_67 rfl rfl) (z_ald _ _),
   zz_of (ok_get G (nx := 71) (ci := 0) (kd := 2) (k := 15) (RX1, TX1, 19) rfl (by decide) rfl q426 dX1_setBy_68 rfl) (z_get _ _ _ _),
   zz_of (ok_iload G dX1_setBy_71 rfl) (z_ild _ _),
   zz_of (ok_iald G dX1_setBy_73 rfl) (z_iald _),
   zz_of (ok_iflt G dX1_setBy_74 rfl rfl) (z_iflt _ _ _),
   zz_of (ok_aload_n G dX1_setBy_77 rfl rfl) (z_ald _ _),
   zz_of (ok_get G (nx := 81) (ci := 0) (kd := 2) (k := 15) (RX1, TX1, 19) rfl (by decide) rfl q426 dX1_setBy_78 rfl) (z_get _ _ _ _),
   zz_of (ok_iload G dX1_setBy_81 rfl) (z_ild _ _),
   zz_of (ok_iald G dX1_setBy_83 rfl) (z_iald _),
   zz_of (ok_iret G dX1_setBy_84) (z_iret),
   zz_of (ok_lconst G (v := 0) dX1_setBy_85 (by decide) rfl) (z_cl 86 0),
   zz_of (ok_lstore G dX1_setBy_86 rfl (by decide)) (z_lst _ _),
   zz_of (ok_iconst G (v := 0) dX1_setBy_88 (by decide) rfl) (z_cn 89 0),
   zz_of (ok_istore G dX1_setBy_89 rfl (by decide)) (z_ist _ _),
   zz_of (ok_iload G dX1_setBy_91 rfl) (z_ild _ _),
   zz_of (ok_iconst G (v := 4) dX1_setBy_93 (by decide) rfl) (z_cn 94 4),
   zz_of (ok_cge G dX1_setBy_94 rfl rfl) (z_cge _ _ _ _),
   zz_of (ok_iload G dX1_setBy_97 rfl) (z_ild _ _),
   zz_of (ok_iconst G (v := 2) dX1_setBy_99 (by decide) rfl) (z_cn 100 2),
   zz_of (ok_cge G dX1_setBy_100 rfl rfl) (z_cge _ _ _ _),
   zz_of (ok_iconst G (v := 1) dX1_setBy_103 (by decide) rfl) (z_cn 104 1),
   zz_of (ok_goto G dX1_setBy_104 rfl) (z_goto _),
   zz_of (ok_iconst G (v := 0) dX1_setBy_107 (by decide) rfl) (z_cn 108 0),
   zz_of (ok_istore G dX1_setBy_108 rfl (by decide)) (z_ist _ _),
   zz_of (ok_aload_n G dX1_setBy_110 rfl rfl) (z_ald _ _),
   zz_of (ok_iload_n G dX1_setBy_111 rfl rfl) (z_ild _ _),
   zz_of (ok_iload_n G dX1_setBy_112 rfl rfl) (z_ild _ _),
   zz_of (ok_iload G dX1_setBy_113 rfl) (z_ild _ _),
   zz_of (ok_ifeq G dX1_setBy_115 rfl rfl) (z_ifeq _ _ _),
   zz_of (ok_iconst G (v := 1) dX1_setBy_118 (by decide) rfl) (z_cn 119 1),
   zz_of (ok_goto G dX1_setBy_119 rfl) (z_goto _),
   zz_of (ok_iconst G (v := 0) dX1_setBy_122 (by decide) rfl) (z_cn 123 0),
   zz_of (ok_iadd G dX1_setBy_123 rfl) (z_iadd _),
   zz_of (ok_iload_n G dX1_setBy_124 rfl rfl) (z_ild _ _),
   zz_of (ok_iload G dX1_setBy_125 rfl) (z_ild _ _),
   zz_of (ok_ifeq G dX1_setBy_127 rfl rfl) (z_ifeq _ _ _),
   zz_of (ok_iconst G (v := 0) dX1_setBy_130 (by decide) rfl) (z_cn 131 0),
   zz_of (ok_goto G dX1_setBy_131 rfl) (z_goto _),
   zz_of (ok_iconst G (v := 1) dX1_setBy_134 (by decide) rfl) (z_cn 135 1),
   zz_of (ok_iadd G dX1_setBy_135 rfl) (z_iadd _),
   zz_of (ok_iload G dX1_setBy_136 rfl) (z_ild _ _),
   zz_of (ok_iconst G (v := 2) dX1_setBy_138 (by decide) rfl) (z_cn 139 2),
   zz_of (ok_irem G dX1_setBy_139 rfl) (z_irem _),
   zz_of (ok_iconst G (v := 1) dX1_setBy_140 (by decide) rfl) (z_cn 141 1),
   zz_of (ok_iload G dX1_setBy_141 rfl) (z_ild _ _),
   zz_of (ok_iconst G (v := 2) dX1_setBy_143 (by decide) rfl) (z_cn 144 2),
   zz_of (ok_irem G dX1_setBy_144 rfl) (z_irem _),
   zz_of (ok_iadd G dX1_setBy_145 rfl) (z_iadd _),
   zz_of (ok_callv G hnh (zmX1_setBy_9 _ G.hst) rfl rfl (RX1, TX1, 19) rfl q1706 q1708 qs33 q82 q1709 (by decide +kernel) ⟨by decide, by decide⟩ dX1_setBy_146 rfl) (z_callv _ _ _ _),
   zz_of (ok_istore G dX1_setBy_149 rfl (by decide)) (z_ist _ _),
   zz_of (ok_lload G dX1_setBy_151 rfl) (z_lld _ _),
   zz_of (ok_aload_n G dX1_setBy_153 rfl rfl) (z_ald _ _),
   zz_of (ok_get G (nx := 157) (ci := 0) (kd := 2) (k := 14) (RX1, TX1, 19) rfl (by decide) rfl q425 dX1_setBy_154 rfl) (z_get _ _ _ _),
   zz_of (ok_iload G dX1_setBy_157 rfl) (z_ild _ _),
   zz_of (ok_aald G dX1_setBy_159 rfl) (z_aald _),
   zz_of (ok_iload G dX1_setBy_160 rfl) (z_ild _ _),
   zz_of (ok_iald G dX1_setBy_162 rfl) (z_ialp _),
   zz_of (ok_i2l G dX1_setBy_163 rfl) (z_i2l _),
   zz_of (ok_iload G dX1_setBy_164 rfl) (z_ild _ _),
   zz_of (ok_i2l G dX1_setBy_166 rfl) (z_i2l _),
   zz_of (ok_lmul G dX1_setBy_167 rfl) (z_lmul _),
   zz_of (ok_ldc2 G (v := 1000000000) q1710 dX1_setBy_168 rfl) (z_cl 171 1000000000),
   zz_of (ok_ldiv G dX1_setBy_171 rfl) (z_ldiv _),
   zz_of (ok_ladd G dX1_setBy_172 rfl) (z_ladd _),
   zz_of (ok_lstore G dX1_setBy_173 rfl (by decide)) (z_lst _ _),
   zz_of (ok_iinc G (v := 1) dX1_setBy_175 (by decide) rfl (by decide)) (z_incn 178 9 1),
   zz_of (ok_goto G dX1_setBy_178 rfl) (z_goto _),
   zz_of (ok_iload G dX1_setBy_181 rfl) (z_ild _ _),
   zz_of (ok_ifle G dX1_setBy_183 rfl rfl) (z_ifle _ _ _),
   zz_of (ok_aload_n G dX1_setBy_186 rfl rfl) (z_ald _ _),
   zz_of (ok_get G (nx := 190) (ci := 0) (kd := 2) (k := 15) (RX1, TX1, 19) rfl (by decide) rfl q426 dX1_setBy_187 rfl) (z_get _ _ _ _),
   zz_of (ok_iload G dX1_setBy_190 rfl) (z_ild _ _),
   zz_of (ok_lload G dX1_setBy_192 rfl) (z_lld _ _),
   zz_of (ok_l2i G dX1_setBy_194 rfl) (z_l2i _),
   zz_of (ok_iast G dX1_setBy_195 rfl) (z_iasd _),
   zz_of (ok_lload G dX1_setBy_196 rfl) (z_lld _ _),
   zz_of (ok_l2i G dX1_setBy_198 rfl) (z_l2i _),
   zz_of (ok_iret G dX1_setBy_199) (z_iret), trivial⟩

theorem zwX1_setBy_10_0 {Q : Option zv → zz_M → Prop} {X : Nat → zz_M → Prop} {f : Nat → Nat × Nat} {S L : Nat → Nat → Int} {P : Nat → Nat → Option Nat} {p : Int} {a : Int} {b : Int} {s : Int} {fr : Int} (h : R32 a ∧ (R32 (S 200 1) ∧ (((S 200 1) ≤ a → R32 p ∧ ((¬ p = 0 → R32 b ∧ (R32 (S 200 1) ∧ ((b < (S 200 1) → Q (some (vi 0)) ((2, f), S, L, P)) ∧ (¬ b < (S 200 1) → Q (some (vi 1000000000)) ((2, f), S, L, P))))) ∧ (p = 0 → R32 a ∧ (R32 (S 200 1) ∧ ((a < (S 200 1) → Q (some (vi 0)) ((2, f), S, L, P)) ∧ (¬ a < (S 200 1) → Q (some (vi 1000000000)) ((2, f), S, L, P))))))) ∧ (¬ (S 200 1) ≤ a → R32 b ∧ (R32 (S 200 1) ∧ ((b < (S 200 1) → R32 fr ∧ ((fr ≤ 0 → zz_J zpX1_setBy_10 (zz_ret Q X 0 0) 91 [some (vr 100), some (vi p), some (vi a), some (vi b), none, some (vi fr), some (vi ((((7 * a) + b) * 2) + s)), some (vl 0), none, some (vi 0), none, none] [] ((2, f), S, L, P) (0, 0)) ∧ (¬ fr ≤ 0 → (0 ≤ ((((7 * a) + b) * 2) + s) ∧ ((((7 * a) + b) * 2) + s) < 98) ∧ (R32 (S 131 (((((7 * a) + b) * 2) + s).toNat)) ∧ (((S 131 (((((7 * a) + b) * 2) + s).toNat)) < 0 → zz_J zpX1_setBy_10 (zz_ret Q X 0 0) 91 [some (vr 100), some (vi p), some (vi a), some (vi b), none, some (vi fr), some (vi ((((7 * a) + b) * 2) + s)), some (vl 0), none, some (vi 0), none, none] [] ((2, f), S, L, P) (0, 0)) ∧ (¬ (S 131 (((((7 * a) + b) * 2) + s).toNat)) < 0 → (0 ≤ ((((7 * a) + b) * 2) + s) ∧ ((((7 * a) + b) * 2) + s) < 98) ∧ (Q (some (vi (S 131 (((((7 * a) + b) * 2) + s).toNat)))) ((2, f), S, L, P)))))))) ∧ (¬ b < (S 200 1) → R32 p ∧ ((¬ p = 0 → R32 b ∧ (R32 (S 200 1) ∧ ((b < (S 200 1) → Q (some (vi 0)) ((2, f), S, L, P)) ∧ (¬ b < (S 200 1) → Q (some (vi 1000000000)) ((2, f), S, L, P))))) ∧ (p = 0 → R32 a ∧ (R32 (S 200 1) ∧ ((a < (S 200 1) → Q (some (vi 0)) ((2, f), S, L, P)) ∧ (¬ a < (S 200 1) → Q (some (vi 1000000000)) ((2, f), S, L, P))))))))))))) : zz_J zpX1_setBy_10 (zz_ret Q X 0 0) 0 [some (vr 100), some (vi p), some (vi a), some (vi b), some (vi s), some (vi fr), none, none, none, none, none, none] [] ((2, f), S, L, P) (0, 0) := zz_J.go [(91, [4, 8, 10, 11]), (108, [4, 8, 10, 11]), (149, [4, 8, 10, 11]), (181, [1, 2, 3, 4, 8, 9, 10, 11])] 400 h
theorem zwX1_setBy_10_91 {Q : Option zv → zz_M → Prop} {X : Nat → zz_M → Prop} {f : Nat → Nat × Nat} {S L : Nat → Nat → Int} {P : Nat → Nat → Option Nat} {x1 : Int} {x2 : Int} {x3 : Int} {x5 : Int} {x6 : Int} {x7 : Int} {x9 : Int} (h : R32 x9 ∧ ((4 ≤ x9 → zz_J zpX1_setBy_10 (zz_ret Q X 0 0) 181 [some (vr 100), none, none, none, none, some (vi x5), some (vi x6), some (vl x7), none, none, none, none] [] ((2, f), S, L, P) (0, 0)) ∧ (¬ 4 ≤ x9 → R32 x9 ∧ ((2 ≤ x9 → zz_J zpX1_setBy_10 (zz_ret Q X 0 0) 108 [some (vr 100), some (vi x1), some (vi x2), some (vi x3), none, some (vi x5), some (vi x6), some (vl x7), none, some (vi x9), none, none] [vi 0] ((2, f), S, L, P) (0, 0)) ∧ (¬ 2 ≤ x9 → zz_J zpX1_setBy_10 (zz_ret Q X 0 0) 108 [some (vr 100), some (vi x1), some (vi x2), some (vi x3), none, some (vi x5), some (vi x6), some (vl x7), none, some (vi x9), none, none] [vi 1] ((2, f), S, L, P) (0, 0)))))) : zz_J zpX1_setBy_10 (zz_ret Q X 0 0) 91 [some (vr 100), some (vi x1), some (vi x2), some (vi x3), none, some (vi x5), some (vi x6), some (vl x7), none, some (vi x9), none, none] [] ((2, f), S, L, P) (0, 0) := zz_J.go [(91, [4, 8, 10, 11]), (108, [4, 8, 10, 11]), (149, [4, 8, 10, 11]), (181, [1, 2, 3, 4, 8, 9, 10, 11])] 400 h
theorem zwX1_setBy_10_108 {Q : Option zv → zz_M → Prop} {X : Nat → zz_M → Prop} {f : Nat → Nat × Nat} {S L : Nat → Nat → Int} {P : Nat → Nat → Option Nat} {x1 : Int} {x2 : Int} {x3 : Int} {x5 : Int} {x6 : Int} {x7 : Int} {x9 : Int} {t0 : Int} (h : R32 t0 ∧ ((t0 = 0 → R32 t0 ∧ ((t0 = 0 → (0 ≤ x9 ∧ x9 < 2147483648) ∧ ((0 ≤ x9 ∧ x9 < 2147483648) ∧ (((x1 = 0 ∨ x1 = 1) ∧ ((x9 % 2) = 0 ∨ (x9 % 2) = 1) ∧ ((1 + (x9 % 2)) = 1 + (x9 % 2) ∨ (1 + (x9 % 2)) = 0) ∧ (0 ≤ (x2 + 0) ∧ (x2 + 0) ≤ S 200 1) ∧ (0 ≤ (x3 + 1) ∧ (x3 + 1) ≤ S 200 1) ∧ (1 ≤ S 200 1 ∧ S 200 1 ≤ 6) ∧ S 200 1 - (x2 + 0) + (S 200 1 - (x3 + 1)) ≤ 9 ∧ ∃ wy_1 : Nat → Int, wyG wy_1 ∧ (∀ s_1 k_1, s_1 < 2 → k_1 < 4 → S (129 + s_1) k_1 = wy_1 (4 * s_1 + k_1)) ∧ fG (S (128 + (1 + (x9 % 2)).toNat)) ∧ meI S wy_1 (S 200 1) x1 ∧ (∀ S_1 : Nat → Nat → Int, (∀ j_1, j_1 ≠ 131 → S_1 j_1 = S j_1) → meI S_1 wy_1 (S 200 1) x1 → (zz_J zpX1_setBy_10 (zz_ret Q X 0 0) 149 [some (vr 100), some (vi x1), some (vi x2), some (vi x3), none, some (vi x5), some (vi x6), some (vl x7), none, some (vi x9), none, none] [vi (sbV wy_1 (S 200 1) x1 (S (128 + (1 + (x9 % 2)).toNat)) (x2 + 0) (x3 + 1))] ((2, f), S_1, L, P) (0, 0))))))) ∧ (¬ t0 = 0 → (0 ≤ x9 ∧ x9 < 2147483648) ∧ ((0 ≤ x9 ∧ x9 < 2147483648) ∧ (((x1 = 0 ∨ x1 = 1) ∧ ((x9 % 2) = 0 ∨ (x9 % 2) = 1) ∧ ((1 + (x9 % 2)) = 1 + (x9 % 2) ∨ (1 + (x9 % 2)) = 0) ∧ (0 ≤ (x2 + 0) ∧ (x2 + 0) ≤ S 200 1) ∧ (0 ≤ (x3 + 0) ∧ (x3 + 0) ≤ S 200 1) ∧ (1 ≤ S 200 1 ∧ S 200 1 ≤ 6) ∧ S 200 1 - (x2 + 0) + (S 200 1 - (x3 + 0)) ≤ 9 ∧ ∃ wy_2 : Nat → Int, wyG wy_2 ∧ (∀ s_2 k_2, s_2 < 2 → k_2 < 4 → S (129 + s_2) k_2 = wy_2 (4 * s_2 + k_2)) ∧ fG (S (128 + (1 + (x9 % 2)).toNat)) ∧ meI S wy_2 (S 200 1) x1 ∧ (∀ S_2 : Nat → Nat → Int, (∀ j_2, j_2 ≠ 131 → S_2 j_2 = S j_2) → meI S_2 wy_2 (S 200 1) x1 → (zz_J zpX1_setBy_10 (zz_ret Q X 0 0) 149 [some (vr 100), some (vi x1), some (vi x2), some (vi x3), none, some (vi x5), some (vi x6), some (vl x7), none, some (vi x9), none, none] [vi (sbV wy_2 (S 200 1) x1 (S (128 + (1 + (x9 % 2)).toNat)) (x2 + 0) (x3 + 0))] ((2, f), S_2, L, P) (0, 0))))))))) ∧ (¬ t0 = 0 → R32 t0 ∧ ((t0 = 0 → (0 ≤ x9 ∧ x9 < 2147483648) ∧ ((0 ≤ x9 ∧ x9 < 2147483648) ∧ (((x1 = 0 ∨ x1 = 1) ∧ ((x9 % 2) = 0 ∨ (x9 % 2) = 1) ∧ ((1 + (x9 % 2)) = 1 + (x9 % 2) ∨ (1 + (x9 % 2)) = 0) ∧ (0 ≤ (x2 + 1) ∧ (x2 + 1) ≤ S 200 1) ∧ (0 ≤ (x3 + 1) ∧ (x3 + 1) ≤ S 200 1) ∧ (1 ≤ S 200 1 ∧ S 200 1 ≤ 6) ∧ S 200 1 - (x2 + 1) + (S 200 1 - (x3 + 1)) ≤ 9 ∧ ∃ wy_3 : Nat → Int, wyG wy_3 ∧ (∀ s_3 k_3, s_3 < 2 → k_3 < 4 → S (129 + s_3) k_3 = wy_3 (4 * s_3 + k_3)) ∧ fG (S (128 + (1 + (x9 % 2)).toNat)) ∧ meI S wy_3 (S 200 1) x1 ∧ (∀ S_3 : Nat → Nat → Int, (∀ j_3, j_3 ≠ 131 → S_3 j_3 = S j_3) → meI S_3 wy_3 (S 200 1) x1 → (zz_J zpX1_setBy_10 (zz_ret Q X 0 0) 149 [some (vr 100), some (vi x1), some (vi x2), some (vi x3), none, some (vi x5), some (vi x6), some (vl x7), none, some (vi x9), none, none] [vi (sbV wy_3 (S 200 1) x1 (S (128 + (1 + (x9 % 2)).toNat)) (x2 + 1) (x3 + 1))] ((2, f), S_3, L, P) (0, 0))))))) ∧ (¬ t0 = 0 → (0 ≤ x9 ∧ x9 < 2147483648) ∧ ((0 ≤ x9 ∧ x9 < 2147483648) ∧ (((x1 = 0 ∨ x1 = 1) ∧ ((x9 % 2) = 0 ∨ (x9 % 2) = 1) ∧ ((1 + (x9 % 2)) = 1 + (x9 % 2) ∨ (1 + (x9 % 2)) = 0) ∧ (0 ≤ (x2 + 1) ∧ (x2 + 1) ≤ S 200 1) ∧ (0 ≤ (x3 + 0) ∧ (x3 + 0) ≤ S 200 1) ∧ (1 ≤ S 200 1 ∧ S 200 1 ≤ 6) ∧ S 200 1 - (x2 + 1) + (S 200 1 - (x3 + 0)) ≤ 9 ∧ ∃ wy_4 : Nat → Int, wyG wy_4 ∧ (∀ s_4 k_4, s_4 < 2 → k_4 < 4 → S (129 + s_4) k_4 = wy_4 (4 * s_4 + k_4)) ∧ fG (S (128 + (1 + (x9 % 2)).toNat)) ∧ meI S wy_4 (S 200 1) x1 ∧ (∀ S_4 : Nat → Nat → Int, (∀ j_4, j_4 ≠ 131 → S_4 j_4 = S j_4) → meI S_4 wy_4 (S 200 1) x1 → (zz_J zpX1_setBy_10 (zz_ret Q X 0 0) 149 [some (vr 100), some (vi x1), some (vi x2), some (vi x3), none, some (vi x5), some (vi x6), some (vl x7), none, some (vi x9), none, none] [vi (sbV wy_4 (S 200 1) x1 (S (128 + (1 + (x9 % 2)).toNat)) (x2 + 1) (x3 + 0))] ((2, f), S_4, L, P) (0, 0))))))))))) : zz_J zpX1_setBy_10 (zz_ret Q X 0 0) 108 [some (vr 100), some (vi x1), some (vi x2), some (vi x3), none, some (vi x5), some (vi x6), some (vl x7), none, some (vi x9), none, none] [vi t0] ((2, f), S, L, P) (0, 0) := zz_J.go [(91, [4, 8, 10, 11]), (108, [4, 8, 10, 11]), (149, [4, 8, 10, 11]), (181, [1, 2, 3, 4, 8, 9, 10, 11])] 400 h
theorem zwX1_setBy_10_149 {Q : Option zv → zz_M → Prop} {X : Nat → zz_M → Prop} {f : Nat → Nat × Nat} {S L : Nat → Nat → Int} {P : Nat → Nat → Option Nat} {x1 : Int} {x2 : Int} {x3 : Int} {x5 : Int} {x6 : Int} {x7 : Int} {x9 : Int} {t0 : Int} (h : ∃ t_ n_ : Nat, zsh ((2, f), S, L, P) 127 = (t_, n_) ∧ (t_ = 6 ∨ t_ = 7 ∨ t_ = 8) ∧ (n_ : Int) ≤ 2147483647 ∧ (0 ≤ x5 ∧ x5 < (n_ : Int)) ∧ (∀ b1 : Nat, zpt ((2, f), S, L, P) 127 x5.toNat = some b1 → ∃ n_ : Nat, zsh ((2, f), S, L, P) b1 = (2, n_) ∧ (n_ : Int) ≤ 2147483647 ∧ (0 ≤ x9 ∧ x9 < (n_ : Int)) ∧ (R32 (S b1 x9.toNat) ∧ (R32 t0 ∧ ((0 ≤ ((S b1 x9.toNat) * t0) ∧ ((S b1 x9.toNat) * t0) < 9223372036854775808) ∧ (zz_J zpX1_setBy_10 (zz_ret Q X 0 0) 91 [some (vr 100), some (vi x1), some (vi x2), some (vi x3), none, some (vi x5), some (vi x6), some (vl (x7 + (((S b1 x9.toNat) * t0) / 1000000000))), none, some (vi (x9 + 1)), none, none] [] ((2, f), S, L, P) (0, 0)))))) ∧ (zpt ((2, f), S, L, P) 127 x5.toNat = none → False)) : zz_J zpX1_setBy_10 (zz_ret Q X 0 0) 149 [some (vr 100), some (vi x1), some (vi x2), some (vi x3), none, some (vi x5), some (vi x6), some (vl x7), none, some (vi x9), none, none] [vi t0] ((2, f), S, L, P) (0, 0) := zz_J.go [(91, [4, 8, 10, 11]), (108, [4, 8, 10, 11]), (149, [4, 8, 10, 11]), (181, [1, 2, 3, 4, 8, 9, 10, 11])] 400 h
theorem zwX1_setBy_10_181 {Q : Option zv → zz_M → Prop} {X : Nat → zz_M → Prop} {f : Nat → Nat × Nat} {S L : Nat → Nat → Int} {P : Nat → Nat → Option Nat} {x5 : Int} {x6 : Int} {x7 : Int} (h : R32 x5 ∧ ((x5 ≤ 0 → R64 x7 ∧ (Q (some (vi x7)) ((2, f), S, L, P))) ∧ (¬ x5 ≤ 0 → R64 x7 ∧ ((0 ≤ x6 ∧ x6 < 98) ∧ (R64 x7 ∧ (Q (some (vi x7)) ((2, f), mm_up S 131 x6.toNat x7, L, P))))))) : zz_J zpX1_setBy_10 (zz_ret Q X 0 0) 181 [some (vr 100), none, none, none, none, some (vi x5), some (vi x6), some (vl x7), none, none, none, none] [] ((2, f), S, L, P) (0, 0) := zz_J.go [(91, [4, 8, 10, 11]), (108, [4, 8, 10, 11]), (149, [4, 8, 10, 11]), (181, [1, 2, 3, 4, 8, 9, 10, 11])] 400 h

theorem zmX1_setBy_10 (l : Launch) (hl : l.stackTraces = false) : mm_Spec l yX1_setBy (ws_ yX1_setBy cX1_setBy 12 (some .int)) (mm_rm 15 0 0) (zE zX1_setBy_10) := by
  refine zz_Met.J hl (by decide) (fun C G hnh => ztX1_setBy_10 G hnh) ?_
  rintro as ⟨⟨t_, f⟩, S, L, P⟩ Q X h
  unfold zX1_setBy_10 at h
  split at h
  rotate_left
  · exact h.elim
  rename_i h_ p a b s fr
  obtain ⟨e1_, e2_, h⟩ := mm_and2 h (fun q => q)
  cases mm_beq e1_
  cases mm_beq e2_
  try dsimp only at h
  refine ⟨rfl, ?_⟩
  obtain ⟨hp, hs, hfr, ha, hb, hG, hr, wy, hw, hrow, hF, hme, hq⟩ := h
  by_cases o : S 200 1 ≤ a ∨ S 200 1 ≤ b
  · have hq := hq S (fun _ _ => rfl) hme
    unfold sbV at hq
    rw [if_pos o] at hq
    have k1 : ¬ p = 0 → R32 b ∧ (R32 (S 200 1) ∧ ((b < (S 200 1) → Q (some (vi 0)) ((2, f), S, L, P)) ∧ (¬ b < (S 200 1) → Q (some (vi 1000000000)) ((2, f), S, L, P)))) := fun d => ⟨by omega, by omega, fun e => by rw [if_neg (by rw [if_neg d]; omega)] at hq; exact hq, fun e => by rw [if_pos (by rw [if_neg d]; omega)] at hq; exact hq⟩
    have k0 : p = 0 → R32 a ∧ (R32 (S 200 1) ∧ ((a < (S 200 1) → Q (some (vi 0)) ((2, f), S, L, P)) ∧ (¬ a < (S 200 1) → Q (some (vi 1000000000)) ((2, f), S, L, P)))) := fun d => ⟨by omega, by omega, fun e => by rw [if_neg (by rw [if_pos d]; omega)] at hq; exact hq, fun e => by rw [if_pos (by rw [if_pos d]; omega)] at hq; exact hq⟩
    exact zwX1_setBy_10_0 ⟨by omega, by omega, fun c => ⟨by omega, k1, k0⟩, fun c => ⟨by omega, by omega, fun e => absurd o (by omega), fun e => ⟨by omega, k1, k0⟩⟩⟩
  obtain ⟨a', rfl⟩ : ∃ a' : Nat, a = (a' : Int) := ⟨a.toNat, by omega⟩
  obtain ⟨b', rfl⟩ : ∃ b' : Nat, b = (b' : Int) := ⟨b.toNat, by omega⟩
  obtain ⟨s', hs', es⟩ : ∃ s' : Nat, s' < 2 ∧ s = (s' : Int) := ⟨s.toNat, by omega, by omega⟩
  obtain ⟨r', hr', er⟩ : ∃ r' : Nat, r' < 3 ∧ fr = (r' : Int) := ⟨fr.toNat, by omega, by omega⟩
  subst es er
  have hcv := fun k => bcV_in (G := S 200 1) (p := p) (a := (a' : Int)) (b := (b' : Int)) hw k
  rw [Int.toNat_natCast] at hF hq
  have sin := sbS_in hF hcv
  have hq : ∀ S_ : Nat → Nat → Int, (∀ j, j ≠ 131 → S_ j = S j) → meI S_ wy (S 200 1) p → Q (some (vi (sbS (S (128 + r')) (bcV wy (S 200 1) p a' b') 4))) ((2, f), S_, L, P) := fun S_ e1 e2 => by
    have hq := hq S_ e1 e2
    unfold sbV at hq
    rw [if_neg o] at hq
    exact hq
  have est : (1 : Int) + s' = r' → sbS (S (128 + r')) (bcV wy (S 200 1) p a' b') 4 = stO wy (S 200 1) p 12 a' b' s' := fun e => by
    have e2 : r' = 1 + s' := by omega
    have := sbV_st (wy := wy) (G := S 200 1) (p := p) (a := (a' : Int)) (b := (b' : Int)) (s := s') (F := S (128 + r')) (fun k hk => by rw [e2, show 128 + (1 + s') = 129 + s' by omega]; exact hrow s' k hs' hk) (by omega) (by omega) (by omega)
    unfold sbV at this
    rw [if_neg o] at this
    exact this
  have wy4 : ∀ s : Nat, s < 2 → fG (S (129 + s)) := fun s hs => by
    refine ⟨fun k hk => by rw [hrow s k hs hk]; exact hw.1 _ (by omega), ?_⟩
    rw [hrow s 0 hs (by decide), hrow s 1 hs (by decide), hrow s 2 hs (by decide), hrow s 3 hs (by decide)]
    have : s = 0 ∨ s = 1 := by omega
    rcases this with e | e <;> subst e
    · exact hw.2.1
    · exact hw.2.2
  have t91 : ∀ (m k : Nat) (T : Nat → Nat → Int), k + m = 4 → (∀ j, j ≠ 131 → T j = S j) → meI T wy (S 200 1) p → zz_J zpX1_setBy_10 (zz_ret Q X 0 0) 91 [some (vr 100), some (vi p), some (vi (a' : Int)), some (vi (b' : Int)), none, some (vi (r' : Int)), some (vi ((((7 * (a' : Int)) + b') * 2) + s')), some (vl (sbS (S (128 + r')) (bcV wy (S 200 1) p a' b') k)), none, some (vi (k : Int)), none, none] [] ((2, f), T, L, P) (0, 0) := by
    intro m
    induction m with
    | zero =>
      intro k T hk eT mT
      have k4 : k = 4 := by omega
      subst k4
      have s4 := sin 4 (by decide)
      have R4 : R64 (sbS (S (128 + r')) (bcV wy (S 200 1) p a' b') 4) := by omega
      refine zwX1_setBy_10_91 ⟨by omega, fun _ => zwX1_setBy_10_181 ⟨by omega, fun c => ⟨R4, hq T eT mT⟩, fun c => ⟨R4, by omega, R4, ?_⟩⟩, fun d => absurd (by omega) d⟩
      have ei : ((((7 * (a' : Int)) + b') * 2) + s').toNat = (7 * a' + b') * 2 + s' := by omega
      have e1 := est (by omega)
      refine hq _ (fun j hj => ?_) ?_
      · funext x
        rw [up_eq, if_neg (by omega), eT j hj]
      · rw [ei, e1]
        exact mT.up (by omega) (by omega) hs'
    | succ m ih =>
      intro k T hk eT mT
      have k4 : k < 4 := by omega
      have eG : T 200 1 = S 200 1 := by rw [eT 200 (by decide)]
      have t149 : ∀ (U : Nat → Nat → Int), (∀ j, j ≠ 131 → U j = S j) → meI U wy (S 200 1) p → zz_J zpX1_setBy_10 (zz_ret Q X 0 0) 149 [some (vr 100), some (vi p), some (vi (a' : Int)), some (vi (b' : Int)), none, some (vi (r' : Int)), some (vi ((((7 * (a' : Int)) + b') * 2) + s')), some (vl (sbS (S (128 + r')) (bcV wy (S 200 1) p a' b') k)), none, some (vi (k : Int)), none, none] [vi (bcV wy (S 200 1) p a' b' k)] ((2, f), U, L, P) (0, 0) := by
        intro U eU mU
        obtain ⟨w1, w2⟩ := ways_at (f := f) (S := U) (L := L) (P := P) hr'
        have fk := hF.1 k k4
        have ck := hcv k
        have m9 := mul_sure fk.1 ck.1 ck.2
        refine zwX1_setBy_10_149 ⟨6, 3, rfl, Or.inl rfl, by decide, by omega, fun b1 hb1 => ?_, fun hb1 => ?_⟩
        · rw [Int.toNat_natCast, w1] at hb1
          cases hb1
          refine ⟨4, w2, by decide, by omega, ?_⟩
          rw [Int.toNat_natCast, eU (128 + r') (by omega)]
          exact ⟨by omega, by omega, by omega, ih (k + 1) U (by omega) eU mU⟩
        · rw [Int.toNat_natCast, w1] at hb1
          cases hb1
      have rowT : ∀ s_ k_, s_ < 2 → k_ < 4 → T (129 + s_) k_ = wy (4 * s_ + k_) := fun s_ k_ g1 g2 => by rw [eT (129 + s_) (by omega)]; exact hrow s_ k_ g1 g2
      have mk : ((k : Int) % 2 = 0 ∨ (k : Int) % 2 = 1) := by omega
      have ek2 : ((k : Int) % 2).toNat = k % 2 := by omega
      have ek3 : 128 + (1 + (k : Int) % 2).toNat = 129 + k % 2 := by omega
      have nxt : ∀ x y : Int, (x ≤ S 200 1 ∧ y ≤ S 200 1 ∧ S 200 1 - x + (S 200 1 - y) ≤ 12) → stO wy (S 200 1) p 12 x y (k % 2) = bcV wy (S 200 1) p a' b' k → ∀ S_ : Nat → Nat → Int, (∀ j, j ≠ 131 → S_ j = T j) → meI S_ wy (T 200 1) p → zz_J zpX1_setBy_10 (zz_ret Q X 0 0) 149 [some (vr 100), some (vi p), some (vi (a' : Int)), some (vi (b' : Int)), none, some (vi (r' : Int)), some (vi ((((7 * (a' : Int)) + b') * 2) + s')), some (vl (sbS (S (128 + r')) (bcV wy (S 200 1) p a' b') k)), none, some (vi (k : Int)), none, none] [vi (sbV wy (T 200 1) p (T (128 + (1 + (k : Int) % 2).toNat)) x y)] ((2, f), S_, L, P) (0, 0) := by
        intro x y hxy e S_ e1 e2
        rw [eG] at e2 ⊢
        rw [ek3, sbV_st (s := k % 2) (fun j hj => rowT (k % 2) j (by omega) hj) hxy.1 hxy.2.1 hxy.2.2, e]
        exact t149 S_ (fun j hj => by rw [e1 j hj, eT j hj]) e2
      have fGk : fG (T (128 + (1 + (k : Int) % 2).toNat)) := by
        rw [ek3, eT (129 + k % 2) (by omega)]
        exact wy4 (k % 2) (by omega)
      refine zwX1_setBy_10_91 ⟨by omega, fun d => absurd d (by omega), fun _ => ⟨by omega, fun c => zwX1_setBy_10_108 ⟨by decide, fun _ => ⟨by decide, fun _ => ⟨by omega, by omega, hp, mk, Or.inl rfl, by omega, by omega, by omega, by omega, wy, hw, rowT, fGk, by rw [eG]; exact mT, ?_⟩, fun d => absurd rfl d⟩, fun d => absurd rfl d⟩, fun c => zwX1_setBy_10_108 ⟨by decide, fun d => absurd d (by decide), fun _ => ⟨by decide, fun d => absurd d (by decide), fun _ => ⟨by omega, by omega, hp, mk, Or.inl rfl, by omega, by omega, by omega, by omega, wy, hw, rowT, fGk, by rw [eG]; exact mT, ?_⟩⟩⟩⟩⟩
      · refine nxt _ _ (by omega) ?_
        unfold bcV
        rw [if_neg (by omega), if_neg (by omega), Int.add_zero]
      · refine nxt _ _ (by omega) ?_
        unfold bcV
        rw [if_pos (by omega), if_pos (by omega), Int.add_zero]
  have t0 := t91 4 0 S rfl (fun _ _ => rfl) hme
  refine zwX1_setBy_10_0 ⟨by omega, by omega, fun c => absurd (Or.inl c) o, fun c => ⟨by omega, by omega, fun c2 => ⟨by omega, fun d => t0, fun d => ⟨by omega, ?_⟩⟩, fun c2 => absurd (by omega) o⟩⟩
  have ei : ((((7 * (a' : Int)) + b') * 2) + s').toNat = (7 * a' + b') * 2 + s' := by omega
  have me := hme a' b' s' (by omega) (by omega) hs'
  have hin := stO_in (G := S 200 1) (p := p) hw 12 (a' : Int) (b' : Int) s' hs'
  rw [ei]
  refine ⟨by rcases me with e | e <;> rw [e] <;> omega, fun _ => t0, fun d2 => ⟨by omega, ?_⟩⟩
  have e2 := me.resolve_left (by omega)
  rw [e2, ← est (by omega)]
  exact hq S (fun _ _ => rfl) hme
def zX1_setBy_11 : zz_Sp := fun as M Q X => match as with
  | [.inr (.inr (some h_)), .inl p, .inl a, .inl b, .inl s, .inl fr] => bif Nat.beq h_ 100 && Nat.beq M.1.1 2 then ((p = 0 ∨ p = 1) ∧ (s = 0 ∨ s = 1) ∧ (fr = 1 + s ∨ fr = 0) ∧ (0 ≤ a ∧ a ≤ M.2.1 200 1) ∧ (0 ≤ b ∧ b ≤ M.2.1 200 1) ∧ (1 ≤ M.2.1 200 1 ∧ M.2.1 200 1 ≤ 6) ∧ M.2.1 200 1 - a + (M.2.1 200 1 - b) ≤ 11 ∧ ∃ wy_ : Nat → Int, wyG wy_ ∧ (∀ s_ k_, s_ < 2 → k_ < 4 → M.2.1 (129 + s_) k_ = wy_ (4 * s_ + k_)) ∧ fG (M.2.1 (128 + fr.toNat)) ∧ meI M.2.1 wy_ (M.2.1 200 1) p ∧ (∀ S_ : Nat → Nat → Int, (∀ j_, j_ ≠ 131 → S_ j_ = M.2.1 j_) → meI S_ wy_ (M.2.1 200 1) p → Q (some (vi (sbV wy_ (M.2.1 200 1) p (M.2.1 (128 + fr.toNat)) a b))) ((2, M.1.2), S_, M.2.2.1, M.2.2.2))) else False
  | _ => False

def zpX1_setBy_11 : zz_P := [(0, zo_ild 1 2), (1, zo_ald 2 0), (2, zo_get 5 0 2 0), (5, zo_get 8 1 0 1), (8, zo_cge false false 11 22), (11, zo_ild 12 3), (12, zo_ald 13 0), (13, zo_get 16 0 2 0), (16, zo_get 19 1 0 1), (19, zo_clt false false 22 49), (22, zo_ild 23 1), (23, zo_ifne false 26 30), (26, zo_ild 27 2), (27, zo_goto 31), (30, zo_ild 31 3), (31, zo_ald 32 0), (32, zo_get 35 0 2 0), (35, zo_get 38 1 0 1), (38, zo_clt false false 41 47), (41, zo_c 44 (vi 1000000000)), (44, zo_goto 48), (47, zo_c 48 (vi 0)), (48, zo_iret), (49, zo_c 51 (vi 7)), (51, zo_ild 52 2), (52, zo_imul 53), (53, zo_ild 54 3), (54, zo_iadd 55), (55, zo_c 56 (vi 2)), (56, zo_imul 57), (57, zo_ild 59 4), (59, zo_iadd 60), (60, zo_ist 62 6), (62, zo_ild 64 5), (64, zo_ifle false 67 85), (67, zo_ald 68 0), (68, zo_get 71 0 2 15), (71, zo_ild 73 6), (73, zo_iald 74), (74, zo_iflt false 77 85), (77, zo_ald 78 0), (78, zo_get 81 0 2 15), (81, zo_ild 83 6), (83, zo_iald 84), (84, zo_iret), (85, zo_c 86 (vl 0)), (86, zo_lst 88 7), (88, zo_c 89 (vi 0)), (89, zo_ist 91 9), (91, zo_ild 93 9), (93, zo_c 94 (vi 4)), (94, zo_cge false true 97 181), (97, zo_ild 99 9), (99, zo_c 100 (vi 2)), (100, zo_cge false true 103 107), (103, zo_c 104 (vi 1)), (104, zo_goto 108), (107, zo_c 108 (vi 0)), (108, zo_ist 110 10), (110, zo_ald 111 0), (111, zo_ild 112 1), (112, zo_ild 113 2), (113, zo_ild 115 10), (115, zo_ifeq false 118 122), (118, zo_c 119 (vi 1)), (119, zo_goto 123), (122, zo_c 123 (vi 0)), (123, zo_iadd 124), (124, zo_ild 125 3), (125, zo_ild 127 10), (127, zo_ifeq false 130 134), (130, zo_c 131 (vi 0)), (131, zo_goto 135), (134, zo_c 135 (vi 1)), (135, zo_iadd 136), (136, zo_ild 138 9), (138, zo_c 139 (vi 2)), (139, zo_irem 140), (140, zo_c 141 (vi 1)), (141, zo_ild 143 9), (143, zo_c 144 (vi 2)), (144, zo_irem 145), (145, zo_iadd 146), (146, zo_callv 149 6 0 zX1_setBy_10), (149, zo_ist 151 11), (151, zo_lld 153 7), (153, zo_ald 154 0), (154, zo_get 157 0 2 14), (157, zo_ild 159 5), (159, zo_aald 160), (160, zo_ild 162 9), (162, zo_ialp 163), (163, zo_i2l 164), (164, zo_ild 166 11), (166, zo_i2l 167), (167, zo_lmul 168), (168, zo_c 171 (vl 1000000000)), (171, zo_ldiv 172), (172, zo_ladd 173), (173, zo_lst 175 7), (175, zo_inc 178 9 1), (178, zo_goto 91), (181, zo_ild 183 5), (183, zo_ifle false 186 196), (186, zo_ald 187 0), (187, zo_get 190 0 2 15), (190, zo_ild 192 6), (192, zo_lld 194 7), (194, zo_l2i 195), (195, zo_iasd 196), (196, zo_lld 198 7), (198, zo_l2i 199), (199, zo_iret)]
theorem ztX1_setBy_11 {C : mm_C} (G : mm_G C RX1 cX1_setBy (some .int) 12 (mm_rm 16 0 0)) (hnh : mm_nh C) : zz_OKs C zpX1_setBy_11 :=
  ⟨zz_of (ok_iload_n G dX1_setBy_0 rfl rfl) (z_ild _ _),
   zz_of (ok_aload_n G dX1_setBy_1 rfl rfl) (z_ald _ _),
   zz_of (ok_get G (nx := 5) (ci := 0) (kd := 2) (k := 0) (RX1, TX1, 19) rfl (by decide) rfl q399 dX1_setBy_2 rfl) (z_get _ _ _ _),
   zz_of (ok_getN G (nx := 8) (ci := 1) (kd := 0) (k := 1) (RX2, TX2, 11) rfl (by decide) rfl q218 dX1_setBy_5 rfl) (z_get _ _ _ _),
   zz_of (ok_cge G dX1_setBy_8 rfl rfl) (z_cge _ _ _ _),
   zz_of (ok_iload_n G dX1_setBy_11 rfl rfl) (z_ild _ _),
   zz_of (ok_aload_n G dX1_setBy_12 rfl rfl) (z_ald _ _),
   zz_of (ok_get G (nx := 16) (ci := 0) (kd := 2) (k := 0) (RX1, TX1, 19) rfl (by decide) rfl q399 dX1_setBy_13 rfl) (z_get _ _ _ _),
   zz_of (ok_getN G (nx := 19) (ci := 1) (kd := 0) (k := 1) (RX2, TX2, 11) rfl (by decide) rfl q218 dX1_setBy_16 rfl) (z_get _ _ _ _),
   zz_of (ok_clt G dX1_setBy_19 rfl rfl) (z_clt _ _ _ _),
   zz_of (ok_iload_n G dX1_setBy_22 rfl rfl) (z_ild _ _),
   zz_of (ok_ifne G dX1_setBy_23 rfl rfl) (z_ifne _ _ _),
   zz_of (ok_iload_n G dX1_setBy_26 rfl rfl) (z_ild _ _),
   zz_of (ok_goto G dX1_setBy_27 rfl) (z_goto _),
   zz_of (ok_iload_n G dX1_setBy_30 rfl rfl) (z_ild _ _),
   zz_of (ok_aload_n G dX1_setBy_31 rfl rfl) (z_ald _ _),
   zz_of (ok_get G (nx := 35) (ci := 0) (kd := 2) (k := 0) (RX1, TX1, 19) rfl (by decide) rfl q399 dX1_setBy_32 rfl) (z_get _ _ _ _),
   zz_of (ok_getN G (nx := 38) (ci := 1) (kd := 0) (k := 1) (RX2, TX2, 11) rfl (by decide) rfl q218 dX1_setBy_35 rfl) (z_get _ _ _ _),
   zz_of (ok_clt G dX1_setBy_38 rfl rfl) (z_clt _ _ _ _),
   zz_of (ok_ldcw G (v := 1000000000) q1700 dX1_setBy_41 rfl) (z_cn 44 1000000000),
   zz_of (ok_goto G dX1_setBy_44 rfl) (z_goto _),
   zz_of (ok_iconst G (v := 0) dX1_setBy_47 (by decide) rfl) (z_cn 48 0),
   zz_of (ok_iret G dX1_setBy_48) (z_iret),
   zz_of (ok_bipush G (v := 7) dX1_setBy_49 (by decide) rfl) (z_cn 51 7),
   zz_of (ok_iload_n G dX1_setBy_51 rfl rfl) (z_ild _ _),
   zz_of (ok_imul G dX1_setBy_52 rfl) (z_imul _),
   zz_of (ok_iload_n G dX1_setBy_53 rfl rfl) (z_ild _ _),
   zz_of (ok_iadd G dX1_setBy_54 rfl) (z_iadd _),
   zz_of (ok_iconst G (v := 2) dX1_setBy_55 (by decide) rfl) (z_cn 56 2),
   zz_of (ok_imul G dX1_setBy_56 rfl) (z_imul _),
   zz_of (ok_iload G dX1_setBy_57 rfl) (z_ild _ _),
   zz_of (ok_iadd G dX1_setBy_59 rfl) (z_iadd _),
   zz_of (ok_istore G dX1_setBy_60 rfl (by decide)) (z_ist _ _),
   zz_of (ok_iload G dX1_setBy_62 rfl) (z_ild _ _),
   zz_of (ok_ifle G dX1_setBy_64 rfl rfl) (z_ifle _ _ _),
   zz_of (ok_aload_n G dX1_setBy_67 rfl rfl) (z_ald _ _),
   zz_of (ok_get G (nx := 71) (ci := 0) (kd := 2) (k := 15) (RX1, TX1, 19) rfl (by decide) rfl q426 dX1_setBy_68 rfl) (z_get _ _ _ _),
   zz_of (ok_iload G dX1_setBy_71 rfl) (z_ild _ _),
   zz_of (ok_iald G dX1_setBy_73 rfl) (z_iald _),
   zz_of (ok_iflt G dX1_setBy_74 rfl rfl) (z_iflt _ _ _),
   zz_of (ok_aload_n G dX1_setBy_77 rfl rfl) (z_ald _ _),
   zz_of (ok_get G (nx := 81) (ci := 0) (kd := 2) (k := 15) (RX1, TX1, 19) rfl (by decide) rfl q426 dX1_setBy_78 rfl) (z_get _ _ _ _),
   zz_of (ok_iload G dX1_setBy_81 rfl) (z_ild _ _),
   zz_of (ok_iald G dX1_setBy_83 rfl) (z_iald _),
   zz_of (ok_iret G dX1_setBy_84) (z_iret),
   zz_of (ok_lconst G (v := 0) dX1_setBy_85 (by decide) rfl) (z_cl 86 0),
   zz_of (ok_lstore G dX1_setBy_86 rfl (by decide)) (z_lst _ _),
   zz_of (ok_iconst G (v := 0) dX1_setBy_88 (by decide) rfl) (z_cn 89 0),
   zz_of (ok_istore G dX1_setBy_89 rfl (by decide)) (z_ist _ _),
   zz_of (ok_iload G dX1_setBy_91 rfl) (z_ild _ _),
   zz_of (ok_iconst G (v := 4) dX1_setBy_93 (by decide) rfl) (z_cn 94 4),
   zz_of (ok_cge G dX1_setBy_94 rfl rfl) (z_cge _ _ _ _),
   zz_of (ok_iload G dX1_setBy_97 rfl) (z_ild _ _),
   zz_of (ok_iconst G (v := 2) dX1_setBy_99 (by decide) rfl) (z_cn 100 2),
   zz_of (ok_cge G dX1_setBy_100 rfl rfl) (z_cge _ _ _ _),
   zz_of (ok_iconst G (v := 1) dX1_setBy_103 (by decide) rfl) (z_cn 104 1),
   zz_of (ok_goto G dX1_setBy_104 rfl) (z_goto _),
   zz_of (ok_iconst G (v := 0) dX1_setBy_107 (by decide) rfl) (z_cn 108 0),
   zz_of (ok_istore G dX1_setBy_108 rfl (by decide)) (z_ist _ _),
   zz_of (ok_aload_n G dX1_setBy_110 rfl rfl) (z_ald _ _),
   zz_of (ok_iload_n G dX1_setBy_111 rfl rfl) (z_ild _ _),
   zz_of (ok_iload_n G dX1_setBy_112 rfl rfl) (z_ild _ _),
   zz_of (ok_iload G dX1_setBy_113 rfl) (z_ild _ _),
   zz_of (ok_ifeq G dX1_setBy_115 rfl rfl) (z_ifeq _ _ _),
   zz_of (ok_iconst G (v := 1) dX1_setBy_118 (by decide) rfl) (z_cn 119 1),
   zz_of (ok_goto G dX1_setBy_119 rfl) (z_goto _),
   zz_of (ok_iconst G (v := 0) dX1_setBy_122 (by decide) rfl) (z_cn 123 0),
   zz_of (ok_iadd G dX1_setBy_123 rfl) (z_iadd _),
   zz_of (ok_iload_n G dX1_setBy_124 rfl rfl) (z_ild _ _),
   zz_of (ok_iload G dX1_setBy_125 rfl) (z_ild _ _),
   zz_of (ok_ifeq G dX1_setBy_127 rfl rfl) (z_ifeq _ _ _),
   zz_of (ok_iconst G (v := 0) dX1_setBy_130 (by decide) rfl) (z_cn 131 0),
   zz_of (ok_goto G dX1_setBy_131 rfl) (z_goto _),
   zz_of (ok_iconst G (v := 1) dX1_setBy_134 (by decide) rfl) (z_cn 135 1),
   zz_of (ok_iadd G dX1_setBy_135 rfl) (z_iadd _),
   zz_of (ok_iload G dX1_setBy_136 rfl) (z_ild _ _),
   zz_of (ok_iconst G (v := 2) dX1_setBy_138 (by decide) rfl) (z_cn 139 2),
   zz_of (ok_irem G dX1_setBy_139 rfl) (z_irem _),
   zz_of (ok_iconst G (v := 1) dX1_setBy_140 (by decide) rfl) (z_cn 141 1),
   zz_of (ok_iload G dX1_setBy_141 rfl) (z_ild _ _),
   zz_of (ok_iconst G (v := 2) dX1_setBy_143 (by decide) rfl) (z_cn 144 2),
   zz_of (ok_irem G dX1_setBy_144 rfl) (z_irem _),
   zz_of (ok_iadd G dX1_setBy_145 rfl) (z_iadd _),
   zz_of (ok_callv G hnh (zmX1_setBy_10 _ G.hst) rfl rfl (RX1, TX1, 19) rfl q1706 q1708 qs33 q82 q1709 (by decide +kernel) ⟨by decide, by decide⟩ dX1_setBy_146 rfl) (z_callv _ _ _ _),
   zz_of (ok_istore G dX1_setBy_149 rfl (by decide)) (z_ist _ _),
   zz_of (ok_lload G dX1_setBy_151 rfl) (z_lld _ _),
   zz_of (ok_aload_n G dX1_setBy_153 rfl rfl) (z_ald _ _),
   zz_of (ok_get G (nx := 157) (ci := 0) (kd := 2) (k := 14) (RX1, TX1, 19) rfl (by decide) rfl q425 dX1_setBy_154 rfl) (z_get _ _ _ _),
   zz_of (ok_iload G dX1_setBy_157 rfl) (z_ild _ _),
   zz_of (ok_aald G dX1_setBy_159 rfl) (z_aald _),
   zz_of (ok_iload G dX1_setBy_160 rfl) (z_ild _ _),
   zz_of (ok_iald G dX1_setBy_162 rfl) (z_ialp _),
   zz_of (ok_i2l G dX1_setBy_163 rfl) (z_i2l _),
   zz_of (ok_iload G dX1_setBy_164 rfl) (z_ild _ _),
   zz_of (ok_i2l G dX1_setBy_166 rfl) (z_i2l _),
   zz_of (ok_lmul G dX1_setBy_167 rfl) (z_lmul _),
   zz_of (ok_ldc2 G (v := 1000000000) q1710 dX1_setBy_168 rfl) (z_cl 171 1000000000),
   zz_of (ok_ldiv G dX1_setBy_171 rfl) (z_ldiv _),
   zz_of (ok_ladd G dX1_setBy_172 rfl) (z_ladd _),
   zz_of (ok_lstore G dX1_setBy_173 rfl (by decide)) (z_lst _ _),
   zz_of (ok_iinc G (v := 1) dX1_setBy_175 (by decide) rfl (by decide)) (z_incn 178 9 1),
   zz_of (ok_goto G dX1_setBy_178 rfl) (z_goto _),
   zz_of (ok_iload G dX1_setBy_181 rfl) (z_ild _ _),
   zz_of (ok_ifle G dX1_setBy_183 rfl rfl) (z_ifle _ _ _),
   zz_of (ok_aload_n G dX1_setBy_186 rfl rfl) (z_ald _ _),
   zz_of (ok_get G (nx := 190) (ci := 0) (kd := 2) (k := 15) (RX1, TX1, 19) rfl (by decide) rfl q426 dX1_setBy_187 rfl) (z_get _ _ _ _),
   zz_of (ok_iload G dX1_setBy_190 rfl) (z_ild _ _),
   zz_of (ok_lload G dX1_setBy_192 rfl) (z_lld _ _),
   zz_of (ok_l2i G dX1_setBy_194 rfl) (z_l2i _),
   zz_of (ok_iast G dX1_setBy_195 rfl) (z_iasd _),
   zz_of (ok_lload G dX1_setBy_196 rfl) (z_lld _ _),
   zz_of (ok_l2i G dX1_setBy_198 rfl) (z_l2i _),
   zz_of (ok_iret G dX1_setBy_199) (z_iret), trivial⟩

theorem zwX1_setBy_11_0 {Q : Option zv → zz_M → Prop} {X : Nat → zz_M → Prop} {f : Nat → Nat × Nat} {S L : Nat → Nat → Int} {P : Nat → Nat → Option Nat} {p : Int} {a : Int} {b : Int} {s : Int} {fr : Int} (h : R32 a ∧ (R32 (S 200 1) ∧ (((S 200 1) ≤ a → R32 p ∧ ((¬ p = 0 → R32 b ∧ (R32 (S 200 1) ∧ ((b < (S 200 1) → Q (some (vi 0)) ((2, f), S, L, P)) ∧ (¬ b < (S 200 1) → Q (some (vi 1000000000)) ((2, f), S, L, P))))) ∧ (p = 0 → R32 a ∧ (R32 (S 200 1) ∧ ((a < (S 200 1) → Q (some (vi 0)) ((2, f), S, L, P)) ∧ (¬ a < (S 200 1) → Q (some (vi 1000000000)) ((2, f), S, L, P))))))) ∧ (¬ (S 200 1) ≤ a → R32 b ∧ (R32 (S 200 1) ∧ ((b < (S 200 1) → R32 fr ∧ ((fr ≤ 0 → zz_J zpX1_setBy_11 (zz_ret Q X 0 0) 91 [some (vr 100), some (vi p), some (vi a), some (vi b), none, some (vi fr), some (vi ((((7 * a) + b) * 2) + s)), some (vl 0), none, some (vi 0), none, none] [] ((2, f), S, L, P) (0, 0)) ∧ (¬ fr ≤ 0 → (0 ≤ ((((7 * a) + b) * 2) + s) ∧ ((((7 * a) + b) * 2) + s) < 98) ∧ (R32 (S 131 (((((7 * a) + b) * 2) + s).toNat)) ∧ (((S 131 (((((7 * a) + b) * 2) + s).toNat)) < 0 → zz_J zpX1_setBy_11 (zz_ret Q X 0 0) 91 [some (vr 100), some (vi p), some (vi a), some (vi b), none, some (vi fr), some (vi ((((7 * a) + b) * 2) + s)), some (vl 0), none, some (vi 0), none, none] [] ((2, f), S, L, P) (0, 0)) ∧ (¬ (S 131 (((((7 * a) + b) * 2) + s).toNat)) < 0 → (0 ≤ ((((7 * a) + b) * 2) + s) ∧ ((((7 * a) + b) * 2) + s) < 98) ∧ (Q (some (vi (S 131 (((((7 * a) + b) * 2) + s).toNat)))) ((2, f), S, L, P)))))))) ∧ (¬ b < (S 200 1) → R32 p ∧ ((¬ p = 0 → R32 b ∧ (R32 (S 200 1) ∧ ((b < (S 200 1) → Q (some (vi 0)) ((2, f), S, L, P)) ∧ (¬ b < (S 200 1) → Q (some (vi 1000000000)) ((2, f), S, L, P))))) ∧ (p = 0 → R32 a ∧ (R32 (S 200 1) ∧ ((a < (S 200 1) → Q (some (vi 0)) ((2, f), S, L, P)) ∧ (¬ a < (S 200 1) → Q (some (vi 1000000000)) ((2, f), S, L, P))))))))))))) : zz_J zpX1_setBy_11 (zz_ret Q X 0 0) 0 [some (vr 100), some (vi p), some (vi a), some (vi b), some (vi s), some (vi fr), none, none, none, none, none, none] [] ((2, f), S, L, P) (0, 0) := zz_J.go [(91, [4, 8, 10, 11]), (108, [4, 8, 10, 11]), (149, [4, 8, 10, 11]), (181, [1, 2, 3, 4, 8, 9, 10, 11])] 400 h
theorem zwX1_setBy_11_91 {Q : Option zv → zz_M → Prop} {X : Nat → zz_M → Prop} {f : Nat → Nat × Nat} {S L : Nat → Nat → Int} {P : Nat → Nat → Option Nat} {x1 : Int} {x2 : Int} {x3 : Int} {x5 : Int} {x6 : Int} {x7 : Int} {x9 : Int} (h : R32 x9 ∧ ((4 ≤ x9 → zz_J zpX1_setBy_11 (zz_ret Q X 0 0) 181 [some (vr 100), none, none, none, none, some (vi x5), some (vi x6), some (vl x7), none, none, none, none] [] ((2, f), S, L, P) (0, 0)) ∧ (¬ 4 ≤ x9 → R32 x9 ∧ ((2 ≤ x9 → zz_J zpX1_setBy_11 (zz_ret Q X 0 0) 108 [some (vr 100), some (vi x1), some (vi x2), some (vi x3), none, some (vi x5), some (vi x6), some (vl x7), none, some (vi x9), none, none] [vi 0] ((2, f), S, L, P) (0, 0)) ∧ (¬ 2 ≤ x9 → zz_J zpX1_setBy_11 (zz_ret Q X 0 0) 108 [some (vr 100), some (vi x1), some (vi x2), some (vi x3), none, some (vi x5), some (vi x6), some (vl x7), none, some (vi x9), none, none] [vi 1] ((2, f), S, L, P) (0, 0)))))) : zz_J zpX1_setBy_11 (zz_ret Q X 0 0) 91 [some (vr 100), some (vi x1), some (vi x2), some (vi x3), none, some (vi x5), some (vi x6), some (vl x7), none, some (vi x9), none, none] [] ((2, f), S, L, P) (0, 0) := zz_J.go [(91, [4, 8, 10, 11]), (108, [4, 8, 10, 11]), (149, [4, 8, 10, 11]), (181, [1, 2, 3, 4, 8, 9, 10, 11])] 400 h
theorem zwX1_setBy_11_108 {Q : Option zv → zz_M → Prop} {X : Nat → zz_M → Prop} {f : Nat → Nat × Nat} {S L : Nat → Nat → Int} {P : Nat → Nat → Option Nat} {x1 : Int} {x2 : Int} {x3 : Int} {x5 : Int} {x6 : Int} {x7 : Int} {x9 : Int} {t0 : Int} (h : R32 t0 ∧ ((t0 = 0 → R32 t0 ∧ ((t0 = 0 → (0 ≤ x9 ∧ x9 < 2147483648) ∧ ((0 ≤ x9 ∧ x9 < 2147483648) ∧ (((x1 = 0 ∨ x1 = 1) ∧ ((x9 % 2) = 0 ∨ (x9 % 2) = 1) ∧ ((1 + (x9 % 2)) = 1 + (x9 % 2) ∨ (1 + (x9 % 2)) = 0) ∧ (0 ≤ (x2 + 0) ∧ (x2 + 0) ≤ S 200 1) ∧ (0 ≤ (x3 + 1) ∧ (x3 + 1) ≤ S 200 1) ∧ (1 ≤ S 200 1 ∧ S 200 1 ≤ 6) ∧ S 200 1 - (x2 + 0) + (S 200 1 - (x3 + 1)) ≤ 10 ∧ ∃ wy_1 : Nat → Int, wyG wy_1 ∧ (∀ s_1 k_1, s_1 < 2 → k_1 < 4 → S (129 + s_1) k_1 = wy_1 (4 * s_1 + k_1)) ∧ fG (S (128 + (1 + (x9 % 2)).toNat)) ∧ meI S wy_1 (S 200 1) x1 ∧ (∀ S_1 : Nat → Nat → Int, (∀ j_1, j_1 ≠ 131 → S_1 j_1 = S j_1) → meI S_1 wy_1 (S 200 1) x1 → (zz_J zpX1_setBy_11 (zz_ret Q X 0 0) 149 [some (vr 100), some (vi x1), some (vi x2), some (vi x3), none, some (vi x5), some (vi x6), some (vl x7), none, some (vi x9), none, none] [vi (sbV wy_1 (S 200 1) x1 (S (128 + (1 + (x9 % 2)).toNat)) (x2 + 0) (x3 + 1))] ((2, f), S_1, L, P) (0, 0))))))) ∧ (¬ t0 = 0 → (0 ≤ x9 ∧ x9 < 2147483648) ∧ ((0 ≤ x9 ∧ x9 < 2147483648) ∧ (((x1 = 0 ∨ x1 = 1) ∧ ((x9 % 2) = 0 ∨ (x9 % 2) = 1) ∧ ((1 + (x9 % 2)) = 1 + (x9 % 2) ∨ (1 + (x9 % 2)) = 0) ∧ (0 ≤ (x2 + 0) ∧ (x2 + 0) ≤ S 200 1) ∧ (0 ≤ (x3 + 0) ∧ (x3 + 0) ≤ S 200 1) ∧ (1 ≤ S 200 1 ∧ S 200 1 ≤ 6) ∧ S 200 1 - (x2 + 0) + (S 200 1 - (x3 + 0)) ≤ 10 ∧ ∃ wy_2 : Nat → Int, wyG wy_2 ∧ (∀ s_2 k_2, s_2 < 2 → k_2 < 4 → S (129 + s_2) k_2 = wy_2 (4 * s_2 + k_2)) ∧ fG (S (128 + (1 + (x9 % 2)).toNat)) ∧ meI S wy_2 (S 200 1) x1 ∧ (∀ S_2 : Nat → Nat → Int, (∀ j_2, j_2 ≠ 131 → S_2 j_2 = S j_2) → meI S_2 wy_2 (S 200 1) x1 → (zz_J zpX1_setBy_11 (zz_ret Q X 0 0) 149 [some (vr 100), some (vi x1), some (vi x2), some (vi x3), none, some (vi x5), some (vi x6), some (vl x7), none, some (vi x9), none, none] [vi (sbV wy_2 (S 200 1) x1 (S (128 + (1 + (x9 % 2)).toNat)) (x2 + 0) (x3 + 0))] ((2, f), S_2, L, P) (0, 0))))))))) ∧ (¬ t0 = 0 → R32 t0 ∧ ((t0 = 0 → (0 ≤ x9 ∧ x9 < 2147483648) ∧ ((0 ≤ x9 ∧ x9 < 2147483648) ∧ (((x1 = 0 ∨ x1 = 1) ∧ ((x9 % 2) = 0 ∨ (x9 % 2) = 1) ∧ ((1 + (x9 % 2)) = 1 + (x9 % 2) ∨ (1 + (x9 % 2)) = 0) ∧ (0 ≤ (x2 + 1) ∧ (x2 + 1) ≤ S 200 1) ∧ (0 ≤ (x3 + 1) ∧ (x3 + 1) ≤ S 200 1) ∧ (1 ≤ S 200 1 ∧ S 200 1 ≤ 6) ∧ S 200 1 - (x2 + 1) + (S 200 1 - (x3 + 1)) ≤ 10 ∧ ∃ wy_3 : Nat → Int, wyG wy_3 ∧ (∀ s_3 k_3, s_3 < 2 → k_3 < 4 → S (129 + s_3) k_3 = wy_3 (4 * s_3 + k_3)) ∧ fG (S (128 + (1 + (x9 % 2)).toNat)) ∧ meI S wy_3 (S 200 1) x1 ∧ (∀ S_3 : Nat → Nat → Int, (∀ j_3, j_3 ≠ 131 → S_3 j_3 = S j_3) → meI S_3 wy_3 (S 200 1) x1 → (zz_J zpX1_setBy_11 (zz_ret Q X 0 0) 149 [some (vr 100), some (vi x1), some (vi x2), some (vi x3), none, some (vi x5), some (vi x6), some (vl x7), none, some (vi x9), none, none] [vi (sbV wy_3 (S 200 1) x1 (S (128 + (1 + (x9 % 2)).toNat)) (x2 + 1) (x3 + 1))] ((2, f), S_3, L, P) (0, 0))))))) ∧ (¬ t0 = 0 → (0 ≤ x9 ∧ x9 < 2147483648) ∧ ((0 ≤ x9 ∧ x9 < 2147483648) ∧ (((x1 = 0 ∨ x1 = 1) ∧ ((x9 % 2) = 0 ∨ (x9 % 2) = 1) ∧ ((1 + (x9 % 2)) = 1 + (x9 % 2) ∨ (1 + (x9 % 2)) = 0) ∧ (0 ≤ (x2 + 1) ∧ (x2 + 1) ≤ S 200 1) ∧ (0 ≤ (x3 + 0) ∧ (x3 + 0) ≤ S 200 1) ∧ (1 ≤ S 200 1 ∧ S 200 1 ≤ 6) ∧ S 200 1 - (x2 + 1) + (S 200 1 - (x3 + 0)) ≤ 10 ∧ ∃ wy_4 : Nat → Int, wyG wy_4 ∧ (∀ s_4 k_4, s_4 < 2 → k_4 < 4 → S (129 + s_4) k_4 = wy_4 (4 * s_4 + k_4)) ∧ fG (S (128 + (1 + (x9 % 2)).toNat)) ∧ meI S wy_4 (S 200 1) x1 ∧ (∀ S_4 : Nat → Nat → Int, (∀ j_4, j_4 ≠ 131 → S_4 j_4 = S j_4) → meI S_4 wy_4 (S 200 1) x1 → (zz_J zpX1_setBy_11 (zz_ret Q X 0 0) 149 [some (vr 100), some (vi x1), some (vi x2), some (vi x3), none, some (vi x5), some (vi x6), some (vl x7), none, some (vi x9), none, none] [vi (sbV wy_4 (S 200 1) x1 (S (128 + (1 + (x9 % 2)).toNat)) (x2 + 1) (x3 + 0))] ((2, f), S_4, L, P) (0, 0))))))))))) : zz_J zpX1_setBy_11 (zz_ret Q X 0 0) 108 [some (vr 100), some (vi x1), some (vi x2), some (vi x3), none, some (vi x5), some (vi x6), some (vl x7), none, some (vi x9), none, none] [vi t0] ((2, f), S, L, P) (0, 0) := zz_J.go [(91, [4, 8, 10, 11]), (108, [4, 8, 10, 11]), (149, [4, 8, 10, 11]), (181, [1, 2, 3, 4, 8, 9, 10, 11])] 400 h
theorem zwX1_setBy_11_149 {Q : Option zv → zz_M → Prop} {X : Nat → zz_M → Prop} {f : Nat → Nat × Nat} {S L : Nat → Nat → Int} {P : Nat → Nat → Option Nat} {x1 : Int} {x2 : Int} {x3 : Int} {x5 : Int} {x6 : Int} {x7 : Int} {x9 : Int} {t0 : Int} (h : ∃ t_ n_ : Nat, zsh ((2, f), S, L, P) 127 = (t_, n_) ∧ (t_ = 6 ∨ t_ = 7 ∨ t_ = 8) ∧ (n_ : Int) ≤ 2147483647 ∧ (0 ≤ x5 ∧ x5 < (n_ : Int)) ∧ (∀ b1 : Nat, zpt ((2, f), S, L, P) 127 x5.toNat = some b1 → ∃ n_ : Nat, zsh ((2, f), S, L, P) b1 = (2, n_) ∧ (n_ : Int) ≤ 2147483647 ∧ (0 ≤ x9 ∧ x9 < (n_ : Int)) ∧ (R32 (S b1 x9.toNat) ∧ (R32 t0 ∧ ((0 ≤ ((S b1 x9.toNat) * t0) ∧ ((S b1 x9.toNat) * t0) < 9223372036854775808) ∧ (zz_J zpX1_setBy_11 (zz_ret Q X 0 0) 91 [some (vr 100), some (vi x1), some (vi x2), some (vi x3), none, some (vi x5), some (vi x6), some (vl (x7 + (((S b1 x9.toNat) * t0) / 1000000000))), none, some (vi (x9 + 1)), none, none] [] ((2, f), S, L, P) (0, 0)))))) ∧ (zpt ((2, f), S, L, P) 127 x5.toNat = none → False)) : zz_J zpX1_setBy_11 (zz_ret Q X 0 0) 149 [some (vr 100), some (vi x1), some (vi x2), some (vi x3), none, some (vi x5), some (vi x6), some (vl x7), none, some (vi x9), none, none] [vi t0] ((2, f), S, L, P) (0, 0) := zz_J.go [(91, [4, 8, 10, 11]), (108, [4, 8, 10, 11]), (149, [4, 8, 10, 11]), (181, [1, 2, 3, 4, 8, 9, 10, 11])] 400 h
theorem zwX1_setBy_11_181 {Q : Option zv → zz_M → Prop} {X : Nat → zz_M → Prop} {f : Nat → Nat × Nat} {S L : Nat → Nat → Int} {P : Nat → Nat → Option Nat} {x5 : Int} {x6 : Int} {x7 : Int} (h : R32 x5 ∧ ((x5 ≤ 0 → R64 x7 ∧ (Q (some (vi x7)) ((2, f), S, L, P))) ∧ (¬ x5 ≤ 0 → R64 x7 ∧ ((0 ≤ x6 ∧ x6 < 98) ∧ (R64 x7 ∧ (Q (some (vi x7)) ((2, f), mm_up S 131 x6.toNat x7, L, P))))))) : zz_J zpX1_setBy_11 (zz_ret Q X 0 0) 181 [some (vr 100), none, none, none, none, some (vi x5), some (vi x6), some (vl x7), none, none, none, none] [] ((2, f), S, L, P) (0, 0) := zz_J.go [(91, [4, 8, 10, 11]), (108, [4, 8, 10, 11]), (149, [4, 8, 10, 11]), (181, [1, 2, 3, 4, 8, 9, 10, 11])] 400 h

theorem zmX1_setBy_11 (l : Launch) (hl : l.stackTraces = false) : mm_Spec l yX1_setBy (ws_ yX1_setBy cX1_setBy 12 (some .int)) (mm_rm 16 0 0) (zE zX1_setBy_11) := by
  refine zz_Met.J hl (by decide) (fun C G hnh => ztX1_setBy_11 G hnh) ?_
  rintro as ⟨⟨t_, f⟩, S, L, P⟩ Q X h
  unfold zX1_setBy_11 at h
  split at h
  rotate_left
  · exact h.elim
  rename_i h_ p a b s fr
  obtain ⟨e1_, e2_, h⟩ := mm_and2 h (fun q => q)
  cases mm_beq e1_
  cases mm_beq e2_
  try dsimp only at h
  refine ⟨rfl, ?_⟩
  obtain ⟨hp, hs, hfr, ha, hb, hG, hr, wy, hw, hrow, hF, hme, hq⟩ := h
  by_cases o : S 200 1 ≤ a ∨ S 200 1 ≤ b
  · have hq := hq S (fun _ _ => rfl) hme
    unfold sbV at hq
    rw [if_pos o] at hq
    have k1 : ¬ p = 0 → R32 b ∧ (R32 (S 200 1) ∧ ((b < (S 200 1) → Q (some (vi 0)) ((2, f), S, L, P)) ∧ (¬ b < (S 200 1) → Q (some (vi 1000000000)) ((2, f), S, L, P)))) := fun d => ⟨by omega, by omega, fun e => by rw [if_neg (by rw [if_neg d]; omega)] at hq; exact hq, fun e => by rw [if_pos (by rw [if_neg d]; omega)] at hq; exact hq⟩
    have k0 : p = 0 → R32 a ∧ (R32 (S 200 1) ∧ ((a < (S 200 1) → Q (some (vi 0)) ((2, f), S, L, P)) ∧ (¬ a < (S 200 1) → Q (some (vi 1000000000)) ((2, f), S, L, P)))) := fun d => ⟨by omega, by omega, fun e => by rw [if_neg (by rw [if_pos d]; omega)] at hq; exact hq, fun e => by rw [if_pos (by rw [if_pos d]; omega)] at hq; exact hq⟩
    exact zwX1_setBy_11_0 ⟨by omega, by omega, fun c => ⟨by omega, k1, k0⟩, fun c => ⟨by omega, by omega, fun e => absurd o (by omega), fun e => ⟨by omega, k1, k0⟩⟩⟩
  obtain ⟨a', rfl⟩ : ∃ a' : Nat, a = (a' : Int) := ⟨a.toNat, by omega⟩
  obtain ⟨b', rfl⟩ : ∃ b' : Nat, b = (b' : Int) := ⟨b.toNat, by omega⟩
  obtain ⟨s', hs', es⟩ : ∃ s' : Nat, s' < 2 ∧ s = (s' : Int) := ⟨s.toNat, by omega, by omega⟩
  obtain ⟨r', hr', er⟩ : ∃ r' : Nat, r' < 3 ∧ fr = (r' : Int) := ⟨fr.toNat, by omega, by omega⟩
  subst es er
  have hcv := fun k => bcV_in (G := S 200 1) (p := p) (a := (a' : Int)) (b := (b' : Int)) hw k
  rw [Int.toNat_natCast] at hF hq
  have sin := sbS_in hF hcv
  have hq : ∀ S_ : Nat → Nat → Int, (∀ j, j ≠ 131 → S_ j = S j) → meI S_ wy (S 200 1) p → Q (some (vi (sbS (S (128 + r')) (bcV wy (S 200 1) p a' b') 4))) ((2, f), S_, L, P) := fun S_ e1 e2 => by
    have hq := hq S_ e1 e2
    unfold sbV at hq
    rw [if_neg o] at hq
    exact hq
  have est : (1 : Int) + s' = r' → sbS (S (128 + r')) (bcV wy (S 200 1) p a' b') 4 = stO wy (S 200 1) p 12 a' b' s' := fun e => by
    have e2 : r' = 1 + s' := by omega
    have := sbV_st (wy := wy) (G := S 200 1) (p := p) (a := (a' : Int)) (b := (b' : Int)) (s := s') (F := S (128 + r')) (fun k hk => by rw [e2, show 128 + (1 + s') = 129 + s' by omega]; exact hrow s' k hs' hk) (by omega) (by omega) (by omega)
    unfold sbV at this
    rw [if_neg o] at this
    exact this
  have wy4 : ∀ s : Nat, s < 2 → fG (S (129 + s)) := fun s hs => by
    refine ⟨fun k hk => by rw [hrow s k hs hk]; exact hw.1 _ (by omega), ?_⟩
    rw [hrow s 0 hs (by decide), hrow s 1 hs (by decide), hrow s 2 hs (by decide), hrow s 3 hs (by decide)]
    have : s = 0 ∨ s = 1 := by omega
    rcases this with e | e <;> subst e
    · exact hw.2.1
    · exact hw.2.2
  have t91 : ∀ (m k : Nat) (T : Nat → Nat → Int), k + m = 4 → (∀ j, j ≠ 131 → T j = S j) → meI T wy (S 200 1) p → zz_J zpX1_setBy_11 (zz_ret Q X 0 0) 91 [some (vr 100), some (vi p), some (vi (a' : Int)), some (vi (b' : Int)), none, some (vi (r' : Int)), some (vi ((((7 * (a' : Int)) + b') * 2) + s')), some (vl (sbS (S (128 + r')) (bcV wy (S 200 1) p a' b') k)), none, some (vi (k : Int)), none, none] [] ((2, f), T, L, P) (0, 0) := by
    intro m
    induction m with
    | zero =>
      intro k T hk eT mT
      have k4 : k = 4 := by omega
      subst k4
      have s4 := sin 4 (by decide)
      have R4 : R64 (sbS (S (128 + r')) (bcV wy (S 200 1) p a' b') 4) := by omega
      refine zwX1_setBy_11_91 ⟨by omega, fun _ => zwX1_setBy_11_181 ⟨by omega, fun c => ⟨R4, hq T eT mT⟩, fun c => ⟨R4, by omega, R4, ?_⟩⟩, fun d => absurd (by omega) d⟩
      have ei : ((((7 * (a' : Int)) + b') * 2) + s').toNat = (7 * a' + b') * 2 + s' := by omega
      have e1 := est (by omega)
      refine hq _ (fun j hj => ?_) ?_
      · funext x
        rw [up_eq, if_neg (by omega), eT j hj]
      · rw [ei, e1]
        exact mT.up (by omega) (by omega) hs'
    | succ m ih =>
      intro k T hk eT mT
      have k4 : k < 4 := by omega
      have eG : T 200 1 = S 200 1 := by rw [eT 200 (by decide)]
      have t149 : ∀ (U : Nat → Nat → Int), (∀ j, j ≠ 131 → U j = S j) → meI U wy (S 200 1) p → zz_J zpX1_setBy_11 (zz_ret Q X 0 0) 149 [some (vr 100), some (vi p), some (vi (a' : Int)), some (vi (b' : Int)), none, some (vi (r' : Int)), some (vi ((((7 * (a' : Int)) + b') * 2) + s')), some (vl (sbS (S (128 + r')) (bcV wy (S 200 1) p a' b') k)), none, some (vi (k : Int)), none, none] [vi (bcV wy (S 200 1) p a' b' k)] ((2, f), U, L, P) (0, 0) := by
        intro U eU mU
        obtain ⟨w1, w2⟩ := ways_at (f := f) (S := U) (L := L) (P := P) hr'
        have fk := hF.1 k k4
        have ck := hcv k
        have m9 := mul_sure fk.1 ck.1 ck.2
        refine zwX1_setBy_11_149 ⟨6, 3, rfl, Or.inl rfl, by decide, by omega, fun b1 hb1 => ?_, fun hb1 => ?_⟩
        · rw [Int.toNat_natCast, w1] at hb1
          cases hb1
          refine ⟨4, w2, by decide, by omega, ?_⟩
          rw [Int.toNat_natCast, eU (128 + r') (by omega)]
          exact ⟨by omega, by omega, by omega, ih (k + 1) U (by omega) eU mU⟩
        · rw [Int.toNat_natCast, w1] at hb1
          cases hb1
      have rowT : ∀ s_ k_, s_ < 2 → k_ < 4 → T (129 + s_) k_ = wy (4 * s_ + k_) := fun s_ k_ g1 g2 => by rw [eT (129 + s_) (by omega)]; exact hrow s_ k_ g1 g2
      have mk : ((k : Int) % 2 = 0 ∨ (k : Int) % 2 = 1) := by omega
      have ek2 : ((k : Int) % 2).toNat = k % 2 := by omega
      have ek3 : 128 + (1 + (k : Int) % 2).toNat = 129 + k % 2 := by omega
      have nxt : ∀ x y : Int, (x ≤ S 200 1 ∧ y ≤ S 200 1 ∧ S 200 1 - x + (S 200 1 - y) ≤ 12) → stO wy (S 200 1) p 12 x y (k % 2) = bcV wy (S 200 1) p a' b' k → ∀ S_ : Nat → Nat → Int, (∀ j, j ≠ 131 → S_ j = T j) → meI S_ wy (T 200 1) p → zz_J zpX1_setBy_11 (zz_ret Q X 0 0) 149 [some (vr 100), some (vi p), some (vi (a' : Int)), some (vi (b' : Int)), none, some (vi (r' : Int)), some (vi ((((7 * (a' : Int)) + b') * 2) + s')), some (vl (sbS (S (128 + r')) (bcV wy (S 200 1) p a' b') k)), none, some (vi (k : Int)), none, none] [vi (sbV wy (T 200 1) p (T (128 + (1 + (k : Int) % 2).toNat)) x y)] ((2, f), S_, L, P) (0, 0) := by
        intro x y hxy e S_ e1 e2
        rw [eG] at e2 ⊢
        rw [ek3, sbV_st (s := k % 2) (fun j hj => rowT (k % 2) j (by omega) hj) hxy.1 hxy.2.1 hxy.2.2, e]
        exact t149 S_ (fun j hj => by rw [e1 j hj, eT j hj]) e2
      have fGk : fG (T (128 + (1 + (k : Int) % 2).toNat)) := by
        rw [ek3, eT (129 + k % 2) (by omega)]
        exact wy4 (k % 2) (by omega)
      refine zwX1_setBy_11_91 ⟨by omega, fun d => absurd d (by omega), fun _ => ⟨by omega, fun c => zwX1_setBy_11_108 ⟨by decide, fun _ => ⟨by decide, fun _ => ⟨by omega, by omega, hp, mk, Or.inl rfl, by omega, by omega, by omega, by omega, wy, hw, rowT, fGk, by rw [eG]; exact mT, ?_⟩, fun d => absurd rfl d⟩, fun d => absurd rfl d⟩, fun c => zwX1_setBy_11_108 ⟨by decide, fun d => absurd d (by decide), fun _ => ⟨by decide, fun d => absurd d (by decide), fun _ => ⟨by omega, by omega, hp, mk, Or.inl rfl, by omega, by omega, by omega, by omega, wy, hw, rowT, fGk, by rw [eG]; exact mT, ?_⟩⟩⟩⟩⟩
      · refine nxt _ _ (by omega) ?_
        unfold bcV
        rw [if_neg (by omega), if_neg (by omega), Int.add_zero]
      · refine nxt _ _ (by omega) ?_
        unfold bcV
        rw [if_pos (by omega), if_pos (by omega), Int.add_zero]
  have t0 := t91 4 0 S rfl (fun _ _ => rfl) hme
  refine zwX1_setBy_11_0 ⟨by omega, by omega, fun c => absurd (Or.inl c) o, fun c => ⟨by omega, by omega, fun c2 => ⟨by omega, fun d => t0, fun d => ⟨by omega, ?_⟩⟩, fun c2 => absurd (by omega) o⟩⟩
  have ei : ((((7 * (a' : Int)) + b') * 2) + s').toNat = (7 * a' + b') * 2 + s' := by omega
  have me := hme a' b' s' (by omega) (by omega) hs'
  have hin := stO_in (G := S 200 1) (p := p) hw 12 (a' : Int) (b' : Int) s' hs'
  rw [ei]
  refine ⟨by rcases me with e | e <;> rw [e] <;> omega, fun _ => t0, fun d2 => ⟨by omega, ?_⟩⟩
  have e2 := me.resolve_left (by omega)
  rw [e2, ← est (by omega)]
  exact hq S (fun _ _ => rfl) hme
def zX1_setBy_12 : zz_Sp := fun as M Q X => match as with
  | [.inr (.inr (some h_)), .inl p, .inl a, .inl b, .inl s, .inl fr] => bif Nat.beq h_ 100 && Nat.beq M.1.1 2 then ((p = 0 ∨ p = 1) ∧ (s = 0 ∨ s = 1) ∧ (fr = 1 + s ∨ fr = 0) ∧ (0 ≤ a ∧ a ≤ M.2.1 200 1) ∧ (0 ≤ b ∧ b ≤ M.2.1 200 1) ∧ (1 ≤ M.2.1 200 1 ∧ M.2.1 200 1 ≤ 6) ∧ M.2.1 200 1 - a + (M.2.1 200 1 - b) ≤ 12 ∧ ∃ wy_ : Nat → Int, wyG wy_ ∧ (∀ s_ k_, s_ < 2 → k_ < 4 → M.2.1 (129 + s_) k_ = wy_ (4 * s_ + k_)) ∧ fG (M.2.1 (128 + fr.toNat)) ∧ meI M.2.1 wy_ (M.2.1 200 1) p ∧ (∀ S_ : Nat → Nat → Int, (∀ j_, j_ ≠ 131 → S_ j_ = M.2.1 j_) → meI S_ wy_ (M.2.1 200 1) p → Q (some (vi (sbV wy_ (M.2.1 200 1) p (M.2.1 (128 + fr.toNat)) a b))) ((2, M.1.2), S_, M.2.2.1, M.2.2.2))) else False
  | _ => False

def zpX1_setBy_12 : zz_P := [(0, zo_ild 1 2), (1, zo_ald 2 0), (2, zo_get 5 0 2 0), (5, zo_get 8 1 0 1), (8, zo_cge false false 11 22), (11, zo_ild 12 3), (12, zo_ald 13 0), (13, zo_get 16 0 2 0), (16, zo_get 19 1 0 1), (19, zo_clt false false 22 49), (22, zo_ild 23 1), (23, zo_ifne false 26 30), (26, zo_ild 27 2), (27, zo_goto 31), (30, zo_ild 31 3), (31, zo_ald 32 0), (32, zo_get 35 0 2 0), (35, zo_get 38 1 0 1), (38, zo_clt false false 41 47), (41, zo_c 44 (vi 1000000000)), (44, zo_goto 48), (47, zo_c 48 (vi 0)), (48, zo_iret), (49, zo_c 51 (vi 7)), (51, zo_ild 52 2), (52, zo_imul 53), (53, zo_ild 54 3), (54, zo_iadd 55), (55, zo_c 56 (vi 2)), (56, zo_imul 57), (57, zo_ild 59 4), (59, zo_iadd 60), (60, zo_ist 62 6), (62, zo_ild 64 5), (64, zo_ifle false 67 85), (67, zo_ald 68 0), (68, zo_get 71 0 2 15), (71, zo_ild 73 6), (73, zo_iald 74), (74, zo_iflt false 77 85), (77, zo_ald 78 0), (78, zo_get 81 0 2 15), (81, zo_ild 83 6), (83, zo_iald 84), (84, zo_iret), (85, zo_c 86 (vl 0)), (86, zo_lst 88 7), (88, zo_c 89 (vi 0)), (89, zo_ist 91 9), (91, zo_ild 93 9), (93, zo_c 94 (vi 4)), (94, zo_cge false true 97 181), (97, zo_ild 99 9), (99, zo_c 100 (vi 2)), (100, zo_cge false true 103 107), (103, zo_c 104 (vi 1)), (104, zo_goto 108), (107, zo_c 108 (vi 0)), (108, zo_ist 110 10), (110, zo_ald 111 0), (111, zo_ild 112 1), (112, zo_ild 113 2), (113, zo_ild 115 10), (115, zo_ifeq false 118 122), (118, zo_c 119 (vi 1)), (119, zo_goto 123), (122, zo_c 123 (vi 0)), (123, zo_iadd 124), (124, zo_ild 125 3), (125, zo_ild 127 10), (127, zo_ifeq false 130 134), (130, zo_c 131 (vi 0)), (131, zo_goto 135), (134, zo_c 135 (vi 1)), (135, zo_iadd 136), (136, zo_ild 138 9), (138, zo_c 139 (vi 2)), (139, zo_irem 140), (140, zo_c 141 (vi 1)), (141, zo_ild 143 9), (143, zo_c 144 (vi 2)), (144, zo_irem 145), (145, zo_iadd 146), (146, zo_callv 149 6 0 zX1_setBy_11), (149, zo_ist 151 11), (151, zo_lld 153 7), (153, zo_ald 154 0), (154, zo_get 157 0 2 14), (157, zo_ild 159 5), (159, zo_aald 160), (160, zo_ild 162 9), (162, zo_ialp 163), (163, zo_i2l 164), (164, zo_ild 166 11), (166, zo_i2l 167), (167, zo_lmul 168), (168, zo_c 171 (vl 1000000000)), (171, zo_ldiv 172), (172, zo_ladd 173), (173, zo_lst 175 7), (175, zo_inc 178 9 1), (178, zo_goto 91), (181, zo_ild 183 5), (183, zo_ifle false 186 196), (186, zo_ald 187 0), (187, zo_get 190 0 2 15), (190, zo_ild 192 6), (192, zo_lld 194 7), (194, zo_l2i 195), (195, zo_iasd 196), (196, zo_lld 198 7), (198, zo_l2i 199), (199, zo_iret)]
theorem ztX1_setBy_12 {C : mm_C} (G : mm_G C RX1 cX1_setBy (some .int) 12 (mm_rm 17 0 0)) (hnh : mm_nh C) : zz_OKs C zpX1_setBy_12 :=
  ⟨zz_of (ok_iload_n G dX1_setBy_0 rfl rfl) (z_ild _ _),
   zz_of (ok_aload_n G dX1_setBy_1 rfl rfl) (z_ald _ _),
   zz_of (ok_get G (nx := 5) (ci := 0) (kd := 2) (k := 0) (RX1, TX1, 19) rfl (by decide) rfl q399 dX1_setBy_2 rfl) (z_get _ _ _ _),
   zz_of (ok_getN G (nx := 8) (ci := 1) (kd := 0) (k := 1) (RX2, TX2, 11) rfl (by decide) rfl q218 dX1_setBy_5 rfl) (z_get _ _ _ _),
   zz_of (ok_cge G dX1_setBy_8 rfl rfl) (z_cge _ _ _ _),
   zz_of (ok_iload_n G dX1_setBy_11 rfl rfl) (z_ild _ _),
   zz_of (ok_aload_n G dX1_setBy_12 rfl rfl) (z_ald _ _),
   zz_of (ok_get G (nx := 16) (ci := 0) (kd := 2) (k := 0) (RX1, TX1, 19) rfl (by decide) rfl q399 dX1_setBy_13 rfl) (z_get _ _ _ _),
   zz_of (ok_getN G (nx := 19) (ci := 1) (kd := 0) (k := 1) (RX2, TX2, 11) rfl (by decide) rfl q218 dX1_setBy_16 rfl) (z_get _ _ _ _),
   zz_of (ok_clt G dX1_setBy_19 rfl rfl) (z_clt _ _ _ _),
   zz_of (ok_iload_n G dX1_setBy_22 rfl rfl) (z_ild _ _),
   zz_of (ok_ifne G dX1_setBy_23 rfl rfl) (z_ifne _ _ _),
   zz_of (ok_iload_n G dX1_setBy_26 rfl rfl) (z_ild _ _),
   zz_of (ok_goto G dX1_setBy_27 rfl) (z_goto _),
   zz_of (ok_iload_n G dX1_setBy_30 rfl rfl) (z_ild _ _),
   zz_of (ok_aload_n G dX1_setBy_31 rfl rfl) (z_ald _ _),
   zz_of (ok_get G (nx := 35) (ci := 0) (kd := 2) (k := 0) (RX1, TX1, 19) rfl (by decide) rfl q399 dX1_setBy_32 rfl) (z_get _ _ _ _),
   zz_of (ok_getN G (nx := 38) (ci := 1) (kd := 0) (k := 1) (RX2, TX2, 11) rfl (by decide) rfl q218 dX1_setBy_35 rfl) (z_get _ _ _ _),
   zz_of (ok_clt G dX1_setBy_38 rfl rfl) (z_clt _ _ _ _),
   zz_of (ok_ldcw G (v := 1000000000) q1700 dX1_setBy_41 rfl) (z_cn 44 1000000000),
   zz_of (ok_goto G dX1_setBy_44 rfl) (z_goto _),
   zz_of (ok_iconst G (v := 0) dX1_setBy_47 (by decide) rfl) (z_cn 48 0),
   zz_of (ok_iret G dX1_setBy_48) (z_iret),
   zz_of (ok_bipush G (v := 7) dX1_setBy_49 (by decide) rfl) (z_cn 51 7),
   zz_of (ok_iload_n G dX1_setBy_51 rfl rfl) (z_ild _ _),
   zz_of (ok_imul G dX1_setBy_52 rfl) (z_imul _),
   zz_of (ok_iload_n G dX1_setBy_53 rfl rfl) (z_ild _ _),
   zz_of (ok_iadd G dX1_setBy_54 rfl) (z_iadd _),
   zz_of (ok_iconst G (v := 2) dX1_setBy_55 (by decide) rfl) (z_cn 56 2),
   zz_of (ok_imul G dX1_setBy_56 rfl) (z_imul _),
   zz_of (ok_iload G dX1_setBy_57 rfl) (z_ild _ _),
   zz_of (ok_iadd G dX1_setBy_59 rfl) (z_iadd _),
   zz_of (ok_istore G dX1_setBy_60 rfl (by decide)) (z_ist _ _),
   zz_of (ok_iload G dX1_setBy_62 rfl) (z_ild _ _),
   zz_of (ok_ifle G dX1_setBy_64 rfl rfl) (z_ifle _ _ _),
   zz_of (ok_aload_n G dX1_setBy_67 rfl rfl) (z_ald _ _),
   zz_of (ok_get G (nx := 71) (ci := 0) (kd := 2) (k := 15) (RX1, TX1, 19) rfl (by decide) rfl q426 dX1_setBy_68 rfl) (z_get _ _ _ _),
   zz_of (ok_iload G dX1_setBy_71 rfl) (z_ild _ _),
   zz_of (ok_iald G dX1_setBy_73 rfl) (z_iald _),
   zz_of (ok_iflt G dX1_setBy_74 rfl rfl) (z_iflt _ _ _),
   zz_of (ok_aload_n G dX1_setBy_77 rfl rfl) (z_ald _ _),
   zz_of (ok_get G (nx := 81) (ci := 0) (kd := 2) (k := 15) (RX1, TX1, 19) rfl (by decide) rfl q426 dX1_setBy_78 rfl) (z_get _ _ _ _),
   zz_of (ok_iload G dX1_setBy_81 rfl) (z_ild _ _),
   zz_of (ok_iald G dX1_setBy_83 rfl) (z_iald _),
   zz_of (ok_iret G dX1_setBy_84) (z_iret),
   zz_of (ok_lconst G (v := 0) dX1_setBy_85 (by decide) rfl) (z_cl 86 0),
   zz_of (ok_lstore G dX1_setBy_86 rfl (by decide)) (z_lst _ _),
   zz_of (ok_iconst G (v := 0) dX1_setBy_88 (by decide) rfl) (z_cn 89 0),
   zz_of (ok_istore G dX1_setBy_89 rfl (by decide)) (z_ist _ _),
   zz_of (ok_iload G dX1_setBy_91 rfl) (z_ild _ _),
   zz_of (ok_iconst G (v := 4) dX1_setBy_93 (by decide) rfl) (z_cn 94 4),
   zz_of (ok_cge G dX1_setBy_94 rfl rfl) (z_cge _ _ _ _),
   zz_of (ok_iload G dX1_setBy_97 rfl) (z_ild _ _),
   zz_of (ok_iconst G (v := 2) dX1_setBy_99 (by decide) rfl) (z_cn 100 2),
   zz_of (ok_cge G dX1_setBy_100 rfl rfl) (z_cge _ _ _ _),
   zz_of (ok_iconst G (v := 1) dX1_setBy_103 (by decide) rfl) (z_cn 104 1),
   zz_of (ok_goto G dX1_setBy_104 rfl) (z_goto _),
   zz_of (ok_iconst G (v := 0) dX1_setBy_107 (by decide) rfl) (z_cn 108 0),
   zz_of (ok_istore G dX1_setBy_108 rfl (by decide)) (z_ist _ _),
   zz_of (ok_aload_n G dX1_setBy_110 rfl rfl) (z_ald _ _),
   zz_of (ok_iload_n G dX1_setBy_111 rfl rfl) (z_ild _ _),
   zz_of (ok_iload_n G dX1_setBy_112 rfl rfl) (z_ild _ _),
   zz_of (ok_iload G dX1_setBy_113 rfl) (z_ild _ _),
   zz_of (ok_ifeq G dX1_setBy_115 rfl rfl) (z_ifeq _ _ _),
   zz_of (ok_iconst G (v := 1) dX1_setBy_118 (by decide) rfl) (z_cn 119 1),
   zz_of (ok_goto G dX1_setBy_119 rfl) (z_goto _),
   zz_of (ok_iconst G (v := 0) dX1_setBy_122 (by decide) rfl) (z_cn 123 0),
   zz_of (ok_iadd G dX1_setBy_123 rfl) (z_iadd _),
   zz_of (ok_iload_n G dX1_setBy_124 rfl rfl) (z_ild _ _),
   zz_of (ok_iload G dX1_setBy_125 rfl) (z_ild _ _),
   zz_of (ok_ifeq G dX1_setBy_127 rfl rfl) (z_ifeq _ _ _),
   zz_of (ok_iconst G (v := 0) dX1_setBy_130 (by decide) rfl) (z_cn 131 0),
   zz_of (ok_goto G dX1_setBy_131 rfl) (z_goto _),
   zz_of (ok_iconst G (v := 1) dX1_setBy_134 (by decide) rfl) (z_cn 135 1),
   zz_of (ok_iadd G dX1_setBy_135 rfl) (z_iadd _),
   zz_of (ok_iload G dX1_setBy_136 rfl) (z_ild _ _),
   zz_of (ok_iconst G (v := 2) dX1_setBy_138 (by decide) rfl) (z_cn 139 2),
   zz_of (ok_irem G dX1_setBy_139 rfl) (z_irem _),
   zz_of (ok_iconst G (v := 1) dX1_setBy_140 (by decide) rfl) (z_cn 141 1),
   zz_of (ok_iload G dX1_setBy_141 rfl) (z_ild _ _),
   zz_of (ok_iconst G (v := 2) dX1_setBy_143 (by decide) rfl) (z_cn 144 2),
   zz_of (ok_irem G dX1_setBy_144 rfl) (z_irem _),
   zz_of (ok_iadd G dX1_setBy_145 rfl) (z_iadd _),
   zz_of (ok_callv G hnh (zmX1_setBy_11 _ G.hst) rfl rfl (RX1, TX1, 19) rfl q1706 q1708 qs33 q82 q1709 (by decide +kernel) ⟨by decide, by decide⟩ dX1_setBy_146 rfl) (z_callv _ _ _ _),
   zz_of (ok_istore G dX1_setBy_149 rfl (by decide)) (z_ist _ _),
   zz_of (ok_lload G dX1_setBy_151 rfl) (z_lld _ _),
   zz_of (ok_aload_n G dX1_setBy_153 rfl rfl) (z_ald _ _),
   zz_of (ok_get G (nx := 157) (ci := 0) (kd := 2) (k := 14) (RX1, TX1, 19) rfl (by decide) rfl q425 dX1_setBy_154 rfl) (z_get _ _ _ _),
   zz_of (ok_iload G dX1_setBy_157 rfl) (z_ild _ _),
   zz_of (ok_aald G dX1_setBy_159 rfl) (z_aald _),
   zz_of (ok_iload G dX1_setBy_160 rfl) (z_ild _ _),
   zz_of (ok_iald G dX1_setBy_162 rfl) (z_ialp _),
   zz_of (ok_i2l G dX1_setBy_163 rfl) (z_i2l _),
   zz_of (ok_iload G dX1_setBy_164 rfl) (z_ild _ _),
   zz_of (ok_i2l G dX1_setBy_166 rfl) (z_i2l _),
   zz_of (ok_lmul G dX1_setBy_167 rfl) (z_lmul _),
   zz_of (ok_ldc2 G (v := 1000000000) q1710 dX1_setBy_168 rfl) (z_cl 171 1000000000),
   zz_of (ok_ldiv G dX1_setBy_171 rfl) (z_ldiv _),
   zz_of (ok_ladd G dX1_setBy_172 rfl) (z_ladd _),
   zz_of (ok_lstore G dX1_setBy_173 rfl (by decide)) (z_lst _ _),
   zz_of (ok_iinc G (v := 1) dX1_setBy_175 (by decide) rfl (by decide)) (z_incn 178 9 1),
   zz_of (ok_goto G dX1_setBy_178 rfl) (z_goto _),
   zz_of (ok_iload G dX1_setBy_181 rfl) (z_ild _ _),
   zz_of (ok_ifle G dX1_setBy_183 rfl rfl) (z_ifle _ _ _),
   zz_of (ok_aload_n G dX1_setBy_186 rfl rfl) (z_ald _ _),
   zz_of (ok_get G (nx := 190) (ci := 0) (kd := 2) (k := 15) (RX1, TX1, 19) rfl (by decide) rfl q426 dX1_setBy_187 rfl) (z_get _ _ _ _),
   zz_of (ok_iload G dX1_setBy_190 rfl) (z_ild _ _),
   zz_of (ok_lload G dX1_setBy_192 rfl) (z_lld _ _),
   zz_of (ok_l2i G dX1_setBy_194 rfl) (z_l2i _),
   zz_of (ok_iast G dX1_setBy_195 rfl) (z_iasd _),
   zz_of (ok_lload G dX1_setBy_196 rfl) (z_lld _ _),
   zz_of (ok_l2i G dX1_setBy_198 rfl) (z_l2i _),
   zz_of (ok_iret G dX1_setBy_199) (z_iret), trivial⟩

theorem zwX1_setBy_12_0 {Q : Option zv → zz_M → Prop} {X : Nat → zz_M → Prop} {f : Nat → Nat × Nat} {S L : Nat → Nat → Int} {P : Nat → Nat → Option Nat} {p : Int} {a : Int} {b : Int} {s : Int} {fr : Int} (h : R32 a ∧ (R32 (S 200 1) ∧ (((S 200 1) ≤ a → R32 p ∧ ((¬ p = 0 → R32 b ∧ (R32 (S 200 1) ∧ ((b < (S 200 1) → Q (some (vi 0)) ((2, f), S, L, P)) ∧ (¬ b < (S 200 1) → Q (some (vi 1000000000)) ((2, f), S, L, P))))) ∧ (p = 0 → R32 a ∧ (R32 (S 200 1) ∧ ((a < (S 200 1) → Q (some (vi 0)) ((2, f), S, L, P)) ∧ (¬ a < (S 200 1) → Q (some (vi 1000000000)) ((2, f), S, L, P))))))) ∧ (¬ (S 200 1) ≤ a → R32 b ∧ (R32 (S 200 1) ∧ ((b < (S 200 1) → R32 fr ∧ ((fr ≤ 0 → zz_J zpX1_setBy_12 (zz_ret Q X 0 0) 91 [some (vr 100), some (vi p), some (vi a), some (vi b), none, some (vi fr), some (vi ((((7 * a) + b) * 2) + s)), some (vl 0), none, some (vi 0), none, none] [] ((2, f), S, L, P) (0, 0)) ∧ (¬ fr ≤ 0 → (0 ≤ ((((7 * a) + b) * 2) + s) ∧ ((((7 * a) + b) * 2) + s) < 98) ∧ (R32 (S 131 (((((7 * a) + b) * 2) + s).toNat)) ∧ (((S 131 (((((7 * a) + b) * 2) + s).toNat)) < 0 → zz_J zpX1_setBy_12 (zz_ret Q X 0 0) 91 [some (vr 100), some (vi p), some (vi a), some (vi b), none, some (vi fr), some (vi ((((7 * a) + b) * 2) + s)), some (vl 0), none, some (vi 0), none, none] [] ((2, f), S, L, P) (0, 0)) ∧ (¬ (S 131 (((((7 * a) + b) * 2) + s).toNat)) < 0 → (0 ≤ ((((7 * a) + b) * 2) + s) ∧ ((((7 * a) + b) * 2) + s) < 98) ∧ (Q (some (vi (S 131 (((((7 * a) + b) * 2) + s).toNat)))) ((2, f), S, L, P)))))))) ∧ (¬ b < (S 200 1) → R32 p ∧ ((¬ p = 0 → R32 b ∧ (R32 (S 200 1) ∧ ((b < (S 200 1) → Q (some (vi 0)) ((2, f), S, L, P)) ∧ (¬ b < (S 200 1) → Q (some (vi 1000000000)) ((2, f), S, L, P))))) ∧ (p = 0 → R32 a ∧ (R32 (S 200 1) ∧ ((a < (S 200 1) → Q (some (vi 0)) ((2, f), S, L, P)) ∧ (¬ a < (S 200 1) → Q (some (vi 1000000000)) ((2, f), S, L, P))))))))))))) : zz_J zpX1_setBy_12 (zz_ret Q X 0 0) 0 [some (vr 100), some (vi p), some (vi a), some (vi b), some (vi s), some (vi fr), none, none, none, none, none, none] [] ((2, f), S, L, P) (0, 0) := zz_J.go [(91, [4, 8, 10, 11]), (108, [4, 8, 10, 11]), (149, [4, 8, 10, 11]), (181, [1, 2, 3, 4, 8, 9, 10, 11])] 400 h
theorem zwX1_setBy_12_91 {Q : Option zv → zz_M → Prop} {X : Nat → zz_M → Prop} {f : Nat → Nat × Nat} {S L : Nat → Nat → Int} {P : Nat → Nat → Option Nat} {x1 : Int} {x2 : Int} {x3 : Int} {x5 : Int} {x6 : Int} {x7 : Int} {x9 : Int} (h : R32 x9 ∧ ((4 ≤ x9 → zz_J zpX1_setBy_12 (zz_ret Q X 0 0) 181 [some (vr 100), none, none, none, none, some (vi x5), some (vi x6), some (vl x7), none, none, none, none] [] ((2, f), S, L, P) (0, 0)) ∧ (¬ 4 ≤ x9 → R32 x9 ∧ ((2 ≤ x9 → zz_J zpX1_setBy_12 (zz_ret Q X 0 0) 108 [some (vr 100), some (vi x1), some (vi x2), some (vi x3), none, some (vi x5), some (vi x6), some (vl x7), none, some (vi x9), none, none] [vi 0] ((2, f), S, L, P) (0, 0)) ∧ (¬ 2 ≤ x9 → zz_J zpX1_setBy_12 (zz_ret Q X 0 0) 108 [some (vr 100), some (vi x1), some (vi x2), some (vi x3), none, some (vi x5), some (vi x6), some (vl x7), none, some (vi x9), none, none] [vi 1] ((2, f), S, L, P) (0, 0)))))) : zz_J zpX1_setBy_12 (zz_ret Q X 0 0) 91 [some (vr 100), some (vi x1), some (vi x2), some (vi x3), none, some (vi x5), some (vi x6), some (vl x7), none, some (vi x9), none, none] [] ((2, f), S, L, P) (0, 0) := zz_J.go [(91, [4, 8, 10, 11]), (108, [4, 8, 10, 11]), (149, [4, 8, 10, 11]), (181, [1, 2, 3, 4, 8, 9, 10, 11])] 400 h
theorem zwX1_setBy_12_108 {Q : Option zv → zz_M → Prop} {X : Nat → zz_M → Prop} {f : Nat → Nat × Nat} {S L : Nat → Nat → Int} {P : Nat → Nat → Option Nat} {x1 : Int} {x2 : Int} {x3 : Int} {x5 : Int} {x6 : Int} {x7 : Int} {x9 : Int} {t0 : Int} (h : R32 t0 ∧ ((t0 = 0 → R32 t0 ∧ ((t0 = 0 → (0 ≤ x9 ∧ x9 < 2147483648) ∧ ((0 ≤ x9 ∧ x9 < 2147483648) ∧ (((x1 = 0 ∨ x1 = 1) ∧ ((x9 % 2) = 0 ∨ (x9 % 2) = 1) ∧ ((1 + (x9 % 2)) = 1 + (x9 % 2) ∨ (1 + (x9 % 2)) = 0) ∧ (0 ≤ (x2 + 0) ∧ (x2 + 0) ≤ S 200 1) ∧ (0 ≤ (x3 + 1) ∧ (x3 + 1) ≤ S 200 1) ∧ (1 ≤ S 200 1 ∧ S 200 1 ≤ 6) ∧ S 200 1 - (x2 + 0) + (S 200 1 - (x3 + 1)) ≤ 11 ∧ ∃ wy_1 : Nat → Int, wyG wy_1 ∧ (∀ s_1 k_1, s_1 < 2 → k_1 < 4 → S (129 + s_1) k_1 = wy_1 (4 * s_1 + k_1)) ∧ fG (S (128 + (1 + (x9 % 2)).toNat)) ∧ meI S wy_1 (S 200 1) x1 ∧ (∀ S_1 : Nat → Nat → Int, (∀ j_1, j_1 ≠ 131 → S_1 j_1 = S j_1) → meI S_1 wy_1 (S 200 1) x1 → (zz_J zpX1_setBy_12 (zz_ret Q X 0 0) 149 [some (vr 100), some (vi x1), some (vi x2), some (vi x3), none, some (vi x5), some (vi x6), some (vl x7), none, some (vi x9), none, none] [vi (sbV wy_1 (S 200 1) x1 (S (128 + (1 + (x9 % 2)).toNat)) (x2 + 0) (x3 + 1))] ((2, f), S_1, L, P) (0, 0))))))) ∧ (¬ t0 = 0 → (0 ≤ x9 ∧ x9 < 2147483648) ∧ ((0 ≤ x9 ∧ x9 < 2147483648) ∧ (((x1 = 0 ∨ x1 = 1) ∧ ((x9 % 2) = 0 ∨ (x9 % 2) = 1) ∧ ((1 + (x9 % 2)) = 1 + (x9 % 2) ∨ (1 + (x9 % 2)) = 0) ∧ (0 ≤ (x2 + 0) ∧ (x2 + 0) ≤ S 200 1) ∧ (0 ≤ (x3 + 0) ∧ (x3 + 0) ≤ S 200 1) ∧ (1 ≤ S 200 1 ∧ S 200 1 ≤ 6) ∧ S 200 1 - (x2 + 0) + (S 200 1 - (x3 + 0)) ≤ 11 ∧ ∃ wy_2 : Nat → Int, wyG wy_2 ∧ (∀ s_2 k_2, s_2 < 2 → k_2 < 4 → S (129 + s_2) k_2 = wy_2 (4 * s_2 + k_2)) ∧ fG (S (128 + (1 + (x9 % 2)).toNat)) ∧ meI S wy_2 (S 200 1) x1 ∧ (∀ S_2 : Nat → Nat → Int, (∀ j_2, j_2 ≠ 131 → S_2 j_2 = S j_2) → meI S_2 wy_2 (S 200 1) x1 → (zz_J zpX1_setBy_12 (zz_ret Q X 0 0) 149 [some (vr 100), some (vi x1), some (vi x2), some (vi x3), none, some (vi x5), some (vi x6), some (vl x7), none, some (vi x9), none, none] [vi (sbV wy_2 (S 200 1) x1 (S (128 + (1 + (x9 % 2)).toNat)) (x2 + 0) (x3 + 0))] ((2, f), S_2, L, P) (0, 0))))))))) ∧ (¬ t0 = 0 → R32 t0 ∧ ((t0 = 0 → (0 ≤ x9 ∧ x9 < 2147483648) ∧ ((0 ≤ x9 ∧ x9 < 2147483648) ∧ (((x1 = 0 ∨ x1 = 1) ∧ ((x9 % 2) = 0 ∨ (x9 % 2) = 1) ∧ ((1 + (x9 % 2)) = 1 + (x9 % 2) ∨ (1 + (x9 % 2)) = 0) ∧ (0 ≤ (x2 + 1) ∧ (x2 + 1) ≤ S 200 1) ∧ (0 ≤ (x3 + 1) ∧ (x3 + 1) ≤ S 200 1) ∧ (1 ≤ S 200 1 ∧ S 200 1 ≤ 6) ∧ S 200 1 - (x2 + 1) + (S 200 1 - (x3 + 1)) ≤ 11 ∧ ∃ wy_3 : Nat → Int, wyG wy_3 ∧ (∀ s_3 k_3, s_3 < 2 → k_3 < 4 → S (129 + s_3) k_3 = wy_3 (4 * s_3 + k_3)) ∧ fG (S (128 + (1 + (x9 % 2)).toNat)) ∧ meI S wy_3 (S 200 1) x1 ∧ (∀ S_3 : Nat → Nat → Int, (∀ j_3, j_3 ≠ 131 → S_3 j_3 = S j_3) → meI S_3 wy_3 (S 200 1) x1 → (zz_J zpX1_setBy_12 (zz_ret Q X 0 0) 149 [some (vr 100), some (vi x1), some (vi x2), some (vi x3), none, some (vi x5), some (vi x6), some (vl x7), none, some (vi x9), none, none] [vi (sbV wy_3 (S 200 1) x1 (S (128 + (1 + (x9 % 2)).toNat)) (x2 + 1) (x3 + 1))] ((2, f), S_3, L, P) (0, 0))))))) ∧ (¬ t0 = 0 → (0 ≤ x9 ∧ x9 < 2147483648) ∧ ((0 ≤ x9 ∧ x9 < 2147483648) ∧ (((x1 = 0 ∨ x1 = 1) ∧ ((x9 % 2) = 0 ∨ (x9 % 2) = 1) ∧ ((1 + (x9 % 2)) = 1 + (x9 % 2) ∨ (1 + (x9 % 2)) = 0) ∧ (0 ≤ (x2 + 1) ∧ (x2 + 1) ≤ S 200 1) ∧ (0 ≤ (x3 + 0) ∧ (x3 + 0) ≤ S 200 1) ∧ (1 ≤ S 200 1 ∧ S 200 1 ≤ 6) ∧ S 200 1 - (x2 + 1) + (S 200 1 - (x3 + 0)) ≤ 11 ∧ ∃ wy_4 : Nat → Int, wyG wy_4 ∧ (∀ s_4 k_4, s_4 < 2 → k_4 < 4 → S (129 + s_4) k_4 = wy_4 (4 * s_4 + k_4)) ∧ fG (S (128 + (1 + (x9 % 2)).toNat)) ∧ meI S wy_4 (S 200 1) x1 ∧ (∀ S_4 : Nat → Nat → Int, (∀ j_4, j_4 ≠ 131 → S_4 j_4 = S j_4) → meI S_4 wy_4 (S 200 1) x1 → (zz_J zpX1_setBy_12 (zz_ret Q X 0 0) 149 [some (vr 100), some (vi x1), some (vi x2), some (vi x3), none, some (vi x5), some (vi x6), some (vl x7), none, some (vi x9), none, none] [vi (sbV wy_4 (S 200 1) x1 (S (128 + (1 + (x9 % 2)).toNat)) (x2 + 1) (x3 + 0))] ((2, f), S_4, L, P) (0, 0))))))))))) : zz_J zpX1_setBy_12 (zz_ret Q X 0 0) 108 [some (vr 100), some (vi x1), some (vi x2), some (vi x3), none, some (vi x5), some (vi x6), some (vl x7), none, some (vi x9), none, none] [vi t0] ((2, f), S, L, P) (0, 0) := zz_J.go [(91, [4, 8, 10, 11]), (108, [4, 8, 10, 11]), (149, [4, 8, 10, 11]), (181, [1, 2, 3, 4, 8, 9, 10, 11])] 400 h
theorem zwX1_setBy_12_149 {Q : Option zv → zz_M → Prop} {X : Nat → zz_M → Prop} {f : Nat → Nat × Nat} {S L : Nat → Nat → Int} {P : Nat → Nat → Option Nat} {x1 : Int} {x2 : Int} {x3 : Int} {x5 : Int} {x6 : Int} {x7 : Int} {x9 : Int} {t0 : Int} (h : ∃ t_ n_ : Nat, zsh ((2, f), S, L, P) 127 = (t_, n_) ∧ (t_ = 6 ∨ t_ = 7 ∨ t_ = 8) ∧ (n_ : Int) ≤ 2147483647 ∧ (0 ≤ x5 ∧ x5 < (n_ : Int)) ∧ (∀ b1 : Nat, zpt ((2, f), S, L, P) 127 x5.toNat = some b1 → ∃ n_ : Nat, zsh ((2, f), S, L, P) b1 = (2, n_) ∧ (n_ : Int) ≤ 2147483647 ∧ (0 ≤ x9 ∧ x9 < (n_ : Int)) ∧ (R32 (S b1 x9.toNat) ∧ (R32 t0 ∧ ((0 ≤ ((S b1 x9.toNat) * t0) ∧ ((S b1 x9.toNat) * t0) < 9223372036854775808) ∧ (zz_J zpX1_setBy_12 (zz_ret Q X 0 0) 91 [some (vr 100), some (vi x1), some (vi x2), some (vi x3), none, some (vi x5), some (vi x6), some (vl (x7 + (((S b1 x9.toNat) * t0) / 1000000000))), none, some (vi (x9 + 1)), none, none] [] ((2, f), S, L, P) (0, 0)))))) ∧ (zpt ((2, f), S, L, P) 127 x5.toNat = none → False)) : zz_J zpX1_setBy_12 (zz_ret Q X 0 0) 149 [some (vr 100), some (vi x1), some (vi x2), some (vi x3), none, some (vi x5), some (vi x6), some (vl x7), none, some (vi x9), none, none] [vi t0] ((2, f), S, L, P) (0, 0) := zz_J.go [(91, [4, 8, 10, 11]), (108, [4, 8, 10, 11]), (149, [4, 8, 10, 11]), (181, [1, 2, 3, 4, 8, 9, 10, 11])] 400 h
theorem zwX1_setBy_12_181 {Q : Option zv → zz_M → Prop} {X : Nat → zz_M → Prop} {f : Nat → Nat × Nat} {S L : Nat → Nat → Int} {P : Nat → Nat → Option Nat} {x5 : Int} {x6 : Int} {x7 : Int} (h : R32 x5 ∧ ((x5 ≤ 0 → R64 x7 ∧ (Q (some (vi x7)) ((2, f), S, L, P))) ∧ (¬ x5 ≤ 0 → R64 x7 ∧ ((0 ≤ x6 ∧ x6 < 98) ∧ (R64 x7 ∧ (Q (some (vi x7)) ((2, f), mm_up S 131 x6.toNat x7, L, P))))))) : zz_J zpX1_setBy_12 (zz_ret Q X 0 0) 181 [some (vr 100), none, none, none, none, some (vi x5), some (vi x6), some (vl x7), none, none, none, none] [] ((2, f), S, L, P) (0, 0) := zz_J.go [(91, [4, 8, 10, 11]), (108, [4, 8, 10, 11]), (149, [4, 8, 10, 11]), (181, [1, 2, 3, 4, 8, 9, 10, 11])] 400 h

theorem zmX1_setBy_12 (l : Launch) (hl : l.stackTraces = false) : mm_Spec l yX1_setBy (ws_ yX1_setBy cX1_setBy 12 (some .int)) (mm_rm 17 0 0) (zE zX1_setBy_12) := by
  refine zz_Met.J hl (by decide) (fun C G hnh => ztX1_setBy_12 G hnh) ?_
  rintro as ⟨⟨t_, f⟩, S, L, P⟩ Q X h
  unfold zX1_setBy_12 at h
  split at h
  rotate_left
  · exact h.elim
  rename_i h_ p a b s fr
  obtain ⟨e1_, e2_, h⟩ := mm_and2 h (fun q => q)
  cases mm_beq e1_
  cases mm_beq e2_
  try dsimp only at h
  refine ⟨rfl, ?_⟩
  obtain ⟨hp, hs, hfr, ha, hb, hG, hr, wy, hw, hrow, hF, hme, hq⟩ := h
  by_cases o : S 200 1 ≤ a ∨ S 200 1 ≤ b
  · have hq := hq S (fun _ _ => rfl) hme
    unfold sbV at hq
    rw [if_pos o] at hq
    have k1 : ¬ p = 0 → R32 b ∧ (R32 (S 200 1) ∧ ((b < (S 200 1) → Q (some (vi 0)) ((2, f), S, L, P)) ∧ (¬ b < (S 200 1) → Q (some (vi 1000000000)) ((2, f), S, L, P)))) := fun d => ⟨by omega, by omega, fun e => by rw [if_neg (by rw [if_neg d]; omega)] at hq; exact hq, fun e => by rw [if_pos (by rw [if_neg d]; omega)] at hq; exact hq⟩
    have k0 : p = 0 → R32 a ∧ (R32 (S 200 1) ∧ ((a < (S 200 1) → Q (some (vi 0)) ((2, f), S, L, P)) ∧ (¬ a < (S 200 1) → Q (some (vi 1000000000)) ((2, f), S, L, P)))) := fun d => ⟨by omega, by omega, fun e => by rw [if_neg (by rw [if_pos d]; omega)] at hq; exact hq, fun e => by rw [if_pos (by rw [if_pos d]; omega)] at hq; exact hq⟩
    exact zwX1_setBy_12_0 ⟨by omega, by omega, fun c => ⟨by omega, k1, k0⟩, fun c => ⟨by omega, by omega, fun e => absurd o (by omega), fun e => ⟨by omega, k1, k0⟩⟩⟩
  obtain ⟨a', rfl⟩ : ∃ a' : Nat, a = (a' : Int) := ⟨a.toNat, by omega⟩
  obtain ⟨b', rfl⟩ : ∃ b' : Nat, b = (b' : Int) := ⟨b.toNat, by omega⟩
  obtain ⟨s', hs', es⟩ : ∃ s' : Nat, s' < 2 ∧ s = (s' : Int) := ⟨s.toNat, by omega, by omega⟩
  obtain ⟨r', hr', er⟩ : ∃ r' : Nat, r' < 3 ∧ fr = (r' : Int) := ⟨fr.toNat, by omega, by omega⟩
  subst es er
  have hcv := fun k => bcV_in (G := S 200 1) (p := p) (a := (a' : Int)) (b := (b' : Int)) hw k
  rw [Int.toNat_natCast] at hF hq
  have sin := sbS_in hF hcv
  have hq : ∀ S_ : Nat → Nat → Int, (∀ j, j ≠ 131 → S_ j = S j) → meI S_ wy (S 200 1) p → Q (some (vi (sbS (S (128 + r')) (bcV wy (S 200 1) p a' b') 4))) ((2, f), S_, L, P) := fun S_ e1 e2 => by
    have hq := hq S_ e1 e2
    unfold sbV at hq
    rw [if_neg o] at hq
    exact hq
  have est : (1 : Int) + s' = r' → sbS (S (128 + r')) (bcV wy (S 200 1) p a' b') 4 = stO wy (S 200 1) p 12 a' b' s' := fun e => by
    have e2 : r' = 1 + s' := by omega
    have := sbV_st (wy := wy) (G := S 200 1) (p := p) (a := (a' : Int)) (b := (b' : Int)) (s := s') (F := S (128 + r')) (fun k hk => by rw [e2, show 128 + (1 + s') = 129 + s' by omega]; exact hrow s' k hs' hk) (by omega) (by omega) (by omega)
    unfold sbV at this
    rw [if_neg o] at this
    exact this
  have wy4 : ∀ s : Nat, s < 2 → fG (S (129 + s)) := fun s hs => by
    refine ⟨fun k hk => by rw [hrow s k hs hk]; exact hw.1 _ (by omega), ?_⟩
    rw [hrow s 0 hs (by decide), hrow s 1 hs (by decide), hrow s 2 hs (by decide), hrow s 3 hs (by decide)]
    have : s = 0 ∨ s = 1 := by omega
    rcases this with e | e <;> subst e
    · exact hw.2.1
    · exact hw.2.2
  have t91 : ∀ (m k : Nat) (T : Nat → Nat → Int), k + m = 4 → (∀ j, j ≠ 131 → T j = S j) → meI T wy (S 200 1) p → zz_J zpX1_setBy_12 (zz_ret Q X 0 0) 91 [some (vr 100), some (vi p), some (vi (a' : Int)), some (vi (b' : Int)), none, some (vi (r' : Int)), some (vi ((((7 * (a' : Int)) + b') * 2) + s')), some (vl (sbS (S (128 + r')) (bcV wy (S 200 1) p a' b') k)), none, some (vi (k : Int)), none, none] [] ((2, f), T, L, P) (0, 0) := by
    intro m
    induction m with
    | zero =>
      intro k T hk eT mT
      have k4 : k = 4 := by omega
      subst k4
      have s4 := sin 4 (by decide)
      have R4 : R64 (sbS (S (128 + r')) (bcV wy (S 200 1) p a' b') 4) := by omega
      refine zwX1_setBy_12_91 ⟨by omega, fun _ => zwX1_setBy_12_181 ⟨by omega, fun c => ⟨R4, hq T eT mT⟩, fun c => ⟨R4, by omega, R4, ?_⟩⟩, fun d => absurd (by omega) d⟩
      have ei : ((((7 * (a' : Int)) + b') * 2) + s').toNat = (7 * a' + b') * 2 + s' := by omega
      have e1 := est (by omega)
      refine hq _ (fun j hj => ?_) ?_
      · funext x
        rw [up_eq, if_neg (by omega), eT j hj]
      · rw [ei, e1]
        exact mT.up (by omega) (by omega) hs'
    | succ m ih =>
      intro k T hk eT mT
      have k4 : k < 4 := by omega
      have eG : T 200 1 = S 200 1 := by rw [eT 200 (by decide)]
      have t149 : ∀ (U : Nat → Nat → Int), (∀ j, j ≠ 131 → U j = S j) → meI U wy (S 200 1) p → zz_J zpX1_setBy_12 (zz_ret Q X 0 0) 149 [some (vr 100), some (vi p), some (vi (a' : Int)), some (vi (b' : Int)), none, some (vi (r' : Int)), some (vi ((((7 * (a' : Int)) + b') * 2) + s')), some (vl (sbS (S (128 + r')) (bcV wy (S 200 1) p a' b') k)), none, some (vi (k : Int)), none, none] [vi (bcV wy (S 200 1) p a' b' k)] ((2, f), U, L, P) (0, 0) := by
        intro U eU mU
        obtain ⟨w1, w2⟩ := ways_at (f := f) (S := U) (L := L) (P := P) hr'
        have fk := hF.1 k k4
        have ck := hcv k
        have m9 := mul_sure fk.1 ck.1 ck.2
        refine zwX1_setBy_12_149 ⟨6, 3, rfl, Or.inl rfl, by decide, by omega, fun b1 hb1 => ?_, fun hb1 => ?_⟩
        · rw [Int.toNat_natCast, w1] at hb1
          cases hb1
          refine ⟨4, w2, by decide, by omega, ?_⟩
          rw [Int.toNat_natCast, eU (128 + r') (by omega)]
          exact ⟨by omega, by omega, by omega, ih (k + 1) U (by omega) eU mU⟩
        · rw [Int.toNat_natCast, w1] at hb1
          cases hb1
      have rowT : ∀ s_ k_, s_ < 2 → k_ < 4 → T (129 + s_) k_ = wy (4 * s_ + k_) := fun s_ k_ g1 g2 => by rw [eT (129 + s_) (by omega)]; exact hrow s_ k_ g1 g2
      have mk : ((k : Int) % 2 = 0 ∨ (k : Int) % 2 = 1) := by omega
      have ek2 : ((k : Int) % 2).toNat = k % 2 := by omega
      have ek3 : 128 + (1 + (k : Int) % 2).toNat = 129 + k % 2 := by omega
      have nxt : ∀ x y : Int, (x ≤ S 200 1 ∧ y ≤ S 200 1 ∧ S 200 1 - x + (S 200 1 - y) ≤ 12) → stO wy (S 200 1) p 12 x y (k % 2) = bcV wy (S 200 1) p a' b' k → ∀ S_ : Nat → Nat → Int, (∀ j, j ≠ 131 → S_ j = T j) → meI S_ wy (T 200 1) p → zz_J zpX1_setBy_12 (zz_ret Q X 0 0) 149 [some (vr 100), some (vi p), some (vi (a' : Int)), some (vi (b' : Int)), none, some (vi (r' : Int)), some (vi ((((7 * (a' : Int)) + b') * 2) + s')), some (vl (sbS (S (128 + r')) (bcV wy (S 200 1) p a' b') k)), none, some (vi (k : Int)), none, none] [vi (sbV wy (T 200 1) p (T (128 + (1 + (k : Int) % 2).toNat)) x y)] ((2, f), S_, L, P) (0, 0) := by
        intro x y hxy e S_ e1 e2
        rw [eG] at e2 ⊢
        rw [ek3, sbV_st (s := k % 2) (fun j hj => rowT (k % 2) j (by omega) hj) hxy.1 hxy.2.1 hxy.2.2, e]
        exact t149 S_ (fun j hj => by rw [e1 j hj, eT j hj]) e2
      have fGk : fG (T (128 + (1 + (k : Int) % 2).toNat)) := by
        rw [ek3, eT (129 + k % 2) (by omega)]
        exact wy4 (k % 2) (by omega)
      refine zwX1_setBy_12_91 ⟨by omega, fun d => absurd d (by omega), fun _ => ⟨by omega, fun c => zwX1_setBy_12_108 ⟨by decide, fun _ => ⟨by decide, fun _ => ⟨by omega, by omega, hp, mk, Or.inl rfl, by omega, by omega, by omega, by omega, wy, hw, rowT, fGk, by rw [eG]; exact mT, ?_⟩, fun d => absurd rfl d⟩, fun d => absurd rfl d⟩, fun c => zwX1_setBy_12_108 ⟨by decide, fun d => absurd d (by decide), fun _ => ⟨by decide, fun d => absurd d (by decide), fun _ => ⟨by omega, by omega, hp, mk, Or.inl rfl, by omega, by omega, by omega, by omega, wy, hw, rowT, fGk, by rw [eG]; exact mT, ?_⟩⟩⟩⟩⟩
      · refine nxt _ _ (by omega) ?_
        unfold bcV
        rw [if_neg (by omega), if_neg (by omega), Int.add_zero]
      · refine nxt _ _ (by omega) ?_
        unfold bcV
        rw [if_pos (by omega), if_pos (by omega), Int.add_zero]
  have t0 := t91 4 0 S rfl (fun _ _ => rfl) hme
  refine zwX1_setBy_12_0 ⟨by omega, by omega, fun c => absurd (Or.inl c) o, fun c => ⟨by omega, by omega, fun c2 => ⟨by omega, fun d => t0, fun d => ⟨by omega, ?_⟩⟩, fun c2 => absurd (by omega) o⟩⟩
  have ei : ((((7 * (a' : Int)) + b') * 2) + s').toNat = (7 * a' + b') * 2 + s' := by omega
  have me := hme a' b' s' (by omega) (by omega) hs'
  have hin := stO_in (G := S 200 1) (p := p) hw 12 (a' : Int) (b' : Int) s' hs'
  rw [ei]
  refine ⟨by rcases me with e | e <;> rw [e] <;> omega, fun _ => t0, fun d2 => ⟨by omega, ?_⟩⟩
  have e2 := me.resolve_left (by omega)
  rw [e2, ← est (by omega)]
  exact hq S (fun _ _ => rfl) hme
theorem cZ.u {S T T' : Nat → Nat → Int} {P PT : Nat → Nat → Option Nat} {w : Nat → Int} (z : cZ S P w T PT) (e : ∀ h k, ¬ (107 ≤ h ∧ h ≤ 140) → T' h k = T h k) : cZ S P w T' PT := by
  obtain ⟨⟨z1, z2⟩, z3, z4⟩ := z
  refine ⟨⟨sck_o fun h k a b => by rw [e h k (by omega)]; exact sck_t z1 a b, z2⟩, ?_, z4⟩
  rw [e 100 8 (by omega)]
  exact z3.imp id fun c => ⟨c.1, c.2.w rfl rfl fun h hh k => e h k (by omega)⟩
def zX1_set : zz_Sp := fun as M Q X => match as with
  | [.inr (.inr (some h_)), .inl p, .inl n] => bif Nat.beq h_ 100 && Nat.beq M.1.1 2 then (R32 p ∧ R32 n ∧ ∃ (w_ : Nat → Int) (rs_ : List (Fc → Option Int)) (top_ : Nat), cO M.1.2 M.2.1 M.2.2.2 w_ rs_ top_ ∧ (rfR w_ (nwW w_) p n = 1 → X 3 ((2, M.1.2), M.2.1, M.2.2.1, M.2.2.2)) ∧ (rfR w_ (nwW w_) p n = 2 → X 1 ((2, M.1.2), M.2.1, M.2.2.1, M.2.2.2)) ∧ (rfR w_ (nwW w_) p n = 3 → X 5 ((2, M.1.2), M.2.1, M.2.2.1, M.2.2.2)) ∧ (rfR w_ (nwW w_) p n = 0 → ∀ (S_ : Nat → Nat → Int) (P_ : Nat → Nat → Option Nat), cZ M.2.1 M.2.2.2 w_ S_ P_ → Q (some (vi (seR (fun k => tbK w_ (stT w_) k n.toNat (nuR (nwW w_)).toNat) (wyF w_ (stT w_) n.toNat) (w_ 194) p (w_ 208) (w_ 209)))) ((2, M.1.2), S_, M.2.2.1, P_))) else False
  | _ => False

def zpX1_set : zz_P := [(0, zo_ild 1 1), (1, zo_csL (mm_rm 24 3 18) 4 1 1 6 zX1_player), (4, zo_ild 5 2), (5, zo_csL (mm_rm 24 3 18) 8 1 1 6 zX1_some), (8, zo_ald 9 0), (9, zo_cvL (mm_rm 24 3 18) 12 1 0 1 6 zX1_goesYet), (12, zo_ald 13 0), (13, zo_ild 14 2), (14, zo_callv 17 2 0 zX1_allWays), (17, zo_ald 18 0), (18, zo_get 21 0 2 15), (21, zo_c 22 (vi (-1))), (22, zo_calls 25 2 zJ3_fill), (25, zo_ald 26 0), (26, zo_ild 27 1), (27, zo_ald 28 0), (28, zo_get 31 0 2 0), (31, zo_get 34 1 2 9), (34, zo_get 37 2 2 1), (37, zo_c 38 (vi 0)), (38, zo_ialc 39 0), (39, zo_ald 40 0), (40, zo_get 43 0 2 0), (43, zo_get 46 1 2 9), (46, zo_get 49 2 2 1), (49, zo_c 50 (vi 1)), (50, zo_ialc 51 1), (51, zo_ald 52 0), (52, zo_get 55 0 2 0), (55, zo_get 58 1 2 9), (58, zo_get 61 2 0 3), (61, zo_c 62 (vi 0)), (62, zo_callv 65 6 0 zX1_setBy_12), (65, zo_iret)]
theorem ztX1_set {C : mm_C} (G : mm_G C RX1 cX1_set (some .int) 3 (mm_rm 24 3 18)) (hnh : mm_nh C) : zz_OKs C zpX1_set :=
  ⟨zz_of (ok_iload_n G dX1_set_0 rfl rfl) (z_ild _ _),
   zz_of (ok_calsF G (hnh.q 1) (zmX1_player _ G.hst) q1367 q1368 q82 q1369 (by decide +kernel) ⟨Nat.le_of_ble_eq_true rfl, Nat.le_of_ble_eq_true rfl⟩ dX1_set_1 rfl) (z_csL _ _ _ _ _ _),
   zz_of (ok_iload_n G dX1_set_4 rfl rfl) (z_ild _ _),
   zz_of (ok_calsF G (hnh.q 5) (zmX1_some _ G.hst) q1575 q1576 q82 q1577 (by decide +kernel) ⟨Nat.le_of_ble_eq_true rfl, Nat.le_of_ble_eq_true rfl⟩ dX1_set_5 rfl) (z_csL _ _ _ _ _ _),
   zz_of (ok_aload_n G dX1_set_8 rfl rfl) (z_ald _ _),
   zz_of (ok_calvF G (hnh.q 9) (zmX1_goesYet _ G.hst) (RX1, TX1, 19) rfl q1518 q1520 qs19 q82 q1521 (by decide +kernel) ⟨Nat.le_of_ble_eq_true rfl, Nat.le_of_ble_eq_true rfl⟩ dX1_set_9 rfl) (z_cvL _ _ _ _ _ _ _),
   zz_of (ok_aload_n G dX1_set_12 rfl rfl) (z_ald _ _),
   zz_of (ok_iload_n G dX1_set_13 rfl rfl) (z_ild _ _),
   zz_of (ok_callv G hnh (zmX1_allWays _ G.hst) rfl rfl (RX1, TX1, 19) rfl q1696 q1698 qs31 q82 q1699 (by decide +kernel) ⟨by decide, by decide⟩ dX1_set_14 rfl) (z_callv _ _ _ _),
   zz_of (ok_aload_n G dX1_set_17 rfl rfl) (z_ald _ _),
   zz_of (ok_get G (nx := 21) (ci := 0) (kd := 2) (k := 15) (RX1, TX1, 19) rfl (by decide) rfl q426 dX1_set_18 rfl) (z_get _ _ _ _),
   zz_of (ok_iconst G (v := (zI (-1))) dX1_set_21 (by decide) rfl) (z_cz 22 (-1)),
   zz_of (ok_calls G hnh (zmJ3_fill _ G.hst) rfl rfl q1705 q1615 q95 q1616 (by decide +kernel) ⟨by decide, by decide⟩ dX1_set_22 rfl) (z_calls _ _ _),
   zz_of (ok_aload_n G dX1_set_25 rfl rfl) (z_ald _ _),
   zz_of (ok_iload_n G dX1_set_26 rfl rfl) (z_ild _ _),
   zz_of (ok_aload_n G dX1_set_27 rfl rfl) (z_ald _ _),
   zz_of (ok_get G (nx := 31) (ci := 0) (kd := 2) (k := 0) (RX1, TX1, 19) rfl (by decide) rfl q399 dX1_set_28 rfl) (z_get _ _ _ _),
   zz_of (ok_getN G (nx := 34) (ci := 1) (kd := 2) (k := 9) (RX2, TX2, 11) rfl (by decide) rfl q240 dX1_set_31 rfl) (z_get _ _ _ _),
   zz_of (ok_getN G (nx := 37) (ci := 2) (kd := 2) (k := 1) (RX3, TX3, 7) rfl (by decide) rfl q183 dX1_set_34 rfl) (z_get _ _ _ _),
   zz_of (ok_iconst G (v := 0) dX1_set_37 (by decide) rfl) (z_cn 38 0),
   zz_of (ok_iald G dX1_set_38 rfl) (z_ialc _ _),
   zz_of (ok_aload_n G dX1_set_39 rfl rfl) (z_ald _ _),
   zz_of (ok_get G (nx := 43) (ci := 0) (kd := 2) (k := 0) (RX1, TX1, 19) rfl (by decide) rfl q399 dX1_set_40 rfl) (z_get _ _ _ _),
   zz_of (ok_getN G (nx := 46) (ci := 1) (kd := 2) (k := 9) (RX2, TX2, 11) rfl (by decide) rfl q240 dX1_set_43 rfl) (z_get _ _ _ _),
   zz_of (ok_getN G (nx := 49) (ci := 2) (kd := 2) (k := 1) (RX3, TX3, 7) rfl (by decide) rfl q183 dX1_set_46 rfl) (z_get _ _ _ _),
   zz_of (ok_iconst G (v := 1) dX1_set_49 (by decide) rfl) (z_cn 50 1),
   zz_of (ok_iald G dX1_set_50 rfl) (z_ialc _ _),
   zz_of (ok_aload_n G dX1_set_51 rfl rfl) (z_ald _ _),
   zz_of (ok_get G (nx := 55) (ci := 0) (kd := 2) (k := 0) (RX1, TX1, 19) rfl (by decide) rfl q399 dX1_set_52 rfl) (z_get _ _ _ _),
   zz_of (ok_getN G (nx := 58) (ci := 1) (kd := 2) (k := 9) (RX2, TX2, 11) rfl (by decide) rfl q240 dX1_set_55 rfl) (z_get _ _ _ _),
   zz_of (ok_getN G (nx := 61) (ci := 2) (kd := 0) (k := 3) (RX3, TX3, 7) rfl (by decide) rfl q189 dX1_set_58 rfl) (z_get _ _ _ _),
   zz_of (ok_iconst G (v := 0) dX1_set_61 (by decide) rfl) (z_cn 62 0),
   zz_of (ok_callv G hnh (zmX1_setBy_12 _ G.hst) rfl rfl (RX1, TX1, 19) rfl q1706 q1708 qs33 q82 q1709 (by decide +kernel) ⟨by decide, by decide⟩ dX1_set_62 rfl) (z_callv _ _ _ _),
   zz_of (ok_iret G dX1_set_65) (z_iret), trivial⟩

theorem zwX1_set_0 {Q : Option zv → zz_M → Prop} {X : Nat → zz_M → Prop} {f : Nat → Nat × Nat} {S L : Nat → Nat → Int} {P : Nat → Nat → Option Nat} {p : Int} {n : Int} (h : (R32 p ∧ ((0 ≤ p ∧ p < 2) → ((R32 n ∧ ((0 ≤ n ∧ n ≤ 30) → ((scb (cx S 204) ∧ R32 (S 200 1) ∧ (ovR (S 200 1) (cx S 204) = false → (((0 ≤ n ∧ n ≤ 30) ∧ ∃ (w_4 : Nat → Int) (rs_4 : List (Fc → Option Int)) (top_4 : Nat), cO f S P w_4 rs_4 top_4 ∧ (∀ (S_4 : Nat → Nat → Int) (P_4 : Nat → Nat → Option Nat), cZ S P w_4 S_4 P_4 → (∀ k, k < 4 → S_4 128 k = tbK w_4 (stT w_4) k n.toNat (nuR (nwW w_4)).toNat) → (∀ s k, s < 2 → k < 4 → S_4 (129 + s) k = wyF w_4 (stT w_4) n.toNat (4 * s + k)) → ((∃ n_5 : Nat, zsh ((2, f), S_4, L, P_4) 131 = (2, n_5) ∧ n_5 ≤ 2147483647 ∧ (∀ S_5 : Nat → Nat → Int, (∀ h k, (h ≠ 131 ∨ n_5 ≤ k) → S_5 h k = S_4 h k) → (∀ k, k < n_5 → S_5 131 k = (-1)) → (((p = 0 ∨ p = 1) ∧ ((S_5 204 3) = 0 ∨ (S_5 204 3) = 1) ∧ ((0 : Int) = 1 + (S_5 204 3) ∨ (0 : Int) = 0) ∧ (0 ≤ (S_5 206 0) ∧ (S_5 206 0) ≤ S_5 200 1) ∧ (0 ≤ (S_5 206 1) ∧ (S_5 206 1) ≤ S_5 200 1) ∧ (1 ≤ S_5 200 1 ∧ S_5 200 1 ≤ 6) ∧ S_5 200 1 - (S_5 206 0) + (S_5 200 1 - (S_5 206 1)) ≤ 12 ∧ ∃ wy_6 : Nat → Int, wyG wy_6 ∧ (∀ s_6 k_6, s_6 < 2 → k_6 < 4 → S_5 (129 + s_6) k_6 = wy_6 (4 * s_6 + k_6)) ∧ fG (S_5 (128 + (0 : Int).toNat)) ∧ meI S_5 wy_6 (S_5 200 1) p ∧ (∀ S_6 : Nat → Nat → Int, (∀ j_6, j_6 ≠ 131 → S_6 j_6 = S_5 j_6) → meI S_6 wy_6 (S_5 200 1) p → (Q (some (vi (sbV wy_6 (S_5 200 1) p (S_5 (128 + (0 : Int).toNat)) (S_5 206 0) (S_5 206 1)))) ((2, f), S_6, L, P_4)))))))))))) ∧ (ovR (S 200 1) (cx S 204) = true → X 5 ((2, f), S, L, P))))) ∧ (¬ (0 ≤ n ∧ n ≤ 30) → X 1 ((2, f), S, L, P))))) ∧ (¬ (0 ≤ p ∧ p < 2) → X 3 ((2, f), S, L, P)))) : zz_J zpX1_set (zz_ret Q X 3 18) 0 [some (vr 100), some (vi p), some (vi n)] [] ((2, f), S, L, P) (0, 0) := zz_J.go [] 400 h

theorem zmX1_set (l : Launch) (hl : l.stackTraces = false) : mm_Spec l yX1_set (ws_ yX1_set cX1_set 3 (some .int)) (mm_rm 24 3 18) (zE zX1_set) := by
  refine zz_Met.J hl (by decide) (fun C G hnh => ztX1_set G hnh) ?_
  rintro as ⟨⟨t_, f⟩, S, L, P⟩ Q X h
  unfold zX1_set at h
  split at h
  rotate_left
  · exact h.elim
  rename_i h_ p n
  obtain ⟨e1_, e2_, h⟩ := mm_and2 h (fun q => q)
  cases mm_beq e1_
  cases mm_beq e2_
  try dsimp only at h
  refine ⟨rfl, ?_⟩
  obtain ⟨hp, hn, w, rs, top, hc, q1, q2, q3, q0⟩ := h
  obtain ⟨b1, b2, b3, b4, b5⟩ := hc.bx
  obtain ⟨r1, r2, r3, r0⟩ := @rf_go w (nwW w) p n
  refine zwX1_set_0 ⟨hp, fun c => ⟨hn, fun d => ⟨b1, b3, fun o => ⟨d, w, rs, top, hc, fun T PT z x0 x1 => ⟨98, rfl, by decide, fun U u1 u2 => ?_⟩⟩, fun o => q3 (r3.mpr ⟨by omega, d, by rw [← b5]; exact o⟩)⟩, fun d => q2 (r2.mpr ⟨by omega, d⟩)⟩, fun c => q1 (r1.mpr (by omega))⟩
  have q0 := q0 (r0.mpr ⟨by omega, d, by rw [← b5]; exact o⟩)
  have yo := hc.z z
  obtain ⟨h1, ⟨h2, h2b⟩, h3, h456, ⟨h7, h8, h8b⟩, -⟩ := yo
  have eU : ∀ j, j ≠ 131 → U j = T j := fun j hj => funext fun k => u1 j k (Or.inl hj)
  have xs : U 204 3 = nwW w 2 := by rw [eU 204 (by decide)]; exact h7.2.2.1
  have x6 : U 206 0 = w 208 := by rw [eU 206 (by decide)]; exact h7.2.2.2.2.2.2.2.1
  have x7 : U 206 1 = w 209 := by rw [eU 206 (by decide)]; exact h7.2.2.2.2.2.2.2.2
  have xG : U 200 1 = w 194 := by rw [eU 200 (by decide)]; exact h1.1.1
  have s01 := h8.2.1
  have w194 := h2.2.1.1
  have g8 := h2.2.2.1
  have g9 := h2.2.2.2
  rw [b5] at o
  have ov : ¬ (w 194 ≤ w 208 ∨ w 194 ≤ w 209) := by
    unfold ovR at o
    rw [Bool.or_eq_false_iff, decide_eq_false_iff_not, decide_eq_false_iff_not] at o
    exact fun c => c.elim o.1 o.2
  have hnu := nuR_in h8
  have F : ∀ k, k < 4 → U 128 k = tbK w (stT w) k n.toNat (nuR (nwW w)).toNat := fun k hk => by rw [eU 128 (by decide)]; exact x0 k hk
  have e0 : (128 + (0 : Int).toNat) = 128 := rfl
  rw [xs, x6, x7, xG, e0]
  refine ⟨by omega, s01, Or.inr rfl, by omega, by omega, by omega, by omega, wyF w (stT w) n.toNat, wyF_G h2 h2b (stT_G w), fun s k hs hk => by rw [eU (129 + s) (by omega)]; exact x1 s k hs hk, ⟨fun k hk => ?_, ?_⟩, fun a b s ha hb hs => Or.inl (u2 _ (by omega)), fun V v1 v2 => ?_⟩
  · rw [F k hk]
    exact tbR_G h2 h2b (stT_G w) n.toNat _ (by omega)
  · rw [F 0 (by decide), F 1 (by decide), F 2 (by decide), F 3 (by decide)]
    exact tb4 h2 h2b (stT_G w) n.toNat _ (by omega)
  · have ev : sbV (wyF w (stT w) n.toNat) (w 194) p (U 128) (w 208) (w 209) = seR (fun k => tbK w (stT w) k n.toNat (nuR (nwW w)).toNat) (wyF w (stT w) n.toNat) (w 194) p (w 208) (w 209) := by
      unfold sbV seR
      rw [if_neg ov]
      show 0 + U 128 0 * stO _ _ _ 12 (w 208 + 1) (w 209) 0 / 1000000000 + U 128 1 * stO _ _ _ 12 (w 208 + 1) (w 209) 1 / 1000000000 + U 128 2 * stO _ _ _ 12 (w 208) (w 209 + 1) 0 / 1000000000 + U 128 3 * stO _ _ _ 12 (w 208) (w 209 + 1) 1 / 1000000000 = _
      rw [stO_st 11 (w 208 + 1) (w 209) 0 (by omega) (by omega) (by omega), stO_st 11 (w 208 + 1) (w 209) 1 (by omega) (by omega) (by omega), stO_st 11 (w 208) (w 209 + 1) 0 (by omega) (by omega) (by omega), stO_st 11 (w 208) (w 209 + 1) 1 (by omega) (by omega) (by omega), F 0 (by decide), F 1 (by decide), F 2 (by decide), F 3 (by decide), Int.zero_add]
    rw [ev]
    exact q0 V PT (z.u fun h k g => by rw [v1 h (by omega), eU h (by omega)])
def zX1_ways : zz_Sp := fun as M Q X => match as with
  | [.inr (.inr (some h_)), .inl s, .inl w, .inl t, .inl n] => bif Nat.beq h_ 100 && Nat.beq M.1.1 2 then (R32 s ∧ R32 w ∧ R32 t ∧ R32 n ∧ ∃ (w_ : Nat → Int) (rs_ : List (Fc → Option Int)) (top_ : Nat), cO M.1.2 M.2.1 M.2.2.2 w_ rs_ top_ ∧ (wyT s w t n = 1 → X 3 ((2, M.1.2), M.2.1, M.2.2.1, M.2.2.2)) ∧ (wyT s w t n = 2 → X 1 ((2, M.1.2), M.2.1, M.2.2.1, M.2.2.2)) ∧ (wyT s w t n = 0 → ∀ (S_ : Nat → Nat → Int) (P_ : Nat → Nat → Option Nat), cZ M.2.1 M.2.2.2 w_ S_ P_ → Q (some (vi (tbR w_ (stT w_) w t n.toNat (nuR (bgX w_ s)).toNat))) ((2, M.1.2), S_, M.2.2.1, P_))) else False
  | _ => False

def zpX1_ways : zz_P := [(0, zo_ild 1 1), (1, zo_csL (mm_rm 24 4 24) 4 1 1 6 zX1_player), (4, zo_ild 5 2), (5, zo_csL (mm_rm 24 4 24) 8 1 1 6 zX1_player), (8, zo_ild 9 3), (9, zo_csL (mm_rm 24 4 24) 12 1 1 6 zX1_player), (12, zo_ild 14 4), (14, zo_csL (mm_rm 24 4 24) 17 1 1 6 zX1_some), (17, zo_ald 18 0), (18, zo_ild 20 4), (20, zo_callv 23 2 0 zX1_allWays), (23, zo_ald 24 0), (24, zo_get 27 0 2 14), (27, zo_c 28 (vi 1)), (28, zo_ild 29 1), (29, zo_iadd 30), (30, zo_aald 31), (31, zo_c 32 (vi 2)), (32, zo_ild 33 2), (33, zo_imul 34), (34, zo_ild 35 3), (35, zo_iadd 36), (36, zo_ialp 37), (37, zo_iret)]
theorem ztX1_ways {C : mm_C} (G : mm_G C RX1 cX1_ways (some .int) 5 (mm_rm 24 4 24)) (hnh : mm_nh C) : zz_OKs C zpX1_ways :=
  ⟨zz_of (ok_iload_n G dX1_ways_0 rfl rfl) (z_ild _ _),
   zz_of (ok_calsF G (hnh.q 1) (zmX1_player _ G.hst) q1367 q1368 q82 q1369 (by decide +kernel) ⟨Nat.le_of_ble_eq_true rfl, Nat.le_of_ble_eq_true rfl⟩ dX1_ways_1 rfl) (z_csL _ _ _ _ _ _),
   zz_of (ok_iload_n G dX1_ways_4 rfl rfl) (z_ild _ _),
   zz_of (ok_calsF G (hnh.q 5) (zmX1_player _ G.hst) q1367 q1368 q82 q1369 (by decide +kernel) ⟨Nat.le_of_ble_eq_true rfl, Nat.le_of_ble_eq_true rfl⟩ dX1_ways_5 rfl) (z_csL _ _ _ _ _ _),
   zz_of (ok_iload_n G dX1_ways_8 rfl rfl) (z_ild _ _),
   zz_of (ok_calsF G (hnh.q 9) (zmX1_player _ G.hst) q1367 q1368 q82 q1369 (by decide +kernel) ⟨Nat.le_of_ble_eq_true rfl, Nat.le_of_ble_eq_true rfl⟩ dX1_ways_9 rfl) (z_csL _ _ _ _ _ _),
   zz_of (ok_iload G dX1_ways_12 rfl) (z_ild _ _),
   zz_of (ok_calsF G (hnh.q 14) (zmX1_some _ G.hst) q1575 q1576 q82 q1577 (by decide +kernel) ⟨Nat.le_of_ble_eq_true rfl, Nat.le_of_ble_eq_true rfl⟩ dX1_ways_14 rfl) (z_csL _ _ _ _ _ _),
   zz_of (ok_aload_n G dX1_ways_17 rfl rfl) (z_ald _ _),
   zz_of (ok_iload G dX1_ways_18 rfl) (z_ild _ _),
   zz_of (ok_callv G hnh (zmX1_allWays _ G.hst) rfl rfl (RX1, TX1, 19) rfl q1696 q1698 qs31 q82 q1699 (by decide +kernel) ⟨by decide, by decide⟩ dX1_ways_20 rfl) (z_callv _ _ _ _),
   zz_of (ok_aload_n G dX1_ways_23 rfl rfl) (z_ald _ _),
   zz_of (ok_get G (nx := 27) (ci := 0) (kd := 2) (k := 14) (RX1, TX1, 19) rfl (by decide) rfl q425 dX1_ways_24 rfl) (z_get _ _ _ _),
   zz_of (ok_iconst G (v := 1) dX1_ways_27 (by decide) rfl) (z_cn 28 1),
   zz_of (ok_iload_n G dX1_ways_28 rfl rfl) (z_ild _ _),
   zz_of (ok_iadd G dX1_ways_29 rfl) (z_iadd _),
   zz_of (ok_aald G dX1_ways_30 rfl) (z_aald _),
   zz_of (ok_iconst G (v := 2) dX1_ways_31 (by decide) rfl) (z_cn 32 2),
   zz_of (ok_iload_n G dX1_ways_32 rfl rfl) (z_ild _ _),
   zz_of (ok_imul G dX1_ways_33 rfl) (z_imul _),
   zz_of (ok_iload_n G dX1_ways_34 rfl rfl) (z_ild _ _),
   zz_of (ok_iadd G dX1_ways_35 rfl) (z_iadd _),
   zz_of (ok_iald G dX1_ways_36 rfl) (z_ialp _),
   zz_of (ok_iret G dX1_ways_37) (z_iret), trivial⟩

theorem zwX1_ways_0 {Q : Option zv → zz_M → Prop} {X : Nat → zz_M → Prop} {f : Nat → Nat × Nat} {S L : Nat → Nat → Int} {P : Nat → Nat → Option Nat} {s : Int} {w : Int} {t : Int} {n : Int} (h : (R32 s ∧ ((0 ≤ s ∧ s < 2) → ((R32 w ∧ ((0 ≤ w ∧ w < 2) → ((R32 t ∧ ((0 ≤ t ∧ t < 2) → ((R32 n ∧ ((0 ≤ n ∧ n ≤ 30) → (((0 ≤ n ∧ n ≤ 30) ∧ ∃ (w_5 : Nat → Int) (rs_5 : List (Fc → Option Int)) (top_5 : Nat), cO f S P w_5 rs_5 top_5 ∧ (∀ (S_5 : Nat → Nat → Int) (P_5 : Nat → Nat → Option Nat), cZ S P w_5 S_5 P_5 → (∀ k, k < 4 → S_5 128 k = tbK w_5 (stT w_5) k n.toNat (nuR (nwW w_5)).toNat) → (∀ s k, s < 2 → k < 4 → S_5 (129 + s) k = wyF w_5 (stT w_5) n.toNat (4 * s + k)) → (∃ t_ n_ : Nat, zsh ((2, f), S_5, L, P_5) 127 = (t_, n_) ∧ (t_ = 6 ∨ t_ = 7 ∨ t_ = 8) ∧ (n_ : Int) ≤ 2147483647 ∧ (0 ≤ (1 + s) ∧ (1 + s) < (n_ : Int)) ∧ (∀ b6 : Nat, zpt ((2, f), S_5, L, P_5) 127 ((1 + s).toNat) = some b6 → ∃ n_ : Nat, zsh ((2, f), S_5, L, P_5) b6 = (2, n_) ∧ (n_ : Int) ≤ 2147483647 ∧ (0 ≤ ((2 * w) + t) ∧ ((2 * w) + t) < (n_ : Int)) ∧ (Q (some (vi (S_5 b6 (((2 * w) + t).toNat)))) ((2, f), S_5, L, P_5))) ∧ (zpt ((2, f), S_5, L, P_5) 127 ((1 + s).toNat) = none → False)))))) ∧ (¬ (0 ≤ n ∧ n ≤ 30) → X 1 ((2, f), S, L, P))))) ∧ (¬ (0 ≤ t ∧ t < 2) → X 3 ((2, f), S, L, P))))) ∧ (¬ (0 ≤ w ∧ w < 2) → X 3 ((2, f), S, L, P))))) ∧ (¬ (0 ≤ s ∧ s < 2) → X 3 ((2, f), S, L, P)))) : zz_J zpX1_ways (zz_ret Q X 4 24) 0 [some (vr 100), some (vi s), some (vi w), some (vi t), some (vi n)] [] ((2, f), S, L, P) (0, 0) := zz_J.go [] 400 h

theorem zmX1_ways (l : Launch) (hl : l.stackTraces = false) : mm_Spec l yX1_ways (ws_ yX1_ways cX1_ways 5 (some .int)) (mm_rm 24 4 24) (zE zX1_ways) := by
  refine zz_Met.J hl (by decide) (fun C G hnh => ztX1_ways G hnh) ?_
  rintro as ⟨⟨t_, f⟩, S, L, P⟩ Q X h
  unfold zX1_ways at h
  split at h
  rotate_left
  · exact h.elim
  rename_i h_ s w t n
  obtain ⟨e1_, e2_, h⟩ := mm_and2 h (fun q => q)
  cases mm_beq e1_
  cases mm_beq e2_
  try dsimp only at h
  refine ⟨rfl, ?_⟩
  obtain ⟨hs, hw0, ht, hn, v, rs, top, hc, q1, q2, q0⟩ := h
  unfold wyT at q1 q2 q0
  refine zwX1_ways_0 ⟨hs, fun c1 => ⟨hw0, fun c2 => ⟨ht, fun c3 => ⟨hn, fun d => ⟨d, v, rs, top, hc, fun T PT z x0 x1 => ?_⟩, fun d => q2 (by rw [if_neg (by omega), if_pos d])⟩, fun c3 => q1 (by rw [if_pos (by omega)])⟩, fun c2 => q1 (by rw [if_pos (by omega)])⟩, fun c1 => q1 (by rw [if_pos (by omega)])⟩
  have q0 := q0 (by rw [if_neg (by omega), if_neg (by omega)]) T PT z
  obtain ⟨s', rfl⟩ : ∃ s' : Nat, s = (s' : Int) := ⟨s.toNat, by omega⟩
  obtain ⟨w', rfl⟩ : ∃ w' : Nat, w = (w' : Int) := ⟨w.toNat, by omega⟩
  obtain ⟨t', rfl⟩ : ∃ t' : Nat, t = (t' : Int) := ⟨t.toNat, by omega⟩
  obtain ⟨w1, w2⟩ := ways_at (f := f) (S := T) (L := L) (P := PT) (n := 1 + s') (by omega)
  have ei : (1 + (s' : Int)).toNat = 1 + s' := by omega
  have ek : ((2 * (w' : Int)) + t').toNat = 2 * w' + t' := by omega
  rw [ei, ek]
  refine ⟨6, 3, rfl, Or.inl rfl, by decide, by omega, fun b hb => ?_, fun hb => by rw [w1] at hb; cases hb⟩
  rw [w1] at hb
  cases hb
  refine ⟨4, w2, by decide, by omega, ?_⟩
  have e := x1 s' (2 * w' + t') (by omega) (by omega)
  rw [show 128 + (1 + s') = 129 + s' by omega, e]
  unfold wyF tbK
  rw [show (4 * s' + (2 * w' + t')) % 4 / 2 = w' by omega, show (4 * s' + (2 * w' + t')) % 4 % 2 = t' by omega, show (4 * s' + (2 * w' + t')) / 4 = s' by omega]
  exact q0
