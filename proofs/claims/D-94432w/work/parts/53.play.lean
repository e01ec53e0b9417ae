/-! ===== the model's matches by draws ===== -/
set_option maxRecDepth 100000
theorem zand_in (x : Int) {m : Int} (h0 : 0 ≤ m) (h1 : m < 2147483648) : 0 ≤ zand x m ∧ zand x m ≤ m := by
  unfold zand
  have hb : (zI x &&& zI m).toBitVec.toNat ≤ m.toNat := by
    rw [Int32.toBitVec_and, BitVec.toNat_and]
    refine Nat.le_trans Nat.and_le_right ?_
    have e : (zI m).toInt = m := zI_toInt (by omega) h1
    have e2 : (zI m).toBitVec.toInt = m := e
    have : (zI m).toBitVec.toNat = m.toNat := by
      have h3 := BitVec.toInt_eq_toNat_cond (zI m).toBitVec
      rw [e2] at h3
      split at h3 <;> omega
    omega
  have h2 : (zI x &&& zI m).toInt = ((zI x &&& zI m).toBitVec.toNat : Int) := by
    show (zI x &&& zI m).toBitVec.toInt = _
    exact BitVec.toInt_eq_toNat_of_lt (by omega)
  rw [h2]
  omega
/-- the draw of a seed -/
def drw (s : Int) : Int := zand (zushr s 16) 32767 % 100
theorem drw_in (s : Int) : 0 ≤ drw s ∧ drw s < 100 := by
  have := zand_in (zushr s 16) (m := 32767) (by decide) (by decide)
  unfold drw
  omega
/-- what a draw is: the first outcome behind which it is below the sum -/
def pkF (w : Nat → Int) (ix : Nat) (d : Int) : Nat → Nat → Nat
  | 0, i => i
  | r + 1, i => if d < smR w ix (i + 1) then i else pkF w ix d r (i + 1)
def pkR (w : Nat → Int) (ix : Nat) (d : Int) : Nat := pkF w ix d 12 0
def pyI (w x : Nat → Int) : Nat := (12 * (4 * stR w x (x 2).toNat + stR w x (1 - x 2).toNat)).toNat
/-- so many rallies at most from a score by a seed: how many, and the score behind them -/
def pyR (w : Nat → Int) : Nat → (Nat → Int) → Int → Nat × (Nat → Int)
  | 0, x, _ => (0, x)
  | r + 1, x, s => if ovR (w 194) x = true then (0, x) else
    ((pyR w r (rlR w x (pkR w (pyI w x) (drw (1103515245 * s + 12345)))) (1103515245 * s + 12345)).1 + 1, (pyR w r (rlR w x (pkR w (pyI w x) (drw (1103515245 * s + 12345)))) (1103515245 * s + 12345)).2)
theorem coS.sc {S T V : Nat → Nat → Int} (h : coS S T) (hV : sc T V) : coS S V ∧ V 6 = T 6 ∧ V 0 0 = T 0 0 := by
  have e6 : V 6 = T 6 := by
    funext k
    exact hV.1 6 k (by simp [scr])
  refine ⟨⟨fun a b hab hn => ?_, hV.2, by rw [e6]; exact h.2.2⟩, e6, hV.1 0 0 (by simp [scr])⟩
  rw [hV.1 a b (scq_f (core_q hab).1).1]
  exact h.1 a b hab hn
def pyT (n what : Int) : Int := if ¬ (0 ≤ n ∧ n ≤ 200) then 1 else if ¬ (0 ≤ what ∧ what ≤ 10) then 2 else 0
def zX9_play : zz_Sp := fun as M Q X => match as with
  | [.inr (.inr (some h_)), .inl seed, .inl n, .inl what] => bif Nat.beq h_ 0 && Nat.beq M.1.1 1 then (R32 n ∧ R32 what ∧ mI M.2.1 ∧ (∀ S_ : Nat → Nat → Int, pyT n what ≠ 0 → coQ (mm_up M.2.1 0 0 (pyT n what)) S_ → Q (some (vi 0)) (zm S_ M.2.2.1)) ∧ (∀ S_ : Nat → Nat → Int, pyT n what = 0 → coQ (mm_up M.2.1 0 0 0) S_ → (what = 10 → Q (some (vi ((pyR (M.2.1 1) n.toNat (nwX M.2.1) seed).1 : Nat))) (zm S_ M.2.2.1)) ∧ (what ≠ 10 → Q (some (vi (tdR (pyR (M.2.1 1) n.toNat (nwX M.2.1) seed).2 what))) (zm S_ M.2.2.1)))) else False
  | _ => False

def zpX9_play : zz_P := [(0, zo_ald 1 0), (1, zo_ild 2 2), (2, zo_c 3 (vi 0)), (3, zo_c 6 (vi 200)), (6, zo_calls 9 3 zX9_isIn), (9, zo_zifne 12 16), (12, zo_c 13 (vi 1)), (13, zo_goto 31), (16, zo_ild 17 3), (17, zo_c 18 (vi 0)), (18, zo_c 20 (vi 10)), (20, zo_calls 23 3 zX9_isIn), (23, zo_zifne 26 30), (26, zo_c 27 (vi 2)), (27, zo_goto 31), (30, zo_c 31 (vi 0)), (31, zo_puti 34 8 0), (34, zo_ald 35 0), (35, zo_get 38 8 0 0), (38, zo_ifle false 41 43), (41, zo_c 42 (vi 0)), (42, zo_iret), (43, zo_ald 44 0), (44, zo_callv 47 1 8 zX9_takes), (47, zo_ild 48 1), (48, zo_ist 50 4), (50, zo_c 51 (vi 0)), (51, zo_ist 53 5), (53, zo_ild 55 5), (55, zo_ild 56 2), (56, zo_cge false false 59 190), (59, zo_ald 60 0), (60, zo_callv 63 1 8 zX9_isOver), (63, zo_zifne 66 190), (66, zo_ald 67 0), (67, zo_ald 68 0), (68, zo_get 71 8 2 16), (71, zo_c 72 (vi 2)), (72, zo_ialc 73 2), (73, zo_callv 76 2 8 zX9_styleOf), (76, zo_ist 78 6), (78, zo_ald 79 0), (79, zo_c 80 (vi 1)), (80, zo_ald 81 0), (81, zo_get 84 8 2 16), (84, zo_c 85 (vi 2)), (85, zo_ialc 86 2), (86, zo_isub 87), (87, zo_callv 90 2 8 zX9_styleOf), (90, zo_ist 92 7), (92, zo_c 95 (vi 1103515245)), (95, zo_ild 97 4), (97, zo_imul 98), (98, zo_c 101 (vi 12345)), (101, zo_iadd 102), (102, zo_ist 104 4), (104, zo_ild 106 4), (106, zo_c 108 (vi 16)), (108, zo_iushr 109), (109, zo_c 112 (vi 32767)), (112, zo_iand 113), (113, zo_c 115 (vi 100)), (115, zo_irem 116), (116, zo_ist 118 8), (118, zo_c 119 (vi 0)), (119, zo_ist 121 9), (121, zo_ald 122 0), (122, zo_get 125 8 2 1), (125, zo_c 126 (vi 0)), (126, zo_c 128 (vi 12)), (128, zo_c 129 (vi 4)), (129, zo_ild 131 6), (131, zo_imul 132), (132, zo_ild 134 7), (134, zo_iadd 135), (135, zo_imul 136), (136, zo_iadd 137), (137, zo_iald 138), (138, zo_ist 140 10), (140, zo_ild 142 8), (142, zo_ild 144 10), (144, zo_clt false false 147 178), (147, zo_inc 150 9 1), (150, zo_ild 152 10), (152, zo_ald 153 0), (153, zo_get 156 8 2 1), (156, zo_c 157 (vi 0)), (157, zo_c 159 (vi 12)), (159, zo_c 160 (vi 4)), (160, zo_ild 162 6), (162, zo_imul 163), (163, zo_ild 165 7), (165, zo_iadd 166), (166, zo_imul 167), (167, zo_iadd 168), (168, zo_ild 170 9), (170, zo_iadd 171), (171, zo_iald 172), (172, zo_iadd 173), (173, zo_ist 175 10), (175, zo_goto 140), (178, zo_ald 179 0), (179, zo_ild 181 9), (181, zo_callv 184 2 8 zX9_rallies), (184, zo_inc 187 5 1), (187, zo_goto 53), (190, zo_ild 191 3), (191, zo_c 193 (vi 10)), (193, zo_cne false true 196 201), (196, zo_ild 198 5), (198, zo_goto 206), (201, zo_ald 202 0), (202, zo_ild 203 3), (203, zo_callv 206 2 8 zX9_told), (206, zo_iret)]
theorem ztX9_play {C : mm_C} (G : mm_G C RX9 cX9_play (some .int) 11 (mm_rm 36 0 0)) (hnh : mm_nh C) : zz_OKs C zpX9_play :=
  ⟨zz_of (ok_aload_n G dX9_play_0 rfl rfl) (z_ald _ _),
   zz_of (ok_iload_n G dX9_play_1 rfl rfl) (z_ild _ _),
   zz_of (ok_iconst G (v := 0) dX9_play_2 (by decide) rfl) (z_cn 3 0),
   zz_of (ok_sipush G (v := 200) dX9_play_3 (by decide) rfl) (z_cn 6 200),
   zz_of (ok_calls G hnh (zmX9_isIn _ G.hst) rfl rfl q1914 q1915 q93 q1916 (by decide +kernel) ⟨by decide, by decide⟩ dX9_play_6 rfl) (z_calls _ _ _),
   zz_of (ok_ifne G dX9_play_9 rfl rfl) (z_zifne _ _),
   zz_of (ok_iconst G (v := 1) dX9_play_12 (by decide) rfl) (z_cn 13 1),
   zz_of (ok_goto G dX9_play_13 rfl) (z_goto _),
   zz_of (ok_iload_n G dX9_play_16 rfl rfl) (z_ild _ _),
   zz_of (ok_iconst G (v := 0) dX9_play_17 (by decide) rfl) (z_cn 18 0),
   zz_of (ok_bipush G (v := 10) dX9_play_18 (by decide) rfl) (z_cn 20 10),
   zz_of (ok_calls G hnh (zmX9_isIn _ G.hst) rfl rfl q1914 q1915 q93 q1916 (by decide +kernel) ⟨by decide, by decide⟩ dX9_play_20 rfl) (z_calls _ _ _),
   zz_of (ok_ifne G dX9_play_23 rfl rfl) (z_zifne _ _),
   zz_of (ok_iconst G (v := 2) dX9_play_26 (by decide) rfl) (z_cn 27 2),
   zz_of (ok_goto G dX9_play_27 rfl) (z_goto _),
   zz_of (ok_iconst G (v := 0) dX9_play_30 (by decide) rfl) (z_cn 31 0),
   zz_of (ok_puti G (nx := 34) (idx := 67) (ci := 8) (k := 0) (RX9, TX9, 32) rfl (by decide) rfl (mm_pw G (ci := 8) (k := 0) (RX9, TX9, 32) rfl (by decide) rfl q1805 dX9_play_31) rfl) (z_puti _ _ _),
   zz_of (ok_aload_n G dX9_play_34 rfl rfl) (z_ald _ _),
   zz_of (ok_get G (nx := 38) (ci := 8) (kd := 0) (k := 0) (RX9, TX9, 32) rfl (by decide) rfl q1805 dX9_play_35 rfl) (z_get _ _ _ _),
   zz_of (ok_ifle G dX9_play_38 rfl rfl) (z_ifle _ _ _),
   zz_of (ok_iconst G (v := 0) dX9_play_41 (by decide) rfl) (z_cn 42 0),
   zz_of (ok_iret G dX9_play_42) (z_iret),
   zz_of (ok_aload_n G dX9_play_43 rfl rfl) (z_ald _ _),
   zz_of (ok_callv G hnh (zmX9_takes _ G.hst) rfl rfl (RX9, TX9, 32) rfl q2034 q2036 qs55 q93 q2037 (by decide +kernel) ⟨by decide, by decide⟩ dX9_play_44 rfl) (z_callv _ _ _ _),
   zz_of (ok_iload_n G dX9_play_47 rfl rfl) (z_ild _ _),
   zz_of (ok_istore G dX9_play_48 rfl (by decide)) (z_ist _ _),
   zz_of (ok_iconst G (v := 0) dX9_play_50 (by decide) rfl) (z_cn 51 0),
   zz_of (ok_istore G dX9_play_51 rfl (by decide)) (z_ist _ _),
   zz_of (ok_iload G dX9_play_53 rfl) (z_ild _ _),
   zz_of (ok_iload_n G dX9_play_55 rfl rfl) (z_ild _ _),
   zz_of (ok_cge G dX9_play_56 rfl rfl) (z_cge _ _ _ _),
   zz_of (ok_aload_n G dX9_play_59 rfl rfl) (z_ald _ _),
   zz_of (ok_callv G hnh (zmX9_isOver _ G.hst) rfl rfl (RX9, TX9, 32) rfl q2070 q2072 qs59 q93 q2073 (by decide +kernel) ⟨by decide, by decide⟩ dX9_play_60 rfl) (z_callv _ _ _ _),
   zz_of (ok_ifne G dX9_play_63 rfl rfl) (z_zifne _ _),
   zz_of (ok_aload_n G dX9_play_66 rfl rfl) (z_ald _ _),
   zz_of (ok_aload_n G dX9_play_67 rfl rfl) (z_ald _ _),
   zz_of (ok_get G (nx := 71) (ci := 8) (kd := 2) (k := 16) (RX9, TX9, 32) rfl (by decide) rfl q1821 dX9_play_68 rfl) (z_get _ _ _ _),
   zz_of (ok_iconst G (v := 2) dX9_play_71 (by decide) rfl) (z_cn 72 2),
   zz_of (ok_iald G dX9_play_72 rfl) (z_ialc _ _),
   zz_of (ok_callv G hnh (zmX9_styleOf _ G.hst) rfl rfl (RX9, TX9, 32) rfl q2038 q2040 qs56 q93 q2041 (by decide +kernel) ⟨by decide, by decide⟩ dX9_play_73 rfl) (z_callv _ _ _ _),
   zz_of (ok_istore G dX9_play_76 rfl (by decide)) (z_ist _ _),
   zz_of (ok_aload_n G dX9_play_78 rfl rfl) (z_ald _ _),
   zz_of (ok_iconst G (v := 1) dX9_play_79 (by decide) rfl) (z_cn 80 1),
   zz_of (ok_aload_n G dX9_play_80 rfl rfl) (z_ald _ _),
   zz_of (ok_get G (nx := 84) (ci := 8) (kd := 2) (k := 16) (RX9, TX9, 32) rfl (by decide) rfl q1821 dX9_play_81 rfl) (z_get _ _ _ _),
   zz_of (ok_iconst G (v := 2) dX9_play_84 (by decide) rfl) (z_cn 85 2),
   zz_of (ok_iald G dX9_play_85 rfl) (z_ialc _ _),
   zz_of (ok_isub G dX9_play_86 rfl) (z_isub _),
   zz_of (ok_callv G hnh (zmX9_styleOf _ G.hst) rfl rfl (RX9, TX9, 32) rfl q2038 q2040 qs56 q93 q2041 (by decide +kernel) ⟨by decide, by decide⟩ dX9_play_87 rfl) (z_callv _ _ _ _),
   zz_of (ok_istore G dX9_play_90 rfl (by decide)) (z_ist _ _),
   zz_of (ok_ldcw G (v := 1103515245) q2212 dX9_play_92 rfl) (z_cn 95 1103515245),
   zz_of (ok_iload G dX9_play_95 rfl) (z_ild _ _),
   zz_of (ok_imul G dX9_play_97 rfl) (z_imul _),
   zz_of (ok_sipush G (v := 12345) dX9_play_98 (by decide) rfl) (z_cn 101 12345),
   zz_of (ok_iadd G dX9_play_101 rfl) (z_iadd _),
   zz_of (ok_istore G dX9_play_102 rfl (by decide)) (z_ist _ _),
   zz_of (ok_iload G dX9_play_104 rfl) (z_ild _ _),
   zz_of (ok_bipush G (v := 16) dX9_play_106 (by decide) rfl) (z_cn 108 16),
   zz_of (ok_iushr G dX9_play_108 rfl) (z_iushr _),
   zz_of (ok_sipush G (v := 32767) dX9_play_109 (by decide) rfl) (z_cn 112 32767),
   zz_of (ok_iand G dX9_play_112 rfl) (z_iand _),
   zz_of (ok_bipush G (v := 100) dX9_play_113 (by decide) rfl) (z_cn 115 100),
   zz_of (ok_irem G dX9_play_115 rfl) (z_irem _),
   zz_of (ok_istore G dX9_play_116 rfl (by decide)) (z_ist _ _),
   zz_of (ok_iconst G (v := 0) dX9_play_118 (by decide) rfl) (z_cn 119 0),
   zz_of (ok_istore G dX9_play_119 rfl (by decide)) (z_ist _ _),
   zz_of (ok_aload_n G dX9_play_121 rfl rfl) (z_ald _ _),
   zz_of (ok_get G (nx := 125) (ci := 8) (kd := 2) (k := 1) (RX9, TX9, 32) rfl (by decide) rfl q1806 dX9_play_122 rfl) (z_get _ _ _ _),
   zz_of (ok_iconst G (v := 0) dX9_play_125 (by decide) rfl) (z_cn 126 0),
   zz_of (ok_bipush G (v := 12) dX9_play_126 (by decide) rfl) (z_cn 128 12),
   zz_of (ok_iconst G (v := 4) dX9_play_128 (by decide) rfl) (z_cn 129 4),
   zz_of (ok_iload G dX9_play_129 rfl) (z_ild _ _),
   zz_of (ok_imul G dX9_play_131 rfl) (z_imul _),
   zz_of (ok_iload G dX9_play_132 rfl) (z_ild _ _),
   zz_of (ok_iadd G dX9_play_134 rfl) (z_iadd _),
   zz_of (ok_imul G dX9_play_135 rfl) (z_imul _),
   zz_of (ok_iadd G dX9_play_136 rfl) (z_iadd _),
   zz_of (ok_iald G dX9_play_137 rfl) (z_iald _),
   zz_of (ok_istore G dX9_play_138 rfl (by decide)) (z_ist _ _),
   zz_of (ok_iload G dX9_play_140 rfl) (z_ild _ _),
   zz_of (ok_iload G dX9_play_142 rfl) (z_ild _ _),
   zz_of (ok_clt G dX9_play_144 rfl rfl) (z_clt _ _ _ _),
   zz_of (ok_iinc G (v := 1) dX9_play_147 (by decide) rfl (by decide)) (z_incn 150 9 1),
   zz_of (ok_iload G dX9_play_150 rfl) (z_ild _ _),
   zz_of (ok_aload_n G dX9_play_152 rfl rfl) (z_ald _ _),
   zz_of (ok_get G (nx := 156) (ci := 8) (kd := 2) (k := 1) (RX9, TX9, 32) rfl (by decide) rfl q1806 dX9_play_153 rfl) (z_get _ _ _ _),
   zz_of (ok_iconst G (v := 0) dX9_play_156 (by decide) rfl) (z_cn 157 0),
   zz_of (ok_bipush G (v := 12) dX9_play_157 (by decide) rfl) (z_cn 159 12),
   zz_of (ok_iconst G (v := 4) dX9_play_159 (by decide) rfl) (z_cn 160 4),
   zz_of (ok_iload G dX9_play_160 rfl) (z_ild _ _),
   zz_of (ok_imul G dX9_play_162 rfl) (z_imul _),
   zz_of (ok_iload G dX9_play_163 rfl) (z_ild _ _),
   zz_of (ok_iadd G dX9_play_165 rfl) (z_iadd _),
   zz_of (ok_imul G dX9_play_166 rfl) (z_imul _),
   zz_of (ok_iadd G dX9_play_167 rfl) (z_iadd _),
   zz_of (ok_iload G dX9_play_168 rfl) (z_ild _ _),
   zz_of (ok_iadd G dX9_play_170 rfl) (z_iadd _),
   zz_of (ok_iald G dX9_play_171 rfl) (z_iald _),
   zz_of (ok_iadd G dX9_play_172 rfl) (z_iadd _),
   zz_of (ok_istore G dX9_play_173 rfl (by decide)) (z_ist _ _),
   zz_of (ok_goto G dX9_play_175 rfl) (z_goto _),
   zz_of (ok_aload_n G dX9_play_178 rfl rfl) (z_ald _ _),
   zz_of (ok_iload G dX9_play_179 rfl) (z_ild _ _),
   zz_of (ok_callv G hnh (zmX9_rallies _ G.hst) rfl rfl (RX9, TX9, 32) rfl q2074 q2076 qs60 q93 q2077 (by decide +kernel) ⟨by decide, by decide⟩ dX9_play_181 rfl) (z_callv _ _ _ _),
   zz_of (ok_iinc G (v := 1) dX9_play_184 (by decide) rfl (by decide)) (z_incn 187 5 1),
   zz_of (ok_goto G dX9_play_187 rfl) (z_goto _),
   zz_of (ok_iload_n G dX9_play_190 rfl rfl) (z_ild _ _),
   zz_of (ok_bipush G (v := 10) dX9_play_191 (by decide) rfl) (z_cn 193 10),
   zz_of (ok_cne G dX9_play_193 rfl rfl) (z_cne _ _ _ _),
   zz_of (ok_iload G dX9_play_196 rfl) (z_ild _ _),
   zz_of (ok_goto G dX9_play_198 rfl) (z_goto _),
   zz_of (ok_aload_n G dX9_play_201 rfl rfl) (z_ald _ _),
   zz_of (ok_iload_n G dX9_play_202 rfl rfl) (z_ild _ _),
   zz_of (ok_callv G hnh (zmX9_told _ G.hst) rfl rfl (RX9, TX9, 32) rfl q2058 q2060 qs57 q93 q2061 (by decide +kernel) ⟨by decide, by decide⟩ dX9_play_203 rfl) (z_callv _ _ _ _),
   zz_of (ok_iret G dX9_play_206) (z_iret), trivial⟩

theorem zwX9_play_0 {Q : Option zv → zz_M → Prop} {X : Nat → zz_M → Prop} {S L : Nat → Nat → Int} {seed : Int} {n : Int} {what : Int} (h : (R32 n ∧ R32 (0 : Int) ∧ R32 (200 : Int) ∧ (((0 : Int) ≤ n ∧ n ≤ (200 : Int)) → ((R32 what ∧ R32 (0 : Int) ∧ R32 (10 : Int) ∧ (((0 : Int) ≤ what ∧ what ≤ (10 : Int)) → (zz_J zpX9_play (zz_ret Q X 0 0) 34 [some (vr 0), some (vi seed), some (vi n), some (vi what), none, none, none, none, none, none, none] [] (zm (mm_up S 0 0 0) L) (0, 0))) ∧ (¬ ((0 : Int) ≤ what ∧ what ≤ (10 : Int)) → (zz_J zpX9_play (zz_ret Q X 0 0) 34 [some (vr 0), some (vi seed), some (vi n), some (vi what), none, none, none, none, none, none, none] [] (zm (mm_up S 0 0 2) L) (0, 0)))))) ∧ (¬ ((0 : Int) ≤ n ∧ n ≤ (200 : Int)) → (zz_J zpX9_play (zz_ret Q X 0 0) 34 [some (vr 0), some (vi seed), some (vi n), some (vi what), none, none, none, none, none, none, none] [] (zm (mm_up S 0 0 1) L) (0, 0))))) : zz_J zpX9_play (zz_ret Q X 0 0) 0 [some (vr 0), some (vi seed), some (vi n), some (vi what), none, none, none, none, none, none, none] [] (zm S L) (0, 0) := zz_J.go [(34, [4, 5, 6, 7, 8, 9, 10]), (53, [1, 6, 7, 8, 9, 10]), (140, [1]), (178, [1, 6, 7, 8, 10]), (190, [1, 2, 4, 6, 7, 8, 9, 10])] 400 h
theorem zwX9_play_34 {Q : Option zv → zz_M → Prop} {X : Nat → zz_M → Prop} {S L : Nat → Nat → Int} {x1 : Int} {x2 : Int} {x3 : Int} (h : R32 (S 0 0) ∧ (((S 0 0) ≤ 0 → ((zz_J zpX9_play (zz_ret Q X 0 0) 53 [some (vr 0), none, some (vi x2), some (vi x3), some (vi x1), some (vi 0), none, none, none, none, none] [] (zm (tkS S) L) (0, 0)))) ∧ (¬ (S 0 0) ≤ 0 → Q (some (vi 0)) (zm S L)))) : zz_J zpX9_play (zz_ret Q X 0 0) 34 [some (vr 0), some (vi x1), some (vi x2), some (vi x3), none, none, none, none, none, none, none] [] (zm S L) (0, 0) := zz_J.go [(34, [4, 5, 6, 7, 8, 9, 10]), (53, [1, 6, 7, 8, 9, 10]), (140, [1]), (178, [1, 6, 7, 8, 10]), (190, [1, 2, 4, 6, 7, 8, 9, 10])] 400 h
theorem zwX9_play_53 {Q : Option zv → zz_M → Prop} {X : Nat → zz_M → Prop} {S L : Nat → Nat → Int} {x2 : Int} {x3 : Int} {x4 : Int} {x5 : Int} (h : R32 x5 ∧ (R32 x2 ∧ ((x2 ≤ x5 → zz_J zpX9_play (zz_ret Q X 0 0) 190 [some (vr 0), none, none, some (vi x3), none, some (vi x5), none, none, none, none, none] [] (zm S L) (0, 0)) ∧ (¬ x2 ≤ x5 → (bx (S 6) ∧ (-100 ≤ S 1 194 ∧ S 1 194 ≤ 100) ∧ (ovR (S 1 194) (S 6) = true → (zz_J zpX9_play (zz_ret Q X 0 0) 190 [some (vr 0), none, none, some (vi x3), none, some (vi x5), none, none, none, none, none] [] (zm S L) (0, 0))) ∧ (ovR (S 1 194) (S 6) = false → ((((S 6 2) = 0 ∨ (S 6 2) = 1) ∧ by5 (S 6) ∧ plG (S 1) (S 6 2).toNat ∧ gdF S ∧ R32 (S 0 10) ∧ (∀ S_2 : Nat → Nat → Int, sc S S_2 → ((((1 - (S_2 6 2)) = 0 ∨ (1 - (S_2 6 2)) = 1) ∧ by5 (S_2 6) ∧ plG (S_2 1) (1 - (S_2 6 2)).toNat ∧ gdF S_2 ∧ R32 (S_2 0 10) ∧ (∀ S_3 : Nat → Nat → Int, sc S_2 S_3 → ((0 ≤ (zand (zushr ((1103515245 * x4) + 12345) 16) 32767) ∧ (zand (zushr ((1103515245 * x4) + 12345) 16) 32767) < 2147483648) ∧ ((0 ≤ (0 + (12 * ((4 * (stR (S 1) (S 6) (S 6 2).toNat)) + (stR (S_2 1) (S_2 6) (1 - (S_2 6 2)).toNat)))) ∧ (0 + (12 * ((4 * (stR (S 1) (S 6) (S 6 2).toNat)) + (stR (S_2 1) (S_2 6) (1 - (S_2 6 2)).toNat)))) < 2616) ∧ (zz_J zpX9_play (zz_ret Q X 0 0) 140 [some (vr 0), none, some (vi x2), some (vi x3), some (vi ((1103515245 * x4) + 12345)), some (vi x5), some (vi (stR (S 1) (S 6) (S 6 2).toNat)), some (vi (stR (S_2 1) (S_2 6) (1 - (S_2 6 2)).toNat)), some (vi ((zand (zushr ((1103515245 * x4) + 12345) 16) 32767) % 100)), some (vi 0), some (vi (S_3 1 ((0 + (12 * ((4 * (stR (S 1) (S 6) (S 6 2).toNat)) + (stR (S_2 1) (S_2 6) (1 - (S_2 6 2)).toNat)))).toNat)))] [] (zm S_3 L) (0, 0)))))))))))))))) : zz_J zpX9_play (zz_ret Q X 0 0) 53 [some (vr 0), none, some (vi x2), some (vi x3), some (vi x4), some (vi x5), none, none, none, none, none] [] (zm S L) (0, 0) := zz_J.go [(34, [4, 5, 6, 7, 8, 9, 10]), (53, [1, 6, 7, 8, 9, 10]), (140, [1]), (178, [1, 6, 7, 8, 10]), (190, [1, 2, 4, 6, 7, 8, 9, 10])] 400 h
theorem zwX9_play_140 {Q : Option zv → zz_M → Prop} {X : Nat → zz_M → Prop} {S L : Nat → Nat → Int} {x2 : Int} {x3 : Int} {x4 : Int} {x5 : Int} {x6 : Int} {x7 : Int} {x8 : Int} {x9 : Int} {x10 : Int} (h : R32 x8 ∧ (R32 x10 ∧ ((x8 < x10 → zz_J zpX9_play (zz_ret Q X 0 0) 178 [some (vr 0), none, some (vi x2), some (vi x3), some (vi x4), some (vi x5), none, none, none, some (vi x9), none] [] (zm S L) (0, 0)) ∧ (¬ x8 < x10 → (0 ≤ ((0 + (12 * ((4 * x6) + x7))) + (x9 + 1)) ∧ ((0 + (12 * ((4 * x6) + x7))) + (x9 + 1)) < 2616) ∧ (zz_J zpX9_play (zz_ret Q X 0 0) 140 [some (vr 0), none, some (vi x2), some (vi x3), some (vi x4), some (vi x5), some (vi x6), some (vi x7), some (vi x8), some (vi (x9 + 1)), some (vi (x10 + (S 1 (((0 + (12 * ((4 * x6) + x7))) + (x9 + 1)).toNat))))] [] (zm S L) (0, 0)))))) : zz_J zpX9_play (zz_ret Q X 0 0) 140 [some (vr 0), none, some (vi x2), some (vi x3), some (vi x4), some (vi x5), some (vi x6), some (vi x7), some (vi x8), some (vi x9), some (vi x10)] [] (zm S L) (0, 0) := zz_J.go [(34, [4, 5, 6, 7, 8, 9, 10]), (53, [1, 6, 7, 8, 9, 10]), (140, [1]), (178, [1, 6, 7, 8, 10]), (190, [1, 2, 4, 6, 7, 8, 9, 10])] 400 h
theorem zwX9_play_178 {Q : Option zv → zz_M → Prop} {X : Nat → zz_M → Prop} {S L : Nat → Nat → Int} {x2 : Int} {x3 : Int} {x4 : Int} {x5 : Int} {x9 : Int} (h : ((0 ≤ x9 ∧ x9 ≤ 14) ∧ by5 (S 6) ∧ bw (S 1) ∧ (S 6 2 = 0 ∨ S 6 2 = 1) ∧ (zz_J zpX9_play (zz_ret Q X 0 0) 53 [some (vr 0), none, some (vi x2), some (vi x3), some (vi x4), some (vi (x5 + 1)), none, none, none, none, none] [] (zm (sx S (rlR (S 1) (S 6) x9) (rlN (S 1) (S 6) x9) (rlW (S 1) (S 6) x9)) L) (0, 0)))) : zz_J zpX9_play (zz_ret Q X 0 0) 178 [some (vr 0), none, some (vi x2), some (vi x3), some (vi x4), some (vi x5), none, none, none, some (vi x9), none] [] (zm S L) (0, 0) := zz_J.go [(34, [4, 5, 6, 7, 8, 9, 10]), (53, [1, 6, 7, 8, 9, 10]), (140, [1]), (178, [1, 6, 7, 8, 10]), (190, [1, 2, 4, 6, 7, 8, 9, 10])] 400 h
theorem zwX9_play_190 {Q : Option zv → zz_M → Prop} {X : Nat → zz_M → Prop} {S L : Nat → Nat → Int} {x3 : Int} {x5 : Int} (h : R32 x3 ∧ ((¬ x3 = 10 → ((0 ≤ x3 ∧ x3 ≤ 9) ∧ bx (S 6) ∧ (Q (some (vi (tdR (S 6) x3))) (zm S L)))) ∧ (x3 = 10 → Q (some (vi x5)) (zm S L)))) : zz_J zpX9_play (zz_ret Q X 0 0) 190 [some (vr 0), none, none, some (vi x3), none, some (vi x5), none, none, none, none, none] [] (zm S L) (0, 0) := zz_J.go [(34, [4, 5, 6, 7, 8, 9, 10]), (53, [1, 6, 7, 8, 9, 10]), (140, [1]), (178, [1, 6, 7, 8, 10]), (190, [1, 2, 4, 6, 7, 8, 9, 10])] 400 h

theorem zmX9_play (l : Launch) (hl : l.stackTraces = false) : mm_Spec l yX9_play (ws_ yX9_play cX9_play 11 (some .int)) (mm_rm 36 0 0) (zE zX9_play) := by
  refine zz_Met.J hl (by decide) (fun C G hnh => ztX9_play G hnh) ?_
  rintro as ⟨⟨t_, f⟩, S, L, P⟩ Q X h
  unfold zX9_play at h
  split at h
  rotate_left
  · exact h.elim
  rename_i h_ seed n what
  obtain ⟨e1_, e2_, h⟩ := mm_and2 h (fun q => q)
  cases mm_beq e1_
  cases mm_beq e2_
  try dsimp only at h
  refine ⟨rfl, ?_⟩
  refine zz_Jev (M' := zm S L) rfl rfl rfl ?_
  obtain ⟨hn, hwt, hI, hq1, hq0⟩ := h
  have hw := hI.1.2.1
  have hm := hI.1
  have hwh := hI.2.1
  have cS := coS.rf hI
  have t34 : ∀ t : Int, pyT n what = t → (0 ≤ t ∧ t ≤ 2) → zz_J zpX9_play (zz_ret Q X 0 0) 34 [some (vr 0), some (vi seed), some (vi n), some (vi what), none, none, none, none, none, none, none] [] (zm (mm_up S 0 0 t) L) (0, 0) := by
    intro t et ht
    have cT := cS.up0 t
    have h0 : mm_up S 0 0 t 0 0 = t := by simp [up_eq]
    refine zwX9_play_34 ?_
    rw [h0]
    refine ⟨by omega, fun c => ?_, fun c => hq1 _ (by omega) (by rw [et]; exact cT.Q h0)⟩
    have e : t = 0 := by omega
    subst e
    have hb : (0 ≤ n ∧ n ≤ 200) ∧ (0 ≤ what ∧ what ≤ 10) := by
      unfold pyT at et
      split at et
      · cases et
      · split at et
        · cases et
        · omega
    have hq0 := fun S_ => hq0 S_ et
    obtain ⟨N, rfl⟩ : ∃ N : Nat, n = N := ⟨n.toNat, by omega⟩
    rw [Int.toNat_natCast] at hq0
    -- the end
    have t190 : ∀ (T : Nat → Nat → Int) (d : Nat), coS S T → T 0 0 = 0 → (pyR (S 1) N (nwX S) seed) = (d, T 6) → zz_J zpX9_play (zz_ret Q X 0 0) 190 [some (vr 0), none, none, some (vi what), none, some (vi d), none, none, none, none, none] [] (zm T L) (0, 0) := by
      intro T d cU u0 e
      have hq := hq0 T (cU.Q u0)
      rw [e] at hq
      exact zwX9_play_190 ⟨by omega, fun c => ⟨by omega, cU.2.2.1.bx, hq.2 c⟩, fun c => hq.1 c⟩
    have lp : ∀ (r d : Nat) (s : Int) (T : Nat → Nat → Int), d + r = N → coS S T → T 0 0 = 0 → scV (T 6) → xB 6 (T 6) → pyR (S 1) N (nwX S) seed = ((pyR (S 1) r (T 6) s).1 + d, (pyR (S 1) r (T 6) s).2) → zz_J zpX9_play (zz_ret Q X 0 0) 53 [some (vr 0), none, some (vi N), some (vi what), some (vi s), some (vi d), none, none, none, none, none] [] (zm T L) (0, 0) := by
      intro r
      induction r with
      | zero =>
        intro d s T hd cU u0 hv hB e
        refine zwX9_play_53 ⟨by omega, by omega, fun _ => t190 T d cU u0 ?_, fun c => by omega⟩
        rw [e]
        show (0 + d, T 6) = (d, T 6)
        rw [Nat.zero_add]
      | succ r ih =>
        intro d s T hd cU u0 hv hB e
        have t1 := cU.r1
        have hxg := hv.xG hB (by decide)
        refine zwX9_play_53 ⟨by omega, by omega, fun c => by omega, fun _ => ⟨hxg.1.bx, by rw [t1]; unfold wV at hw; omega, fun ov => ?_, fun ov => ?_⟩⟩
        · rw [t1] at ov
          refine t190 T d cU u0 ?_
          rw [e]
          have : pyR (S 1) (r + 1) (T 6) s = (0, T 6) := by
            show (if ovR (S 1 194) (T 6) = true then _ else _) = _
            rw [if_pos ov]
          rw [this]
          show (0 + d, T 6) = (d, T 6)
          rw [Nat.zero_add]
        · rw [t1] at ov
          have hs2 := hv.2.1
          have t10 := cU.r10
          refine ⟨by omega, hxg.1, by rw [t1]; exact hI.2.2.1 _ (by omega), cU.2.1, by rw [t10]; exact hI.2.2.2.2.1, fun V hV => ?_⟩
          obtain ⟨cV, v6, v0⟩ := cU.sc hV
          rw [v6]
          refine ⟨by omega, hxg.1, by rw [cV.r1]; exact hI.2.2.1 _ (by omega), cV.2.1, by rw [cV.r10]; exact hI.2.2.2.2.1, fun W hW => ?_⟩
          obtain ⟨cW, w6, w0⟩ := cV.sc hW
          rw [t1, cV.r1, cW.r1]
          have sa := stR_in (S 1) (T 6) (T 6 2).toNat
          have sb := stR_in (S 1) (T 6) (1 - T 6 2).toNat
          have hz := zand_in (zushr (1103515245 * s + 12345) 16) (m := 32767) (by decide) (by decide)
          generalize ha : stR (S 1) (T 6) (T 6 2).toNat = sA at sa
          generalize hb2 : stR (S 1) (T 6) (1 - T 6 2).toNat = sB at sb
          have hix : pyI (S 1) (T 6) = (12 * (4 * sA + sB)).toNat := by unfold pyI; rw [ha, hb2]
          generalize hix2 : pyI (S 1) (T 6) = ix at hix
          have hJ : ∃ j, j < 16 ∧ ix = 12 * j := ⟨(4 * sA + sB).toNat, by omega, by omega⟩
          have hD := drw_in (1103515245 * s + 12345)
          have eD : zand (zushr (1103515245 * s + 12345) 16) 32767 % 100 = drw (1103515245 * s + 12345) := rfl
          rw [eD]
          generalize hdd : drw (1103515245 * s + 12345) = D at hD
          -- the outcome is found
          have t140 : ∀ (r2 i : Nat), i + r2 = 12 → pkR (S 1) ix D = pkF (S 1) ix D r2 i → (0 < i → smR (S 1) ix i ≤ D) → zz_J zpX9_play (zz_ret Q X 0 0) 140 [some (vr 0), none, some (vi N), some (vi what), some (vi (1103515245 * s + 12345)), some (vi d), some (vi sA), some (vi sB), some (vi D), some (vi i), some (vi (smR (S 1) ix (i + 1)))] [] (zm W L) (0, 0) := by
            intro r2
            induction r2 with
            | zero =>
              intro i hi e2 h3
              obtain ⟨j, hj, ej⟩ := hJ
              have hi12 : i = 12 := by omega
              subst hi12
              have := whB_t.mp hwh j hj
              rw [← ej] at this
              have := h3 (by decide)
              omega
            | succ r2 ih2 =>
              intro i hi e2 h3
              obtain ⟨j, hj, ej⟩ := hJ
              have hsm := smR_in hm.1 (i + 1) ix (by omega)
              have hpf : pkF (S 1) ix D (r2 + 1) i = if D < smR (S 1) ix (i + 1) then i else pkF (S 1) ix D r2 (i + 1) := rfl
              refine zwX9_play_140 ⟨by omega, by omega, fun c => ?_, fun c => ?_⟩
              · rw [hpf, if_pos c] at e2
                have hRV := rlR_V hw hv (how := (i : Int)) (by omega) (by omega) (fun _ => by omega)
                have hRB := rlR_B (w := S 1) hv (xB5 hw hB ov) (how := (i : Int)) (by omega) (by omega)
                have hRG : xG (rlR (S 1) (T 6) i) := hRV.xG hRB (by decide)
                refine zwX9_play_178 ?_
                rw [w6, v6, cW.r1]
                refine ⟨by omega, hxg.1, hw.bw, hv.2.1, ?_⟩
                refine ih (d + 1) _ _ (by omega) (cW.sxx hRG _ _) (by show W 0 0 = 0; rw [w0, v0, u0]) (by rw [sx_6]; exact hRV) (by rw [sx_6]; exact hRB) ?_
                rw [sx_6, e]
                have : pyR (S 1) (r + 1) (T 6) s = ((pyR (S 1) r (rlR (S 1) (T 6) (pkR (S 1) ix D)) (1103515245 * s + 12345)).1 + 1, (pyR (S 1) r (rlR (S 1) (T 6) (pkR (S 1) ix D)) (1103515245 * s + 12345)).2) := by
                  show (if ovR (S 1 194) (T 6) = true then _ else _) = _
                  rw [if_neg (by rw [ov]; decide), hix2, hdd]
                rw [this, e2]
                show ((pyR (S 1) r (rlR (S 1) (T 6) i) (1103515245 * s + 12345)).1 + 1 + d, _) = ((pyR (S 1) r (rlR (S 1) (T 6) i) (1103515245 * s + 12345)).1 + (d + 1), _)
                congr 1
                omega
              · rw [hpf, if_neg (by omega)] at e2
                have i11 : i < 11 := by
                  by_cases hh : i = 11
                  · subst hh
                    have h12 : smR (S 1) ix (11 + 1) = 100 := by
                      have := whB_t.mp hwh j hj
                      rw [← ej] at this
                      exact this
                    omega
                  · omega
                have h1 := ih2 (i + 1) (by omega) e2 (fun _ => by omega)
                have e3 : ((0 : Int) + 12 * (4 * sA + sB) + ((i : Int) + 1)).toNat = ix + (i + 1) := by omega
                rw [cW.r1, e3]
                refine ⟨by omega, ?_⟩
                exact h1
          have e3 : ((0 : Int) + 12 * (4 * sA + sB)).toNat = ix := by omega
          rw [e3]
          refine ⟨by omega, by omega, ?_⟩
          have h1 := t140 12 0 (by decide) rfl (fun h => absurd h (by decide))
          have es : smR (S 1) ix (0 + 1) = S 1 ix := by
            show (0 : Int) + S 1 (ix + 0) = S 1 ix
            rw [Nat.add_zero]
            omega
          rw [es] at h1
          exact h1
    have eT := cT.tk hI.2.2.2.2.2.1
    refine lp N 0 seed (tkS (mm_up S 0 0 0)) (by omega) (cT.take hI) h0 (by rw [eT]; exact hI.2.2.2.2.2.2.1) (by rw [eT]; exact hI.2.2.2.2.2.2.2) ?_
    rw [eT]
    rfl
  refine zwX9_play_0 ⟨hn, by decide, by decide, fun c => ⟨hwt, by decide, by decide, fun c2 => ?_, fun c2 => ?_⟩, fun c => ?_⟩
  · exact t34 0 (by unfold pyT; rw [if_neg (fun q => q c), if_neg (fun q => q c2)]) (by decide)
  · exact t34 2 (by unfold pyT; rw [if_neg (fun q => q c), if_pos c2]) (by decide)
  · exact t34 1 (by unfold pyT; rw [if_pos c]) (by decide)
