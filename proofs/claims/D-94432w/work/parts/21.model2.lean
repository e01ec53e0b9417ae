/-! ===== the model's methods: rallies, told, puts ===== -/
set_option maxRecDepth 100000
def pX9_rallies : mm_P := [(0, o_ald 1 0), (1, o_c 2 (.int (zI (-1)))), (2, o_puti 5 8 17), (5, o_ald 6 0), (6, o_c 7 (.int (zI (-1)))), (7, o_puti 10 8 18), (10, o_ald 11 0), (11, o_get 14 8 2 16), (14, o_c 15 (.int 2)), (15, o_ialc 16 2), (16, o_ist 17 2), (17, o_ald 18 0), (18, o_get 21 8 2 16), (21, o_c 23 (.int 6)), (23, o_ialc 24 6), (24, o_ifne 27 105), (27, o_ild 28 1), (28, o_c 29 (.int 2)), (29, o_cge 32 50), (32, o_ald 33 0), (33, o_ild 34 1), (34, o_ifne 37 41), (37, o_ild 38 2), (38, o_goto 44), (41, o_c 42 (.int 1)), (42, o_ild 43 2), (43, o_isub 44), (44, o_callv 47 2 8 sX9_point), (47, o_goto 90), (50, o_ald 51 0), (51, o_get 54 8 2 16), (54, o_c 55 (.int 3)), (55, o_ialc 56 3), (56, o_ifne 59 71), (59, o_ald 60 0), (60, o_get 63 8 2 16), (63, o_c 64 (.int 4)), (64, o_ild 65 1), (65, o_c 66 (.int 2)), (66, o_isub 67), (67, o_iasc 68 4), (68, o_goto 80), (71, o_ald 72 0), (72, o_get 75 8 2 16), (75, o_c 76 (.int 5)), (76, o_ild 77 1), (77, o_c 78 (.int 2)), (78, o_isub 79), (79, o_iasc 80 5), (80, o_ald 81 0), (81, o_get 84 8 2 16), (84, o_c 85 (.int 3)), (85, o_dup2 86), (86, o_ialc 87 3), (87, o_c 88 (.int 1)), (88, o_iadd 89), (89, o_iasc 90 3), (90, o_ald 91 0), (91, o_get 94 8 2 16), (94, o_c 96 (.int 6)), (96, o_ialc 97 6), (97, o_ifne 100 104), (100, o_ald 101 0), (101, o_callv 104 1 8 sX9_changes), (104, o_vret), (105, o_ild 106 1), (106, o_c 107 (.int 2)), (107, o_isub 108), (108, o_ist 109 3), (109, o_ild 110 1), (110, o_c 112 (.int 12)), (112, o_clt 115 119), (115, o_ild 116 1), (116, o_goto 151), (119, o_ild 120 3), (120, o_ald 121 0), (121, o_get 124 8 2 16), (124, o_c 125 (.int 4)), (125, o_ialc 126 4), (126, o_cge 129 134), (129, o_c 131 (.int 12)), (131, o_goto 151), (134, o_ild 135 3), (135, o_ald 136 0), (136, o_get 139 8 2 16), (139, o_c 140 (.int 4)), (140, o_ialc 141 4), (141, o_cle 144 149), (144, o_c 146 (.int 13)), (146, o_goto 151), (149, o_c 151 (.int 14)), (151, o_ist 153 4), (153, o_ild 154 1), (154, o_c 155 (.int 2)), (155, o_cge 158 176), (158, o_ald 159 0), (159, o_ild 160 1), (160, o_ifne 163 167), (163, o_ild 164 2), (164, o_goto 170), (167, o_c 168 (.int 1)), (168, o_ild 169 2), (169, o_isub 170), (170, o_callv 173 2 8 sX9_point), (173, o_goto 217), (176, o_ild 178 4), (178, o_c 180 (.int 12)), (180, o_cne 183 193), (183, o_ald 184 0), (184, o_c 185 (.int 1)), (185, o_ild 186 2), (186, o_isub 187), (187, o_callv 190 2 8 sX9_point), (190, o_goto 217), (193, o_ild 195 4), (195, o_c 197 (.int 13)), (197, o_ceq 200 212), (200, o_ald 201 0), (201, o_get 204 8 2 1), (204, o_c 207 (.int 196)), (207, o_ialc 208 196), (208, o_c 209 (.int 1)), (209, o_cne 212 217), (212, o_ald 213 0), (213, o_ild 214 2), (214, o_callv 217 2 8 sX9_point), (217, o_ald 218 0), (218, o_callv 221 1 8 sX9_gone), (221, o_vret)]
theorem tX9_rallies {C : mm_C} (G : mm_G C RX9 cX9_rallies none 5 (mm_rm 3 0 0)) (hnh : mm_nh C) : mm_OKs C pX9_rallies :=
  ⟨ok_aload_n G dX9_rallies_0 rfl rfl,
   ok_iconst G dX9_rallies_1 (by decide) rfl,
   ok_puti G (idx := 215) (RX9, TX9, 32) rfl (by decide) rfl (mm_pw G (ci := 8) (k := 17) (RX9, TX9, 32) rfl (by decide) rfl q1822 dX9_rallies_2) rfl,
   ok_aload_n G dX9_rallies_5 rfl rfl,
   ok_iconst G dX9_rallies_6 (by decide) rfl,
   ok_puti G (idx := 212) (RX9, TX9, 32) rfl (by decide) rfl (mm_pw G (ci := 8) (k := 18) (RX9, TX9, 32) rfl (by decide) rfl q1823 dX9_rallies_7) rfl,
   ok_aload_n G dX9_rallies_10 rfl rfl,
   ok_get G (RX9, TX9, 32) rfl (by decide) rfl q1821 dX9_rallies_11 rfl,
   ok_iconst G dX9_rallies_14 (by decide) rfl,
   ok_ialc G dX9_rallies_15 rfl (by decide),
   ok_istore_n G dX9_rallies_16 rfl rfl (by decide),
   ok_aload_n G dX9_rallies_17 rfl rfl,
   ok_get G (RX9, TX9, 32) rfl (by decide) rfl q1821 dX9_rallies_18 rfl,
   ok_bipush G dX9_rallies_21 (by decide) rfl,
   ok_ialc G dX9_rallies_23 rfl (by decide),
   ok_ifne G dX9_rallies_24 rfl rfl,
   ok_iload_n G dX9_rallies_27 rfl rfl,
   ok_iconst G dX9_rallies_28 (by decide) rfl,
   ok_cge G dX9_rallies_29 rfl rfl,
   ok_aload_n G dX9_rallies_32 rfl rfl,
   ok_iload_n G dX9_rallies_33 rfl rfl,
   ok_ifne G dX9_rallies_34 rfl rfl,
   ok_iload_n G dX9_rallies_37 rfl rfl,
   ok_goto G dX9_rallies_38 rfl,
   ok_iconst G dX9_rallies_41 (by decide) rfl,
   ok_iload_n G dX9_rallies_42 rfl rfl,
   ok_isub G dX9_rallies_43 rfl,
   ok_callv G hnh (mX9_point _ G.hst) rfl rfl (RX9, TX9, 32) rfl q2078 q2080 qs61 q93 q2081 (by decide +kernel) ⟨by decide, by decide⟩ dX9_rallies_44 rfl,
   ok_goto G dX9_rallies_47 rfl,
   ok_aload_n G dX9_rallies_50 rfl rfl,
   ok_get G (RX9, TX9, 32) rfl (by decide) rfl q1821 dX9_rallies_51 rfl,
   ok_iconst G dX9_rallies_54 (by decide) rfl,
   ok_ialc G dX9_rallies_55 rfl (by decide),
   ok_ifne G dX9_rallies_56 rfl rfl,
   ok_aload_n G dX9_rallies_59 rfl rfl,
   ok_get G (RX9, TX9, 32) rfl (by decide) rfl q1821 dX9_rallies_60 rfl,
   ok_iconst G dX9_rallies_63 (by decide) rfl,
   ok_iload_n G dX9_rallies_64 rfl rfl,
   ok_iconst G dX9_rallies_65 (by decide) rfl,
   ok_isub G dX9_rallies_66 rfl,
   ok_iasc G dX9_rallies_67 rfl (by decide),
   ok_goto G dX9_rallies_68 rfl,
   ok_aload_n G dX9_rallies_71 rfl rfl,
   ok_get G (RX9, TX9, 32) rfl (by decide) rfl q1821 dX9_rallies_72 rfl,
   ok_iconst G dX9_rallies_75 (by decide) rfl,
   ok_iload_n G dX9_rallies_76 rfl rfl,
   ok_iconst G dX9_rallies_77 (by decide) rfl,
   ok_isub G dX9_rallies_78 rfl,
   ok_iasc G dX9_rallies_79 rfl (by decide),
   ok_aload_n G dX9_rallies_80 rfl rfl,
   ok_get G (RX9, TX9, 32) rfl (by decide) rfl q1821 dX9_rallies_81 rfl,
   ok_iconst G dX9_rallies_84 (by decide) rfl,
   ok_dup2 G dX9_rallies_85 rfl,
   ok_ialc G dX9_rallies_86 rfl (by decide),
   ok_iconst G dX9_rallies_87 (by decide) rfl,
   ok_iadd G dX9_rallies_88 rfl,
   ok_iasc G dX9_rallies_89 rfl (by decide),
   ok_aload_n G dX9_rallies_90 rfl rfl,
   ok_get G (RX9, TX9, 32) rfl (by decide) rfl q1821 dX9_rallies_91 rfl,
   ok_bipush G dX9_rallies_94 (by decide) rfl,
   ok_ialc G dX9_rallies_96 rfl (by decide),
   ok_ifne G dX9_rallies_97 rfl rfl,
   ok_aload_n G dX9_rallies_100 rfl rfl,
   ok_callv G hnh (mX9_changes _ G.hst) rfl rfl (RX9, TX9, 32) rfl q2082 q2084 qs62 q93 q2085 (by decide +kernel) ⟨by decide, by decide⟩ dX9_rallies_101 rfl,
   ok_vret G dX9_rallies_104,
   ok_iload_n G dX9_rallies_105 rfl rfl,
   ok_iconst G dX9_rallies_106 (by decide) rfl,
   ok_isub G dX9_rallies_107 rfl,
   ok_istore_n G dX9_rallies_108 rfl rfl (by decide),
   ok_iload_n G dX9_rallies_109 rfl rfl,
   ok_bipush G dX9_rallies_110 (by decide) rfl,
   ok_clt G dX9_rallies_112 rfl rfl,
   ok_iload_n G dX9_rallies_115 rfl rfl,
   ok_goto G dX9_rallies_116 rfl,
   ok_iload_n G dX9_rallies_119 rfl rfl,
   ok_aload_n G dX9_rallies_120 rfl rfl,
   ok_get G (RX9, TX9, 32) rfl (by decide) rfl q1821 dX9_rallies_121 rfl,
   ok_iconst G dX9_rallies_124 (by decide) rfl,
   ok_ialc G dX9_rallies_125 rfl (by decide),
   ok_cge G dX9_rallies_126 rfl rfl,
   ok_bipush G dX9_rallies_129 (by decide) rfl,
   ok_goto G dX9_rallies_131 rfl,
   ok_iload_n G dX9_rallies_134 rfl rfl,
   ok_aload_n G dX9_rallies_135 rfl rfl,
   ok_get G (RX9, TX9, 32) rfl (by decide) rfl q1821 dX9_rallies_136 rfl,
   ok_iconst G dX9_rallies_139 (by decide) rfl,
   ok_ialc G dX9_rallies_140 rfl (by decide),
   ok_cle G dX9_rallies_141 rfl rfl,
   ok_bipush G dX9_rallies_144 (by decide) rfl,
   ok_goto G dX9_rallies_146 rfl,
   ok_bipush G dX9_rallies_149 (by decide) rfl,
   ok_istore G dX9_rallies_151 rfl (by decide),
   ok_iload_n G dX9_rallies_153 rfl rfl,
   ok_iconst G dX9_rallies_154 (by decide) rfl,
   ok_cge G dX9_rallies_155 rfl rfl,
   ok_aload_n G dX9_rallies_158 rfl rfl,
   ok_iload_n G dX9_rallies_159 rfl rfl,
   ok_ifne G dX9_rallies_160 rfl rfl,
   ok_iload_n G dX9_rallies_163 rfl rfl,
   ok_goto G dX9_rallies_164 rfl,
   ok_iconst G dX9_rallies_167 (by decide) rfl,
   ok_iload_n G dX9_rallies_168 rfl rfl,
   ok_isub G dX9_rallies_169 rfl,
   ok_callv G hnh (mX9_point _ G.hst) rfl rfl (RX9, TX9, 32) rfl q2078 q2080 qs61 q93 q2081 (by decide +kernel) ⟨by decide, by decide⟩ dX9_rallies_170 rfl,
   ok_goto G dX9_rallies_173 rfl,
   ok_iload G dX9_rallies_176 rfl,
   ok_bipush G dX9_rallies_178 (by decide) rfl,
   ok_cne G dX9_rallies_180 rfl rfl,
   ok_aload_n G dX9_rallies_183 rfl rfl,
   ok_iconst G dX9_rallies_184 (by decide) rfl,
   ok_iload_n G dX9_rallies_185 rfl rfl,
   ok_isub G dX9_rallies_186 rfl,
   ok_callv G hnh (mX9_point _ G.hst) rfl rfl (RX9, TX9, 32) rfl q2078 q2080 qs61 q93 q2081 (by decide +kernel) ⟨by decide, by decide⟩ dX9_rallies_187 rfl,
   ok_goto G dX9_rallies_190 rfl,
   ok_iload G dX9_rallies_193 rfl,
   ok_bipush G dX9_rallies_195 (by decide) rfl,
   ok_ceq G dX9_rallies_197 rfl rfl,
   ok_aload_n G dX9_rallies_200 rfl rfl,
   ok_get G (RX9, TX9, 32) rfl (by decide) rfl q1806 dX9_rallies_201 rfl,
   ok_sipush G dX9_rallies_204 (by decide) rfl,
   ok_ialc G dX9_rallies_207 rfl (by decide),
   ok_iconst G dX9_rallies_208 (by decide) rfl,
   ok_cne G dX9_rallies_209 rfl rfl,
   ok_aload_n G dX9_rallies_212 rfl rfl,
   ok_iload_n G dX9_rallies_213 rfl rfl,
   ok_callv G hnh (mX9_point _ G.hst) rfl rfl (RX9, TX9, 32) rfl q2078 q2080 qs61 q93 q2081 (by decide +kernel) ⟨by decide, by decide⟩ dX9_rallies_214 rfl,
   ok_aload_n G dX9_rallies_217 rfl rfl,
   ok_callv G hnh (mX9_gone _ G.hst) rfl rfl (RX9, TX9, 32) rfl q2086 q2088 qs63 q93 q2089 (by decide +kernel) ⟨by decide, by decide⟩ dX9_rallies_218 rfl,
   ok_vret G dX9_rallies_221, trivial⟩

/-- who has the point of a rally: -1 nobody -/
def rlW (w x : Nat → Int) (how : Int) : Int := if how = 0 then x 2 else if how = 1 then 1 - x 2 else if x 6 = 0 then -1 else if how = 12 ∨ (how < 12 ∧ how - 2 < x 4) then 1 - x 2 else if how = 13 ∨ (how < 12 ∧ x 4 < how - 2) ∨ w 196 = 1 then x 2 else -1
def rlC (x : Nat → Int) (how : Int) : Nat → Int := fun j => if j = 3 then x 3 + 1 else if (x 3 = 0 ∧ j = 4) ∨ (x 3 ≠ 0 ∧ j = 5) then how - 2 else x j
def rlY (w x : Nat → Int) (how : Int) : Nat → Int := fun j => if rlW w x how < 0 then (if x 6 = 0 then rlC x how j else x j) else pnt w x (rlW w x how).toNat j
def rlR (w x : Nat → Int) (how : Int) : Nat → Int := fun j => if x 6 = 0 then chR w (rlY w x how) j else gnR (rlY w x how) j
def rlN (w x : Nat → Int) (how : Int) : Int := if rlW w x how < 0 then -1 else if ptw x (rlW w x how).toNat = true then rlW w x how else -1
theorem rlC_at (x : Nat → Int) (how : Int) (j : Nat) : rlC x how j = if j = 3 then x 3 + 1 else if (x 3 = 0 ∧ j = 4) ∨ (x 3 ≠ 0 ∧ j = 5) then how - 2 else x j := rfl
theorem rlY_p {w x : Nat → Int} {how : Int} {p : Nat} (h : rlW w x how = p) : rlY w x how = pnt w x p := by
  funext j
  unfold rlY
  rw [h, if_neg (by omega)]
  rfl
theorem rlY_c {w x : Nat → Int} {how : Int} (h : rlW w x how = -1) (h6 : x 6 = 0) : rlY w x how = rlC x how := by
  funext j
  unfold rlY
  rw [h, if_pos (by decide), if_pos h6]
theorem rlY_n {w x : Nat → Int} {how : Int} (h : rlW w x how = -1) (h6 : x 6 ≠ 0) : rlY w x how = x := by
  funext j
  unfold rlY
  rw [h, if_pos (by decide), if_neg h6]
theorem rlR_0 {w x : Nat → Int} {how : Int} (h6 : x 6 = 0) : rlR w x how = chR w (rlY w x how) := by
  funext j
  unfold rlR
  rw [if_pos h6]
theorem rlR_1 {w x : Nat → Int} {how : Int} (h6 : x 6 ≠ 0) : rlR w x how = gnR (rlY w x how) := by
  funext j
  unfold rlR
  rw [if_neg h6]
theorem rlN_p {w x : Nat → Int} {how : Int} {p : Nat} (h : rlW w x how = p) : rlN w x how = if ptw x p = true then (p : Int) else -1 := by
  unfold rlN
  rw [h, if_neg (by omega)]
  rfl
theorem rlN_n {w x : Nat → Int} {how : Int} (h : rlW w x how = -1) : rlN w x how = -1 := by
  unfold rlN
  rw [h]
  rfl
theorem pnt_6 {w x : Nat → Int} {p : Nat} (h : x 6 = 0) (hp : p < 2) : pnt w x p 6 = 0 := by
  grind [pnt_at, ptA_at, ptB_at, ptC_at]
def sX9_rallies : mm_Sp := fun as M Q X => ∃ S L, ∃ how : Int, 0 ≤ how ∧ how ≤ 14 ∧ as = [.ref 0, .int (zI how)] ∧ M = mZ S L ∧ by5 (S 6) ∧ bw (S 1) ∧ (S 6 2 = 0 ∨ S 6 2 = 1) ∧ Q none (mZ (sx S (rlR (S 1) (S 6) how) (rlN (S 1) (S 6) how) (rlW (S 1) (S 6) how)) L)
theorem mX9_rallies (l : Launch) (hl : l.stackTraces = false) : mm_Spec l yX9_rallies (ws_ yX9_rallies cX9_rallies 5 none) (mm_rm 3 0 0) sX9_rallies := by
  rintro as M Q X ⟨S, L, how, k0, k1, rfl, rfl, hb, hw, h01, hQ⟩
  have b6 := hb 6
  have b3 := hb 3
  have b4 := hb 4
  have w5 := hw 195 (by decide) (by decide)
  have w6 := hw 196 (by decide) (by decide)
  obtain ⟨s, hs2, hs⟩ : ∃ s : Nat, s < 2 ∧ S 6 2 = s := by
    rcases h01 with h | h
    · exact ⟨0, by decide, h⟩
    · exact ⟨1, by decide, h⟩
  have ess : zI (S 6 2) = zI (s : Int) := by rw [hs]
  have es : ∀ p : Nat, p + s = 1 → (1 : Int32) - zI (S 6 2) = zI p := by
    intro p hp
    rw [zI_n, zI_sub, hs]
    congr 1
    omega
  have t90 : ∀ (y : Nat → Int) (wn pf : Int), y 6 = 0 → bx y → Q none (mZ (sx S (chR (S 1) y) wn pf) L) → mm_J pX9_rallies (mm_ret Q X 0 0) 90 [some (.ref 0), some (.int (zI how)), some (.int (zI (S 6 2))), none, none] [] (mZ (sx S y wn pf) L) (0, 0) := by
    intro y wn pf hy6 hy hq
    refine mm_J.go [] 20 (And.intro (fun h => ?_) (fun h => ?_))
    · exfalso
      have h : ¬ zI (sx S y wn pf 6 6) = 0 := h
      rw [sx_6, hy6] at h
      exact h rfl
    · refine ⟨_, L, rfl, rfl, by rw [sx_6]; exact hy, by rw [sx_1]; omega, by rw [sx_1]; omega, ?_⟩
      refine ⟨mm_Qm (mZ_c ?_ rfl) hq, Nat.le_refl _, Nat.le_refl _⟩
      simp only [sx_sx, sx_6, sx_1, sx_17, sx_18]
  have t217 : ∀ (y : Nat → Int) (wn pf : Int) (a b : Option Value), bx y → Q none (mZ (sx S (gnR y) wn pf) L) → mm_J pX9_rallies (mm_ret Q X 0 0) 217 [some (.ref 0), some (.int (zI how)), some (.int (zI (S 6 2))), a, b] [] (mZ (sx S y wn pf) L) (0, 0) := by
    intro y wn pf a b hy hq
    refine mm_J.go [] 20 ?_
    refine ⟨_, L, rfl, rfl, by rw [sx_6]; exact hy, ?_⟩
    refine ⟨mm_Qm (mZ_c ?_ rfl) hq, Nat.le_refl _, Nat.le_refl _⟩
    simp only [sx_sx, sx_6, sx_1, sx_17, sx_18]
  have hbx : bx (sx S (S 6) (-1) (-1) 6) := by rw [sx_6]; exact hb.bx
  have c0 : mm_wI (mm_wI (mZ S L) 0 17 (-1)) 0 18 (-1) = mZ (sx S (S 6) (-1) (-1)) L := by
    show mm_wI (mm_wI (mZ S L) 0 17 (zI (-1))) 0 18 (zI (-1)) = _
    rw [mZ_wI, mZ_wI]
    refine mZ_c ?_ rfl
    clear hQ t90 t217 es ess hbx
    funext a k
    grind [up_eq, sx_at]
  have z2 : (2 : Int32) ≤ zI how ↔ 2 ≤ how := by rw [zI_n, zI_le (by omega) (by omega) (by omega) (by omega)]
  have z0 : zI how = 0 ↔ how = 0 := by rw [zI_n, zI_eq (by omega) (by omega) (by omega) (by omega)]
  refine mm_Met.J hl (by decide) (Nat.le_of_ble_eq_true rfl) (fun C G hnh => tX9_rallies G hnh) (mm_J.go [10] 20 ?_)
  refine mm_Jm c0 (mm_J.go [90, 105] 60 (And.intro (fun h => ?_) (fun h => ?_)))
  · -- one is played off
    have h : ¬ zI (S 6 6) = 0 := h
    simp (disch := omega) only [zI_n, zI_eq] at h
    rw [rlR_1 h] at hQ
    have t151 : ∀ v : Int, v = (if 12 ≤ how then how else if how - 2 < S 6 4 then 12 else if S 6 4 < how - 2 then 13 else 14) → mm_J pX9_rallies (mm_ret Q X 0 0) 151 [some (.ref 0), some (.int (zI how)), some (.int (zI (S 6 2))), some (.int (zI (how - 2))), none] [.int (zI v)] (mZ (sx S (S 6) (-1) (-1)) L) (0, 0) := by
      intro v hv
      have hv0 : 12 ≤ v ∧ v ≤ 14 := by grind
      have p0 : zI v = 12 ↔ v = 12 := by rw [zI_n, zI_eq (by omega) (by omega) (by omega) (by omega)]
      have p1 : zI v = 13 ↔ v = 13 := by rw [zI_n, zI_eq (by omega) (by omega) (by omega) (by omega)]
      have pe : zI (S 1 196) = 1 ↔ S 1 196 = 1 := by rw [zI_n, zI_eq (by omega) (by omega) (by omega) (by omega)]
      refine mm_J.go [217] 40 (And.intro (fun c => ?_) (fun c => ?_))
      · have c := z2.mp c
        refine And.intro (fun d => And.intro (fun d2 => ?_) (fun d2 => And.intro (fun d3 => ?_) (fun d3 => ?_))) (fun d => ?_)
        · have d2 := p1.mp d2
          have hW : rlW (S 1) (S 6) how = s := by
            unfold rlW
            rw [if_neg (by omega), if_neg (by omega), if_neg h, if_neg (by grind), if_pos (by grind), hs]
          rw [rlY_p hW, rlN_p hW, hW] at hQ
          refine ⟨_, L, s, hs2, congrArg (fun z => [Value.ref 0, Value.int z]) (ess), rfl, hbx, mm_Jm (mZ_c ?_ rfl) (t217 _ _ _ _ _ (pnt_bx hb hw) hQ)⟩
          simp only [sx_sx, sx_6, sx_1, sx_17]
        · have d : ¬ v = 12 := fun q => d (p0.mpr q)
          have d2 : ¬ v = 13 := fun q => d2 (p1.mpr q)
          have d3 : ¬ S 1 196 = 1 := fun q => d3 (pe.mpr q)
          have hW : rlW (S 1) (S 6) how = -1 := by
            unfold rlW
            rw [if_neg (by omega), if_neg (by omega), if_neg h, if_neg (by grind), if_neg (by grind)]
          rw [rlY_n hW h, rlN_n hW, hW] at hQ
          exact t217 _ _ _ _ _ hb.bx hQ
        · have d : ¬ v = 12 := fun q => d (p0.mpr q)
          have d3 := pe.mp d3
          have hW : rlW (S 1) (S 6) how = s := by
            unfold rlW
            rw [if_neg (by omega), if_neg (by omega), if_neg h, if_neg (by grind), if_pos (by grind), hs]
          rw [rlY_p hW, rlN_p hW, hW] at hQ
          refine ⟨_, L, s, hs2, congrArg (fun z => [Value.ref 0, Value.int z]) (ess), rfl, hbx, mm_Jm (mZ_c ?_ rfl) (t217 _ _ _ _ _ (pnt_bx hb hw) hQ)⟩
          simp only [sx_sx, sx_6, sx_1, sx_17]
        · have d := p0.mp d
          obtain ⟨p, hp⟩ : ∃ p : Nat, p + s = 1 := ⟨1 - s, by omega⟩
          have hW : rlW (S 1) (S 6) how = p := by
            unfold rlW
            rw [if_neg (by omega), if_neg (by omega), if_neg h, if_pos (by grind), hs]
            omega
          rw [rlY_p hW, rlN_p hW, hW] at hQ
          refine ⟨_, L, p, (by omega), congrArg (fun z => [Value.ref 0, Value.int z]) ((es p hp)), rfl, hbx, mm_Jm (mZ_c ?_ rfl) (t217 _ _ _ _ _ (pnt_bx hb hw) hQ)⟩
          simp only [sx_sx, sx_6, sx_1, sx_17]
      · have c : ¬ 2 ≤ how := fun q => c (z2.mpr q)
        refine And.intro (fun d => ?_) (fun d => ?_)
        · have d : ¬ how = 0 := fun q => d (z0.mpr q)
          obtain ⟨p, hp⟩ : ∃ p : Nat, p + s = 1 := ⟨1 - s, by omega⟩
          have hW : rlW (S 1) (S 6) how = p := by
            unfold rlW
            rw [if_neg d, if_pos (by omega), hs]
            omega
          rw [rlY_p hW, rlN_p hW, hW] at hQ
          refine ⟨_, L, p, (by omega), congrArg (fun z => [Value.ref 0, Value.int z]) ((es p hp)), rfl, hbx, mm_Jm (mZ_c ?_ rfl) (t217 _ _ _ _ _ (pnt_bx hb hw) hQ)⟩
          simp only [sx_sx, sx_6, sx_1, sx_17]
        · have d := z0.mp d
          have hW : rlW (S 1) (S 6) how = s := by
            unfold rlW
            rw [if_pos d, hs]
          rw [rlY_p hW, rlN_p hW, hW] at hQ
          refine ⟨_, L, s, hs2, congrArg (fun z => [Value.ref 0, Value.int z]) (ess), rfl, hbx, mm_Jm (mZ_c ?_ rfl) (t217 _ _ _ _ _ (pnt_bx hb hw) hQ)⟩
          simp only [sx_sx, sx_6, sx_1, sx_17]
    refine mm_J.go [109] 20 ?_
    refine mm_Jl (lv' := [some (.ref 0), some (.int (zI how)), some (.int (zI (S 6 2))), some (.int (zI (how - 2))), none]) (by rw [← zI_sub]; rfl) (mm_J.go [151] 40 (And.intro (fun c => ?_) (fun c => ?_)))
    · have c : zI how < 12 := c
      rw [zI_n, zI_lt (by omega) (by omega) (by omega) (by omega)] at c
      refine And.intro (fun d => And.intro (fun d2 => ?_) (fun d2 => ?_)) (fun d => ?_)
      · have d : zI (S 6 4) ≤ zI (how - 2) := d
        have d2 : zI (how - 2) ≤ zI (S 6 4) := d2
        simp (disch := omega) only [zI_le] at d d2
        exact t151 14 (by grind)
      · have d : zI (S 6 4) ≤ zI (how - 2) := d
        have d2 : ¬ zI (how - 2) ≤ zI (S 6 4) := d2
        simp (disch := omega) only [zI_le] at d d2
        exact t151 13 (by grind)
      · have d : ¬ zI (S 6 4) ≤ zI (how - 2) := d
        simp (disch := omega) only [zI_le] at d
        exact t151 12 (by grind)
    · have c : ¬ zI how < 12 := c
      rw [zI_n, zI_lt (by omega) (by omega) (by omega) (by omega)] at c
      exact t151 how (by grind)
  · -- none is played off
    have h : zI (S 6 6) = 0 := h
    simp (disch := omega) only [zI_n, zI_eq] at h
    rw [rlR_0 h] at hQ
    refine And.intro (fun c => ?_) (fun c => ?_)
    · have c := z2.mp c
      have hW : rlW (S 1) (S 6) how = -1 := by
        unfold rlW
        rw [if_neg (by omega), if_neg (by omega), if_pos h]
      rw [rlY_c hW h, rlN_n hW, hW] at hQ
      have hcx : bx (rlC (S 6) how) := by
        intro j
        have := hb j
        grind [rlC_at]
      have hc6 : rlC (S 6) how 6 = 0 := by grind [rlC_at]
      refine And.intro (fun d => ?_) (fun d => ?_)
      · have d : ¬ zI (S 6 3) = 0 := d
        simp (disch := omega) only [zI_n, zI_eq] at d
        refine mm_Jm ?_ (t90 _ (-1) (-1) hc6 hcx hQ)
        simp only [mZ_wI, mZ_I, zI_n, zI_add, zI_sub]
        refine mZ_c ?_ rfl
        clear hQ t90 t217 es ess c0 hbx
        funext a k
        grind [up_eq, sx_at, rlC_at]
      · have d : zI (S 6 3) = 0 := d
        simp (disch := omega) only [zI_n, zI_eq] at d
        refine mm_Jm ?_ (t90 _ (-1) (-1) hc6 hcx hQ)
        simp only [mZ_wI, mZ_I, zI_n, zI_add, zI_sub]
        refine mZ_c ?_ rfl
        clear hQ t90 t217 es ess c0 hbx
        funext a k
        grind [up_eq, sx_at, rlC_at]
    · have c : ¬ 2 ≤ how := fun q => c (z2.mpr q)
      refine And.intro (fun d => ?_) (fun d => ?_)
      · have d : ¬ how = 0 := fun q => d (z0.mpr q)
        obtain ⟨p, hp⟩ : ∃ p : Nat, p + s = 1 := ⟨1 - s, by omega⟩
        have hW : rlW (S 1) (S 6) how = p := by
          unfold rlW
          rw [if_neg d, if_pos (by omega), hs]
          omega
        rw [rlY_p hW, rlN_p hW, hW] at hQ
        refine ⟨_, L, p, (by omega), congrArg (fun z => [Value.ref 0, Value.int z]) ((es p hp)), rfl, hbx, mm_Jm (mZ_c ?_ rfl) (t90 _ _ _ (pnt_6 h (by omega)) (pnt_bx hb hw) hQ)⟩
        simp only [sx_sx, sx_6, sx_1, sx_17]
      · have d := z0.mp d
        have hW : rlW (S 1) (S 6) how = s := by
          unfold rlW
          rw [if_pos d, hs]
        rw [rlY_p hW, rlN_p hW, hW] at hQ
        refine ⟨_, L, s, hs2, congrArg (fun z => [Value.ref 0, Value.int z]) (ess), rfl, hbx, mm_Jm (mZ_c ?_ rfl) (t90 _ _ _ (pnt_6 h (by omega)) (pnt_bx hb hw) hQ)⟩
        simp only [sx_sx, sx_6, sx_1, sx_17]
