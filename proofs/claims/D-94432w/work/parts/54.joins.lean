/-! ===== the model's mends: joins ===== -/
set_option maxRecDepth 100000
def jnL (L : Nat → Nat → Int) (k fr mo i : Nat) : Nat → Nat → Int := fun h j => if h = 17 ∧ 31 * k + mo ≤ j ∧ j < 31 * k + mo + i then L 17 j + L 16 (31 * fr + (j - (31 * k + mo))) else L h j
theorem jnL_at (L : Nat → Nat → Int) (k fr mo i h j : Nat) : jnL L k fr mo i h j = if h = 17 ∧ 31 * k + mo ≤ j ∧ j < 31 * k + mo + i then L 17 j + L 16 (31 * fr + (j - (31 * k + mo))) else L h j := rfl
def jnZ (L : Nat → Nat → Int) (k i : Nat) : Nat → Nat → Int := fun h j => if h = 17 ∧ 31 * k ≤ j ∧ j < 31 * k + i then 0 else L h j
theorem jnZ_at (L : Nat → Nat → Int) (k i h j : Nat) : jnZ L k i h j = if h = 17 ∧ 31 * k ≤ j ∧ j < 31 * k + i then 0 else L h j := rfl
theorem jnL_step (L : Nat → Nat → Int) (k fr mo i : Nat) : mm_up (jnL L k fr mo i) 17 (31 * k + i + mo) (jnL L k fr mo i 17 (31 * k + i + mo) + jnL L k fr mo i 16 (31 * fr + i)) = jnL L k fr mo (i + 1) := by
  have e1 : jnL L k fr mo i 17 (31 * k + i + mo) = L 17 (31 * k + i + mo) := by rw [jnL_at, if_neg (by omega)]
  have e2 : jnL L k fr mo i 16 (31 * fr + i) = L 16 (31 * fr + i) := by rw [jnL_at, if_neg (by omega)]
  rw [e1, e2]
  funext h j
  rw [up_eq, jnL_at, jnL_at]
  by_cases h1 : h = 17 ∧ j = 31 * k + i + mo
  · have c2 : h = 17 ∧ 31 * k + mo ≤ j ∧ j < 31 * k + mo + (i + 1) := by omega
    have c3 : j - (31 * k + mo) = i := by omega
    rw [if_pos h1, if_pos c2, c3, h1.2]
  · have c2 : (h = 17 ∧ 31 * k + mo ≤ j ∧ j < 31 * k + mo + (i + 1)) ↔ (h = 17 ∧ 31 * k + mo ≤ j ∧ j < 31 * k + mo + i) := by omega
    rw [if_neg h1]
    simp only [c2]
theorem jnZ_step (L : Nat → Nat → Int) (k i : Nat) : mm_up (jnZ L k i) 17 (31 * k + i) 0 = jnZ L k (i + 1) := by
  funext h j
  rw [up_eq, jnZ_at, jnZ_at]
  by_cases h1 : h = 17 ∧ j = 31 * k + i
  · have c2 : h = 17 ∧ 31 * k ≤ j ∧ j < 31 * k + (i + 1) := by omega
    rw [if_pos h1, if_pos c2]
  · have c2 : (h = 17 ∧ 31 * k ≤ j ∧ j < 31 * k + (i + 1)) ↔ (h = 17 ∧ 31 * k ≤ j ∧ j < 31 * k + i) := by omega
    rw [if_neg h1]
    simp only [c2]
def zX9_joins : zz_Sp := fun as M Q X => match as with
  | [.inr (.inr (some h_)), .inl fr, .inl mo] => bif Nat.beq h_ 0 && Nat.beq M.1.1 1 then (∃ N_ u_ v_ : Nat, bx (M.2.1 6) ∧ R32 (whR (M.2.1 6)) ∧ M.2.1 0 31 = N_ ∧ N_ ≤ 4000 ∧ (∀ s_, s_ < N_ → R32 (M.2.1 15 s_)) ∧ ((∀ s_, s_ < N_ → M.2.1 15 s_ ≠ whR (M.2.1 6)) → N_ < 4000) ∧ fr = u_ ∧ u_ < 4000 ∧ mo = v_ ∧ v_ < 2 ∧ (∀ k_, k_ < N_ → M.2.1 15 k_ = whR (M.2.1 6) → Q none (zm M.2.1 (jnL M.2.2.1 k_ u_ v_ (31 - v_)))) ∧ ((∀ s_, s_ < N_ → M.2.1 15 s_ ≠ whR (M.2.1 6)) → Q none (zm (mm_up (mm_up M.2.1 15 N_ (whR (M.2.1 6))) 0 31 (N_ + 1 : Nat)) (jnL (jnZ M.2.2.1 N_ 31) N_ u_ v_ (31 - v_))))) else False
  | _ => False

def zpX9_joins : zz_P := [(0, zo_ald 1 0), (1, zo_callv 4 1 8 zX9_whole), (4, zo_ist 5 3), (5, zo_c 6 (vi 0)), (6, zo_ist 8 4), (8, zo_ild 10 4), (10, zo_ald 11 0), (11, zo_get 14 8 0 31), (14, zo_cge false false 17 34), (17, zo_ald 18 0), (18, zo_get 21 8 2 27), (21, zo_ild 23 4), (23, zo_iald 24), (24, zo_ild 25 3), (25, zo_ceq false false 28 34), (28, zo_inc 31 4 1), (31, zo_goto 8), (34, zo_ild 36 4), (36, zo_ald 37 0), (37, zo_get 40 8 0 31), (40, zo_cne false false 43 91), (43, zo_ald 44 0), (44, zo_get 47 8 2 27), (47, zo_ild 49 4), (49, zo_ild 50 3), (50, zo_iasd 51), (51, zo_c 52 (vi 0)), (52, zo_ist 54 5), (54, zo_ild 56 5), (56, zo_c 58 (vi 31)), (58, zo_cge false true 61 81), (61, zo_ald 62 0), (62, zo_get 65 8 2 29), (65, zo_c 67 (vi 31)), (67, zo_ild 69 4), (69, zo_imul 70), (70, zo_ild 72 5), (72, zo_iadd 73), (73, zo_c 74 (vl 0)), (74, zo_lasd 75), (75, zo_inc 78 5 1), (78, zo_goto 54), (81, zo_ald 82 0), (82, zo_dup 83), (83, zo_get 86 8 0 31), (86, zo_c 87 (vi 1)), (87, zo_iadd 88), (88, zo_puti 91 8 31), (91, zo_c 92 (vi 0)), (92, zo_ist 94 5), (94, zo_ild 96 5), (96, zo_ild 97 2), (97, zo_iadd 98), (98, zo_c 100 (vi 31)), (100, zo_cge false true 103 139), (103, zo_ald 104 0), (104, zo_get 107 8 2 29), (107, zo_c 109 (vi 31)), (109, zo_ild 111 4), (111, zo_imul 112), (112, zo_ild 114 5), (114, zo_iadd 115), (115, zo_ild 116 2), (116, zo_iadd 117), (117, zo_dup2 118), (118, zo_lald 119), (119, zo_ald 120 0), (120, zo_get 123 8 2 28), (123, zo_c 125 (vi 31)), (125, zo_ild 126 1), (126, zo_imul 127), (127, zo_ild 129 5), (129, zo_iadd 130), (130, zo_lald 131), (131, zo_ladd 132), (132, zo_lasd 133), (133, zo_inc 136 5 1), (136, zo_goto 94), (139, zo_vret)]
theorem ztX9_joins {C : mm_C} (G : mm_G C RX9 cX9_joins none 6 (mm_rm 3 0 0)) (hnh : mm_nh C) : zz_OKs C zpX9_joins :=
  ⟨zz_of (ok_aload_n G dX9_joins_0 rfl rfl) (z_ald _ _),
   zz_of (ok_callv G hnh (zmX9_whole _ G.hst) rfl rfl (RX9, TX9, 32) rfl q2195 q2197 qs78 q93 q2198 (by decide +kernel) ⟨by decide, by decide⟩ dX9_joins_1 rfl) (z_callv _ _ _ _),
   zz_of (ok_istore_n G dX9_joins_4 rfl rfl (by decide)) (z_ist _ _),
   zz_of (ok_iconst G (v := 0) dX9_joins_5 (by decide) rfl) (z_cn 6 0),
   zz_of (ok_istore G dX9_joins_6 rfl (by decide)) (z_ist _ _),
   zz_of (ok_iload G dX9_joins_8 rfl) (z_ild _ _),
   zz_of (ok_aload_n G dX9_joins_10 rfl rfl) (z_ald _ _),
   zz_of (ok_get G (nx := 14) (ci := 8) (kd := 0) (k := 31) (RX9, TX9, 32) rfl (by decide) rfl q1836 dX9_joins_11 rfl) (z_get _ _ _ _),
   zz_of (ok_cge G dX9_joins_14 rfl rfl) (z_cge _ _ _ _),
   zz_of (ok_aload_n G dX9_joins_17 rfl rfl) (z_ald _ _),
   zz_of (ok_get G (nx := 21) (ci := 8) (kd := 2) (k := 27) (RX9, TX9, 32) rfl (by decide) rfl q1832 dX9_joins_18 rfl) (z_get _ _ _ _),
   zz_of (ok_iload G dX9_joins_21 rfl) (z_ild _ _),
   zz_of (ok_iald G dX9_joins_23 rfl) (z_iald _),
   zz_of (ok_iload_n G dX9_joins_24 rfl rfl) (z_ild _ _),
   zz_of (ok_ceq G dX9_joins_25 rfl rfl) (z_ceq _ _ _ _),
   zz_of (ok_iinc G (v := 1) dX9_joins_28 (by decide) rfl (by decide)) (z_incn 31 4 1),
   zz_of (ok_goto G dX9_joins_31 rfl) (z_goto _),
   zz_of (ok_iload G dX9_joins_34 rfl) (z_ild _ _),
   zz_of (ok_aload_n G dX9_joins_36 rfl rfl) (z_ald _ _),
   zz_of (ok_get G (nx := 40) (ci := 8) (kd := 0) (k := 31) (RX9, TX9, 32) rfl (by decide) rfl q1836 dX9_joins_37 rfl) (z_get _ _ _ _),
   zz_of (ok_cne G dX9_joins_40 rfl rfl) (z_cne _ _ _ _),
   zz_of (ok_aload_n G dX9_joins_43 rfl rfl) (z_ald _ _),
   zz_of (ok_get G (nx := 47) (ci := 8) (kd := 2) (k := 27) (RX9, TX9, 32) rfl (by decide) rfl q1832 dX9_joins_44 rfl) (z_get _ _ _ _),
   zz_of (ok_iload G dX9_joins_47 rfl) (z_ild _ _),
   zz_of (ok_iload_n G dX9_joins_49 rfl rfl) (z_ild _ _),
   zz_of (ok_iast G dX9_joins_50 rfl) (z_iasd _),
   zz_of (ok_iconst G (v := 0) dX9_joins_51 (by decide) rfl) (z_cn 52 0),
   zz_of (ok_istore G dX9_joins_52 rfl (by decide)) (z_ist _ _),
   zz_of (ok_iload G dX9_joins_54 rfl) (z_ild _ _),
   zz_of (ok_bipush G (v := 31) dX9_joins_56 (by decide) rfl) (z_cn 58 31),
   zz_of (ok_cge G dX9_joins_58 rfl rfl) (z_cge _ _ _ _),
   zz_of (ok_aload_n G dX9_joins_61 rfl rfl) (z_ald _ _),
   zz_of (ok_get G (nx := 65) (ci := 8) (kd := 2) (k := 29) (RX9, TX9, 32) rfl (by decide) rfl q1834 dX9_joins_62 rfl) (z_get _ _ _ _),
   zz_of (ok_bipush G (v := 31) dX9_joins_65 (by decide) rfl) (z_cn 67 31),
   zz_of (ok_iload G dX9_joins_67 rfl) (z_ild _ _),
   zz_of (ok_imul G dX9_joins_69 rfl) (z_imul _),
   zz_of (ok_iload G dX9_joins_70 rfl) (z_ild _ _),
   zz_of (ok_iadd G dX9_joins_72 rfl) (z_iadd _),
   zz_of (ok_lconst G (v := 0) dX9_joins_73 (by decide) rfl) (z_cl 74 0),
   zz_of (ok_last G dX9_joins_74 rfl) (z_lasd _),
   zz_of (ok_iinc G (v := 1) dX9_joins_75 (by decide) rfl (by decide)) (z_incn 78 5 1),
   zz_of (ok_goto G dX9_joins_78 rfl) (z_goto _),
   zz_of (ok_aload_n G dX9_joins_81 rfl rfl) (z_ald _ _),
   zz_of (ok_dup G dX9_joins_82 rfl) (z_dup _),
   zz_of (ok_get G (nx := 86) (ci := 8) (kd := 0) (k := 31) (RX9, TX9, 32) rfl (by decide) rfl q1836 dX9_joins_83 rfl) (z_get _ _ _ _),
   zz_of (ok_iconst G (v := 1) dX9_joins_86 (by decide) rfl) (z_cn 87 1),
   zz_of (ok_iadd G dX9_joins_87 rfl) (z_iadd _),
   zz_of (ok_puti G (nx := 91) (idx := 293) (ci := 8) (k := 31) (RX9, TX9, 32) rfl (by decide) rfl (mm_pw G (ci := 8) (k := 31) (RX9, TX9, 32) rfl (by decide) rfl q1836 dX9_joins_88) rfl) (z_puti _ _ _),
   zz_of (ok_iconst G (v := 0) dX9_joins_91 (by decide) rfl) (z_cn 92 0),
   zz_of (ok_istore G dX9_joins_92 rfl (by decide)) (z_ist _ _),
   zz_of (ok_iload G dX9_joins_94 rfl) (z_ild _ _),
   zz_of (ok_iload_n G dX9_joins_96 rfl rfl) (z_ild _ _),
   zz_of (ok_iadd G dX9_joins_97 rfl) (z_iadd _),
   zz_of (ok_bipush G (v := 31) dX9_joins_98 (by decide) rfl) (z_cn 100 31),
   zz_of (ok_cge G dX9_joins_100 rfl rfl) (z_cge _ _ _ _),
   zz_of (ok_aload_n G dX9_joins_103 rfl rfl) (z_ald _ _),
   zz_of (ok_get G (nx := 107) (ci := 8) (kd := 2) (k := 29) (RX9, TX9, 32) rfl (by decide) rfl q1834 dX9_joins_104 rfl) (z_get _ _ _ _),
   zz_of (ok_bipush G (v := 31) dX9_joins_107 (by decide) rfl) (z_cn 109 31),
   zz_of (ok_iload G dX9_joins_109 rfl) (z_ild _ _),
   zz_of (ok_imul G dX9_joins_111 rfl) (z_imul _),
   zz_of (ok_iload G dX9_joins_112 rfl) (z_ild _ _),
   zz_of (ok_iadd G dX9_joins_114 rfl) (z_iadd _),
   zz_of (ok_iload_n G dX9_joins_115 rfl rfl) (z_ild _ _),
   zz_of (ok_iadd G dX9_joins_116 rfl) (z_iadd _),
   zz_of (ok_dup2 G dX9_joins_117 rfl) (z_dup2 _),
   zz_of (ok_lald G dX9_joins_118 rfl) (z_lald _),
   zz_of (ok_aload_n G dX9_joins_119 rfl rfl) (z_ald _ _),
   zz_of (ok_get G (nx := 123) (ci := 8) (kd := 2) (k := 28) (RX9, TX9, 32) rfl (by decide) rfl q1833 dX9_joins_120 rfl) (z_get _ _ _ _),
   zz_of (ok_bipush G (v := 31) dX9_joins_123 (by decide) rfl) (z_cn 125 31),
   zz_of (ok_iload_n G dX9_joins_125 rfl rfl) (z_ild _ _),
   zz_of (ok_imul G dX9_joins_126 rfl) (z_imul _),
   zz_of (ok_iload G dX9_joins_127 rfl) (z_ild _ _),
   zz_of (ok_iadd G dX9_joins_129 rfl) (z_iadd _),
   zz_of (ok_lald G dX9_joins_130 rfl) (z_lald _),
   zz_of (ok_ladd G dX9_joins_131 rfl) (z_ladd _),
   zz_of (ok_last G dX9_joins_132 rfl) (z_lasd _),
   zz_of (ok_iinc G (v := 1) dX9_joins_133 (by decide) rfl (by decide)) (z_incn 136 5 1),
   zz_of (ok_goto G dX9_joins_136 rfl) (z_goto _),
   zz_of (ok_vret G dX9_joins_139) (z_vret), trivial⟩

theorem zwX9_joins_0 {Q : Option zv → zz_M → Prop} {X : Nat → zz_M → Prop} {S L : Nat → Nat → Int} {fr : Int} {mo : Int} (h : (bx (S 6) ∧ (zz_J zpX9_joins (zz_ret Q X 0 0) 8 [some (vr 0), some (vi fr), some (vi mo), some (vi (whR (S 6))), some (vi 0), none] [] (zm S L) (0, 0)))) : zz_J zpX9_joins (zz_ret Q X 0 0) 0 [some (vr 0), some (vi fr), some (vi mo), none, none, none] [] (zm S L) (0, 0) := zz_J.go [(8, [5]), (34, [5]), (54, [3]), (91, [3, 5]), (94, [3])] 400 h
theorem zwX9_joins_8 {Q : Option zv → zz_M → Prop} {X : Nat → zz_M → Prop} {S L : Nat → Nat → Int} {x1 : Int} {x2 : Int} {x3 : Int} {x4 : Int} (h : R32 x4 ∧ (R32 (S 0 31) ∧ (((S 0 31) ≤ x4 → zz_J zpX9_joins (zz_ret Q X 0 0) 34 [some (vr 0), some (vi x1), some (vi x2), some (vi x3), some (vi x4), none] [] (zm S L) (0, 0)) ∧ (¬ (S 0 31) ≤ x4 → (0 ≤ x4 ∧ x4 < 4000) ∧ (R32 (S 15 x4.toNat) ∧ (R32 x3 ∧ (((S 15 x4.toNat) = x3 → zz_J zpX9_joins (zz_ret Q X 0 0) 34 [some (vr 0), some (vi x1), some (vi x2), some (vi x3), some (vi x4), none] [] (zm S L) (0, 0)) ∧ (¬ (S 15 x4.toNat) = x3 → zz_J zpX9_joins (zz_ret Q X 0 0) 8 [some (vr 0), some (vi x1), some (vi x2), some (vi x3), some (vi (x4 + 1)), none] [] (zm S L) (0, 0))))))))) : zz_J zpX9_joins (zz_ret Q X 0 0) 8 [some (vr 0), some (vi x1), some (vi x2), some (vi x3), some (vi x4), none] [] (zm S L) (0, 0) := zz_J.go [(8, [5]), (34, [5]), (54, [3]), (91, [3, 5]), (94, [3])] 400 h
theorem zwX9_joins_34 {Q : Option zv → zz_M → Prop} {X : Nat → zz_M → Prop} {S L : Nat → Nat → Int} {x1 : Int} {x2 : Int} {x3 : Int} {x4 : Int} (h : R32 x4 ∧ (R32 (S 0 31) ∧ ((¬ x4 = (S 0 31) → zz_J zpX9_joins (zz_ret Q X 0 0) 91 [some (vr 0), some (vi x1), some (vi x2), none, some (vi x4), none] [] (zm S L) (0, 0)) ∧ (x4 = (S 0 31) → (0 ≤ x4 ∧ x4 < 4000) ∧ (zz_J zpX9_joins (zz_ret Q X 0 0) 54 [some (vr 0), some (vi x1), some (vi x2), none, some (vi x4), some (vi 0)] [] (zm (mm_up S 15 x4.toNat x3) L) (0, 0)))))) : zz_J zpX9_joins (zz_ret Q X 0 0) 34 [some (vr 0), some (vi x1), some (vi x2), some (vi x3), some (vi x4), none] [] (zm S L) (0, 0) := zz_J.go [(8, [5]), (34, [5]), (54, [3]), (91, [3, 5]), (94, [3])] 400 h
theorem zwX9_joins_54 {Q : Option zv → zz_M → Prop} {X : Nat → zz_M → Prop} {S L : Nat → Nat → Int} {x1 : Int} {x2 : Int} {x4 : Int} {x5 : Int} (h : R32 x5 ∧ ((31 ≤ x5 → zz_J zpX9_joins (zz_ret Q X 0 0) 91 [some (vr 0), some (vi x1), some (vi x2), none, some (vi x4), none] [] (zm (mm_up S 0 31 ((S 0 31) + 1)) L) (0, 0)) ∧ (¬ 31 ≤ x5 → (0 ≤ ((31 * x4) + x5) ∧ ((31 * x4) + x5) < 124000) ∧ (zz_J zpX9_joins (zz_ret Q X 0 0) 54 [some (vr 0), some (vi x1), some (vi x2), none, some (vi x4), some (vi (x5 + 1))] [] (zm S (mm_up L 17 (((31 * x4) + x5).toNat) 0)) (0, 0))))) : zz_J zpX9_joins (zz_ret Q X 0 0) 54 [some (vr 0), some (vi x1), some (vi x2), none, some (vi x4), some (vi x5)] [] (zm S L) (0, 0) := zz_J.go [(8, [5]), (34, [5]), (54, [3]), (91, [3, 5]), (94, [3])] 400 h
theorem zwX9_joins_91 {Q : Option zv → zz_M → Prop} {X : Nat → zz_M → Prop} {S L : Nat → Nat → Int} {x1 : Int} {x2 : Int} {x4 : Int} (h : zz_J zpX9_joins (zz_ret Q X 0 0) 94 [some (vr 0), some (vi x1), some (vi x2), none, some (vi x4), some (vi 0)] [] (zm S L) (0, 0)) : zz_J zpX9_joins (zz_ret Q X 0 0) 91 [some (vr 0), some (vi x1), some (vi x2), none, some (vi x4), none] [] (zm S L) (0, 0) := zz_J.go [(8, [5]), (34, [5]), (54, [3]), (91, [3, 5]), (94, [3])] 400 h
theorem zwX9_joins_94 {Q : Option zv → zz_M → Prop} {X : Nat → zz_M → Prop} {S L : Nat → Nat → Int} {x1 : Int} {x2 : Int} {x4 : Int} {x5 : Int} (h : R32 (x5 + x2) ∧ ((31 ≤ (x5 + x2) → Q none (zm S L)) ∧ (¬ 31 ≤ (x5 + x2) → (0 ≤ (((31 * x4) + x5) + x2) ∧ (((31 * x4) + x5) + x2) < 124000) ∧ ((0 ≤ ((31 * x1) + x5) ∧ ((31 * x1) + x5) < 124000) ∧ ((0 ≤ (((31 * x4) + x5) + x2) ∧ (((31 * x4) + x5) + x2) < 124000) ∧ (zz_J zpX9_joins (zz_ret Q X 0 0) 94 [some (vr 0), some (vi x1), some (vi x2), none, some (vi x4), some (vi (x5 + 1))] [] (zm S (mm_up L 17 ((((31 * x4) + x5) + x2).toNat) ((L 17 ((((31 * x4) + x5) + x2).toNat)) + (L 16 (((31 * x1) + x5).toNat))))) (0, 0))))))) : zz_J zpX9_joins (zz_ret Q X 0 0) 94 [some (vr 0), some (vi x1), some (vi x2), none, some (vi x4), some (vi x5)] [] (zm S L) (0, 0) := zz_J.go [(8, [5]), (34, [5]), (54, [3]), (91, [3, 5]), (94, [3])] 400 h

theorem zmX9_joins (l : Launch) (hl : l.stackTraces = false) : mm_Spec l yX9_joins (ws_ yX9_joins cX9_joins 6 none) (mm_rm 3 0 0) (zE zX9_joins) := by
  refine zz_Met.J hl (by decide) (fun C G hnh => ztX9_joins G hnh) ?_
  rintro as ⟨⟨t_, f⟩, S, L, P⟩ Q X h
  unfold zX9_joins at h
  split at h
  rotate_left
  · exact h.elim
  rename_i h_ fr mo
  obtain ⟨e1_, e2_, h⟩ := mm_and2 h (fun q => q)
  cases mm_beq e1_
  cases mm_beq e2_
  try dsimp only at h
  refine ⟨rfl, ?_⟩
  refine zz_Jev (M' := zm S L) rfl rfl rfl ?_
  obtain ⟨N, u, v, hb, hR, h31, hN, hs, hroom, rfl, hu, rfl, hv, hq1, hq2⟩ := h
  -- the ways are added
  have t94 : ∀ (r i k : Nat) (T : Nat → Nat → Int) (L0 : Nat → Nat → Int), i + r = 31 - v → k < 4000 → Q none (zm T (jnL L0 k u v (31 - v))) → zz_J zpX9_joins (zz_ret Q X 0 0) 94 [some (vr 0), some (vi u), some (vi v), none, some (vi k), some (vi i)] [] (zm T (jnL L0 k u v i)) (0, 0) := by
    intro r
    induction r with
    | zero =>
      intro i k T L0 hi hk hq
      have ei : i = 31 - v := by omega
      subst ei
      refine zwX9_joins_94 ⟨by omega, fun _ => hq, fun c => by omega⟩
    | succ r ih =>
      intro i k T L0 hi hk hq
      have e1 : ((31 : Int) * k + i + v).toNat = 31 * k + i + v := by omega
      have e2 : ((31 : Int) * u + i).toNat = 31 * u + i := by omega
      refine zwX9_joins_94 ⟨by omega, fun c => by omega, fun _ => ⟨by omega, by omega, by omega, ?_⟩⟩
      rw [e1, e2, jnL_step]
      exact ih (i + 1) k T L0 (by omega) hk hq
  have t91 : ∀ (k : Nat) (T : Nat → Nat → Int) (L0 : Nat → Nat → Int), k < 4000 → Q none (zm T (jnL L0 k u v (31 - v))) → zz_J zpX9_joins (zz_ret Q X 0 0) 91 [some (vr 0), some (vi u), some (vi v), none, some (vi k), none] [] (zm T L0) (0, 0) := by
    intro k T L0 hk hq
    refine zwX9_joins_91 ?_
    have e : jnL L0 k u v 0 = L0 := by
      funext h j
      rw [jnL_at, if_neg (by omega)]
    have := t94 (31 - v) 0 k T L0 (by omega) hk hq
    rw [e] at this
    exact this
  -- a new state
  have t54 : ∀ (r i : Nat), i + r = 31 → N < 4000 → Q none (zm (mm_up (mm_up S 15 N (whR (S 6))) 0 31 (N + 1 : Nat)) (jnL (jnZ L N 31) N u v (31 - v))) → zz_J zpX9_joins (zz_ret Q X 0 0) 54 [some (vr 0), some (vi u), some (vi v), none, some (vi N), some (vi i)] [] (zm (mm_up S 15 N (whR (S 6))) (jnZ L N i)) (0, 0) := by
    intro r
    induction r with
    | zero =>
      intro i hi hN' hq
      have ei : i = 31 := by omega
      subst ei
      refine zwX9_joins_54 ⟨by omega, fun _ => ?_, fun c => absurd c (by decide)⟩
      have e : mm_up S 15 N (whR (S 6)) 0 31 = N := by simpa [up_eq] using h31
      rw [e]
      exact t91 N _ _ hN' hq
    | succ r ih =>
      intro i hi hN' hq
      have e1 : ((31 : Int) * N + i).toNat = 31 * N + i := by omega
      refine zwX9_joins_54 ⟨by omega, fun c => by omega, fun _ => ⟨by omega, ?_⟩⟩
      rw [e1, jnZ_step]
      exact ih (i + 1) (by omega) hN' hq
  have t8 : ∀ (r k : Nat), k + r = N → (∀ s, s < k → S 15 s ≠ whR (S 6)) → zz_J zpX9_joins (zz_ret Q X 0 0) 8 [some (vr 0), some (vi u), some (vi v), some (vi (whR (S 6))), some (vi k), none] [] (zm S L) (0, 0) := by
    intro r
    induction r with
    | zero =>
      intro k hk hn
      have ek : k = N := by omega
      subst ek
      refine zwX9_joins_8 ⟨by omega, by rw [h31]; omega, fun _ => ?_, fun c => by rw [h31] at c; omega⟩
      have hN' := hroom hn
      refine zwX9_joins_34 ⟨by omega, by rw [h31]; omega, fun c => by rw [h31] at c; omega, fun _ => ⟨by omega, ?_⟩⟩
      rw [Int.toNat_natCast]
      have := t54 31 0 (by decide) hN' (hq2 hn)
      have e : jnZ L k 0 = L := by
        funext h j
        rw [jnZ_at, if_neg (by omega)]
      rw [e] at this
      exact this
    | succ r ih =>
      intro k hk hn
      refine zwX9_joins_8 ⟨by omega, by rw [h31]; omega, fun c => by rw [h31] at c; omega, fun _ => ⟨by omega, by rw [Int.toNat_natCast]; exact hs k (by omega), hR, fun c => ?_, fun c => ?_⟩⟩
      · rw [Int.toNat_natCast] at c
        refine zwX9_joins_34 ⟨by omega, by rw [h31]; omega, fun _ => ?_, fun c => by rw [h31] at c; omega⟩
        exact t91 k S L (by omega) (hq1 k (by omega) c)
      · rw [Int.toNat_natCast] at c
        refine ih (k + 1) (by omega) (fun s hs' => ?_)
        by_cases e : s = k
        · rw [e]; exact c
        · exact hn s (by omega)
  exact zwX9_joins_0 ⟨hb, t8 N 0 (by omega) (fun s h => absurd h (Nat.not_lt_zero _))⟩
