/-! ===== the component's mends ===== -/
set_option maxRecDepth 100000
/-- the least number of mends, and in how many ways -/
theorem mnF_0 {A : Nat → Int} {ways : Int} : ∀ (r i : Nat), (∀ j, A j = 0) → mnF A ways r i = if ways = 0 then -1 else 0
  | 0, _, _ => rfl
  | r + 1, i, h => by
    have e : mnF A ways (r + 1) i = if 0 < A i then (if ways = 0 then (i : Int) else A i) else mnF A ways r (i + 1) := rfl
    rw [e, if_neg (by rw [h i]; decide)]
    exact mnF_0 r (i + 1) h
theorem mnF_L {A : Nat → Int} {ways v : Int} {f : Nat} (h : LD A f v) : ∀ (r i : Nat), i ≤ f → f < i + r → mnF A ways r i = if ways = 0 then (f : Int) else v
  | 0, i, h1, h2 => absurd h2 (by omega)
  | r + 1, i, h1, h2 => by
    have e : mnF A ways (r + 1) i = if 0 < A i then (if ways = 0 then (i : Int) else A i) else mnF A ways r (i + 1) := rfl
    rw [e]
    by_cases c : i = f
    · rw [c, h.2.1, if_pos h.2.2]
    · rw [if_neg (by rw [h.1 i (by omega)]; decide)]
      exact mnF_L h r (i + 1) (by omega) (by omega)
/-- what mends changes -/
def mdC (S S' : Nat → Nat → Int) : Prop := (∀ h k, h ≠ 132 → h ≠ 133 → ¬ (108 ≤ h ∧ h ≤ 111) → ¬ (134 ≤ h ∧ h ≤ 140) → ¬ (h = 101 ∧ (k = 1 ∨ k = 2 ∨ k = 3 ∨ k = 6)) → S' h k = S h k) ∧ S' 101 1 = 0
def zX8_answer : zz_Sp := fun as M Q X => match as with
  | [.inr (.inr (some h_)), .inl a, .inl b, .inl c, .inl d, .inl how] => bif Nat.beq h_ 134 && Nat.beq M.1.1 2 then ((R32 a ∧ R32 b ∧ R32 c ∧ R32 d ∧ (how = 0 ∨ how = 1)) ∧ ∃ (w_ t_ x_ : Nat → Int) (k_ N_ : Nat), k_ ≤ 30 ∧ M.2.1 134 6 = (N_ : Int) ∧ clI (mnV w_ t_ x_ k_) k_ (M.2.1 135) (M.2.1 136) (M.2.2.1 139) N_ (mnK w_ t_ x_ k_) ∧ (∀ S_ : Nat → Nat → Int, (∀ h j, ¬ (108 ≤ h ∧ h ≤ 111) → S_ h j = M.2.1 h j) → Q (some (vl (mnF (mnS w_ t_ x_ k_ a b c d) how 31 0))) ((2, M.1.2), S_, M.2.2.1, M.2.2.2))) else False
  | _ => False

def zpX8_answer : zz_P := [(0, zo_c 1 (vi (-1))), (1, zo_ist 3 6), (3, zo_c 4 (vl 0)), (4, zo_lst 6 7), (6, zo_c 7 (vi 0)), (7, zo_ist 9 9), (9, zo_ild 11 9), (11, zo_ald 12 0), (12, zo_get 15 7 0 6), (15, zo_cge false false 18 183), (18, zo_ald 19 0), (19, zo_ald 20 0), (20, zo_get 23 7 2 0), (23, zo_ild 25 9), (25, zo_iald 26), (26, zo_ald 27 0), (27, zo_get 30 7 2 8), (30, zo_get 33 0 2 9), (33, zo_callv 36 3 7 zX8_open), (36, zo_ald 37 0), (37, zo_get 40 7 2 8), (40, zo_get 43 0 2 9), (43, zo_get 46 2 2 0), (46, zo_c 47 (vi 0)), (47, zo_ialc 48 0), (48, zo_ild 49 1), (49, zo_cne false false 52 105), (52, zo_ald 53 0), (53, zo_get 56 7 2 8), (56, zo_get 59 0 2 9), (59, zo_get 62 2 2 0), (62, zo_c 63 (vi 1)), (63, zo_ialc 64 1), (64, zo_ild 65 2), (65, zo_cne false false 68 105), (68, zo_ald 69 0), (69, zo_get 72 7 2 8), (72, zo_get 75 0 2 9), (75, zo_get 78 2 2 1), (78, zo_c 79 (vi 0)), (79, zo_ialc 80 0), (80, zo_ild 81 3), (81, zo_cne false false 84 105), (84, zo_ald 85 0), (85, zo_get 88 7 2 8), (88, zo_get 91 0 2 9), (91, zo_get 94 2 2 1), (94, zo_c 95 (vi 1)), (95, zo_ialc 96 1), (96, zo_ild 98 4), (98, zo_cne false false 101 105), (101, zo_c 102 (vi 1)), (102, zo_goto 106), (105, zo_c 106 (vi 0)), (106, zo_ist 108 10), (108, zo_ild 110 10), (110, zo_zifeq 113 177), (113, zo_ild 115 6), (115, zo_c 116 (vi (-1))), (116, zo_ceq false true 119 134), (119, zo_ald 120 0), (120, zo_get 123 7 2 1), (123, zo_ild 125 9), (125, zo_iald 126), (126, zo_ild 128 6), (128, zo_cle false false 131 134), (131, zo_goto 177), (134, zo_ald 135 0), (135, zo_get 138 7 2 1), (138, zo_ild 140 9), (140, zo_iald 141), (141, zo_ild 143 6), (143, zo_cne false false 146 159), (146, zo_lld 148 7), (148, zo_ald 149 0), (149, zo_get 152 7 2 4), (152, zo_ild 154 9), (154, zo_lald 155), (155, zo_ladd 156), (156, zo_goto 166), (159, zo_ald 160 0), (160, zo_get 163 7 2 4), (163, zo_ild 165 9), (165, zo_lald 166), (166, zo_lst 168 7), (168, zo_ald 169 0), (169, zo_get 172 7 2 1), (172, zo_ild 174 9), (174, zo_iald 175), (175, zo_ist 177 6), (177, zo_inc 180 9 1), (180, zo_goto 9), (183, zo_ild 185 6), (185, zo_c 186 (vi (-1))), (186, zo_cne false true 189 204), (189, zo_ild 191 5), (191, zo_ifeq false 194 198), (194, zo_c 195 (vl 0)), (195, zo_goto 217), (198, zo_c 201 (vl (-1))), (201, zo_goto 217), (204, zo_ild 206 5), (206, zo_ifeq false 209 214), (209, zo_lld 211 7), (211, zo_goto 217), (214, zo_ild 216 6), (216, zo_i2l 217), (217, zo_lret)]
theorem ztX8_answer {C : mm_C} (G : mm_G C RX8 cX8_answer (some .long) 11 (mm_rm 6 0 0)) (hnh : mm_nh C) : zz_OKs C zpX8_answer :=
  ⟨zz_of (ok_iconst G (v := (zI (-1))) dX8_answer_0 (by decide) rfl) (z_cz 1 (-1)),
   zz_of (ok_istore G dX8_answer_1 rfl (by decide)) (z_ist _ _),
   zz_of (ok_lconst G (v := 0) dX8_answer_3 (by decide) rfl) (z_cl 4 0),
   zz_of (ok_lstore G dX8_answer_4 rfl (by decide)) (z_lst _ _),
   zz_of (ok_iconst G (v := 0) dX8_answer_6 (by decide) rfl) (z_cn 7 0),
   zz_of (ok_istore G dX8_answer_7 rfl (by decide)) (z_ist _ _),
   zz_of (ok_iload G dX8_answer_9 rfl) (z_ild _ _),
   zz_of (ok_aload_n G dX8_answer_11 rfl rfl) (z_ald _ _),
   zz_of (ok_get G (nx := 15) (ci := 7) (kd := 0) (k := 6) (RX8, TX8, 9) rfl (by decide) rfl q376 dX8_answer_12 rfl) (z_get _ _ _ _),
   zz_of (ok_cge G dX8_answer_15 rfl rfl) (z_cge _ _ _ _),
   zz_of (ok_aload_n G dX8_answer_18 rfl rfl) (z_ald _ _),
   zz_of (ok_aload_n G dX8_answer_19 rfl rfl) (z_ald _ _),
   zz_of (ok_get G (nx := 23) (ci := 7) (kd := 2) (k := 0) (RX8, TX8, 9) rfl (by decide) rfl q370 dX8_answer_20 rfl) (z_get _ _ _ _),
   zz_of (ok_iload G dX8_answer_23 rfl) (z_ild _ _),
   zz_of (ok_iald G dX8_answer_25 rfl) (z_iald _),
   zz_of (ok_aload_n G dX8_answer_26 rfl rfl) (z_ald _ _),
   zz_of (ok_get G (nx := 30) (ci := 7) (kd := 2) (k := 8) (RX8, TX8, 9) rfl (by decide) rfl q378 dX8_answer_27 rfl) (z_get _ _ _ _),
   zz_of (ok_getN G (nx := 33) (ci := 0) (kd := 2) (k := 9) (RX1, TX1, 19) rfl (by decide) rfl q419 dX8_answer_30 rfl) (z_get _ _ _ _),
   zz_of (ok_callv G hnh (zmX8_open _ G.hst) rfl rfl (RX8, TX8, 9) rfl q1762 q1764 qs36 q92 q1765 (by decide +kernel) ⟨by decide, by decide⟩ dX8_answer_33 rfl) (z_callv _ _ _ _),
   zz_of (ok_aload_n G dX8_answer_36 rfl rfl) (z_ald _ _),
   zz_of (ok_get G (nx := 40) (ci := 7) (kd := 2) (k := 8) (RX8, TX8, 9) rfl (by decide) rfl q378 dX8_answer_37 rfl) (z_get _ _ _ _),
   zz_of (ok_getN G (nx := 43) (ci := 0) (kd := 2) (k := 9) (RX1, TX1, 19) rfl (by decide) rfl q419 dX8_answer_40 rfl) (z_get _ _ _ _),
   zz_of (ok_getN G (nx := 46) (ci := 2) (kd := 2) (k := 0) (RX3, TX3, 7) rfl (by decide) rfl q178 dX8_answer_43 rfl) (z_get _ _ _ _),
   zz_of (ok_iconst G (v := 0) dX8_answer_46 (by decide) rfl) (z_cn 47 0),
   zz_of (ok_iald G dX8_answer_47 rfl) (z_ialc _ _),
   zz_of (ok_iload_n G dX8_answer_48 rfl rfl) (z_ild _ _),
   zz_of (ok_cne G dX8_answer_49 rfl rfl) (z_cne _ _ _ _),
   zz_of (ok_aload_n G dX8_answer_52 rfl rfl) (z_ald _ _),
   zz_of (ok_get G (nx := 56) (ci := 7) (kd := 2) (k := 8) (RX8, TX8, 9) rfl (by decide) rfl q378 dX8_answer_53 rfl) (z_get _ _ _ _),
   zz_of (ok_getN G (nx := 59) (ci := 0) (kd := 2) (k := 9) (RX1, TX1, 19) rfl (by decide) rfl q419 dX8_answer_56 rfl) (z_get _ _ _ _),
   zz_of (ok_getN G (nx := 62) (ci := 2) (kd := 2) (k := 0) (RX3, TX3, 7) rfl (by decide) rfl q178 dX8_answer_59 rfl) (z_get _ _ _ _),
   zz_of (ok_iconst G (v := 1) dX8_answer_62 (by decide) rfl) (z_cn 63 1),
   zz_of (ok_iald G dX8_answer_63 rfl) (z_ialc _ _),
   zz_of (ok_iload_n G dX8_answer_64 rfl rfl) (z_ild _ _),
   zz_of (ok_cne G dX8_answer_65 rfl rfl) (z_cne _ _ _ _),
   zz_of (ok_aload_n G dX8_answer_68 rfl rfl) (z_ald _ _),
   zz_of (ok_get G (nx := 72) (ci := 7) (kd := 2) (k := 8) (RX8, TX8, 9) rfl (by decide) rfl q378 dX8_answer_69 rfl) (z_get _ _ _ _),
   zz_of (ok_getN G (nx := 75) (ci := 0) (kd := 2) (k := 9) (RX1, TX1, 19) rfl (by decide) rfl q419 dX8_answer_72 rfl) (z_get _ _ _ _),
   zz_of (ok_getN G (nx := 78) (ci := 2) (kd := 2) (k := 1) (RX3, TX3, 7) rfl (by decide) rfl q181 dX8_answer_75 rfl) (z_get _ _ _ _),
   zz_of (ok_iconst G (v := 0) dX8_answer_78 (by decide) rfl) (z_cn 79 0),
   zz_of (ok_iald G dX8_answer_79 rfl) (z_ialc _ _),
   zz_of (ok_iload_n G dX8_answer_80 rfl rfl) (z_ild _ _),
   zz_of (ok_cne G dX8_answer_81 rfl rfl) (z_cne _ _ _ _),
   zz_of (ok_aload_n G dX8_answer_84 rfl rfl) (z_ald _ _),
   zz_of (ok_get G (nx := 88) (ci := 7) (kd := 2) (k := 8) (RX8, TX8, 9) rfl (by decide) rfl q378 dX8_answer_85 rfl) (z_get _ _ _ _),
   zz_of (ok_getN G (nx := 91) (ci := 0) (kd := 2) (k := 9) (RX1, TX1, 19) rfl (by decide) rfl q419 dX8_answer_88 rfl) (z_get _ _ _ _),
   zz_of (ok_getN G (nx := 94) (ci := 2) (kd := 2) (k := 1) (RX3, TX3, 7) rfl (by decide) rfl q181 dX8_answer_91 rfl) (z_get _ _ _ _),
   zz_of (ok_iconst G (v := 1) dX8_answer_94 (by decide) rfl) (z_cn 95 1),
   zz_of (ok_iald G dX8_answer_95 rfl) (z_ialc _ _),
   zz_of (ok_iload G dX8_answer_96 rfl) (z_ild _ _),
   zz_of (ok_cne G dX8_answer_98 rfl rfl) (z_cne _ _ _ _),
   zz_of (ok_iconst G (v := 1) dX8_answer_101 (by decide) rfl) (z_cn 102 1),
   zz_of (ok_goto G dX8_answer_102 rfl) (z_goto _),
   zz_of (ok_iconst G (v := 0) dX8_answer_105 (by decide) rfl) (z_cn 106 0),
   zz_of (ok_istore G dX8_answer_106 rfl (by decide)) (z_ist _ _),
   zz_of (ok_iload G dX8_answer_108 rfl) (z_ild _ _),
   zz_of (ok_ifeq G dX8_answer_110 rfl rfl) (z_zifeq _ _),
   zz_of (ok_iload G dX8_answer_113 rfl) (z_ild _ _),
   zz_of (ok_iconst G (v := (zI (-1))) dX8_answer_115 (by decide) rfl) (z_cz 116 (-1)),
   zz_of (ok_ceq G dX8_answer_116 rfl rfl) (z_ceq _ _ _ _),
   zz_of (ok_aload_n G dX8_answer_119 rfl rfl) (z_ald _ _),
   zz_of (ok_get G (nx := 123) (ci := 7) (kd := 2) (k := 1) (RX8, TX8, 9) rfl (by decide) rfl q371 dX8_answer_120 rfl) (z_get _ _ _ _),
   zz_of (ok_iload G dX8_answer_123 rfl) (z_ild _ _),
   zz_of (ok_iald G dX8_answer_125 rfl) (z_iald _),
   zz_of (ok_iload G dX8_answer_126 rfl) (z_ild _ _),
   zz_of (ok_cle G dX8_answer_128 rfl rfl) (z_cle _ _ _ _),
   zz_of (ok_goto G dX8_answer_131 rfl) (z_goto _),
   zz_of (ok_aload_n G dX8_answer_134 rfl rfl) (z_ald _ _),
   zz_of (ok_get G (nx := 138) (ci := 7) (kd := 2) (k := 1) (RX8, TX8, 9) rfl (by decide) rfl q371 dX8_answer_135 rfl) (z_get _ _ _ _),
   zz_of (ok_iload G dX8_answer_138 rfl) (z_ild _ _),
   zz_of (ok_iald G dX8_answer_140 rfl) (z_iald _),
   zz_of (ok_iload G dX8_answer_141 rfl) (z_ild _ _),
   zz_of (ok_cne G dX8_answer_143 rfl rfl) (z_cne _ _ _ _),
   zz_of (ok_lload G dX8_answer_146 rfl) (z_lld _ _),
   zz_of (ok_aload_n G dX8_answer_148 rfl rfl) (z_ald _ _),
   zz_of (ok_get G (nx := 152) (ci := 7) (kd := 2) (k := 4) (RX8, TX8, 9) rfl (by decide) rfl q374 dX8_answer_149 rfl) (z_get _ _ _ _),
   zz_of (ok_iload G dX8_answer_152 rfl) (z_ild _ _),
   zz_of (ok_lald G dX8_answer_154 rfl) (z_lald _),
   zz_of (ok_ladd G dX8_answer_155 rfl) (z_ladd _),
   zz_of (ok_goto G dX8_answer_156 rfl) (z_goto _),
   zz_of (ok_aload_n G dX8_answer_159 rfl rfl) (z_ald _ _),
   zz_of (ok_get G (nx := 163) (ci := 7) (kd := 2) (k := 4) (RX8, TX8, 9) rfl (by decide) rfl q374 dX8_answer_160 rfl) (z_get _ _ _ _),
   zz_of (ok_iload G dX8_answer_163 rfl) (z_ild _ _),
   zz_of (ok_lald G dX8_answer_165 rfl) (z_lald _),
   zz_of (ok_lstore G dX8_answer_166 rfl (by decide)) (z_lst _ _),
   zz_of (ok_aload_n G dX8_answer_168 rfl rfl) (z_ald _ _),
   zz_of (ok_get G (nx := 172) (ci := 7) (kd := 2) (k := 1) (RX8, TX8, 9) rfl (by decide) rfl q371 dX8_answer_169 rfl) (z_get _ _ _ _),
   zz_of (ok_iload G dX8_answer_172 rfl) (z_ild _ _),
   zz_of (ok_iald G dX8_answer_174 rfl) (z_iald _),
   zz_of (ok_istore G dX8_answer_175 rfl (by decide)) (z_ist _ _),
   zz_of (ok_iinc G (v := 1) dX8_answer_177 (by decide) rfl (by decide)) (z_incn 180 9 1),
   zz_of (ok_goto G dX8_answer_180 rfl) (z_goto _),
   zz_of (ok_iload G dX8_answer_183 rfl) (z_ild _ _),
   zz_of (ok_iconst G (v := (zI (-1))) dX8_answer_185 (by decide) rfl) (z_cz 186 (-1)),
   zz_of (ok_cne G dX8_answer_186 rfl rfl) (z_cne _ _ _ _),
   zz_of (ok_iload G dX8_answer_189 rfl) (z_ild _ _),
   zz_of (ok_ifeq G dX8_answer_191 rfl rfl) (z_ifeq _ _ _),
   zz_of (ok_lconst G (v := 0) dX8_answer_194 (by decide) rfl) (z_cl 195 0),
   zz_of (ok_goto G dX8_answer_195 rfl) (z_goto _),
   zz_of (ok_ldc2 G (v := (-1)) q1785 dX8_answer_198 rfl) (z_c (congrArg Value.long (by decide))),
   zz_of (ok_goto G dX8_answer_201 rfl) (z_goto _),
   zz_of (ok_iload G dX8_answer_204 rfl) (z_ild _ _),
   zz_of (ok_ifeq G dX8_answer_206 rfl rfl) (z_ifeq _ _ _),
   zz_of (ok_lload G dX8_answer_209 rfl) (z_lld _ _),
   zz_of (ok_goto G dX8_answer_211 rfl) (z_goto _),
   zz_of (ok_iload G dX8_answer_214 rfl) (z_ild _ _),
   zz_of (ok_i2l G dX8_answer_216 rfl) (z_i2l _),
   zz_of (ok_lret G dX8_answer_217) (z_lret), trivial⟩

theorem zwX8_answer_0 {Q : Option zv → zz_M → Prop} {X : Nat → zz_M → Prop} {f : Nat → Nat × Nat} {S L : Nat → Nat → Int} {P : Nat → Nat → Option Nat} {a : Int} {b : Int} {c : Int} {d : Int} {how : Int} (h : zz_J zpX8_answer (zz_ret Q X 0 0) 9 [some (vr 134), some (vi a), some (vi b), some (vi c), some (vi d), some (vi how), some (vi (-1)), some (vl 0), none, some (vi 0), none] [] ((2, f), S, L, P) (0, 0)) : zz_J zpX8_answer (zz_ret Q X 0 0) 0 [some (vr 134), some (vi a), some (vi b), some (vi c), some (vi d), some (vi how), none, none, none, none, none] [] ((2, f), S, L, P) (0, 0) := zz_J.go [(9, [8, 10]), (177, [8, 10])] 400 h
theorem zwX8_answer_9 {Q : Option zv → zz_M → Prop} {X : Nat → zz_M → Prop} {f : Nat → Nat × Nat} {S L : Nat → Nat → Int} {P : Nat → Nat → Option Nat} {x1 : Int} {x2 : Int} {x3 : Int} {x4 : Int} {x5 : Int} {x6 : Int} {x7 : Int} {x9 : Int} (h : R32 x9 ∧ (R32 (S 134 6) ∧ (((S 134 6) ≤ x9 → R32 x6 ∧ ((¬ x6 = (-1) → R32 x5 ∧ ((x5 = 0 → R32 x6 ∧ (Q (some (vl x6)) ((2, f), S, L, P))) ∧ (¬ x5 = 0 → Q (some (vl x7)) ((2, f), S, L, P)))) ∧ (x6 = (-1) → R32 x5 ∧ ((x5 = 0 → Q (some (vl (-1))) ((2, f), S, L, P)) ∧ (¬ x5 = 0 → Q (some (vl 0)) ((2, f), S, L, P)))))) ∧ (¬ (S 134 6) ≤ x9 → (0 ≤ x9 ∧ x9 < 4096) ∧ ((∃ c_1 : Int, (S 135 x9.toNat) = kC c_1 ∧ cV c_1 ∧ (R32 ((cxW S 108 (wcX (fun _ => 0) c_1)) 109 0) ∧ (R32 x1 ∧ ((¬ ((cxW S 108 (wcX (fun _ => 0) c_1)) 109 0) = x1 → zz_J zpX8_answer (zz_ret Q X 0 0) 177 [some (vr 134), some (vi x1), some (vi x2), some (vi x3), some (vi x4), some (vi x5), some (vi x6), some (vl x7), none, some (vi x9), none] [] ((2, f), cxW S 108 (wcX (fun _ => 0) c_1), L, P) (0, 0)) ∧ (((cxW S 108 (wcX (fun _ => 0) c_1)) 109 0) = x1 → R32 ((cxW S 108 (wcX (fun _ => 0) c_1)) 109 1) ∧ (R32 x2 ∧ ((¬ ((cxW S 108 (wcX (fun _ => 0) c_1)) 109 1) = x2 → zz_J zpX8_answer (zz_ret Q X 0 0) 177 [some (vr 134), some (vi x1), some (vi x2), some (vi x3), some (vi x4), some (vi x5), some (vi x6), some (vl x7), none, some (vi x9), none] [] ((2, f), cxW S 108 (wcX (fun _ => 0) c_1), L, P) (0, 0)) ∧ (((cxW S 108 (wcX (fun _ => 0) c_1)) 109 1) = x2 → R32 ((cxW S 108 (wcX (fun _ => 0) c_1)) 110 0) ∧ (R32 x3 ∧ ((¬ ((cxW S 108 (wcX (fun _ => 0) c_1)) 110 0) = x3 → zz_J zpX8_answer (zz_ret Q X 0 0) 177 [some (vr 134), some (vi x1), some (vi x2), some (vi x3), some (vi x4), some (vi x5), some (vi x6), some (vl x7), none, some (vi x9), none] [] ((2, f), cxW S 108 (wcX (fun _ => 0) c_1), L, P) (0, 0)) ∧ (((cxW S 108 (wcX (fun _ => 0) c_1)) 110 0) = x3 → R32 ((cxW S 108 (wcX (fun _ => 0) c_1)) 110 1) ∧ (R32 x4 ∧ ((¬ ((cxW S 108 (wcX (fun _ => 0) c_1)) 110 1) = x4 → zz_J zpX8_answer (zz_ret Q X 0 0) 177 [some (vr 134), some (vi x1), some (vi x2), some (vi x3), some (vi x4), some (vi x5), some (vi x6), some (vl x7), none, some (vi x9), none] [] ((2, f), cxW S 108 (wcX (fun _ => 0) c_1), L, P) (0, 0)) ∧ (((cxW S 108 (wcX (fun _ => 0) c_1)) 110 1) = x4 → R32 x6 ∧ ((x6 = (-1) → (0 ≤ x9 ∧ x9 < 4096) ∧ (R32 ((cxW S 108 (wcX (fun _ => 0) c_1)) 136 x9.toNat) ∧ (R32 x6 ∧ ((¬ ((cxW S 108 (wcX (fun _ => 0) c_1)) 136 x9.toNat) = x6 → (0 ≤ x9 ∧ x9 < 4096) ∧ ((0 ≤ x9 ∧ x9 < 4096) ∧ (zz_J zpX8_answer (zz_ret Q X 0 0) 177 [some (vr 134), some (vi x1), some (vi x2), some (vi x3), some (vi x4), some (vi x5), some (vi ((cxW S 108 (wcX (fun _ => 0) c_1)) 136 x9.toNat)), some (vl (L 139 x9.toNat)), none, some (vi x9), none] [] ((2, f), cxW S 108 (wcX (fun _ => 0) c_1), L, P) (0, 0)))) ∧ (((cxW S 108 (wcX (fun _ => 0) c_1)) 136 x9.toNat) = x6 → (0 ≤ x9 ∧ x9 < 4096) ∧ ((0 ≤ x9 ∧ x9 < 4096) ∧ (zz_J zpX8_answer (zz_ret Q X 0 0) 177 [some (vr 134), some (vi x1), some (vi x2), some (vi x3), some (vi x4), some (vi x5), some (vi ((cxW S 108 (wcX (fun _ => 0) c_1)) 136 x9.toNat)), some (vl (x7 + (L 139 x9.toNat))), none, some (vi x9), none] [] ((2, f), cxW S 108 (wcX (fun _ => 0) c_1), L, P) (0, 0)))))))) ∧ (¬ x6 = (-1) → (0 ≤ x9 ∧ x9 < 4096) ∧ (R32 ((cxW S 108 (wcX (fun _ => 0) c_1)) 136 x9.toNat) ∧ (R32 x6 ∧ ((((cxW S 108 (wcX (fun _ => 0) c_1)) 136 x9.toNat) ≤ x6 → (0 ≤ x9 ∧ x9 < 4096) ∧ (R32 ((cxW S 108 (wcX (fun _ => 0) c_1)) 136 x9.toNat) ∧ (R32 x6 ∧ ((¬ ((cxW S 108 (wcX (fun _ => 0) c_1)) 136 x9.toNat) = x6 → (0 ≤ x9 ∧ x9 < 4096) ∧ ((0 ≤ x9 ∧ x9 < 4096) ∧ (zz_J zpX8_answer (zz_ret Q X 0 0) 177 [some (vr 134), some (vi x1), some (vi x2), some (vi x3), some (vi x4), some (vi x5), some (vi ((cxW S 108 (wcX (fun _ => 0) c_1)) 136 x9.toNat)), some (vl (L 139 x9.toNat)), none, some (vi x9), none] [] ((2, f), cxW S 108 (wcX (fun _ => 0) c_1), L, P) (0, 0)))) ∧ (((cxW S 108 (wcX (fun _ => 0) c_1)) 136 x9.toNat) = x6 → (0 ≤ x9 ∧ x9 < 4096) ∧ ((0 ≤ x9 ∧ x9 < 4096) ∧ (zz_J zpX8_answer (zz_ret Q X 0 0) 177 [some (vr 134), some (vi x1), some (vi x2), some (vi x3), some (vi x4), some (vi x5), some (vi ((cxW S 108 (wcX (fun _ => 0) c_1)) 136 x9.toNat)), some (vl (x7 + (L 139 x9.toNat))), none, some (vi x9), none] [] ((2, f), cxW S 108 (wcX (fun _ => 0) c_1), L, P) (0, 0)))))))) ∧ (¬ ((cxW S 108 (wcX (fun _ => 0) c_1)) 136 x9.toNat) ≤ x6 → zz_J zpX8_answer (zz_ret Q X 0 0) 177 [some (vr 134), some (vi x1), some (vi x2), some (vi x3), some (vi x4), some (vi x5), some (vi x6), some (vl x7), none, some (vi x9), none] [] ((2, f), cxW S 108 (wcX (fun _ => 0) c_1), L, P) (0, 0)))))))))))))))))))))))))) : zz_J zpX8_answer (zz_ret Q X 0 0) 9 [some (vr 134), some (vi x1), some (vi x2), some (vi x3), some (vi x4), some (vi x5), some (vi x6), some (vl x7), none, some (vi x9), none] [] ((2, f), S, L, P) (0, 0) := zz_J.go [(9, [8, 10]), (177, [8, 10])] 400 h
theorem zwX8_answer_177 {Q : Option zv → zz_M → Prop} {X : Nat → zz_M → Prop} {f : Nat → Nat × Nat} {S L : Nat → Nat → Int} {P : Nat → Nat → Option Nat} {x1 : Int} {x2 : Int} {x3 : Int} {x4 : Int} {x5 : Int} {x6 : Int} {x7 : Int} {x9 : Int} (h : zz_J zpX8_answer (zz_ret Q X 0 0) 9 [some (vr 134), some (vi x1), some (vi x2), some (vi x3), some (vi x4), some (vi x5), some (vi x6), some (vl x7), none, some (vi (x9 + 1)), none] [] ((2, f), S, L, P) (0, 0)) : zz_J zpX8_answer (zz_ret Q X 0 0) 177 [some (vr 134), some (vi x1), some (vi x2), some (vi x3), some (vi x4), some (vi x5), some (vi x6), some (vl x7), none, some (vi x9), none] [] ((2, f), S, L, P) (0, 0) := zz_J.go [(9, [8, 10]), (177, [8, 10])] 400 h

theorem zmX8_answer (l : Launch) (hl : l.stackTraces = false) : mm_Spec l yX8_answer (ws_ yX8_answer cX8_answer 11 (some .long)) (mm_rm 6 0 0) (zE zX8_answer) := by
  refine zz_Met.J hl (by decide) (fun C G hnh => ztX8_answer G hnh) ?_
  rintro as ⟨⟨t_, f⟩, S, L, P⟩ Q X h
  unfold zX8_answer at h
  split at h
  rotate_left
  · exact h.elim
  rename_i h_ a b c d how
  obtain ⟨e1_, e2_, h⟩ := mm_and2 h (fun q => q)
  cases mm_beq e1_
  cases mm_beq e2_
  try dsimp only at h
  refine ⟨rfl, ?_⟩
  obtain ⟨⟨ra, rb, rc, rd, rh⟩, w, t, x0, k, N, hk, hN, hI, hq⟩ := h
  have hI1 := hI.1
  obtain ⟨cc, hc, h0, hsum⟩ := hI.sum
  have t9 : ∀ (r s : Nat) (T : Nat → Nat → Int) (least all : Int), s + r = N → (∀ h j, ¬ (108 ≤ h ∧ h ≤ 111) → T h j = S h j) → ((least = -1 ∧ all = 0 ∧ ∀ i, sumN s (fun z => if mnM w a b c d (cc z) = true then mnK w t x0 k (cc z) i else 0) = 0) ∨ ∃ f : Nat, least = (f : Int) ∧ f ≤ k ∧ LD (fun i => sumN s (fun z => if mnM w a b c d (cc z) = true then mnK w t x0 k (cc z) i else 0)) f all) → zz_J zpX8_answer (zz_ret Q X 0 0) 9 [some (vr 134), some (vi a), some (vi b), some (vi c), some (vi d), some (vi how), some (vi least), some (vl all), none, some (vi (s : Int)), none] [] ((2, f), T, L, P) (0, 0) := by
    intro r
    induction r with
    | zero =>
      intro s T least all hs hT hl
      have es : s = N := by omega
      subst es
      have T6 : T 134 6 = (s : Int) := (hT 134 6 (by omega)).trans hN
      have hq := hq T hT
      have eS : mnS w t x0 k a b c d = fun i => sumN s (fun z => if mnM w a b c d (cc z) = true then mnK w t x0 k (cc z) i else 0) := by
        funext i
        refine hsum (fun z => if mnM w a b c d z = true then mnK w t x0 k z i else 0) (fun z hz => ?_)
        show (if mnM w a b c d z = true then mnK w t x0 k z i else 0) = 0
        rw [h0 z i hz]
        split <;> rfl
      rw [eS] at hq
      have hlR : R32 least := by
        rcases hl with ⟨h1, -, -⟩ | ⟨g, h1, h2, -⟩ <;> omega
      have hhR : R32 how := by rcases rh with e | e <;> rw [e] <;> exact ⟨by decide, by decide⟩
      refine zwX8_answer_9 ⟨by omega, by rw [T6]; omega, fun _ => ⟨hlR, fun ne => ⟨hhR, fun e => ⟨hlR, ?_⟩, fun e => ?_⟩, fun eq => ⟨hhR, fun e => ?_, fun e => ?_⟩⟩, fun z => absurd (by rw [T6]; exact Int.le_refl _) z⟩
      · rcases hl with ⟨h1, -, -⟩ | ⟨g, h1, h2, h3⟩
        · exact absurd h1 ne
        · rw [mnF_L h3 31 0 (Nat.zero_le _) (by omega), if_pos e] at hq
          rw [h1]
          exact hq
      · rcases hl with ⟨h1, -, -⟩ | ⟨g, h1, h2, h3⟩
        · exact absurd h1 ne
        · rw [mnF_L h3 31 0 (Nat.zero_le _) (by omega), if_neg e] at hq
          exact hq
      · rcases hl with ⟨-, -, h3⟩ | ⟨g, h1, h2, h3⟩
        · rw [mnF_0 31 0 h3, if_pos e] at hq
          exact hq
        · omega
      · rcases hl with ⟨-, -, h3⟩ | ⟨g, h1, h2, h3⟩
        · rw [mnF_0 31 0 h3, if_neg e] at hq
          exact hq
        · omega
    | succ r ih =>
      intro s T least all hs hT hl
      have T6 : T 134 6 = (N : Int) := (hT 134 6 (by omega)).trans hN
      obtain ⟨e1, hVc, hcV, g, g1, g2, g3⟩ := hc s (by omega)
      obtain ⟨hxv, hxb⟩ := wcX_V (w := w) hcV
      have hxG := hxv.xG hxb (by decide)
      have stp : ∀ i, sumN (s + 1) (fun z => if mnM w a b c d (cc z) = true then mnK w t x0 k (cc z) i else 0) = sumN s (fun z => if mnM w a b c d (cc z) = true then mnK w t x0 k (cc z) i else 0) + (if mnM w a b c d (cc s) = true then mnK w t x0 k (cc s) i else 0) := fun _ => rfl
      have hlR : R32 least := by
        rcases hl with ⟨h1, -, -⟩ | ⟨g, h1, h2, -⟩ <;> omega
      refine zwX8_answer_9 ⟨by omega, by rw [T6]; omega, fun z => absurd z (by rw [T6]; omega), fun _ => ⟨by omega, cc s, by rw [Int.toNat_natCast, hT 135 s (by omega)]; exact e1, hcV, ?_⟩⟩
      rw [wcX_w (fun _ => 0) w (cc s), Int.toNat_natCast]
      have hU : ∀ h j, ¬ (108 ≤ h ∧ h ≤ 111) → cxW T 108 (wcX w (cc s)) h j = S h j := fun h j hh => by
        rw [cxW_o T 108 _ (by omega) (by omega) (by omega) (by omega)]
        exact hT h j hh
      have q0 : cxW T 108 (wcX w (cc s)) 109 0 = wcX w (cc s) 0 := rfl
      have q1 : cxW T 108 (wcX w (cc s)) 109 1 = wcX w (cc s) 1 := rfl
      have q7 : cxW T 108 (wcX w (cc s)) 110 0 = wcX w (cc s) 7 := rfl
      have q8 : cxW T 108 (wcX w (cc s)) 110 1 = wcX w (cc s) 8 := rfl
      have q136 : cxW T 108 (wcX w (cc s)) 136 s = (g : Int) := (hU 136 s (by omega)).trans g1
      rw [q0, q1, q7, q8, q136]
      generalize cxW T 108 (wcX w (cc s)) = U at hU ⊢
      have nxt : ∀ (least' all' : Int), ((least' = -1 ∧ all' = 0 ∧ ∀ i, sumN (s + 1) (fun z => if mnM w a b c d (cc z) = true then mnK w t x0 k (cc z) i else 0) = 0) ∨ ∃ f : Nat, least' = (f : Int) ∧ f ≤ k ∧ LD (fun i => sumN (s + 1) (fun z => if mnM w a b c d (cc z) = true then mnK w t x0 k (cc z) i else 0)) f all') → zz_J zpX8_answer (zz_ret Q X 0 0) 177 [some (vr 134), some (vi a), some (vi b), some (vi c), some (vi d), some (vi how), some (vi least'), some (vl all'), none, some (vi (s : Int)), none] [] ((2, f), U, L, P) (0, 0) := by
        intro least' all' hl'
        refine zwX8_answer_177 ?_
        have := ih (s + 1) U least' all' (by omega) hU hl'
        rw [show ((s + 1 : Nat) : Int) = (s : Int) + 1 by omega] at this
        exact this
      have no : mnM w a b c d (cc s) = false → zz_J zpX8_answer (zz_ret Q X 0 0) 177 [some (vr 134), some (vi a), some (vi b), some (vi c), some (vi d), some (vi how), some (vi least), some (vl all), none, some (vi (s : Int)), none] [] ((2, f), U, L, P) (0, 0) := by
        intro hf
        have ee : ∀ i, sumN (s + 1) (fun z => if mnM w a b c d (cc z) = true then mnK w t x0 k (cc z) i else 0) = sumN s (fun z => if mnM w a b c d (cc z) = true then mnK w t x0 k (cc z) i else 0) := fun i => by
          rw [stp, if_neg (by rw [hf]; decide), Int.add_zero]
        refine nxt least all (hl.imp (fun q => ⟨q.1, q.2.1, fun i => (ee i).trans (q.2.2 i)⟩) (fun ⟨f, q1, q2, q3⟩ => ⟨f, q1, q2, ?_⟩))
        have e9 := funext ee
        rw [e9]
        exact q3
      have hnm : (¬ (((wcX w (cc s) 0 = a ∧ wcX w (cc s) 1 = b) ∧ wcX w (cc s) 7 = c) ∧ wcX w (cc s) 8 = d)) → mnM w a b c d (cc s) = false := by
        intro hne
        cases hmm : mnM w a b c d (cc s) with
        | false => rfl
        | true => exact absurd (mnM_t.mp hmm) hne
      have b0 := hxG.1 0
      have b1 := hxG.1 1
      have b7 := hxG.1 7
      have b8 := hxG.1 8
      refine ⟨by omega, ra, fun h => no (hnm (fun z => h z.1.1.1)), fun ea => ⟨by omega, rb, fun h => no (hnm (fun z => h z.1.1.2)), fun eb => ⟨by omega, rc, fun h => no (hnm (fun z => h z.1.2)), fun ec => ⟨by omega, rd, fun h => no (hnm (fun z => h z.2)), fun ed => ?_⟩⟩⟩⟩
      have hy : mnM w a b c d (cc s) = true := mnM_t.mpr ⟨⟨⟨ea, eb⟩, ec⟩, ed⟩
      have ee : (fun i => sumN (s + 1) (fun z => if mnM w a b c d (cc z) = true then mnK w t x0 k (cc z) i else 0)) = fun i => sumN s (fun z => if mnM w a b c d (cc z) = true then mnK w t x0 k (cc z) i else 0) + mnK w t x0 k (cc s) i := by
        funext i
        rw [stp, if_pos hy]
      refine ⟨hlR, fun el => ⟨by omega, by omega, hlR, fun ne => ⟨by omega, by omega, ?_⟩, fun eq => absurd eq (by omega)⟩, fun nl => ⟨by omega, by omega, hlR, fun le => ⟨by omega, by omega, hlR, fun ne => ⟨by omega, by omega, ?_⟩, fun eq => ⟨by omega, by omega, ?_⟩⟩, fun gt => ?_⟩⟩
      · rcases hl with ⟨-, -, h3⟩ | ⟨q, h1, -, -⟩
        · refine nxt _ _ (Or.inr ⟨g, rfl, g2, ?_⟩)
          rw [ee]
          exact LD.gt (fun j _ => h3 j) g3
        · omega
      · rcases hl with ⟨h1, -, -⟩ | ⟨q, h1, h2, h3⟩
        · exact absurd h1 nl
        · refine nxt _ _ (Or.inr ⟨g, rfl, g2, ?_⟩)
          rw [ee]
          exact LD.gt (fun j hj => h3.1 j (by omega)) g3
      · rcases hl with ⟨h1, -, -⟩ | ⟨q, h1, h2, h3⟩
        · exact absurd h1 nl
        · have eg : q = g := by omega
          subst eg
          refine nxt _ _ (Or.inr ⟨q, rfl, h2, ?_⟩)
          rw [ee]
          exact h3.eq g3
      · rcases hl with ⟨h1, -, -⟩ | ⟨q, h1, h2, h3⟩
        · exact absurd h1 nl
        · refine nxt _ _ (Or.inr ⟨q, h1, h2, ?_⟩)
          rw [ee]
          exact h3.lt (fun j hj => g3.1 j (by omega))
  exact zwX8_answer_0 (t9 N 0 S (-1) 0 (by omega) (fun _ _ _ => rfl) (Or.inl ⟨rfl, rfl, fun _ => rfl⟩))
def zX1_mends : zz_Sp := fun as M Q X => match as with
  | [.inr (.inr (some h_)), .inl a, .inl b, .inl c, .inl d, .inl how] => bif Nat.beq h_ 100 && Nat.beq M.1.1 2 then ((R32 a ∧ R32 b ∧ R32 c ∧ R32 d ∧ (how = 0 ∨ how = 1)) ∧ ∃ (w_ t_ y_ : Nat → Int) (n_ : Nat), n_ ≤ 400 ∧ M.2.1 101 1 = (n_ : Int) ∧ (∀ k, k < n_ → (0 ≤ t_ k ∧ t_ k ≤ 255) ∧ M.2.1 102 k = cby (t_ k)) ∧ wsc M.2.1 w_ ∧ wV w_ ∧ scV y_ ∧ xB 6 y_ ∧ xE (cx M.2.1 204) y_ ∧ scb (cx M.2.1 204) ∧ (lgB t_ n_ = true → ∀ k, k ≤ n_ / 2 → mnB w_ t_ y_ k) ∧ (∀ S_ L_ : Nat → Nat → Int, mdC M.2.1 S_ → (lgB t_ n_ = false → X 1 ((2, M.1.2), S_, L_, M.2.2.2)) ∧ (lgB t_ n_ = true → Q (some (vl (mnF (mnS w_ t_ y_ (n_ / 2) a b c d) how 31 0))) ((2, M.1.2), S_, L_, M.2.2.2)))) else False
  | _ => False

def zpX1_mends : zz_P := [(0, zo_ald 1 0), (1, zo_callv 4 1 0 zX1_logged), (4, zo_ist 6 6), (6, zo_ild 8 6), (8, zo_c 9 (vi (-1))), (9, zo_ceq false true 12 16), (12, zo_c 13 (vi 1)), (13, zo_goto 17), (16, zo_c 17 (vi 0)), (17, zo_csL (mm_rm 8 1 6) 20 1 1 6 zX1_demand), (20, zo_ald 21 0), (21, zo_get 24 0 2 9), (24, zo_ald 25 0), (25, zo_get 28 0 2 0), (28, zo_get 31 1 2 9), (31, zo_callv 34 2 2 zX3_takes_204108), (34, zo_pop 35), (35, zo_ald 36 0), (36, zo_get 39 0 2 18), (39, zo_ald 40 0), (40, zo_get 43 0 2 9), (43, zo_callv 46 2 7 zX8_begins), (46, zo_c 47 (vi 0)), (47, zo_ist 49 7), (49, zo_ild 51 7), (51, zo_ild 53 6), (53, zo_cge false false 56 83), (56, zo_ald 57 0), (57, zo_get 60 0 2 18), (60, zo_ald 61 0), (61, zo_get 64 0 2 16), (64, zo_ild 66 7), (66, zo_iald 67), (67, zo_ald 68 0), (68, zo_get 71 0 2 17), (71, zo_ild 73 7), (73, zo_iald 74), (74, zo_callv 77 3 7 zX8_goes), (77, zo_inc 80 7 1), (80, zo_goto 49), (83, zo_ald 84 0), (84, zo_get 87 0 2 18), (87, zo_ild 88 1), (88, zo_ild 89 2), (89, zo_ild 90 3), (90, zo_ild 92 4), (92, zo_ild 94 5), (94, zo_callv 97 6 7 zX8_answer), (97, zo_lret)]
theorem ztX1_mends {C : mm_C} (G : mm_G C RX1 cX1_mends (some .long) 8 (mm_rm 8 1 6)) (hnh : mm_nh C) : zz_OKs C zpX1_mends :=
  ⟨zz_of (ok_aload_n G dX1_mends_0 rfl rfl) (z_ald _ _),
   zz_of (ok_callv G hnh (zmX1_logged _ G.hst) rfl rfl (RX1, TX1, 19) rfl q1738 q1740 qs34 q82 q1741 (by decide +kernel) ⟨by decide, by decide⟩ dX1_mends_1 rfl) (z_callv _ _ _ _),
   zz_of (ok_istore G dX1_mends_4 rfl (by decide)) (z_ist _ _),
   zz_of (ok_iload G dX1_mends_6 rfl) (z_ild _ _),
   zz_of (ok_iconst G (v := (zI (-1))) dX1_mends_8 (by decide) rfl) (z_cz 9 (-1)),
   zz_of (ok_ceq G dX1_mends_9 rfl rfl) (z_ceq _ _ _ _),
   zz_of (ok_iconst G (v := 1) dX1_mends_12 (by decide) rfl) (z_cn 13 1),
   zz_of (ok_goto G dX1_mends_13 rfl) (z_goto _),
   zz_of (ok_iconst G (v := 0) dX1_mends_16 (by decide) rfl) (z_cn 17 0),
   zz_of (ok_calsF G (hnh.q 17) (zmX1_demand _ G.hst) q1474 q1475 q82 q1476 (by decide +kernel) ⟨Nat.le_of_ble_eq_true rfl, Nat.le_of_ble_eq_true rfl⟩ dX1_mends_17 rfl) (z_csL _ _ _ _ _ _),
   zz_of (ok_aload_n G dX1_mends_20 rfl rfl) (z_ald _ _),
   zz_of (ok_get G (nx := 24) (ci := 0) (kd := 2) (k := 9) (RX1, TX1, 19) rfl (by decide) rfl q418 dX1_mends_21 rfl) (z_get _ _ _ _),
   zz_of (ok_aload_n G dX1_mends_24 rfl rfl) (z_ald _ _),
   zz_of (ok_get G (nx := 28) (ci := 0) (kd := 2) (k := 0) (RX1, TX1, 19) rfl (by decide) rfl q399 dX1_mends_25 rfl) (z_get _ _ _ _),
   zz_of (ok_getN G (nx := 31) (ci := 1) (kd := 2) (k := 9) (RX2, TX2, 11) rfl (by decide) rfl q240 dX1_mends_28 rfl) (z_get _ _ _ _),
   zz_of (ok_callv G hnh (zmX3_takes_204108 _ G.hst) rfl rfl (RX3, TX3, 7) rfl q1591 q580 q581 q87 q582 (by decide +kernel) ⟨by decide, by decide⟩ dX1_mends_31 rfl) (z_callv _ _ _ _),
   zz_of (ok_pop G dX1_mends_34 rfl) (z_pop _),
   zz_of (ok_aload_n G dX1_mends_35 rfl rfl) (z_ald _ _),
   zz_of (ok_get G (nx := 39) (ci := 0) (kd := 2) (k := 18) (RX1, TX1, 19) rfl (by decide) rfl q429 dX1_mends_36 rfl) (z_get _ _ _ _),
   zz_of (ok_aload_n G dX1_mends_39 rfl rfl) (z_ald _ _),
   zz_of (ok_get G (nx := 43) (ci := 0) (kd := 2) (k := 9) (RX1, TX1, 19) rfl (by decide) rfl q418 dX1_mends_40 rfl) (z_get _ _ _ _),
   zz_of (ok_callv G hnh (zmX8_begins _ G.hst) rfl rfl (RX8, TX8, 9) rfl q1749 q1750 q1751 q92 q1752 (by decide +kernel) ⟨by decide, by decide⟩ dX1_mends_43 rfl) (z_callv _ _ _ _),
   zz_of (ok_iconst G (v := 0) dX1_mends_46 (by decide) rfl) (z_cn 47 0),
   zz_of (ok_istore G dX1_mends_47 rfl (by decide)) (z_ist _ _),
   zz_of (ok_iload G dX1_mends_49 rfl) (z_ild _ _),
   zz_of (ok_iload G dX1_mends_51 rfl) (z_ild _ _),
   zz_of (ok_cge G dX1_mends_53 rfl rfl) (z_cge _ _ _ _),
   zz_of (ok_aload_n G dX1_mends_56 rfl rfl) (z_ald _ _),
   zz_of (ok_get G (nx := 60) (ci := 0) (kd := 2) (k := 18) (RX1, TX1, 19) rfl (by decide) rfl q429 dX1_mends_57 rfl) (z_get _ _ _ _),
   zz_of (ok_aload_n G dX1_mends_60 rfl rfl) (z_ald _ _),
   zz_of (ok_get G (nx := 64) (ci := 0) (kd := 2) (k := 16) (RX1, TX1, 19) rfl (by decide) rfl q427 dX1_mends_61 rfl) (z_get _ _ _ _),
   zz_of (ok_iload G dX1_mends_64 rfl) (z_ild _ _),
   zz_of (ok_iald G dX1_mends_66 rfl) (z_iald _),
   zz_of (ok_aload_n G dX1_mends_67 rfl rfl) (z_ald _ _),
   zz_of (ok_get G (nx := 71) (ci := 0) (kd := 2) (k := 17) (RX1, TX1, 19) rfl (by decide) rfl q428 dX1_mends_68 rfl) (z_get _ _ _ _),
   zz_of (ok_iload G dX1_mends_71 rfl) (z_ild _ _),
   zz_of (ok_iald G dX1_mends_73 rfl) (z_iald _),
   zz_of (ok_callv G hnh (zmX8_goes _ G.hst) rfl rfl (RX8, TX8, 9) rfl q1758 q1759 q1760 q92 q1761 (by decide +kernel) ⟨by decide, by decide⟩ dX1_mends_74 rfl) (z_callv _ _ _ _),
   zz_of (ok_iinc G (v := 1) dX1_mends_77 (by decide) rfl (by decide)) (z_incn 80 7 1),
   zz_of (ok_goto G dX1_mends_80 rfl) (z_goto _),
   zz_of (ok_aload_n G dX1_mends_83 rfl rfl) (z_ald _ _),
   zz_of (ok_get G (nx := 87) (ci := 0) (kd := 2) (k := 18) (RX1, TX1, 19) rfl (by decide) rfl q429 dX1_mends_84 rfl) (z_get _ _ _ _),
   zz_of (ok_iload_n G dX1_mends_87 rfl rfl) (z_ild _ _),
   zz_of (ok_iload_n G dX1_mends_88 rfl rfl) (z_ild _ _),
   zz_of (ok_iload_n G dX1_mends_89 rfl rfl) (z_ild _ _),
   zz_of (ok_iload G dX1_mends_90 rfl) (z_ild _ _),
   zz_of (ok_iload G dX1_mends_92 rfl) (z_ild _ _),
   zz_of (ok_callv G hnh (zmX8_answer _ G.hst) rfl rfl (RX8, TX8, 9) rfl q1781 q1782 q1783 q92 q1784 (by decide +kernel) ⟨by decide, by decide⟩ dX1_mends_94 rfl) (z_callv _ _ _ _),
   zz_of (ok_lret G dX1_mends_97) (z_lret), trivial⟩

theorem zwX1_mends_0 {Q : Option zv → zz_M → Prop} {X : Nat → zz_M → Prop} {f : Nat → Nat × Nat} {S L : Nat → Nat → Int} {P : Nat → Nat → Option Nat} {a : Int} {b : Int} {c : Int} {d : Int} {how : Int} (h : (∃ (t_1 : Nat → Int) (n_1 : Nat), n_1 ≤ 400 ∧ S 101 1 = (n_1 : Int) ∧ (∀ k, k < n_1 → (0 ≤ t_1 k ∧ t_1 k ≤ 255) ∧ S 102 k = cby (t_1 k)) ∧ (∀ S_1 : Nat → Nat → Int, lgF S S_1 → lgB t_1 n_1 = true → (∀ k, k < n_1 / 2 → S_1 132 k = hwD t_1 k ∧ S_1 133 k = t_1 (2 * k + 1) - 48) → (R32 ((n_1 / 2 : Nat) : Int) ∧ ((((n_1 / 2 : Nat) : Int) = (-1) → (((0 : Int) = 1 → (((cx S_1 204 6 = 0 ∨ cx S_1 204 6 = 1) ∧ ((scV (cx (cxW S_1 108 (cx S_1 204)) 108) ∧ (zz_J zpX1_mends (zz_ret Q X 1 6) 49 [some (vr 100), some (vi a), some (vi b), some (vi c), some (vi d), some (vi how), some (vi ((n_1 / 2 : Nat) : Int)), some (vi 0)] [] ((2, f), mm_up (mm_up (mm_up (cxW S_1 108 (cx S_1 204)) 134 6 1) 135 0 ((nuR (cx (cxW S_1 108 (cx S_1 204)) 108) * 16 + cx (cxW S_1 108 (cx S_1 204)) 108 7) * 16 + cx (cxW S_1 108 (cx S_1 204)) 108 8)) 136 0 0, mm_up L 139 0 1, P) (1, 6))))))) ∧ ((0 : Int) = 0 → X 1 ((2, f), S_1, L, P)) ∧ ((0 : Int) = 0 ∨ (0 : Int) = 1))) ∧ (¬ ((n_1 / 2 : Nat) : Int) = (-1) → (((1 : Int) = 1 → (((cx S_1 204 6 = 0 ∨ cx S_1 204 6 = 1) ∧ ((scV (cx (cxW S_1 108 (cx S_1 204)) 108) ∧ (zz_J zpX1_mends (zz_ret Q X 1 6) 49 [some (vr 100), some (vi a), some (vi b), some (vi c), some (vi d), some (vi how), some (vi ((n_1 / 2 : Nat) : Int)), some (vi 0)] [] ((2, f), mm_up (mm_up (mm_up (cxW S_1 108 (cx S_1 204)) 134 6 1) 135 0 ((nuR (cx (cxW S_1 108 (cx S_1 204)) 108) * 16 + cx (cxW S_1 108 (cx S_1 204)) 108 7) * 16 + cx (cxW S_1 108 (cx S_1 204)) 108 8)) 136 0 0, mm_up L 139 0 1, P) (1, 6))))))) ∧ ((1 : Int) = 0 → X 1 ((2, f), S_1, L, P)) ∧ ((1 : Int) = 0 ∨ (1 : Int) = 1)))))) ∧ (∀ S_1 : Nat → Nat → Int, lgF S S_1 → lgB t_1 n_1 = false → (R32 (-1) ∧ (((-1 : Int) = (-1) → (((0 : Int) = 1 → (((cx S_1 204 6 = 0 ∨ cx S_1 204 6 = 1) ∧ ((scV (cx (cxW S_1 108 (cx S_1 204)) 108) ∧ (zz_J zpX1_mends (zz_ret Q X 1 6) 49 [some (vr 100), some (vi a), some (vi b), some (vi c), some (vi d), some (vi how), some (vi (-1)), some (vi 0)] [] ((2, f), mm_up (mm_up (mm_up (cxW S_1 108 (cx S_1 204)) 134 6 1) 135 0 ((nuR (cx (cxW S_1 108 (cx S_1 204)) 108) * 16 + cx (cxW S_1 108 (cx S_1 204)) 108 7) * 16 + cx (cxW S_1 108 (cx S_1 204)) 108 8)) 136 0 0, mm_up L 139 0 1, P) (1, 6))))))) ∧ ((0 : Int) = 0 → X 1 ((2, f), S_1, L, P)) ∧ ((0 : Int) = 0 ∨ (0 : Int) = 1))) ∧ (¬ (-1 : Int) = (-1) → (((1 : Int) = 1 → (((cx S_1 204 6 = 0 ∨ cx S_1 204 6 = 1) ∧ ((scV (cx (cxW S_1 108 (cx S_1 204)) 108) ∧ (zz_J zpX1_mends (zz_ret Q X 1 6) 49 [some (vr 100), some (vi a), some (vi b), some (vi c), some (vi d), some (vi how), some (vi (-1)), some (vi 0)] [] ((2, f), mm_up (mm_up (mm_up (cxW S_1 108 (cx S_1 204)) 134 6 1) 135 0 ((nuR (cx (cxW S_1 108 (cx S_1 204)) 108) * 16 + cx (cxW S_1 108 (cx S_1 204)) 108 7) * 16 + cx (cxW S_1 108 (cx S_1 204)) 108 8)) 136 0 0, mm_up L 139 0 1, P) (1, 6))))))) ∧ ((1 : Int) = 0 → X 1 ((2, f), S_1, L, P)) ∧ ((1 : Int) = 0 ∨ (1 : Int) = 1)))))))) : zz_J zpX1_mends (zz_ret Q X 1 6) 0 [some (vr 100), some (vi a), some (vi b), some (vi c), some (vi d), some (vi how), none, none] [] ((2, f), S, L, P) (0, 0) := zz_J.go [(49, [])] 400 h
theorem zwX1_mends_49 {Q : Option zv → zz_M → Prop} {X : Nat → zz_M → Prop} {f : Nat → Nat × Nat} {S L : Nat → Nat → Int} {P : Nat → Nat → Option Nat} {x1 : Int} {x2 : Int} {x3 : Int} {x4 : Int} {x5 : Int} {x6 : Int} {x7 : Int} (h : R32 x7 ∧ (R32 x6 ∧ ((x6 ≤ x7 → ((R32 x1 ∧ R32 x2 ∧ R32 x3 ∧ R32 x4 ∧ (x5 = 0 ∨ x5 = 1)) ∧ ∃ (w_1 t_1 x_1 : Nat → Int) (k_1 N_1 : Nat), k_1 ≤ 30 ∧ S 134 6 = (N_1 : Int) ∧ clI (mnV w_1 t_1 x_1 k_1) k_1 (S 135) (S 136) (L 139) N_1 (mnK w_1 t_1 x_1 k_1) ∧ (∀ S_1 : Nat → Nat → Int, (∀ h j, ¬ (108 ≤ h ∧ h ≤ 111) → S_1 h j = S h j) → (Q (some (vl (mnF (mnS w_1 t_1 x_1 k_1 x1 x2 x3 x4) x5 31 0))) ((2, f), S_1, L, P))))) ∧ (¬ x6 ≤ x7 → (0 ≤ x7 ∧ x7 < 30) ∧ ((0 ≤ x7 ∧ x7 < 30) ∧ ((∃ (w_2 t_2 x_2 : Nat → Int) (k_2 N_2 : Nat), wsc S w_2 ∧ wV w_2 ∧ (lgO t_2 k_2 = true ∧ (0 ≤ t_2 (2 * k_2 + 1) ∧ t_2 (2 * k_2 + 1) ≤ 255)) ∧ (S 132 x7.toNat) = hwD t_2 k_2 ∧ (S 133 x7.toNat) = t_2 (2 * k_2 + 1) - 48 ∧ k_2 ≤ 30 ∧ mnB w_2 t_2 x_2 (k_2 + 1) ∧ S 134 6 = (N_2 : Int) ∧ clI (mnV w_2 t_2 x_2 k_2) k_2 (S 135) (S 136) (L 139) N_2 (mnK w_2 t_2 x_2 k_2) ∧ (∀ (S_2 L_2 : Nat → Nat → Int) (n_2 : Nat), (∀ h j, ¬ (108 ≤ h ∧ h ≤ 111) → ¬ (134 ≤ h ∧ h ≤ 140) → S_2 h j = S h j) → S_2 134 6 = (n_2 : Int) → clI (mnV w_2 t_2 x_2 (k_2 + 1)) (k_2 + 1) (S_2 135) (S_2 136) (L_2 139) n_2 (mnK w_2 t_2 x_2 (k_2 + 1)) → (zz_J zpX1_mends (zz_ret Q X 1 6) 49 [some (vr 100), some (vi x1), some (vi x2), some (vi x3), some (vi x4), some (vi x5), some (vi x6), some (vi (x7 + 1))] [] ((2, f), S_2, L_2, P) (1, 6)))))))))) : zz_J zpX1_mends (zz_ret Q X 1 6) 49 [some (vr 100), some (vi x1), some (vi x2), some (vi x3), some (vi x4), some (vi x5), some (vi x6), some (vi x7)] [] ((2, f), S, L, P) (1, 6) := zz_J.go [(49, [])] 400 h

theorem zmX1_mends (l : Launch) (hl : l.stackTraces = false) : mm_Spec l yX1_mends (ws_ yX1_mends cX1_mends 8 (some .long)) (mm_rm 8 1 6) (zE zX1_mends) := by
  refine zz_Met.J hl (by decide) (fun C G hnh => ztX1_mends G hnh) ?_
  rintro as ⟨⟨t_, f⟩, S, L, P⟩ Q X h
  unfold zX1_mends at h
  split at h
  rotate_left
  · exact h.elim
  rename_i h_ a b c d how
  obtain ⟨e1_, e2_, h⟩ := mm_and2 h (fun q => q)
  cases mm_beq e1_
  cases mm_beq e2_
  try dsimp only at h
  refine ⟨rfl, ?_⟩
  obtain ⟨hR, w, t, y, n, hn, hl, ht, hws, hwV, hy, hyB, hE, hb, hmn, hq⟩ := h
  have wq : ∀ T, mdC S T → wsc T w := fun T e => by
    refine ⟨?_, ?_, ?_, ?_, ?_⟩ <;> rw [e.1 200 _ (by decide) (by decide) (by decide) (by decide) (by decide)]
    · exact hws.1
    · exact hws.2.1
    · exact hws.2.2.1
    · exact hws.2.2.2.1
    · exact hws.2.2.2.2
  have t49 : lgB t n = true → ∀ (m k N : Nat) (T L' : Nat → Nat → Int), k + m = n / 2 → mdC S T → (∀ k', k' < n / 2 → T 132 k' = hwD t k' ∧ T 133 k' = t (2 * k' + 1) - 48) → T 134 6 = (N : Int) → clI (mnV w t y k) k (T 135) (T 136) (L' 139) N (mnK w t y k) → zz_J zpX1_mends (zz_ret Q X 1 6) 49 [some (vr 100), some (vi a), some (vi b), some (vi c), some (vi d), some (vi how), some (vi ((n / 2 : Nat) : Int)), some (vi (k : Int))] [] ((2, f), T, L', P) (1, 6) := by
    intro hB
    have hB2 := hB
    unfold lgB lgA at hB2
    rw [Bool.and_eq_true, Bool.and_eq_true, List.all_eq_true] at hB2
    have n2 : n % 2 = 0 := of_decide_eq_true hB2.1.1
    have n60 : n ≤ 60 := of_decide_eq_true hB2.1.2
    intro m
    induction m with
    | zero =>
      intro k N T L' hk hC hrow h6 hI
      have ek : k = n / 2 := by omega
      refine zwX1_mends_49 ⟨by omega, by omega, fun _ => ⟨hR, w, t, y, k, N, by omega, h6, hI, fun S2 h2 => ?_⟩, fun z => absurd z (by omega)⟩
      rw [ek]
      refine (hq S2 L' ⟨fun h j c1 c2 c3 c4 c5 => (h2 h j c3).trans (hC.1 h j c1 c2 c3 c4 c5), (h2 101 1 (by omega)).trans hC.2⟩).2 hB
    | succ m ih =>
      intro k N T L' hk hC hrow h6 hI
      obtain ⟨r2, r3⟩ := hrow k (by omega)
      have hO : lgO t k = true := hB2.2 k (List.mem_range.mpr (by omega))
      refine zwX1_mends_49 ⟨by omega, by omega, fun z => absurd z (by omega), fun _ => ⟨by omega, by omega, w, t, y, k, N, wq T hC, hwV, ⟨hO, (ht (2 * k + 1) (by omega)).1⟩, ?_, ?_, by omega, hmn hB (k + 1) (by omega), h6, hI, fun S2 L2 n2 h2 h3 h4 => ?_⟩⟩
      · rw [Int.toNat_natCast]; exact r2
      · rw [Int.toNat_natCast]; exact r3
      · have := ih (k + 1) n2 S2 L2 (by omega) ⟨fun h j c1 c2 c3 c4 c5 => (h2 h j c3 c4).trans (hC.1 h j c1 c2 c3 c4 c5), (h2 101 1 (by omega) (by omega)).trans hC.2⟩ (fun k' hk' => by rw [h2 132 k' (by omega) (by omega), h2 133 k' (by omega) (by omega)]; exact hrow k' hk') h3 h4
        rw [show ((k + 1 : Nat) : Int) = (k : Int) + 1 by omega] at this
        exact this
  have h6 : cx S 204 6 = 0 ∨ cx S 204 6 = 1 := by
    rw [hE.2.2.2.2.2.2.1]
    rcases hy.2.2 with ⟨a, b⟩ | ⟨a, b, -⟩ | ⟨a, b, -⟩ <;> omega
  have hyr : (0 ≤ y 7 ∧ y 7 ≤ 7) ∧ (0 ≤ y 8 ∧ y 8 ≤ 7) := by
    obtain ⟨-, -, b7, b8, -⟩ := hyB
    omega
  have sc : ∀ T, lgF S T → mdC S T := fun T e => ⟨fun h' k' c1 c2 c3 c4 c5 => e.1 h' k' c1 c2 c5, e.2⟩
  refine zwX1_mends_0 ⟨t, n, hn, hl, ht, fun S1 hF hB hrow => ⟨by omega, fun z => absurd z (by omega), fun _ => ⟨fun _ => ?_, fun z => absurd z (by decide), Or.inr rfl⟩⟩, fun S1 hF hB => ⟨by decide, fun _ => ⟨fun z => absurd z (by decide), fun _ => (hq S1 L (sc S1 hF)).1 hB, Or.inl rfl⟩, fun z => absurd rfl z⟩⟩
  have e204 : cx S1 204 = cx S 204 := by
    funext j
    unfold cx
    rw [hF.1 205 0 (by decide) (by decide) (by decide), hF.1 205 1 (by decide) (by decide) (by decide), hF.1 204 3 (by decide) (by decide) (by decide), hF.1 204 4 (by decide) (by decide) (by decide), hF.1 207 0 (by decide) (by decide) (by decide), hF.1 207 1 (by decide) (by decide) (by decide), hF.1 204 5 (by decide) (by decide) (by decide), hF.1 206 0 (by decide) (by decide) (by decide), hF.1 206 1 (by decide) (by decide) (by decide)]
  rw [e204]
  have ecx : cx (cxW S1 108 (cx S 204)) 108 = cx S 204 := cx_cxW S1 108 _ (cx_9 S 204)
  rw [ecx]
  refine ⟨h6, scV_xE hy hE, ?_⟩
  have o : ∀ h', h' < 108 ∨ 111 < h' → cxW S1 108 (cx S 204) h' = S1 h' := fun h' hh => cxW_o S1 108 _ (by omega) (by omega) (by omega) (by omega)
  have hkey : (nuR (cx S 204) * 16 + cx S 204 7) * 16 + cx S 204 8 = kC (whR y) := by
    rw [kC_wh hyr.1 hyr.2, nuR_xE hy hE, hE.2.2.2.2.2.2.2.1, hE.2.2.2.2.2.2.2.2]
  rw [hkey]
  have eT : ∀ h j, ¬ (134 ≤ h ∧ h ≤ 140) → mm_up (mm_up (mm_up (cxW S1 108 (cx S 204)) 134 6 1) 135 0 (kC (whR y))) 136 0 0 h j = cxW S1 108 (cx S 204) h j := fun h j hh => by rw [up_eq, if_neg (by omega), up_eq, if_neg (by omega), up_eq, if_neg (by omega)]
  refine t49 hB (n / 2) 0 1 _ _ (by omega) ⟨fun h' k' c1 c2 c3 c4 c5 => ?_, ?_⟩ (fun k' hk' => ?_) ?_ ⟨by decide, fun _ => whR y, fun i hi => ?_, fun i j hi hj _ => by omega, fun i hi => ⟨rfl, whR_V hy hyB⟩, fun i hi => ⟨0, ?_, Nat.le_refl _, fun j hj => absurd hj (Nat.not_lt_zero _), ?_, ?_⟩, fun x j hx => ?_⟩
  · rw [eT h' k' c4, o h' (by omega)]
    exact hF.1 h' k' c1 c2 c5
  · rw [eT 101 1 (by omega), o 101 (by decide)]
    exact hF.2
  · rw [eT 132 k' (by omega), eT 133 k' (by omega), o 132 (by decide), o 133 (by decide)]
    exact hrow k' hk'
  · rw [up_eq, if_neg (by omega), up_eq, if_neg (by omega), up_eq, if_pos ⟨rfl, rfl⟩]
    rfl
  · have ei : i = 0 := by omega
    rw [ei, up_eq, if_neg (by omega), up_eq, if_pos ⟨rfl, rfl⟩]
  · have ei : i = 0 := by omega
    rw [ei, up_eq, if_pos ⟨rfl, rfl⟩]
    rfl
  · have ei : i = 0 := by omega
    rw [ei, up_eq, if_pos ⟨rfl, rfl⟩]
    show (if whR y = whR y ∧ (0 : Nat) = 0 then (1 : Int) else 0) = 1
    rw [if_pos ⟨rfl, rfl⟩]
  · have ei : i = 0 := by omega
    rw [ei, up_eq, if_pos ⟨rfl, rfl⟩]
    decide
  · show (if x = whR y ∧ j = 0 then (1 : Int) else 0) = 0
    exact if_neg (fun z => hx 0 (by decide) z.1.symm)
