/-! ===== the model's sets ===== -/
set_option maxRecDepth 100000
/-- the chance that p wins the set, by so many games at most -/
def stO (wy : Nat → Int) (G : Int) (p : Int) : Nat → Int → Int → Nat → Int
  | 0, a, b, _ => if G ≤ (if p = 0 then a else b) then 1000000000 else 0
  | r + 1, a, b, s => if G ≤ a ∨ G ≤ b then (if G ≤ (if p = 0 then a else b) then 1000000000 else 0) else wy (4 * s) * stO wy G p r (a + 1) b 0 / 1000000000 + wy (4 * s + 1) * stO wy G p r (a + 1) b 1 / 1000000000 + wy (4 * s + 2) * stO wy G p r a (b + 1) 0 / 1000000000 + wy (4 * s + 3) * stO wy G p r a (b + 1) 1 / 1000000000
/-- the four ways together are at most sure -/
def wyG (wy : Nat → Int) : Prop := (∀ j, j < 8 → 0 ≤ wy j ∧ wy j ≤ 1000000000) ∧ wy 0 + wy 1 + wy 2 + wy 3 ≤ 1000000000 ∧ wy 4 + wy 5 + wy 6 + wy 7 ≤ 1000000000
theorem mul_sure {a v : Int} (ha : 0 ≤ a) (hv : 0 ≤ v) (h1 : v ≤ 1000000000) : 0 ≤ a * v ∧ a * v ≤ a * 1000000000 := ⟨Int.mul_nonneg ha hv, Int.mul_le_mul_of_nonneg_left h1 ha⟩
theorem stO_in {wy : Nat → Int} {G p : Int} (hw : wyG wy) : ∀ (r : Nat) (a b : Int) (s : Nat), s < 2 → 0 ≤ stO wy G p r a b s ∧ stO wy G p r a b s ≤ 1000000000
  | 0, a, b, s, _ => by
    unfold stO
    split <;> omega
  | r + 1, a, b, s, hs => by
    have i0 := stO_in (G := G) (p := p) hw r (a + 1) b 0 (by decide)
    have i1 := stO_in (G := G) (p := p) hw r (a + 1) b 1 (by decide)
    have i2 := stO_in (G := G) (p := p) hw r a (b + 1) 0 (by decide)
    have i3 := stO_in (G := G) (p := p) hw r a (b + 1) 1 (by decide)
    obtain ⟨h8, h0, h4⟩ := hw
    have w0 := h8 (4 * s) (by omega)
    have w1 := h8 (4 * s + 1) (by omega)
    have w2 := h8 (4 * s + 2) (by omega)
    have w3 := h8 (4 * s + 3) (by omega)
    have m0 := mul_sure w0.1 i0.1 i0.2
    have m1 := mul_sure w1.1 i1.1 i1.2
    have m2 := mul_sure w2.1 i2.1 i2.2
    have m3 := mul_sure w3.1 i3.1 i3.2
    have hsum : wy (4 * s) + wy (4 * s + 1) + wy (4 * s + 2) + wy (4 * s + 3) ≤ 1000000000 := by
      have : s = 0 ∨ s = 1 := by omega
      rcases this with e | e <;> subst e
      · exact h0
      · exact h4
    unfold stO
    split
    · split <;> omega
    · omega
theorem stO_o {wy : Nat → Int} {G p a b : Int} {s : Nat} (h : G ≤ a ∨ G ≤ b) : ∀ r, stO wy G p r a b s = if G ≤ (if p = 0 then a else b) then 1000000000 else 0
  | 0 => rfl
  | r + 1 => by
    unfold stO
    rw [if_pos h]
theorem stO_s {wy : Nat → Int} {G p a b : Int} {s : Nat} (h : ¬ (G ≤ a ∨ G ≤ b)) (r : Nat) : stO wy G p (r + 1) a b s = wy (4 * s) * stO wy G p r (a + 1) b 0 / 1000000000 + wy (4 * s + 1) * stO wy G p r (a + 1) b 1 / 1000000000 + wy (4 * s + 2) * stO wy G p r a (b + 1) 0 / 1000000000 + wy (4 * s + 3) * stO wy G p r a (b + 1) 1 / 1000000000 := by
  rw [stO, if_neg h]
def zX9_setOf_0 : zz_Sp := fun as M Q X => match as with
  | [.inr (.inr (some h_)), .inl p, .inl a, .inl b, .inl s] => bif Nat.beq h_ 0 && Nat.beq M.1.1 1 then ((p = 0 ∨ p = 1) ∧ (s = 0 ∨ s = 1) ∧ (0 ≤ a ∧ a ≤ 6) ∧ (0 ≤ b ∧ b ≤ 6) ∧ (1 ≤ M.2.1 1 194 ∧ M.2.1 1 194 ≤ 6) ∧ (a ≤ M.2.1 1 194 ∧ b ≤ M.2.1 1 194) ∧ M.2.1 1 194 - a + (M.2.1 1 194 - b) ≤ 0 ∧ wyG (M.2.2.1 12) ∧ Q (some (vl (stO (M.2.2.1 12) (M.2.1 1 194) p 0 a b s.toNat))) (zm M.2.1 M.2.2.1)) else False
  | _ => False

def zpX9_setOf_0 : zz_P := [(0, zo_ild 1 2), (1, zo_ald 2 0), (2, zo_get 5 8 2 1), (5, zo_c 8 (vi 194)), (8, zo_ialc 9 194), (9, zo_cge false false 12 24), (12, zo_ild 13 3), (13, zo_ald 14 0), (14, zo_get 17 8 2 1), (17, zo_c 20 (vi 194)), (20, zo_ialc 21 194), (21, zo_clt false false 24 52), (24, zo_ild 25 1), (25, zo_ifne false 28 32), (28, zo_ild 29 2), (29, zo_goto 33), (32, zo_ild 33 3), (33, zo_ald 34 0), (34, zo_get 37 8 2 1), (37, zo_c 40 (vi 194)), (40, zo_ialc 41 194), (41, zo_clt false false 44 50), (44, zo_c 47 (vl 1000000000)), (47, zo_goto 51), (50, zo_c 51 (vl 0)), (51, zo_lret), (52, zo_c 53 (vl 0)), (53, zo_lst 55 5), (55, zo_c 56 (vi 0)), (56, zo_ist 58 7), (58, zo_ild 60 7), (60, zo_c 61 (vi 2)), (61, zo_cge false true 64 144), (64, zo_c 65 (vi 0)), (65, zo_ist 67 8), (67, zo_ild 69 8), (69, zo_c 70 (vi 2)), (70, zo_cge false true 73 138), (73, zo_lld 75 5), (75, zo_ald 76 0), (76, zo_get 79 8 2 24), (79, zo_c 80 (vi 4)), (80, zo_ild 82 4), (82, zo_imul 83), (83, zo_c 84 (vi 2)), (84, zo_ild 86 7), (86, zo_imul 87), (87, zo_iadd 88), (88, zo_ild 90 8), (90, zo_iadd 91), (91, zo_lald 92), (92, zo_ald 93 0), (93, zo_ild 94 1), (94, zo_ild 96 7), (96, zo_ifne false 99 105), (99, zo_ild 100 2), (100, zo_c 101 (vi 1)), (101, zo_iadd 102), (102, zo_goto 106), (105, zo_ild 106 2), (106, zo_ild 108 7), (108, zo_c 109 (vi 1)), (109, zo_cne false true 112 118), (112, zo_ild 113 3), (113, zo_c 114 (vi 1)), (114, zo_iadd 115), (115, zo_goto 119), (118, zo_ild 119 3), (119, zo_ild 121 8), (121, zo_bad), (124, zo_lmul 125), (125, zo_c 128 (vl 1000000000)), (128, zo_ldiv 129), (129, zo_ladd 130), (130, zo_lst 132 5), (132, zo_inc 135 8 1), (135, zo_goto 67), (138, zo_inc 141 7 1), (141, zo_goto 58), (144, zo_lld 146 5), (146, zo_lret)]
theorem ztX9_setOf_0 {C : mm_C} (G : mm_G C RX9 cX9_setOf (some .long) 9 (mm_rm 1 0 0)) (hnh : mm_nh C) : zz_OKs C zpX9_setOf_0 :=
  ⟨zz_of (ok_iload_n G dX9_setOf_0 rfl rfl) (z_ild _ _),
   zz_of (ok_aload_n G dX9_setOf_1 rfl rfl) (z_ald _ _),
   zz_of (ok_get G (nx := 5) (ci := 8) (kd := 2) (k := 1) (RX9, TX9, 32) rfl (by decide) rfl q1806 dX9_setOf_2 rfl) (z_get _ _ _ _),
   zz_of (ok_sipush G (v := 194) dX9_setOf_5 (by decide) rfl) (z_cn 8 194),
   zz_of (ok_iald G dX9_setOf_8 rfl) (z_ialc _ _),
   zz_of (ok_cge G dX9_setOf_9 rfl rfl) (z_cge _ _ _ _),
   zz_of (ok_iload_n G dX9_setOf_12 rfl rfl) (z_ild _ _),
   zz_of (ok_aload_n G dX9_setOf_13 rfl rfl) (z_ald _ _),
   zz_of (ok_get G (nx := 17) (ci := 8) (kd := 2) (k := 1) (RX9, TX9, 32) rfl (by decide) rfl q1806 dX9_setOf_14 rfl) (z_get _ _ _ _),
   zz_of (ok_sipush G (v := 194) dX9_setOf_17 (by decide) rfl) (z_cn 20 194),
   zz_of (ok_iald G dX9_setOf_20 rfl) (z_ialc _ _),
   zz_of (ok_clt G dX9_setOf_21 rfl rfl) (z_clt _ _ _ _),
   zz_of (ok_iload_n G dX9_setOf_24 rfl rfl) (z_ild _ _),
   zz_of (ok_ifne G dX9_setOf_25 rfl rfl) (z_ifne _ _ _),
   zz_of (ok_iload_n G dX9_setOf_28 rfl rfl) (z_ild _ _),
   zz_of (ok_goto G dX9_setOf_29 rfl) (z_goto _),
   zz_of (ok_iload_n G dX9_setOf_32 rfl rfl) (z_ild _ _),
   zz_of (ok_aload_n G dX9_setOf_33 rfl rfl) (z_ald _ _),
   zz_of (ok_get G (nx := 37) (ci := 8) (kd := 2) (k := 1) (RX9, TX9, 32) rfl (by decide) rfl q1806 dX9_setOf_34 rfl) (z_get _ _ _ _),
   zz_of (ok_sipush G (v := 194) dX9_setOf_37 (by decide) rfl) (z_cn 40 194),
   zz_of (ok_iald G dX9_setOf_40 rfl) (z_ialc _ _),
   zz_of (ok_clt G dX9_setOf_41 rfl rfl) (z_clt _ _ _ _),
   zz_of (ok_ldc2 G (v := 1000000000) q2137 dX9_setOf_44 rfl) (z_cl 47 1000000000),
   zz_of (ok_goto G dX9_setOf_47 rfl) (z_goto _),
   zz_of (ok_lconst G (v := 0) dX9_setOf_50 (by decide) rfl) (z_cl 51 0),
   zz_of (ok_lret G dX9_setOf_51) (z_lret),
   zz_of (ok_lconst G (v := 0) dX9_setOf_52 (by decide) rfl) (z_cl 53 0),
   zz_of (ok_lstore G dX9_setOf_53 rfl (by decide)) (z_lst _ _),
   zz_of (ok_iconst G (v := 0) dX9_setOf_55 (by decide) rfl) (z_cn 56 0),
   zz_of (ok_istore G dX9_setOf_56 rfl (by decide)) (z_ist _ _),
   zz_of (ok_iload G dX9_setOf_58 rfl) (z_ild _ _),
   zz_of (ok_iconst G (v := 2) dX9_setOf_60 (by decide) rfl) (z_cn 61 2),
   zz_of (ok_cge G dX9_setOf_61 rfl rfl) (z_cge _ _ _ _),
   zz_of (ok_iconst G (v := 0) dX9_setOf_64 (by decide) rfl) (z_cn 65 0),
   zz_of (ok_istore G dX9_setOf_65 rfl (by decide)) (z_ist _ _),
   zz_of (ok_iload G dX9_setOf_67 rfl) (z_ild _ _),
   zz_of (ok_iconst G (v := 2) dX9_setOf_69 (by decide) rfl) (z_cn 70 2),
   zz_of (ok_cge G dX9_setOf_70 rfl rfl) (z_cge _ _ _ _),
   zz_of (ok_lload G dX9_setOf_73 rfl) (z_lld _ _),
   zz_of (ok_aload_n G dX9_setOf_75 rfl rfl) (z_ald _ _),
   zz_of (ok_get G (nx := 79) (ci := 8) (kd := 2) (k := 24) (RX9, TX9, 32) rfl (by decide) rfl q1829 dX9_setOf_76 rfl) (z_get _ _ _ _),
   zz_of (ok_iconst G (v := 4) dX9_setOf_79 (by decide) rfl) (z_cn 80 4),
   zz_of (ok_iload G dX9_setOf_80 rfl) (z_ild _ _),
   zz_of (ok_imul G dX9_setOf_82 rfl) (z_imul _),
   zz_of (ok_iconst G (v := 2) dX9_setOf_83 (by decide) rfl) (z_cn 84 2),
   zz_of (ok_iload G dX9_setOf_84 rfl) (z_ild _ _),
   zz_of (ok_imul G dX9_setOf_86 rfl) (z_imul _),
   zz_of (ok_iadd G dX9_setOf_87 rfl) (z_iadd _),
   zz_of (ok_iload G dX9_setOf_88 rfl) (z_ild _ _),
   zz_of (ok_iadd G dX9_setOf_90 rfl) (z_iadd _),
   zz_of (ok_lald G dX9_setOf_91 rfl) (z_lald _),
   zz_of (ok_aload_n G dX9_setOf_92 rfl rfl) (z_ald _ _),
   zz_of (ok_iload_n G dX9_setOf_93 rfl rfl) (z_ild _ _),
   zz_of (ok_iload G dX9_setOf_94 rfl) (z_ild _ _),
   zz_of (ok_ifne G dX9_setOf_96 rfl rfl) (z_ifne _ _ _),
   zz_of (ok_iload_n G dX9_setOf_99 rfl rfl) (z_ild _ _),
   zz_of (ok_iconst G (v := 1) dX9_setOf_100 (by decide) rfl) (z_cn 101 1),
   zz_of (ok_iadd G dX9_setOf_101 rfl) (z_iadd _),
   zz_of (ok_goto G dX9_setOf_102 rfl) (z_goto _),
   zz_of (ok_iload_n G dX9_setOf_105 rfl rfl) (z_ild _ _),
   zz_of (ok_iload G dX9_setOf_106 rfl) (z_ild _ _),
   zz_of (ok_iconst G (v := 1) dX9_setOf_108 (by decide) rfl) (z_cn 109 1),
   zz_of (ok_cne G dX9_setOf_109 rfl rfl) (z_cne _ _ _ _),
   zz_of (ok_iload_n G dX9_setOf_112 rfl rfl) (z_ild _ _),
   zz_of (ok_iconst G (v := 1) dX9_setOf_113 (by decide) rfl) (z_cn 114 1),
   zz_of (ok_iadd G dX9_setOf_114 rfl) (z_iadd _),
   zz_of (ok_goto G dX9_setOf_115 rfl) (z_goto _),
   zz_of (ok_iload_n G dX9_setOf_118 rfl rfl) (z_ild _ _),
   zz_of (ok_iload G dX9_setOf_119 rfl) (z_ild _ _),
   zz_of (ok_bad) (z_bad),
   zz_of (ok_lmul G dX9_setOf_124 rfl) (z_lmul _),
   zz_of (ok_ldc2 G (v := 1000000000) q2137 dX9_setOf_125 rfl) (z_cl 128 1000000000),
   zz_of (ok_ldiv G dX9_setOf_128 rfl) (z_ldiv _),
   zz_of (ok_ladd G dX9_setOf_129 rfl) (z_ladd _),
   zz_of (ok_lstore G dX9_setOf_130 rfl (by decide)) (z_lst _ _),
   zz_of (ok_iinc G (v := 1) dX9_setOf_132 (by decide) rfl (by decide)) (z_incn 135 8 1),
   zz_of (ok_goto G dX9_setOf_135 rfl) (z_goto _),
   zz_of (ok_iinc G (v := 1) dX9_setOf_138 (by decide) rfl (by decide)) (z_incn 141 7 1),
   zz_of (ok_goto G dX9_setOf_141 rfl) (z_goto _),
   zz_of (ok_lload G dX9_setOf_144 rfl) (z_lld _ _),
   zz_of (ok_lret G dX9_setOf_146) (z_lret), trivial⟩

theorem zwX9_setOf_0_0 {Q : Option zv → zz_M → Prop} {X : Nat → zz_M → Prop} {S L : Nat → Nat → Int} {p : Int} {a : Int} {b : Int} {s : Int} (h : R32 a ∧ (R32 (S 1 194) ∧ (((S 1 194) ≤ a → zz_J zpX9_setOf_0 (zz_ret Q X 0 0) 24 [some (vr 0), some (vi p), some (vi a), some (vi b), none, none, none, none, none] [] (zm S L) (0, 0)) ∧ (¬ (S 1 194) ≤ a → R32 b ∧ (R32 (S 1 194) ∧ ((b < (S 1 194) → zz_J zpX9_setOf_0 (zz_ret Q X 0 0) 52 [some (vr 0), some (vi p), some (vi a), some (vi b), some (vi s), none, none, none, none] [] (zm S L) (0, 0)) ∧ (¬ b < (S 1 194) → zz_J zpX9_setOf_0 (zz_ret Q X 0 0) 24 [some (vr 0), some (vi p), some (vi a), some (vi b), none, none, none, none, none] [] (zm S L) (0, 0)))))))) : zz_J zpX9_setOf_0 (zz_ret Q X 0 0) 0 [some (vr 0), some (vi p), some (vi a), some (vi b), some (vi s), none, none, none, none] [] (zm S L) (0, 0) := zz_J.go [(24, [4, 5, 6, 7, 8]), (33, [1, 2, 3, 4, 5, 6, 7, 8]), (52, [5, 6, 7, 8]), (58, [6, 8]), (67, [6])] 400 h
theorem zwX9_setOf_0_24 {Q : Option zv → zz_M → Prop} {X : Nat → zz_M → Prop} {S L : Nat → Nat → Int} {x1 : Int} {x2 : Int} {x3 : Int} (h : R32 x1 ∧ ((¬ x1 = 0 → zz_J zpX9_setOf_0 (zz_ret Q X 0 0) 33 [some (vr 0), none, none, none, none, none, none, none, none] [vi x3] (zm S L) (0, 0)) ∧ (x1 = 0 → zz_J zpX9_setOf_0 (zz_ret Q X 0 0) 33 [some (vr 0), none, none, none, none, none, none, none, none] [vi x2] (zm S L) (0, 0)))) : zz_J zpX9_setOf_0 (zz_ret Q X 0 0) 24 [some (vr 0), some (vi x1), some (vi x2), some (vi x3), none, none, none, none, none] [] (zm S L) (0, 0) := zz_J.go [(24, [4, 5, 6, 7, 8]), (33, [1, 2, 3, 4, 5, 6, 7, 8]), (52, [5, 6, 7, 8]), (58, [6, 8]), (67, [6])] 400 h
theorem zwX9_setOf_0_33 {Q : Option zv → zz_M → Prop} {X : Nat → zz_M → Prop} {S L : Nat → Nat → Int} {t0 : Int} (h : R32 t0 ∧ (R32 (S 1 194) ∧ ((t0 < (S 1 194) → Q (some (vl 0)) (zm S L)) ∧ (¬ t0 < (S 1 194) → Q (some (vl 1000000000)) (zm S L))))) : zz_J zpX9_setOf_0 (zz_ret Q X 0 0) 33 [some (vr 0), none, none, none, none, none, none, none, none] [vi t0] (zm S L) (0, 0) := zz_J.go [(24, [4, 5, 6, 7, 8]), (33, [1, 2, 3, 4, 5, 6, 7, 8]), (52, [5, 6, 7, 8]), (58, [6, 8]), (67, [6])] 400 h
theorem zwX9_setOf_0_52 {Q : Option zv → zz_M → Prop} {X : Nat → zz_M → Prop} {S L : Nat → Nat → Int} {x1 : Int} {x2 : Int} {x3 : Int} {x4 : Int} (h : zz_J zpX9_setOf_0 (zz_ret Q X 0 0) 58 [some (vr 0), some (vi x1), some (vi x2), some (vi x3), some (vi x4), some (vl 0), none, some (vi 0), none] [] (zm S L) (0, 0)) : zz_J zpX9_setOf_0 (zz_ret Q X 0 0) 52 [some (vr 0), some (vi x1), some (vi x2), some (vi x3), some (vi x4), none, none, none, none] [] (zm S L) (0, 0) := zz_J.go [(24, [4, 5, 6, 7, 8]), (33, [1, 2, 3, 4, 5, 6, 7, 8]), (52, [5, 6, 7, 8]), (58, [6, 8]), (67, [6])] 400 h
theorem zwX9_setOf_0_58 {Q : Option zv → zz_M → Prop} {X : Nat → zz_M → Prop} {S L : Nat → Nat → Int} {x1 : Int} {x2 : Int} {x3 : Int} {x4 : Int} {x5 : Int} {x7 : Int} (h : R32 x7 ∧ ((2 ≤ x7 → Q (some (vl x5)) (zm S L)) ∧ (¬ 2 ≤ x7 → zz_J zpX9_setOf_0 (zz_ret Q X 0 0) 67 [some (vr 0), some (vi x1), some (vi x2), some (vi x3), some (vi x4), some (vl x5), none, some (vi x7), some (vi 0)] [] (zm S L) (0, 0)))) : zz_J zpX9_setOf_0 (zz_ret Q X 0 0) 58 [some (vr 0), some (vi x1), some (vi x2), some (vi x3), some (vi x4), some (vl x5), none, some (vi x7), none] [] (zm S L) (0, 0) := zz_J.go [(24, [4, 5, 6, 7, 8]), (33, [1, 2, 3, 4, 5, 6, 7, 8]), (52, [5, 6, 7, 8]), (58, [6, 8]), (67, [6])] 400 h
theorem zwX9_setOf_0_67 {Q : Option zv → zz_M → Prop} {X : Nat → zz_M → Prop} {S L : Nat → Nat → Int} {x1 : Int} {x2 : Int} {x3 : Int} {x4 : Int} {x5 : Int} {x7 : Int} {x8 : Int} (h : R32 x8 ∧ ((2 ≤ x8 → zz_J zpX9_setOf_0 (zz_ret Q X 0 0) 58 [some (vr 0), some (vi x1), some (vi x2), some (vi x3), some (vi x4), some (vl x5), none, some (vi (x7 + 1)), none] [] (zm S L) (0, 0)) ∧ (¬ 2 ≤ x8 → (0 ≤ (((4 * x4) + (2 * x7)) + x8) ∧ (((4 * x4) + (2 * x7)) + x8) < 8) ∧ (R32 x7 ∧ ((¬ x7 = 0 → R32 x7 ∧ ((¬ x7 = 1 → False) ∧ (x7 = 1 → False))) ∧ (x7 = 0 → R32 x7 ∧ ((¬ x7 = 1 → False) ∧ (x7 = 1 → False)))))))) : zz_J zpX9_setOf_0 (zz_ret Q X 0 0) 67 [some (vr 0), some (vi x1), some (vi x2), some (vi x3), some (vi x4), some (vl x5), none, some (vi x7), some (vi x8)] [] (zm S L) (0, 0) := zz_J.go [(24, [4, 5, 6, 7, 8]), (33, [1, 2, 3, 4, 5, 6, 7, 8]), (52, [5, 6, 7, 8]), (58, [6, 8]), (67, [6])] 400 h

theorem zmX9_setOf_0 (l : Launch) (hl : l.stackTraces = false) : mm_Spec l yX9_setOf (ws_ yX9_setOf cX9_setOf 9 (some .long)) (mm_rm 1 0 0) (zE zX9_setOf_0) := by
  refine zz_Met.J hl (by decide) (fun C G hnh => ztX9_setOf_0 G hnh) ?_
  rintro as ⟨⟨t_, f⟩, S, L, P⟩ Q X h
  unfold zX9_setOf_0 at h
  split at h
  rotate_left
  · exact h.elim
  rename_i h_ p a b s
  obtain ⟨e1_, e2_, h⟩ := mm_and2 h (fun q => q)
  cases mm_beq e1_
  cases mm_beq e2_
  try dsimp only at h
  refine ⟨rfl, ?_⟩
  refine zz_Jev (M' := zm S L) rfl rfl rfl ?_
  obtain ⟨hp, hs, ha, hb, hG, hab, hr, hwy, hq⟩ := h
  have t24 : (S 1 194 ≤ a ∨ S 1 194 ≤ b) → zz_J zpX9_setOf_0 (zz_ret Q X 0 0) 24 [some (vr 0), some (vi p), some (vi a), some (vi b), none, none, none, none, none] [] (zm S L) (0, 0) := by
    intro h
    rw [stO_o h] at hq
    refine zwX9_setOf_0_24 ⟨by omega, fun c => ?_, fun c => ?_⟩
    · rw [if_neg c] at hq
      refine zwX9_setOf_0_33 ⟨by omega, by omega, fun d => ?_, fun d => ?_⟩
      · rw [if_neg (by omega)] at hq; exact hq
      · rw [if_pos (by omega)] at hq; exact hq
    · rw [if_pos c] at hq
      refine zwX9_setOf_0_33 ⟨by omega, by omega, fun d => ?_, fun d => ?_⟩
      · rw [if_neg (by omega)] at hq; exact hq
      · rw [if_pos (by omega)] at hq; exact hq
  refine zwX9_setOf_0_0 ⟨by omega, by omega, fun c => t24 (Or.inl c), fun c => by omega⟩
def zX9_setOf_1 : zz_Sp := fun as M Q X => match as with
  | [.inr (.inr (some h_)), .inl p, .inl a, .inl b, .inl s] => bif Nat.beq h_ 0 && Nat.beq M.1.1 1 then ((p = 0 ∨ p = 1) ∧ (s = 0 ∨ s = 1) ∧ (0 ≤ a ∧ a ≤ 6) ∧ (0 ≤ b ∧ b ≤ 6) ∧ (1 ≤ M.2.1 1 194 ∧ M.2.1 1 194 ≤ 6) ∧ (a ≤ M.2.1 1 194 ∧ b ≤ M.2.1 1 194) ∧ M.2.1 1 194 - a + (M.2.1 1 194 - b) ≤ 1 ∧ wyG (M.2.2.1 12) ∧ Q (some (vl (stO (M.2.2.1 12) (M.2.1 1 194) p 1 a b s.toNat))) (zm M.2.1 M.2.2.1)) else False
  | _ => False

def zpX9_setOf_1 : zz_P := [(0, zo_ild 1 2), (1, zo_ald 2 0), (2, zo_get 5 8 2 1), (5, zo_c 8 (vi 194)), (8, zo_ialc 9 194), (9, zo_cge false false 12 24), (12, zo_ild 13 3), (13, zo_ald 14 0), (14, zo_get 17 8 2 1), (17, zo_c 20 (vi 194)), (20, zo_ialc 21 194), (21, zo_clt false false 24 52), (24, zo_ild 25 1), (25, zo_ifne false 28 32), (28, zo_ild 29 2), (29, zo_goto 33), (32, zo_ild 33 3), (33, zo_ald 34 0), (34, zo_get 37 8 2 1), (37, zo_c 40 (vi 194)), (40, zo_ialc 41 194), (41, zo_clt false false 44 50), (44, zo_c 47 (vl 1000000000)), (47, zo_goto 51), (50, zo_c 51 (vl 0)), (51, zo_lret), (52, zo_c 53 (vl 0)), (53, zo_lst 55 5), (55, zo_c 56 (vi 0)), (56, zo_ist 58 7), (58, zo_ild 60 7), (60, zo_c 61 (vi 2)), (61, zo_cge false true 64 144), (64, zo_c 65 (vi 0)), (65, zo_ist 67 8), (67, zo_ild 69 8), (69, zo_c 70 (vi 2)), (70, zo_cge false true 73 138), (73, zo_lld 75 5), (75, zo_ald 76 0), (76, zo_get 79 8 2 24), (79, zo_c 80 (vi 4)), (80, zo_ild 82 4), (82, zo_imul 83), (83, zo_c 84 (vi 2)), (84, zo_ild 86 7), (86, zo_imul 87), (87, zo_iadd 88), (88, zo_ild 90 8), (90, zo_iadd 91), (91, zo_lald 92), (92, zo_ald 93 0), (93, zo_ild 94 1), (94, zo_ild 96 7), (96, zo_ifne false 99 105), (99, zo_ild 100 2), (100, zo_c 101 (vi 1)), (101, zo_iadd 102), (102, zo_goto 106), (105, zo_ild 106 2), (106, zo_ild 108 7), (108, zo_c 109 (vi 1)), (109, zo_cne false true 112 118), (112, zo_ild 113 3), (113, zo_c 114 (vi 1)), (114, zo_iadd 115), (115, zo_goto 119), (118, zo_ild 119 3), (119, zo_ild 121 8), (121, zo_callv 124 5 8 zX9_setOf_0), (124, zo_lmul 125), (125, zo_c 128 (vl 1000000000)), (128, zo_ldiv 129), (129, zo_ladd 130), (130, zo_lst 132 5), (132, zo_inc 135 8 1), (135, zo_goto 67), (138, zo_inc 141 7 1), (141, zo_goto 58), (144, zo_lld 146 5), (146, zo_lret)]
theorem ztX9_setOf_1 {C : mm_C} (G : mm_G C RX9 cX9_setOf (some .long) 9 (mm_rm 2 0 0)) (hnh : mm_nh C) : zz_OKs C zpX9_setOf_1 :=
  ⟨zz_of (ok_iload_n G dX9_setOf_0 rfl rfl) (z_ild _ _),
   zz_of (ok_aload_n G dX9_setOf_1 rfl rfl) (z_ald _ _),
   zz_of (ok_get G (nx := 5) (ci := 8) (kd := 2) (k := 1) (RX9, TX9, 32) rfl (by decide) rfl q1806 dX9_setOf_2 rfl) (z_get _ _ _ _),
   zz_of (ok_sipush G (v := 194) dX9_setOf_5 (by decide) rfl) (z_cn 8 194),
   zz_of (ok_iald G dX9_setOf_8 rfl) (z_ialc _ _),
   zz_of (ok_cge G dX9_setOf_9 rfl rfl) (z_cge _ _ _ _),
   zz_of (ok_iload_n G dX9_setOf_12 rfl rfl) (z_ild _ _),
   zz_of (ok_aload_n G dX9_setOf_13 rfl rfl) (z_ald _ _),
   zz_of (ok_get G (nx := 17) (ci := 8) (kd := 2) (k := 1) (RX9, TX9, 32) rfl (by decide) rfl q1806 dX9_setOf_14 rfl) (z_get _ _ _ _),
   zz_of (ok_sipush G (v := 194) dX9_setOf_17 (by decide) rfl) (z_cn 20 194),
   zz_of (ok_iald G dX9_setOf_20 rfl) (z_ialc _ _),
   zz_of (ok_clt G dX9_setOf_21 rfl rfl) (z_clt _ _ _ _),
   zz_of (ok_iload_n G dX9_setOf_24 rfl rfl) (z_ild _ _),
   zz_of (ok_ifne G dX9_setOf_25 rfl rfl) (z_ifne _ _ _),
   zz_of (ok_iload_n G dX9_setOf_28 rfl rfl) (z_ild _ _),
   zz_of (ok_goto G dX9_setOf_29 rfl) (z_goto _),
   zz_of (ok_iload_n G dX9_setOf_32 rfl rfl) (z_ild _ _),
   zz_of (ok_aload_n G dX9_setOf_33 rfl rfl) (z_ald _ _),
   zz_of (ok_get G (nx := 37) (ci := 8) (kd := 2) (k := 1) (RX9, TX9, 32) rfl (by decide) rfl q1806 dX9_setOf_34 rfl) (z_get _ _ _ _),
   zz_of (ok_sipush G (v := 194) dX9_setOf_37 (by decide) rfl) (z_cn 40 194),
   zz_of (ok_iald G dX9_setOf_40 rfl) (z_ialc _ _),
   zz_of (ok_clt G dX9_setOf_41 rfl rfl) (z_clt _ _ _ _),
   zz_of (ok_ldc2 G (v := 1000000000) q2137 dX9_setOf_44 rfl) (z_cl 47 1000000000),
   zz_of (ok_goto G dX9_setOf_47 rfl) (z_goto _),
   zz_of (ok_lconst G (v := 0) dX9_setOf_50 (by decide) rfl) (z_cl 51 0),
   zz_of (ok_lret G dX9_setOf_51) (z_lret),
   zz_of (ok_lconst G (v := 0) dX9_setOf_52 (by decide) rfl) (z_cl 53 0),
   zz_of (ok_lstore G dX9_setOf_53 rfl (by decide)) (z_lst _ _),
   zz_of (ok_iconst G (v := 0) dX9_setOf_55 (by decide) rfl) (z_cn 56 0),
   zz_of (ok_istore G dX9_setOf_56 rfl (by decide)) (z_ist _ _),
   zz_of (ok_iload G dX9_setOf_58 rfl) (z_ild _ _),
   zz_of (ok_iconst G (v := 2) dX9_setOf_60 (by decide) rfl) (z_cn 61 2),
   zz_of (ok_cge G dX9_setOf_61 rfl rfl) (z_cge _ _ _ _),
   zz_of (ok_iconst G (v := 0) dX9_setOf_64 (by decide) rfl) (z_cn 65 0),
   zz_of (ok_istore G dX9_setOf_65 rfl (by decide)) (z_ist _ _),
   zz_of (ok_iload G dX9_setOf_67 rfl) (z_ild _ _),
   zz_of (ok_iconst G (v := 2) dX9_setOf_69 (by decide) rfl) (z_cn 70 2),
   zz_of (ok_cge G dX9_setOf_70 rfl rfl) (z_cge _ _ _ _),
   zz_of (ok_lload G dX9_setOf_73 rfl) (z_lld _ _),
   zz_of (ok_aload_n G dX9_setOf_75 rfl rfl) (z_ald _ _),
   zz_of (ok_get G (nx := 79) (ci := 8) (kd := 2) (k := 24) (RX9, TX9, 32) rfl (by decide) rfl q1829 dX9_setOf_76 rfl) (z_get _ _ _ _),
   zz_of (ok_iconst G (v := 4) dX9_setOf_79 (by decide) rfl) (z_cn 80 4),
   zz_of (ok_iload G dX9_setOf_80 rfl) (z_ild _ _),
   zz_of (ok_imul G dX9_setOf_82 rfl) (z_imul _),
   zz_of (ok_iconst G (v := 2) dX9_setOf_83 (by decide) rfl) (z_cn 84 2),
   zz_of (ok_iload G dX9_setOf_84 rfl) (z_ild _ _),
   zz_of (ok_imul G dX9_setOf_86 rfl) (z_imul _),
   zz_of (ok_iadd G dX9_setOf_87 rfl) (z_iadd _),
   zz_of (ok_iload G dX9_setOf_88 rfl) (z_ild _ _),
   zz_of (ok_iadd G dX9_setOf_90 rfl) (z_iadd _),
   zz_of (ok_lald G dX9_setOf_91 rfl) (z_lald _),
   zz_of (ok_aload_n G dX9_setOf_92 rfl rfl) (z_ald _ _),
   zz_of (ok_iload_n G dX9_setOf_93 rfl rfl) (z_ild _ _),
   zz_of (ok_iload G dX9_setOf_94 rfl) (z_ild _ _),
   zz_of (ok_ifne G dX9_setOf_96 rfl rfl) (z_ifne _ _ _),
   zz_of (ok_iload_n G dX9_setOf_99 rfl rfl) (z_ild _ _),
   zz_of (ok_iconst G (v := 1) dX9_setOf_100 (by decide) rfl) (z_cn 101 1),
   zz_of (ok_iadd G dX9_setOf_101 rfl) (z_iadd _),
   zz_of (ok_goto G dX9_setOf_102 rfl) (z_goto _),
   zz_of (ok_iload_n G dX9_setOf_105 rfl rfl) (z_ild _ _),
   zz_of (ok_iload G dX9_setOf_106 rfl) (z_ild _ _),
   zz_of (ok_iconst G (v := 1) dX9_setOf_108 (by decide) rfl) (z_cn 109 1),
   zz_of (ok_cne G dX9_setOf_109 rfl rfl) (z_cne _ _ _ _),
   zz_of (ok_iload_n G dX9_setOf_112 rfl rfl) (z_ild _ _),
   zz_of (ok_iconst G (v := 1) dX9_setOf_113 (by decide) rfl) (z_cn 114 1),
   zz_of (ok_iadd G dX9_setOf_114 rfl) (z_iadd _),
   zz_of (ok_goto G dX9_setOf_115 rfl) (z_goto _),
   zz_of (ok_iload_n G dX9_setOf_118 rfl rfl) (z_ild _ _),
   zz_of (ok_iload G dX9_setOf_119 rfl) (z_ild _ _),
   zz_of (ok_callv G hnh (zmX9_setOf_0 _ G.hst) rfl rfl (RX9, TX9, 32) rfl q2165 q2167 qs75 q93 q2168 (by decide +kernel) ⟨by decide, by decide⟩ dX9_setOf_121 rfl) (z_callv _ _ _ _),
   zz_of (ok_lmul G dX9_setOf_124 rfl) (z_lmul _),
   zz_of (ok_ldc2 G (v := 1000000000) q2137 dX9_setOf_125 rfl) (z_cl 128 1000000000),
   zz_of (ok_ldiv G dX9_setOf_128 rfl) (z_ldiv _),
   zz_of (ok_ladd G dX9_setOf_129 rfl) (z_ladd _),
   zz_of (ok_lstore G dX9_setOf_130 rfl (by decide)) (z_lst _ _),
   zz_of (ok_iinc G (v := 1) dX9_setOf_132 (by decide) rfl (by decide)) (z_incn 135 8 1),
   zz_of (ok_goto G dX9_setOf_135 rfl) (z_goto _),
   zz_of (ok_iinc G (v := 1) dX9_setOf_138 (by decide) rfl (by decide)) (z_incn 141 7 1),
   zz_of (ok_goto G dX9_setOf_141 rfl) (z_goto _),
   zz_of (ok_lload G dX9_setOf_144 rfl) (z_lld _ _),
   zz_of (ok_lret G dX9_setOf_146) (z_lret), trivial⟩

theorem zwX9_setOf_1_0 {Q : Option zv → zz_M → Prop} {X : Nat → zz_M → Prop} {S L : Nat → Nat → Int} {p : Int} {a : Int} {b : Int} {s : Int} (h : R32 a ∧ (R32 (S 1 194) ∧ (((S 1 194) ≤ a → zz_J zpX9_setOf_1 (zz_ret Q X 0 0) 24 [some (vr 0), some (vi p), some (vi a), some (vi b), none, none, none, none, none] [] (zm S L) (0, 0)) ∧ (¬ (S 1 194) ≤ a → R32 b ∧ (R32 (S 1 194) ∧ ((b < (S 1 194) → zz_J zpX9_setOf_1 (zz_ret Q X 0 0) 52 [some (vr 0), some (vi p), some (vi a), some (vi b), some (vi s), none, none, none, none] [] (zm S L) (0, 0)) ∧ (¬ b < (S 1 194) → zz_J zpX9_setOf_1 (zz_ret Q X 0 0) 24 [some (vr 0), some (vi p), some (vi a), some (vi b), none, none, none, none, none] [] (zm S L) (0, 0)))))))) : zz_J zpX9_setOf_1 (zz_ret Q X 0 0) 0 [some (vr 0), some (vi p), some (vi a), some (vi b), some (vi s), none, none, none, none] [] (zm S L) (0, 0) := zz_J.go [(24, [4, 5, 6, 7, 8]), (33, [1, 2, 3, 4, 5, 6, 7, 8]), (52, [5, 6, 7, 8]), (58, [6, 8]), (67, [6])] 400 h
theorem zwX9_setOf_1_24 {Q : Option zv → zz_M → Prop} {X : Nat → zz_M → Prop} {S L : Nat → Nat → Int} {x1 : Int} {x2 : Int} {x3 : Int} (h : R32 x1 ∧ ((¬ x1 = 0 → zz_J zpX9_setOf_1 (zz_ret Q X 0 0) 33 [some (vr 0), none, none, none, none, none, none, none, none] [vi x3] (zm S L) (0, 0)) ∧ (x1 = 0 → zz_J zpX9_setOf_1 (zz_ret Q X 0 0) 33 [some (vr 0), none, none, none, none, none, none, none, none] [vi x2] (zm S L) (0, 0)))) : zz_J zpX9_setOf_1 (zz_ret Q X 0 0) 24 [some (vr 0), some (vi x1), some (vi x2), some (vi x3), none, none, none, none, none] [] (zm S L) (0, 0) := zz_J.go [(24, [4, 5, 6, 7, 8]), (33, [1, 2, 3, 4, 5, 6, 7, 8]), (52, [5, 6, 7, 8]), (58, [6, 8]), (67, [6])] 400 h
theorem zwX9_setOf_1_33 {Q : Option zv → zz_M → Prop} {X : Nat → zz_M → Prop} {S L : Nat → Nat → Int} {t0 : Int} (h : R32 t0 ∧ (R32 (S 1 194) ∧ ((t0 < (S 1 194) → Q (some (vl 0)) (zm S L)) ∧ (¬ t0 < (S 1 194) → Q (some (vl 1000000000)) (zm S L))))) : zz_J zpX9_setOf_1 (zz_ret Q X 0 0) 33 [some (vr 0), none, none, none, none, none, none, none, none] [vi t0] (zm S L) (0, 0) := zz_J.go [(24, [4, 5, 6, 7, 8]), (33, [1, 2, 3, 4, 5, 6, 7, 8]), (52, [5, 6, 7, 8]), (58, [6, 8]), (67, [6])] 400 h
theorem zwX9_setOf_1_52 {Q : Option zv → zz_M → Prop} {X : Nat → zz_M → Prop} {S L : Nat → Nat → Int} {x1 : Int} {x2 : Int} {x3 : Int} {x4 : Int} (h : zz_J zpX9_setOf_1 (zz_ret Q X 0 0) 58 [some (vr 0), some (vi x1), some (vi x2), some (vi x3), some (vi x4), some (vl 0), none, some (vi 0), none] [] (zm S L) (0, 0)) : zz_J zpX9_setOf_1 (zz_ret Q X 0 0) 52 [some (vr 0), some (vi x1), some (vi x2), some (vi x3), some (vi x4), none, none, none, none] [] (zm S L) (0, 0) := zz_J.go [(24, [4, 5, 6, 7, 8]), (33, [1, 2, 3, 4, 5, 6, 7, 8]), (52, [5, 6, 7, 8]), (58, [6, 8]), (67, [6])] 400 h
theorem zwX9_setOf_1_58 {Q : Option zv → zz_M → Prop} {X : Nat → zz_M → Prop} {S L : Nat → Nat → Int} {x1 : Int} {x2 : Int} {x3 : Int} {x4 : Int} {x5 : Int} {x7 : Int} (h : R32 x7 ∧ ((2 ≤ x7 → Q (some (vl x5)) (zm S L)) ∧ (¬ 2 ≤ x7 → zz_J zpX9_setOf_1 (zz_ret Q X 0 0) 67 [some (vr 0), some (vi x1), some (vi x2), some (vi x3), some (vi x4), some (vl x5), none, some (vi x7), some (vi 0)] [] (zm S L) (0, 0)))) : zz_J zpX9_setOf_1 (zz_ret Q X 0 0) 58 [some (vr 0), some (vi x1), some (vi x2), some (vi x3), some (vi x4), some (vl x5), none, some (vi x7), none] [] (zm S L) (0, 0) := zz_J.go [(24, [4, 5, 6, 7, 8]), (33, [1, 2, 3, 4, 5, 6, 7, 8]), (52, [5, 6, 7, 8]), (58, [6, 8]), (67, [6])] 400 h
theorem zwX9_setOf_1_67 {Q : Option zv → zz_M → Prop} {X : Nat → zz_M → Prop} {S L : Nat → Nat → Int} {x1 : Int} {x2 : Int} {x3 : Int} {x4 : Int} {x5 : Int} {x7 : Int} {x8 : Int} (h : R32 x8 ∧ ((2 ≤ x8 → zz_J zpX9_setOf_1 (zz_ret Q X 0 0) 58 [some (vr 0), some (vi x1), some (vi x2), some (vi x3), some (vi x4), some (vl x5), none, some (vi (x7 + 1)), none] [] (zm S L) (0, 0)) ∧ (¬ 2 ≤ x8 → (0 ≤ (((4 * x4) + (2 * x7)) + x8) ∧ (((4 * x4) + (2 * x7)) + x8) < 8) ∧ (R32 x7 ∧ ((¬ x7 = 0 → R32 x7 ∧ ((¬ x7 = 1 → ((x1 = 0 ∨ x1 = 1) ∧ (x8 = 0 ∨ x8 = 1) ∧ (0 ≤ x2 ∧ x2 ≤ 6) ∧ (0 ≤ x3 ∧ x3 ≤ 6) ∧ (1 ≤ S 1 194 ∧ S 1 194 ≤ 6) ∧ (x2 ≤ S 1 194 ∧ x3 ≤ S 1 194) ∧ S 1 194 - x2 + (S 1 194 - x3) ≤ 0 ∧ wyG (L 12) ∧ ((0 ≤ ((L 12 ((((4 * x4) + (2 * x7)) + x8).toNat)) * (stO (L 12) (S 1 194) x1 0 x2 x3 x8.toNat)) ∧ ((L 12 ((((4 * x4) + (2 * x7)) + x8).toNat)) * (stO (L 12) (S 1 194) x1 0 x2 x3 x8.toNat)) < 9223372036854775808) ∧ (zz_J zpX9_setOf_1 (zz_ret Q X 0 0) 67 [some (vr 0), some (vi x1), some (vi x2), some (vi x3), some (vi x4), some (vl (x5 + (((L 12 ((((4 * x4) + (2 * x7)) + x8).toNat)) * (stO (L 12) (S 1 194) x1 0 x2 x3 x8.toNat)) / 1000000000))), none, some (vi x7), some (vi (x8 + 1))] [] (zm S L) (0, 0))))) ∧ (x7 = 1 → ((x1 = 0 ∨ x1 = 1) ∧ (x8 = 0 ∨ x8 = 1) ∧ (0 ≤ x2 ∧ x2 ≤ 6) ∧ (0 ≤ (x3 + 1) ∧ (x3 + 1) ≤ 6) ∧ (1 ≤ S 1 194 ∧ S 1 194 ≤ 6) ∧ (x2 ≤ S 1 194 ∧ (x3 + 1) ≤ S 1 194) ∧ S 1 194 - x2 + (S 1 194 - (x3 + 1)) ≤ 0 ∧ wyG (L 12) ∧ ((0 ≤ ((L 12 ((((4 * x4) + (2 * x7)) + x8).toNat)) * (stO (L 12) (S 1 194) x1 0 x2 (x3 + 1) x8.toNat)) ∧ ((L 12 ((((4 * x4) + (2 * x7)) + x8).toNat)) * (stO (L 12) (S 1 194) x1 0 x2 (x3 + 1) x8.toNat)) < 9223372036854775808) ∧ (zz_J zpX9_setOf_1 (zz_ret Q X 0 0) 67 [some (vr 0), some (vi x1), some (vi x2), some (vi x3), some (vi x4), some (vl (x5 + (((L 12 ((((4 * x4) + (2 * x7)) + x8).toNat)) * (stO (L 12) (S 1 194) x1 0 x2 (x3 + 1) x8.toNat)) / 1000000000))), none, some (vi x7), some (vi (x8 + 1))] [] (zm S L) (0, 0))))))) ∧ (x7 = 0 → R32 x7 ∧ ((¬ x7 = 1 → ((x1 = 0 ∨ x1 = 1) ∧ (x8 = 0 ∨ x8 = 1) ∧ (0 ≤ (x2 + 1) ∧ (x2 + 1) ≤ 6) ∧ (0 ≤ x3 ∧ x3 ≤ 6) ∧ (1 ≤ S 1 194 ∧ S 1 194 ≤ 6) ∧ ((x2 + 1) ≤ S 1 194 ∧ x3 ≤ S 1 194) ∧ S 1 194 - (x2 + 1) + (S 1 194 - x3) ≤ 0 ∧ wyG (L 12) ∧ ((0 ≤ ((L 12 ((((4 * x4) + (2 * x7)) + x8).toNat)) * (stO (L 12) (S 1 194) x1 0 (x2 + 1) x3 x8.toNat)) ∧ ((L 12 ((((4 * x4) + (2 * x7)) + x8).toNat)) * (stO (L 12) (S 1 194) x1 0 (x2 + 1) x3 x8.toNat)) < 9223372036854775808) ∧ (zz_J zpX9_setOf_1 (zz_ret Q X 0 0) 67 [some (vr 0), some (vi x1), some (vi x2), some (vi x3), some (vi x4), some (vl (x5 + (((L 12 ((((4 * x4) + (2 * x7)) + x8).toNat)) * (stO (L 12) (S 1 194) x1 0 (x2 + 1) x3 x8.toNat)) / 1000000000))), none, some (vi x7), some (vi (x8 + 1))] [] (zm S L) (0, 0))))) ∧ (x7 = 1 → ((x1 = 0 ∨ x1 = 1) ∧ (x8 = 0 ∨ x8 = 1) ∧ (0 ≤ (x2 + 1) ∧ (x2 + 1) ≤ 6) ∧ (0 ≤ (x3 + 1) ∧ (x3 + 1) ≤ 6) ∧ (1 ≤ S 1 194 ∧ S 1 194 ≤ 6) ∧ ((x2 + 1) ≤ S 1 194 ∧ (x3 + 1) ≤ S 1 194) ∧ S 1 194 - (x2 + 1) + (S 1 194 - (x3 + 1)) ≤ 0 ∧ wyG (L 12) ∧ ((0 ≤ ((L 12 ((((4 * x4) + (2 * x7)) + x8).toNat)) * (stO (L 12) (S 1 194) x1 0 (x2 + 1) (x3 + 1) x8.toNat)) ∧ ((L 12 ((((4 * x4) + (2 * x7)) + x8).toNat)) * (stO (L 12) (S 1 194) x1 0 (x2 + 1) (x3 + 1) x8.toNat)) < 9223372036854775808) ∧ (zz_J zpX9_setOf_1 (zz_ret Q X 0 0) 67 [some (vr 0), some (vi x1), some (vi x2), some (vi x3), some (vi x4), some (vl (x5 + (((L 12 ((((4 * x4) + (2 * x7)) + x8).toNat)) * (stO (L 12) (S 1 194) x1 0 (x2 + 1) (x3 + 1) x8.toNat)) / 1000000000))), none, some (vi x7), some (vi (x8 + 1))] [] (zm S L) (0, 0)))))))))))) : zz_J zpX9_setOf_1 (zz_ret Q X 0 0) 67 [some (vr 0), some (vi x1), some (vi x2), some (vi x3), some (vi x4), some (vl x5), none, some (vi x7), some (vi x8)] [] (zm S L) (0, 0) := zz_J.go [(24, [4, 5, 6, 7, 8]), (33, [1, 2, 3, 4, 5, 6, 7, 8]), (52, [5, 6, 7, 8]), (58, [6, 8]), (67, [6])] 400 h

theorem zmX9_setOf_1 (l : Launch) (hl : l.stackTraces = false) : mm_Spec l yX9_setOf (ws_ yX9_setOf cX9_setOf 9 (some .long)) (mm_rm 2 0 0) (zE zX9_setOf_1) := by
  refine zz_Met.J hl (by decide) (fun C G hnh => ztX9_setOf_1 G hnh) ?_
  rintro as ⟨⟨t_, f⟩, S, L, P⟩ Q X h
  unfold zX9_setOf_1 at h
  split at h
  rotate_left
  · exact h.elim
  rename_i h_ p a b s
  obtain ⟨e1_, e2_, h⟩ := mm_and2 h (fun q => q)
  cases mm_beq e1_
  cases mm_beq e2_
  try dsimp only at h
  refine ⟨rfl, ?_⟩
  refine zz_Jev (M' := zm S L) rfl rfl rfl ?_
  obtain ⟨hp, hs, ha, hb, hG, hab, hr, hwy, hq⟩ := h
  have t24 : (S 1 194 ≤ a ∨ S 1 194 ≤ b) → zz_J zpX9_setOf_1 (zz_ret Q X 0 0) 24 [some (vr 0), some (vi p), some (vi a), some (vi b), none, none, none, none, none] [] (zm S L) (0, 0) := by
    intro h
    rw [stO_o h] at hq
    refine zwX9_setOf_1_24 ⟨by omega, fun c => ?_, fun c => ?_⟩
    · rw [if_neg c] at hq
      refine zwX9_setOf_1_33 ⟨by omega, by omega, fun d => ?_, fun d => ?_⟩
      · rw [if_neg (by omega)] at hq; exact hq
      · rw [if_pos (by omega)] at hq; exact hq
    · rw [if_pos c] at hq
      refine zwX9_setOf_1_33 ⟨by omega, by omega, fun d => ?_, fun d => ?_⟩
      · rw [if_neg (by omega)] at hq; exact hq
      · rw [if_pos (by omega)] at hq; exact hq
  obtain ⟨u, hu, rfl⟩ : ∃ u : Nat, u < 2 ∧ s = u := ⟨s.toNat, by omega, by omega⟩
  rw [Int.toNat_natCast] at hq
  have t52 : ¬ (S 1 194 ≤ a ∨ S 1 194 ≤ b) → zz_J zpX9_setOf_1 (zz_ret Q X 0 0) 52 [some (vr 0), some (vi p), some (vi a), some (vi b), some (vi u), none, none, none, none] [] (zm S L) (0, 0) := by
    intro h
    rw [show stO (L 12) (S 1 194) p 1 a b u = _ from stO_s h 0] at hq
    have i0 := stO_in (G := S 1 194) (p := p) hwy 0 (a + 1) b 0 (by decide)
    have i1 := stO_in (G := S 1 194) (p := p) hwy 0 (a + 1) b 1 (by decide)
    have i2 := stO_in (G := S 1 194) (p := p) hwy 0 a (b + 1) 0 (by decide)
    have i3 := stO_in (G := S 1 194) (p := p) hwy 0 a (b + 1) 1 (by decide)
    have w0 := hwy.1 (4 * u) (by omega)
    have w1 := hwy.1 (4 * u + 1) (by omega)
    have w2 := hwy.1 (4 * u + 2) (by omega)
    have w3 := hwy.1 (4 * u + 3) (by omega)
    have m0 := mul_sure w0.1 i0.1 i0.2
    have m1 := mul_sure w1.1 i1.1 i1.2
    have m2 := mul_sure w2.1 i2.1 i2.2
    have m3 := mul_sure w3.1 i3.1 i3.2
    have e0 : ((4 : Int) * u + 2 * 0 + 0).toNat = 4 * u := by omega
    have e1 : ((4 : Int) * u + 2 * 0 + 1).toNat = 4 * u + 1 := by omega
    have e2 : ((4 : Int) * u + 2 * 1 + 0).toNat = 4 * u + 2 := by omega
    have e3 : ((4 : Int) * u + 2 * 1 + 1).toNat = 4 * u + 3 := by omega
    refine zwX9_setOf_1_52 (zwX9_setOf_1_58 ⟨by decide, fun c => absurd c (by decide), fun _ => ?_⟩)
    refine zwX9_setOf_1_67 ⟨by decide, fun c => absurd c (by decide), fun _ => ⟨by omega, by decide, fun c => absurd rfl c, fun _ => ⟨by decide, fun _ => ?_, fun c => absurd c (by decide)⟩⟩⟩
    refine ⟨hp, Or.inl rfl, by omega, hb, hG, by omega, by omega, hwy, ?_⟩
    rw [e0]
    refine ⟨by show 0 ≤ L 12 (4 * u) * stO (L 12) (S 1 194) p 0 (a + 1) b 0 ∧ L 12 (4 * u) * stO (L 12) (S 1 194) p 0 (a + 1) b 0 < 9223372036854775808; omega, ?_⟩
    refine zwX9_setOf_1_67 ⟨by decide, fun c => absurd c (by decide), fun _ => ⟨by omega, by decide, fun c => absurd rfl c, fun _ => ⟨by decide, fun _ => ?_, fun c => absurd c (by decide)⟩⟩⟩
    refine ⟨hp, Or.inr rfl, by omega, hb, hG, by omega, by omega, hwy, ?_⟩
    rw [show ((4 : Int) * u + 2 * 0 + (0 + 1)).toNat = 4 * u + 1 by omega]
    refine ⟨by show 0 ≤ L 12 (4 * u + 1) * stO (L 12) (S 1 194) p 0 (a + 1) b 1 ∧ L 12 (4 * u + 1) * stO (L 12) (S 1 194) p 0 (a + 1) b 1 < 9223372036854775808; omega, ?_⟩
    refine zwX9_setOf_1_67 ⟨by decide, fun _ => ?_, fun c => absurd c (by decide)⟩
    refine zwX9_setOf_1_58 ⟨by decide, fun c => absurd c (by decide), fun _ => ?_⟩
    refine zwX9_setOf_1_67 ⟨by decide, fun c => absurd c (by decide), fun _ => ⟨by omega, by decide, fun _ => ⟨by decide, fun c => absurd rfl c, fun _ => ?_⟩, fun c => absurd c (by decide)⟩⟩
    refine ⟨hp, Or.inl rfl, ha, by omega, hG, by omega, by omega, hwy, ?_⟩
    rw [show ((4 : Int) * u + 2 * (0 + 1) + 0).toNat = 4 * u + 2 by omega]
    refine ⟨by show 0 ≤ L 12 (4 * u + 2) * stO (L 12) (S 1 194) p 0 a (b + 1) 0 ∧ L 12 (4 * u + 2) * stO (L 12) (S 1 194) p 0 a (b + 1) 0 < 9223372036854775808; omega, ?_⟩
    refine zwX9_setOf_1_67 ⟨by decide, fun c => absurd c (by decide), fun _ => ⟨by omega, by decide, fun _ => ⟨by decide, fun c => absurd rfl c, fun _ => ?_⟩, fun c => absurd c (by decide)⟩⟩
    refine ⟨hp, Or.inr rfl, ha, by omega, hG, by omega, by omega, hwy, ?_⟩
    rw [show ((4 : Int) * u + 2 * (0 + 1) + (0 + 1)).toNat = 4 * u + 3 by omega]
    refine ⟨by show 0 ≤ L 12 (4 * u + 3) * stO (L 12) (S 1 194) p 0 a (b + 1) 1 ∧ L 12 (4 * u + 3) * stO (L 12) (S 1 194) p 0 a (b + 1) 1 < 9223372036854775808; omega, ?_⟩
    refine zwX9_setOf_1_67 ⟨by decide, fun _ => ?_, fun c => absurd c (by decide)⟩
    refine zwX9_setOf_1_58 ⟨by decide, fun _ => ?_, fun c => absurd c (by decide)⟩
    have ez : ∀ x y z w : Int, 0 + x + y + z + w = x + y + z + w := fun x y z w => by omega
    rw [ez]
    exact hq
  refine zwX9_setOf_1_0 ⟨by omega, by omega, fun c => t24 (Or.inl c), fun c => ⟨by omega, by omega, fun d => t52 (by omega), fun d => t24 (Or.inr (by omega))⟩⟩
def zX9_setOf_2 : zz_Sp := fun as M Q X => match as with
  | [.inr (.inr (some h_)), .inl p, .inl a, .inl b, .inl s] => bif Nat.beq h_ 0 && Nat.beq M.1.1 1 then ((p = 0 ∨ p = 1) ∧ (s = 0 ∨ s = 1) ∧ (0 ≤ a ∧ a ≤ 6) ∧ (0 ≤ b ∧ b ≤ 6) ∧ (1 ≤ M.2.1 1 194 ∧ M.2.1 1 194 ≤ 6) ∧ (a ≤ M.2.1 1 194 ∧ b ≤ M.2.1 1 194) ∧ M.2.1 1 194 - a + (M.2.1 1 194 - b) ≤ 2 ∧ wyG (M.2.2.1 12) ∧ Q (some (vl (stO (M.2.2.1 12) (M.2.1 1 194) p 2 a b s.toNat))) (zm M.2.1 M.2.2.1)) else False
  | _ => False

def zpX9_setOf_2 : zz_P := [(0, zo_ild 1 2), (1, zo_ald 2 0), (2, zo_get 5 8 2 1), (5, zo_c 8 (vi 194)), (8, zo_ialc 9 194), (9, zo_cge false false 12 24), (12, zo_ild 13 3), (13, zo_ald 14 0), (14, zo_get 17 8 2 1), (17, zo_c 20 (vi 194)), (20, zo_ialc 21 194), (21, zo_clt false false 24 52), (24, zo_ild 25 1), (25, zo_ifne false 28 32), (28, zo_ild 29 2), (29, zo_goto 33), (32, zo_ild 33 3), (33, zo_ald 34 0), (34, zo_get 37 8 2 1), (37, zo_c 40 (vi 194)), (40, zo_ialc 41 194), (41, zo_clt false false 44 50), (44, zo_c 47 (vl 1000000000)), (47, zo_goto 51), (50, zo_c 51 (vl 0)), (51, zo_lret), (52, zo_c 53 (vl 0)), (53, zo_lst 55 5), (55, zo_c 56 (vi 0)), (56, zo_ist 58 7), (58, zo_ild 60 7), (60, zo_c 61 (vi 2)), (61, zo_cge false true 64 144), (64, zo_c 65 (vi 0)), (65, zo_ist 67 8), (67, zo_ild 69 8), (69, zo_c 70 (vi 2)), (70, zo_cge false true 73 138), (73, zo_lld 75 5), (75, zo_ald 76 0), (76, zo_get 79 8 2 24), (79, zo_c 80 (vi 4)), (80, zo_ild 82 4), (82, zo_imul 83), (83, zo_c 84 (vi 2)), (84, zo_ild 86 7), (86, zo_imul 87), (87, zo_iadd 88), (88, zo_ild 90 8), (90, zo_iadd 91), (91, zo_lald 92), (92, zo_ald 93 0), (93, zo_ild 94 1), (94, zo_ild 96 7), (96, zo_ifne false 99 105), (99, zo_ild 100 2), (100, zo_c 101 (vi 1)), (101, zo_iadd 102), (102, zo_goto 106), (105, zo_ild 106 2), (106, zo_ild 108 7), (108, zo_c 109 (vi 1)), (109, zo_cne false true 112 118), (112, zo_ild 113 3), (113, zo_c 114 (vi 1)), (114, zo_iadd 115), (115, zo_goto 119), (118, zo_ild 119 3), (119, zo_ild 121 8), (121, zo_callv 124 5 8 zX9_setOf_1), (124, zo_lmul 125), (125, zo_c 128 (vl 1000000000)), (128, zo_ldiv 129), (129, zo_ladd 130), (130, zo_lst 132 5), (132, zo_inc 135 8 1), (135, zo_goto 67), (138, zo_inc 141 7 1), (141, zo_goto 58), (144, zo_lld 146 5), (146, zo_lret)]
theorem ztX9_setOf_2 {C : mm_C} (G : mm_G C RX9 cX9_setOf (some .long) 9 (mm_rm 3 0 0)) (hnh : mm_nh C) : zz_OKs C zpX9_setOf_2 :=
  ⟨zz_of (ok_iload_n G dX9_setOf_0 rfl rfl) (z_ild _ _),
   zz_of (ok_aload_n G dX9_setOf_1 rfl rfl) (z_ald _ _),
   zz_of (ok_get G (nx := 5) (ci := 8) (kd := 2) (k := 1) (RX9, TX9, 32) rfl (by decide) rfl q1806 dX9_setOf_2 rfl) (z_get _ _ _ _),
   zz_of (ok_sipush G (v := 194) dX9_setOf_5 (by decide) rfl) (z_cn 8 194),
   zz_of (ok_iald G dX9_setOf_8 rfl) (z_ialc _ _),
   zz_of (ok_cge G dX9_setOf_9 rfl rfl) (z_cge _ _ _ _),
   zz_of (ok_iload_n G dX9_setOf_12 rfl rfl) (z_ild _ _),
   zz_of (ok_aload_n G dX9_setOf_13 rfl rfl) (z_ald _ _),
   zz_of (ok_get G (nx := 17) (ci := 8) (kd := 2) (k := 1) (RX9, TX9, 32) rfl (by decide) rfl q1806 dX9_setOf_14 rfl) (z_get _ _ _ _),
   zz_of (ok_sipush G (v := 194) dX9_setOf_17 (by decide) rfl) (z_cn 20 194),
   zz_of (ok_iald G dX9_setOf_20 rfl) (z_ialc _ _),
   zz_of (ok_clt G dX9_setOf_21 rfl rfl) (z_clt _ _ _ _),
   zz_of (ok_iload_n G dX9_setOf_24 rfl rfl) (z_ild _ _),
   zz_of (ok_ifne G dX9_setOf_25 rfl rfl) (z_ifne _ _ _),
   zz_of (ok_iload_n G dX9_setOf_28 rfl rfl) (z_ild _ _),
   zz_of (ok_goto G dX9_setOf_29 rfl) (z_goto _),
   zz_of (ok_iload_n G dX9_setOf_32 rfl rfl) (z_ild _ _),
   zz_of (ok_aload_n G dX9_setOf_33 rfl rfl) (z_ald _ _),
   zz_of (ok_get G (nx := 37) (ci := 8) (kd := 2) (k := 1) (RX9, TX9, 32) rfl (by decide) rfl q1806 dX9_setOf_34 rfl) (z_get _ _ _ _),
   zz_of (ok_sipush G (v := 194) dX9_setOf_37 (by decide) rfl) (z_cn 40 194),
   zz_of (ok_iald G dX9_setOf_40 rfl) (z_ialc _ _),
   zz_of (ok_clt G dX9_setOf_41 rfl rfl) (z_clt _ _ _ _),
   zz_of (ok_ldc2 G (v := 1000000000) q2137 dX9_setOf_44 rfl) (z_cl 47 1000000000),
   zz_of (ok_goto G dX9_setOf_47 rfl) (z_goto _),
   zz_of (ok_lconst G (v := 0) dX9_setOf_50 (by decide) rfl) (z_cl 51 0),
   zz_of (ok_lret G dX9_setOf_51) (z_lret),
   zz_of (ok_lconst G (v := 0) dX9_setOf_52 (by decide) rfl) (z_cl 53 0),
   zz_of (ok_lstore G dX9_setOf_53 rfl (by decide)) (z_lst _ _),
   zz_of (ok_iconst G (v := 0) dX9_setOf_55 (by decide) rfl) (z_cn 56 0),
   zz_of (ok_istore G dX9_setOf_56 rfl (by decide)) (z_ist _ _),
   zz_of (ok_iload G dX9_setOf_58 rfl) (z_ild _ _),
   zz_of (ok_iconst G (v := 2) dX9_setOf_60 (by decide) rfl) (z_cn 61 2),
   zz_of (ok_cge G dX9_setOf_61 rfl rfl) (z_cge _ _ _ _),
   zz_of (ok_iconst G (v := 0) dX9_setOf_64 (by decide) rfl) (z_cn 65 0),
   zz_of (ok_istore G dX9_setOf_65 rfl (by decide)) (z_ist _ _),
   zz_of (ok_iload G dX9_setOf_67 rfl) (z_ild _ _),
   zz_of (ok_iconst G (v := 2) dX9_setOf_69 (by decide) rfl) (z_cn 70 2),
   zz_of (ok_cge G dX9_setOf_70 rfl rfl) (z_cge _ _ _ _),
   zz_of (ok_lload G dX9_setOf_73 rfl) (z_lld _ _),
   zz_of (ok_aload_n G dX9_setOf_75 rfl rfl) (z_ald _ _),
   zz_of (ok_get G (nx := 79) (ci := 8) (kd := 2) (k := 24) (RX9, TX9, 32) rfl (by decide) rfl q1829 dX9_setOf_76 rfl) (z_get _ _ _ _),
   zz_of (ok_iconst G (v := 4) dX9_setOf_79 (by decide) rfl) (z_cn 80 4),
   zz_of (ok_iload G dX9_setOf_80 rfl) (z_ild _ _),
   zz_of (ok_imul G dX9_setOf_82 rfl) (z_imul _),
   zz_of (ok_iconst G (v := 2) dX9_setOf_83 (by decide) rfl) (z_cn 84 2),
   zz_of (ok_iload G dX9_setOf_84 rfl) (z_ild _ _),
   zz_of (ok_imul G dX9_setOf_86 rfl) (z_imul _),
   zz_of (ok_iadd G dX9_setOf_87 rfl) (z_iadd _),
   zz_of (ok_iload G dX9_setOf_88 rfl) (z_ild _ _),
   zz_of (ok_iadd G dX9_setOf_90 rfl) (z_iadd _),
   zz_of (ok_lald G dX9_setOf_91 rfl) (z_lald _),
   zz_of (ok_aload_n G dX9_setOf_92 rfl rfl) (z_ald _ _),
   zz_of (ok_iload_n G dX9_setOf_93 rfl rfl) (z_ild _ _),
   zz_of (ok_iload G dX9_setOf_94 rfl) (z_ild _ _),
   zz_of (ok_ifne G dX9_setOf_96 rfl rfl) (z_ifne _ _ _),
   zz_of (ok_iload_n G dX9_setOf_99 rfl rfl) (z_ild _ _),
   zz_of (ok_iconst G (v := 1) dX9_setOf_100 (by decide) rfl) (z_cn 101 1),
   zz_of (ok_iadd G dX9_setOf_101 rfl) (z_iadd _),
   zz_of (ok_goto G dX9_setOf_102 rfl) (z_goto _),
   zz_of (ok_iload_n G dX9_setOf_105 rfl rfl) (z_ild _ _),
   zz_of (ok_iload G dX9_setOf_106 rfl) (z_ild _ _),
   zz_of (ok_iconst G (v := 1) dX9_setOf_108 (by decide) rfl) (z_cn 109 1),
   zz_of (ok_cne G dX9_setOf_109 rfl rfl) (z_cne _ _ _ _),
   zz_of (ok_iload_n G dX9_setOf_112 rfl rfl) (z_ild _ _),
   zz_of (ok_iconst G (v := 1) dX9_setOf_113 (by decide) rfl) (z_cn 114 1),
   zz_of (ok_iadd G dX9_setOf_114 rfl) (z_iadd _),
   zz_of (ok_goto G dX9_setOf_115 rfl) (z_goto _),
   zz_of (ok_iload_n G dX9_setOf_118 rfl rfl) (z_ild _ _),
   zz_of (ok_iload G dX9_setOf_119 rfl) (z_ild _ _),
   zz_of (ok_callv G hnh (zmX9_setOf_1 _ G.hst) rfl rfl (RX9, TX9, 32) rfl q2165 q2167 qs75 q93 q2168 (by decide +kernel) ⟨by decide, by decide⟩ dX9_setOf_121 rfl) (z_callv _ _ _ _),
   zz_of (ok_lmul G dX9_setOf_124 rfl) (z_lmul _),
   zz_of (ok_ldc2 G (v := 1000000000) q2137 dX9_setOf_125 rfl) (z_cl 128 1000000000),
   zz_of (ok_ldiv G dX9_setOf_128 rfl) (z_ldiv _),
   zz_of (ok_ladd G dX9_setOf_129 rfl) (z_ladd _),
   zz_of (ok_lstore G dX9_setOf_130 rfl (by decide)) (z_lst _ _),
   zz_of (ok_iinc G (v := 1) dX9_setOf_132 (by decide) rfl (by decide)) (z_incn 135 8 1),
   zz_of (ok_goto G dX9_setOf_135 rfl) (z_goto _),
   zz_of (ok_iinc G (v := 1) dX9_setOf_138 (by decide) rfl (by decide)) (z_incn 141 7 1),
   zz_of (ok_goto G dX9_setOf_141 rfl) (z_goto _),
   zz_of (ok_lload G dX9_setOf_144 rfl) (z_lld _ _),
   zz_of (ok_lret G dX9_setOf_146) (z_lret), trivial⟩

theorem zwX9_setOf_2_0 {Q : Option zv → zz_M → Prop} {X : Nat → zz_M → Prop} {S L : Nat → Nat → Int} {p : Int} {a : Int} {b : Int} {s : Int} (h : R32 a ∧ (R32 (S 1 194) ∧ (((S 1 194) ≤ a → zz_J zpX9_setOf_2 (zz_ret Q X 0 0) 24 [some (vr 0), some (vi p), some (vi a), some (vi b), none, none, none, none, none] [] (zm S L) (0, 0)) ∧ (¬ (S 1 194) ≤ a → R32 b ∧ (R32 (S 1 194) ∧ ((b < (S 1 194) → zz_J zpX9_setOf_2 (zz_ret Q X 0 0) 52 [some (vr 0), some (vi p), some (vi a), some (vi b), some (vi s), none, none, none, none] [] (zm S L) (0, 0)) ∧ (¬ b < (S 1 194) → zz_J zpX9_setOf_2 (zz_ret Q X 0 0) 24 [some (vr 0), some (vi p), some (vi a), some (vi b), none, none, none, none, none] [] (zm S L) (0, 0)))))))) : zz_J zpX9_setOf_2 (zz_ret Q X 0 0) 0 [some (vr 0), some (vi p), some (vi a), some (vi b), some (vi s), none, none, none, none] [] (zm S L) (0, 0) := zz_J.go [(24, [4, 5, 6, 7, 8]), (33, [1, 2, 3, 4, 5, 6, 7, 8]), (52, [5, 6, 7, 8]), (58, [6, 8]), (67, [6])] 400 h
theorem zwX9_setOf_2_24 {Q : Option zv → zz_M → Prop} {X : Nat → zz_M → Prop} {S L : Nat → Nat → Int} {x1 : Int} {x2 : Int} {x3 : Int} (h : R32 x1 ∧ ((¬ x1 = 0 → zz_J zpX9_setOf_2 (zz_ret Q X 0 0) 33 [some (vr 0), none, none, none, none, none, none, none, none] [vi x3] (zm S L) (0, 0)) ∧ (x1 = 0 → zz_J zpX9_setOf_2 (zz_ret Q X 0 0) 33 [some (vr 0), none, none, none, none, none, none, none, none] [vi x2] (zm S L) (0, 0)))) : zz_J zpX9_setOf_2 (zz_ret Q X 0 0) 24 [some (vr 0), some (vi x1), some (vi x2), some (vi x3), none, none, none, none, none] [] (zm S L) (0, 0) := zz_J.go [(24, [4, 5, 6, 7, 8]), (33, [1, 2, 3, 4, 5, 6, 7, 8]), (52, [5, 6, 7, 8]), (58, [6, 8]), (67, [6])] 400 h
theorem zwX9_setOf_2_33 {Q : Option zv → zz_M → Prop} {X : Nat → zz_M → Prop} {S L : Nat → Nat → Int} {t0 : Int} (h : R32 t0 ∧ (R32 (S 1 194) ∧ ((t0 < (S 1 194) → Q (some (vl 0)) (zm S L)) ∧ (¬ t0 < (S 1 194) → Q (some (vl 1000000000)) (zm S L))))) : zz_J zpX9_setOf_2 (zz_ret Q X 0 0) 33 [some (vr 0), none, none, none, none, none, none, none, none] [vi t0] (zm S L) (0, 0) := zz_J.go [(24, [4, 5, 6, 7, 8]), (33, [1, 2, 3, 4, 5, 6, 7, 8]), (52, [5, 6, 7, 8]), (58, [6, 8]), (67, [6])] 400 h
theorem zwX9_setOf_2_52 {Q : Option zv → zz_M → Prop} {X : Nat → zz_M → Prop} {S L : Nat → Nat → Int} {x1 : Int} {x2 : Int} {x3 : Int} {x4 : Int} (h : zz_J zpX9_setOf_2 (zz_ret Q X 0 0) 58 [some (vr 0), some (vi x1), some (vi x2), some (vi x3), some (vi x4), some (vl 0), none, some (vi 0), none] [] (zm S L) (0, 0)) : zz_J zpX9_setOf_2 (zz_ret Q X 0 0) 52 [some (vr 0), some (vi x1), some (vi x2), some (vi x3), some (vi x4), none, none, none, none] [] (zm S L) (0, 0) := zz_J.go [(24, [4, 5, 6, 7, 8]), (33, [1, 2, 3, 4, 5, 6, 7, 8]), (52, [5, 6, 7, 8]), (58, [6, 8]), (67, [6])] 400 h
theorem zwX9_setOf_2_58 {Q : Option zv → zz_M → Prop} {X : Nat → zz_M → Prop} {S L : Nat → Nat → Int} {x1 : Int} {x2 : Int} {x3 : Int} {x4 : Int} {x5 : Int} {x7 : Int} (h : R32 x7 ∧ ((2 ≤ x7 → Q (some (vl x5)) (zm S L)) ∧ (¬ 2 ≤ x7 → zz_J zpX9_setOf_2 (zz_ret Q X 0 0) 67 [some (vr 0), some (vi x1), some (vi x2), some (vi x3), some (vi x4), some (vl x5), none, some (vi x7), some (vi 0)] [] (zm S L) (0, 0)))) : zz_J zpX9_setOf_2 (zz_ret Q X 0 0) 58 [some (vr 0), some (vi x1), some (vi x2), some (vi x3), some (vi x4), some (vl x5), none, some (vi x7), none] [] (zm S L) (0, 0) := zz_J.go [(24, [4, 5, 6, 7, 8]), (33, [1, 2, 3, 4, 5, 6, 7, 8]), (52, [5, 6, 7, 8]), (58, [6, 8]), (67, [6])] 400 h
theorem zwX9_setOf_2_67 {Q : Option zv → zz_M → Prop} {X : Nat → zz_M → Prop} {S L : Nat → Nat → Int} {x1 : Int} {x2 : Int} {x3 : Int} {x4 : Int} {x5 : Int} {x7 : Int} {x8 : Int} (h : R32 x8 ∧ ((2 ≤ x8 → zz_J zpX9_setOf_2 (zz_ret Q X 0 0) 58 [some (vr 0), some (vi x1), some (vi x2), some (vi x3), some (vi x4), some (vl x5), none, some (vi (x7 + 1)), none] [] (zm S L) (0, 0)) ∧ (¬ 2 ≤ x8 → (0 ≤ (((4 * x4) + (2 * x7)) + x8) ∧ (((4 * x4) + (2 * x7)) + x8) < 8) ∧ (R32 x7 ∧ ((¬ x7 = 0 → R32 x7 ∧ ((¬ x7 = 1 → ((x1 = 0 ∨ x1 = 1) ∧ (x8 = 0 ∨ x8 = 1) ∧ (0 ≤ x2 ∧ x2 ≤ 6) ∧ (0 ≤ x3 ∧ x3 ≤ 6) ∧ (1 ≤ S 1 194 ∧ S 1 194 ≤ 6) ∧ (x2 ≤ S 1 194 ∧ x3 ≤ S 1 194) ∧ S 1 194 - x2 + (S 1 194 - x3) ≤ 1 ∧ wyG (L 12) ∧ ((0 ≤ ((L 12 ((((4 * x4) + (2 * x7)) + x8).toNat)) * (stO (L 12) (S 1 194) x1 1 x2 x3 x8.toNat)) ∧ ((L 12 ((((4 * x4) + (2 * x7)) + x8).toNat)) * (stO (L 12) (S 1 194) x1 1 x2 x3 x8.toNat)) < 9223372036854775808) ∧ (zz_J zpX9_setOf_2 (zz_ret Q X 0 0) 67 [some (vr 0), some (vi x1), some (vi x2), some (vi x3), some (vi x4), some (vl (x5 + (((L 12 ((((4 * x4) + (2 * x7)) + x8).toNat)) * (stO (L 12) (S 1 194) x1 1 x2 x3 x8.toNat)) / 1000000000))), none, some (vi x7), some (vi (x8 + 1))] [] (zm S L) (0, 0))))) ∧ (x7 = 1 → ((x1 = 0 ∨ x1 = 1) ∧ (x8 = 0 ∨ x8 = 1) ∧ (0 ≤ x2 ∧ x2 ≤ 6) ∧ (0 ≤ (x3 + 1) ∧ (x3 + 1) ≤ 6) ∧ (1 ≤ S 1 194 ∧ S 1 194 ≤ 6) ∧ (x2 ≤ S 1 194 ∧ (x3 + 1) ≤ S 1 194) ∧ S 1 194 - x2 + (S 1 194 - (x3 + 1)) ≤ 1 ∧ wyG (L 12) ∧ ((0 ≤ ((L 12 ((((4 * x4) + (2 * x7)) + x8).toNat)) * (stO (L 12) (S 1 194) x1 1 x2 (x3 + 1) x8.toNat)) ∧ ((L 12 ((((4 * x4) + (2 * x7)) + x8).toNat)) * (stO (L 12) (S 1 194) x1 1 x2 (x3 + 1) x8.toNat)) < 9223372036854775808) ∧ (zz_J zpX9_setOf_2 (zz_ret Q X 0 0) 67 [some (vr 0), some (vi x1), some (vi x2), some (vi x3), some (vi x4), some (vl (x5 + (((L 12 ((((4 * x4) + (2 * x7)) + x8).toNat)) * (stO (L 12) (S 1 194) x1 1 x2 (x3 + 1) x8.toNat)) / 1000000000))), none, some (vi x7), some (vi (x8 + 1))] [] (zm S L) (0, 0))))))) ∧ (x7 = 0 → R32 x7 ∧ ((¬ x7 = 1 → ((x1 = 0 ∨ x1 = 1) ∧ (x8 = 0 ∨ x8 = 1) ∧ (0 ≤ (x2 + 1) ∧ (x2 + 1) ≤ 6) ∧ (0 ≤ x3 ∧ x3 ≤ 6) ∧ (1 ≤ S 1 194 ∧ S 1 194 ≤ 6) ∧ ((x2 + 1) ≤ S 1 194 ∧ x3 ≤ S 1 194) ∧ S 1 194 - (x2 + 1) + (S 1 194 - x3) ≤ 1 ∧ wyG (L 12) ∧ ((0 ≤ ((L 12 ((((4 * x4) + (2 * x7)) + x8).toNat)) * (stO (L 12) (S 1 194) x1 1 (x2 + 1) x3 x8.toNat)) ∧ ((L 12 ((((4 * x4) + (2 * x7)) + x8).toNat)) * (stO (L 12) (S 1 194) x1 1 (x2 + 1) x3 x8.toNat)) < 9223372036854775808) ∧ (zz_J zpX9_setOf_2 (zz_ret Q X 0 0) 67 [some (vr 0), some (vi x1), some (vi x2), some (vi x3), some (vi x4), some (vl (x5 + (((L 12 ((((4 * x4) + (2 * x7)) + x8).toNat)) * (stO (L 12) (S 1 194) x1 1 (x2 + 1) x3 x8.toNat)) / 1000000000))), none, some (vi x7), some (vi (x8 + 1))] [] (zm S L) (0, 0))))) ∧ (x7 = 1 → ((x1 = 0 ∨ x1 = 1) ∧ (x8 = 0 ∨ x8 = 1) ∧ (0 ≤ (x2 + 1) ∧ (x2 + 1) ≤ 6) ∧ (0 ≤ (x3 + 1) ∧ (x3 + 1) ≤ 6) ∧ (1 ≤ S 1 194 ∧ S 1 194 ≤ 6) ∧ ((x2 + 1) ≤ S 1 194 ∧ (x3 + 1) ≤ S 1 194) ∧ S 1 194 - (x2 + 1) + (S 1 194 - (x3 + 1)) ≤ 1 ∧ wyG (L 12) ∧ ((0 ≤ ((L 12 ((((4 * x4) + (2 * x7)) + x8).toNat)) * (stO (L 12) (S 1 194) x1 1 (x2 + 1) (x3 + 1) x8.toNat)) ∧ ((L 12 ((((4 * x4) + (2 * x7)) + x8).toNat)) * (stO (L 12) (S 1 194) x1 1 (x2 + 1) (x3 + 1) x8.toNat)) < 9223372036854775808) ∧ (zz_J zpX9_setOf_2 (zz_ret Q X 0 0) 67 [some (vr 0), some (vi x1), some (vi x2), some (vi x3), some (vi x4), some (vl (x5 + (((L 12 ((((4 * x4) + (2 * x7)) + x8).toNat)) * (stO (L 12) (S 1 194) x1 1 (x2 + 1) (x3 + 1) x8.toNat)) / 1000000000))), none, some (vi x7), some (vi (x8 + 1))] [] (zm S L) (0, 0)))))))))))) : zz_J zpX9_setOf_2 (zz_ret Q X 0 0) 67 [some (vr 0), some (vi x1), some (vi x2), some (vi x3), some (vi x4), some (vl x5), none, some (vi x7), some (vi x8)] [] (zm S L) (0, 0) := zz_J.go [(24, [4, 5, 6, 7, 8]), (33, [1, 2, 3, 4, 5, 6, 7, 8]), (52, [5, 6, 7, 8]), (58, [6, 8]), (67, [6])] 400 h

theorem zmX9_setOf_2 (l : Launch) (hl : l.stackTraces = false) : mm_Spec l yX9_setOf (ws_ yX9_setOf cX9_setOf 9 (some .long)) (mm_rm 3 0 0) (zE zX9_setOf_2) := by
  refine zz_Met.J hl (by decide) (fun C G hnh => ztX9_setOf_2 G hnh) ?_
  rintro as ⟨⟨t_, f⟩, S, L, P⟩ Q X h
  unfold zX9_setOf_2 at h
  split at h
  rotate_left
  · exact h.elim
  rename_i h_ p a b s
  obtain ⟨e1_, e2_, h⟩ := mm_and2 h (fun q => q)
  cases mm_beq e1_
  cases mm_beq e2_
  try dsimp only at h
  refine ⟨rfl, ?_⟩
  refine zz_Jev (M' := zm S L) rfl rfl rfl ?_
  obtain ⟨hp, hs, ha, hb, hG, hab, hr, hwy, hq⟩ := h
  have t24 : (S 1 194 ≤ a ∨ S 1 194 ≤ b) → zz_J zpX9_setOf_2 (zz_ret Q X 0 0) 24 [some (vr 0), some (vi p), some (vi a), some (vi b), none, none, none, none, none] [] (zm S L) (0, 0) := by
    intro h
    rw [stO_o h] at hq
    refine zwX9_setOf_2_24 ⟨by omega, fun c => ?_, fun c => ?_⟩
    · rw [if_neg c] at hq
      refine zwX9_setOf_2_33 ⟨by omega, by omega, fun d => ?_, fun d => ?_⟩
      · rw [if_neg (by omega)] at hq; exact hq
      · rw [if_pos (by omega)] at hq; exact hq
    · rw [if_pos c] at hq
      refine zwX9_setOf_2_33 ⟨by omega, by omega, fun d => ?_, fun d => ?_⟩
      · rw [if_neg (by omega)] at hq; exact hq
      · rw [if_pos (by omega)] at hq; exact hq
  obtain ⟨u, hu, rfl⟩ : ∃ u : Nat, u < 2 ∧ s = u := ⟨s.toNat, by omega, by omega⟩
  rw [Int.toNat_natCast] at hq
  have t52 : ¬ (S 1 194 ≤ a ∨ S 1 194 ≤ b) → zz_J zpX9_setOf_2 (zz_ret Q X 0 0) 52 [some (vr 0), some (vi p), some (vi a), some (vi b), some (vi u), none, none, none, none] [] (zm S L) (0, 0) := by
    intro h
    rw [show stO (L 12) (S 1 194) p 2 a b u = _ from stO_s h 1] at hq
    have i0 := stO_in (G := S 1 194) (p := p) hwy 1 (a + 1) b 0 (by decide)
    have i1 := stO_in (G := S 1 194) (p := p) hwy 1 (a + 1) b 1 (by decide)
    have i2 := stO_in (G := S 1 194) (p := p) hwy 1 a (b + 1) 0 (by decide)
    have i3 := stO_in (G := S 1 194) (p := p) hwy 1 a (b + 1) 1 (by decide)
    have w0 := hwy.1 (4 * u) (by omega)
    have w1 := hwy.1 (4 * u + 1) (by omega)
    have w2 := hwy.1 (4 * u + 2) (by omega)
    have w3 := hwy.1 (4 * u + 3) (by omega)
    have m0 := mul_sure w0.1 i0.1 i0.2
    have m1 := mul_sure w1.1 i1.1 i1.2
    have m2 := mul_sure w2.1 i2.1 i2.2
    have m3 := mul_sure w3.1 i3.1 i3.2
    have e0 : ((4 : Int) * u + 2 * 0 + 0).toNat = 4 * u := by omega
    have e1 : ((4 : Int) * u + 2 * 0 + 1).toNat = 4 * u + 1 := by omega
    have e2 : ((4 : Int) * u + 2 * 1 + 0).toNat = 4 * u + 2 := by omega
    have e3 : ((4 : Int) * u + 2 * 1 + 1).toNat = 4 * u + 3 := by omega
    refine zwX9_setOf_2_52 (zwX9_setOf_2_58 ⟨by decide, fun c => absurd c (by decide), fun _ => ?_⟩)
    refine zwX9_setOf_2_67 ⟨by decide, fun c => absurd c (by decide), fun _ => ⟨by omega, by decide, fun c => absurd rfl c, fun _ => ⟨by decide, fun _ => ?_, fun c => absurd c (by decide)⟩⟩⟩
    refine ⟨hp, Or.inl rfl, by omega, hb, hG, by omega, by omega, hwy, ?_⟩
    rw [e0]
    refine ⟨by show 0 ≤ L 12 (4 * u) * stO (L 12) (S 1 194) p 1 (a + 1) b 0 ∧ L 12 (4 * u) * stO (L 12) (S 1 194) p 1 (a + 1) b 0 < 9223372036854775808; omega, ?_⟩
    refine zwX9_setOf_2_67 ⟨by decide, fun c => absurd c (by decide), fun _ => ⟨by omega, by decide, fun c => absurd rfl c, fun _ => ⟨by decide, fun _ => ?_, fun c => absurd c (by decide)⟩⟩⟩
    refine ⟨hp, Or.inr rfl, by omega, hb, hG, by omega, by omega, hwy, ?_⟩
    rw [show ((4 : Int) * u + 2 * 0 + (0 + 1)).toNat = 4 * u + 1 by omega]
    refine ⟨by show 0 ≤ L 12 (4 * u + 1) * stO (L 12) (S 1 194) p 1 (a + 1) b 1 ∧ L 12 (4 * u + 1) * stO (L 12) (S 1 194) p 1 (a + 1) b 1 < 9223372036854775808; omega, ?_⟩
    refine zwX9_setOf_2_67 ⟨by decide, fun _ => ?_, fun c => absurd c (by decide)⟩
    refine zwX9_setOf_2_58 ⟨by decide, fun c => absurd c (by decide), fun _ => ?_⟩
    refine zwX9_setOf_2_67 ⟨by decide, fun c => absurd c (by decide), fun _ => ⟨by omega, by decide, fun _ => ⟨by decide, fun c => absurd rfl c, fun _ => ?_⟩, fun c => absurd c (by decide)⟩⟩
    refine ⟨hp, Or.inl rfl, ha, by omega, hG, by omega, by omega, hwy, ?_⟩
    rw [show ((4 : Int) * u + 2 * (0 + 1) + 0).toNat = 4 * u + 2 by omega]
    refine ⟨by show 0 ≤ L 12 (4 * u + 2) * stO (L 12) (S 1 194) p 1 a (b + 1) 0 ∧ L 12 (4 * u + 2) * stO (L 12) (S 1 194) p 1 a (b + 1) 0 < 9223372036854775808; omega, ?_⟩
    refine zwX9_setOf_2_67 ⟨by decide, fun c => absurd c (by decide), fun _ => ⟨by omega, by decide, fun _ => ⟨by decide, fun c => absurd rfl c, fun _ => ?_⟩, fun c => absurd c (by decide)⟩⟩
    refine ⟨hp, Or.inr rfl, ha, by omega, hG, by omega, by omega, hwy, ?_⟩
    rw [show ((4 : Int) * u + 2 * (0 + 1) + (0 + 1)).toNat = 4 * u + 3 by omega]
    refine ⟨by show 0 ≤ L 12 (4 * u + 3) * stO (L 12) (S 1 194) p 1 a (b + 1) 1 ∧ L 12 (4 * u + 3) * stO (L 12) (S 1 194) p 1 a (b + 1) 1 < 9223372036854775808; omega, ?_⟩
    refine zwX9_setOf_2_67 ⟨by decide, fun _ => ?_, fun c => absurd c (by decide)⟩
    refine zwX9_setOf_2_58 ⟨by decide, fun _ => ?_, fun c => absurd c (by decide)⟩
    have ez : ∀ x y z w : Int, 0 + x + y + z + w = x + y + z + w := fun x y z w => by omega
    rw [ez]
    exact hq
  refine zwX9_setOf_2_0 ⟨by omega, by omega, fun c => t24 (Or.inl c), fun c => ⟨by omega, by omega, fun d => t52 (by omega), fun d => t24 (Or.inr (by omega))⟩⟩
def zX9_setOf_3 : zz_Sp := fun as M Q X => match as with
  | [.inr (.inr (some h_)), .inl p, .inl a, .inl b, .inl s] => bif Nat.beq h_ 0 && Nat.beq M.1.1 1 then ((p = 0 ∨ p = 1) ∧ (s = 0 ∨ s = 1) ∧ (0 ≤ a ∧ a ≤ 6) ∧ (0 ≤ b ∧ b ≤ 6) ∧ (1 ≤ M.2.1 1 194 ∧ M.2.1 1 194 ≤ 6) ∧ (a ≤ M.2.1 1 194 ∧ b ≤ M.2.1 1 194) ∧ M.2.1 1 194 - a + (M.2.1 1 194 - b) ≤ 3 ∧ wyG (M.2.2.1 12) ∧ Q (some (vl (stO (M.2.2.1 12) (M.2.1 1 194) p 3 a b s.toNat))) (zm M.2.1 M.2.2.1)) else False
  | _ => False

def zpX9_setOf_3 : zz_P := [(0, zo_ild 1 2), (1, zo_ald 2 0), (2, zo_get 5 8 2 1), (5, zo_c 8 (vi 194)), (8, zo_ialc 9 194), (9, zo_cge false false 12 24), (12, zo_ild 13 3), (13, zo_ald 14 0), (14, zo_get 17 8 2 1), (17, zo_c 20 (vi 194)), (20, zo_ialc 21 194), (21, zo_clt false false 24 52), (24, zo_ild 25 1), (25, zo_ifne false 28 32), (28, zo_ild 29 2), (29, zo_goto 33), (32, zo_ild 33 3), (33, zo_ald 34 0), (34, zo_get 37 8 2 1), (37, zo_c 40 (vi 194)), (40, zo_ialc 41 194), (41, zo_clt false false 44 50), (44, zo_c 47 (vl 1000000000)), (47, zo_goto 51), (50, zo_c 51 (vl 0)), (51, zo_lret), (52, zo_c 53 (vl 0)), (53, zo_lst 55 5), (55, zo_c 56 (vi 0)), (56, zo_ist 58 7), (58, zo_ild 60 7), (60, zo_c 61 (vi 2)), (61, zo_cge false true 64 144), (64, zo_c 65 (vi 0)), (65, zo_ist 67 8), (67, zo_ild 69 8), (69, zo_c 70 (vi 2)), (70, zo_cge false true 73 138), (73, zo_lld 75 5), (75, zo_ald 76 0), (76, zo_get 79 8 2 24), (79, zo_c 80 (vi 4)), (80, zo_ild 82 4), (82, zo_imul 83), (83, zo_c 84 (vi 2)), (84, zo_ild 86 7), (86, zo_imul 87), (87, zo_iadd 88), (88, zo_ild 90 8), (90, zo_iadd 91), (91, zo_lald 92), (92, zo_ald 93 0), (93, zo_ild 94 1), (94, zo_ild 96 7), (96, zo_ifne false 99 105), (99, zo_ild 100 2), (100, zo_c 101 (vi 1)), (101, zo_iadd 102), (102, zo_goto 106), (105, zo_ild 106 2), (106, zo_ild 108 7), (108, zo_c 109 (vi 1)), (109, zo_cne false true 112 118), (112, zo_ild 113 3), (113, zo_c 114 (vi 1)), (114, zo_iadd 115), (115, zo_goto 119), (118, zo_ild 119 3), (119, zo_ild 121 8), (121, zo_callv 124 5 8 zX9_setOf_2), (124, zo_lmul 125), (125, zo_c 128 (vl 1000000000)), (128, zo_ldiv 129), (129, zo_ladd 130), (130, zo_lst 132 5), (132, zo_inc 135 8 1), (135, zo_goto 67), (138, zo_inc 141 7 1), (141, zo_goto 58), (144, zo_lld 146 5), (146, zo_lret)]
theorem ztX9_setOf_3 {C : mm_C} (G : mm_G C RX9 cX9_setOf (some .long) 9 (mm_rm 4 0 0)) (hnh : mm_nh C) : zz_OKs C zpX9_setOf_3 :=
  ⟨zz_of (ok_iload_n G dX9_setOf_0 rfl rfl) (z_ild _ _),
   zz_of (ok_aload_n G dX9_setOf_1 rfl rfl) (z_ald _ _),
   zz_of (ok_get G (nx := 5) (ci := 8) (kd := 2) (k := 1) (RX9, TX9, 32) rfl (by decide) rfl q1806 dX9_setOf_2 rfl) (z_get _ _ _ _),
   zz_of (ok_sipush G (v := 194) dX9_setOf_5 (by decide) rfl) (z_cn 8 194),
   zz_of (ok_iald G dX9_setOf_8 rfl) (z_ialc _ _),
   zz_of (ok_cge G dX9_setOf_9 rfl rfl) (z_cge _ _ _ _),
   zz_of (ok_iload_n G dX9_setOf_12 rfl rfl) (z_ild _ _),
   zz_of (ok_aload_n G dX9_setOf_13 rfl rfl) (z_ald _ _),
   zz_of (ok_get G (nx := 17) (ci := 8) (kd := 2) (k := 1) (RX9, TX9, 32) rfl (by decide) rfl q1806 dX9_setOf_14 rfl) (z_get _ _ _ _),
   zz_of (ok_sipush G (v := 194) dX9_setOf_17 (by decide) rfl) (z_cn 20 194),
   zz_of (ok_iald G dX9_setOf_20 rfl) (z_ialc _ _),
   zz_of (ok_clt G dX9_setOf_21 rfl rfl) (z_clt _ _ _ _),
   zz_of (ok_iload_n G dX9_setOf_24 rfl rfl) (z_ild _ _),
   zz_of (ok_ifne G dX9_setOf_25 rfl rfl) (z_ifne _ _ _),
   zz_of (ok_iload_n G dX9_setOf_28 rfl rfl) (z_ild _ _),
   zz_of (ok_goto G dX9_setOf_29 rfl) (z_goto _),
   zz_of (ok_iload_n G dX9_setOf_32 rfl rfl) (z_ild _ _),
   zz_of (ok_aload_n G dX9_setOf_33 rfl rfl) (z_ald _ _),
   zz_of (ok_get G (nx := 37) (ci := 8) (kd := 2) (k := 1) (RX9, TX9, 32) rfl (by decide) rfl q1806 dX9_setOf_34 rfl) (z_get _ _ _ _),
   zz_of (ok_sipush G (v := 194) dX9_setOf_37 (by decide) rfl) (z_cn 40 194),
   zz_of (ok_iald G dX9_setOf_40 rfl) (z_ialc _ _),
   zz_of (ok_clt G dX9_setOf_41 rfl rfl) (z_clt _ _ _ _),
   zz_of (ok_ldc2 G (v := 1000000000) q2137 dX9_setOf_44 rfl) (z_cl 47 1000000000),
   zz_of (ok_goto G dX9_setOf_47 rfl) (z_goto _),
   zz_of (ok_lconst G (v := 0) dX9_setOf_50 (by decide) rfl) (z_cl 51 0),
   zz_of (ok_lret G dX9_setOf_51) (z_lret),
   zz_of (ok_lconst G (v := 0) dX9_setOf_52 (by decide) rfl) (z_cl 53 0),
   zz_of (ok_lstore G dX9_setOf_53 rfl (by decide)) (z_lst _ _),
   zz_of (ok_iconst G (v := 0) dX9_setOf_55 (by decide) rfl) (z_cn 56 0),
   zz_of (ok_istore G dX9_setOf_56 rfl (by decide)) (z_ist _ _),
   zz_of (ok_iload G dX9_setOf_58 rfl) (z_ild _ _),
   zz_of (ok_iconst G (v := 2) dX9_setOf_60 (by decide) rfl) (z_cn 61 2),
   zz_of (ok_cge G dX9_setOf_61 rfl rfl) (z_cge _ _ _ _),
   zz_of (ok_iconst G (v := 0) dX9_setOf_64 (by decide) rfl) (z_cn 65 0),
   zz_of (ok_istore G dX9_setOf_65 rfl (by decide)) (z_ist _ _),
   zz_of (ok_iload G dX9_setOf_67 rfl) (z_ild _ _),
   zz_of (ok_iconst G (v := 2) dX9_setOf_69 (by decide) rfl) (z_cn 70 2),
   zz_of (ok_cge G dX9_setOf_70 rfl rfl) (z_cge _ _ _ _),
   zz_of (ok_lload G dX9_setOf_73 rfl) (z_lld _ _),
   zz_of (ok_aload_n G dX9_setOf_75 rfl rfl) (z_ald _ _),
   zz_of (ok_get G (nx := 79) (ci := 8) (kd := 2) (k := 24) (RX9, TX9, 32) rfl (by decide) rfl q1829 dX9_setOf_76 rfl) (z_get _ _ _ _),
   zz_of (ok_iconst G (v := 4) dX9_setOf_79 (by decide) rfl) (z_cn 80 4),
   zz_of (ok_iload G dX9_setOf_80 rfl) (z_ild _ _),
   zz_of (ok_imul G dX9_setOf_82 rfl) (z_imul _),
   zz_of (ok_iconst G (v := 2) dX9_setOf_83 (by decide) rfl) (z_cn 84 2),
   zz_of (ok_iload G dX9_setOf_84 rfl) (z_ild _ _),
   zz_of (ok_imul G dX9_setOf_86 rfl) (z_imul _),
   zz_of (ok_iadd G dX9_setOf_87 rfl) (z_iadd _),
   zz_of (ok_iload G dX9_setOf_88 rfl) (z_ild _ _),
   zz_of (ok_iadd G dX9_setOf_90 rfl) (z_iadd _),
   zz_of (ok_lald G dX9_setOf_91 rfl) (z_lald _),
   zz_of (ok_aload_n G dX9_setOf_92 rfl rfl) (z_ald _ _),
   zz_of (ok_iload_n G dX9_setOf_93 rfl rfl) (z_ild _ _),
   zz_of (ok_iload G dX9_setOf_94 rfl) (z_ild _ _),
   zz_of (ok_ifne G dX9_setOf_96 rfl rfl) (z_ifne _ _ _),
   zz_of (ok_iload_n G dX9_setOf_99 rfl rfl) (z_ild _ _),
   zz_of (ok_iconst G (v := 1) dX9_setOf_100 (by decide) rfl) (z_cn 101 1),
   zz_of (ok_iadd G dX9_setOf_101 rfl) (z_iadd _),
   zz_of (ok_goto G dX9_setOf_102 rfl) (z_goto _),
   zz_of (ok_iload_n G dX9_setOf_105 rfl rfl) (z_ild _ _),
   zz_of (ok_iload G dX9_setOf_106 rfl) (z_ild _ _),
   zz_of (ok_iconst G (v := 1) dX9_setOf_108 (by decide) rfl) (z_cn 109 1),
   zz_of (ok_cne G dX9_setOf_109 rfl rfl) (z_cne _ _ _ _),
   zz_of (ok_iload_n G dX9_setOf_112 rfl rfl) (z_ild _ _),
   zz_of (ok_iconst G (v := 1) dX9_setOf_113 (by decide) rfl) (z_cn 114 1),
   zz_of (ok_iadd G dX9_setOf_114 rfl) (z_iadd _),
   zz_of (ok_goto G dX9_setOf_115 rfl) (z_goto _),
   zz_of (ok_iload_n G dX9_setOf_118 rfl rfl) (z_ild _ _),
   zz_of (ok_iload G dX9_setOf_119 rfl) (z_ild _ _),
   zz_of (ok_callv G hnh (zmX9_setOf_2 _ G.hst) rfl rfl (RX9, TX9, 32) rfl q2165 q2167 qs75 q93 q2168 (by decide +kernel) ⟨by decide, by decide⟩ dX9_setOf_121 rfl) (z_callv _ _ _ _),
   zz_of (ok_lmul G dX9_setOf_124 rfl) (z_lmul _),
   zz_of (ok_ldc2 G (v := 1000000000) q2137 dX9_setOf_125 rfl) (z_cl 128 1000000000),
   zz_of (ok_ldiv G dX9_setOf_128 rfl) (z_ldiv _),
   zz_of (ok_ladd G dX9_setOf_129 rfl) (z_ladd _),
   zz_of (ok_lstore G dX9_setOf_130 rfl (by decide)) (z_lst _ _),
   zz_of (ok_iinc G (v := 1) dX9_setOf_132 (by decide) rfl (by decide)) (z_incn 135 8 1),
   zz_of (ok_goto G dX9_setOf_135 rfl) (z_goto _),
   zz_of (ok_iinc G (v := 1) dX9_setOf_138 (by decide) rfl (by decide)) (z_incn 141 7 1),
   zz_of (ok_goto G dX9_setOf_141 rfl) (z_goto _),
   zz_of (ok_lload G dX9_setOf_144 rfl) (z_lld _ _),
   zz_of (ok_lret G dX9_setOf_146) (z_lret), trivial⟩

theorem zwX9_setOf_3_0 {Q : Option zv → zz_M → Prop} {X : Nat → zz_M → Prop} {S L : Nat → Nat → Int} {p : Int} {a : Int} {b : Int} {s : Int} (h : R32 a ∧ (R32 (S 1 194) ∧ (((S 1 194) ≤ a → zz_J zpX9_setOf_3 (zz_ret Q X 0 0) 24 [some (vr 0), some (vi p), some (vi a), some (vi b), none, none, none, none, none] [] (zm S L) (0, 0)) ∧ (¬ (S 1 194) ≤ a → R32 b ∧ (R32 (S 1 194) ∧ ((b < (S 1 194) → zz_J zpX9_setOf_3 (zz_ret Q X 0 0) 52 [some (vr 0), some (vi p), some (vi a), some (vi b), some (vi s), none, none, none, none] [] (zm S L) (0, 0)) ∧ (¬ b < (S 1 194) → zz_J zpX9_setOf_3 (zz_ret Q X 0 0) 24 [some (vr 0), some (vi p), some (vi a), some (vi b), none, none, none, none, none] [] (zm S L) (0, 0)))))))) : zz_J zpX9_setOf_3 (zz_ret Q X 0 0) 0 [some (vr 0), some (vi p), some (vi a), some (vi b), some (vi s), none, none, none, none] [] (zm S L) (0, 0) := zz_J.go [(24, [4, 5, 6, 7, 8]), (33, [1, 2, 3, 4, 5, 6, 7, 8]), (52, [5, 6, 7, 8]), (58, [6, 8]), (67, [6])] 400 h
theorem zwX9_setOf_3_24 {Q : Option zv → zz_M → Prop} {X : Nat → zz_M → Prop} {S L : Nat → Nat → Int} {x1 : Int} {x2 : Int} {x3 : Int} (h : R32 x1 ∧ ((¬ x1 = 0 → zz_J zpX9_setOf_3 (zz_ret Q X 0 0) 33 [some (vr 0), none, none, none, none, none, none, none, none] [vi x3] (zm S L) (0, 0)) ∧ (x1 = 0 → zz_J zpX9_setOf_3 (zz_ret Q X 0 0) 33 [some (vr 0), none, none, none, none, none, none, none, none] [vi x2] (zm S L) (0, 0)))) : zz_J zpX9_setOf_3 (zz_ret Q X 0 0) 24 [some (vr 0), some (vi x1), some (vi x2), some (vi x3), none, none, none, none, none] [] (zm S L) (0, 0) := zz_J.go [(24, [4, 5, 6, 7, 8]), (33, [1, 2, 3, 4, 5, 6, 7, 8]), (52, [5, 6, 7, 8]), (58, [6, 8]), (67, [6])] 400 h
theorem zwX9_setOf_3_33 {Q : Option zv → zz_M → Prop} {X : Nat → zz_M → Prop} {S L : Nat → Nat → Int} {t0 : Int} (h : R32 t0 ∧ (R32 (S 1 194) ∧ ((t0 < (S 1 194) → Q (some (vl 0)) (zm S L)) ∧ (¬ t0 < (S 1 194) → Q (some (vl 1000000000)) (zm S L))))) : zz_J zpX9_setOf_3 (zz_ret Q X 0 0) 33 [some (vr 0), none, none, none, none, none, none, none, none] [vi t0] (zm S L) (0, 0) := zz_J.go [(24, [4, 5, 6, 7, 8]), (33, [1, 2, 3, 4, 5, 6, 7, 8]), (52, [5, 6, 7, 8]), (58, [6, 8]), (67, [6])] 400 h
theorem zwX9_setOf_3_52 {Q : Option zv → zz_M → Prop} {X : Nat → zz_M → Prop} {S L : Nat → Nat → Int} {x1 : Int} {x2 : Int} {x3 : Int} {x4 : Int} (h : zz_J zpX9_setOf_3 (zz_ret Q X 0 0) 58 [some (vr 0), some (vi x1), some (vi x2), some (vi x3), some (vi x4), some (vl 0), none, some (vi 0), none] [] (zm S L) (0, 0)) : zz_J zpX9_setOf_3 (zz_ret Q X 0 0) 52 [some (vr 0), some (vi x1), some (vi x2), some (vi x3), some (vi x4), none, none, none, none] [] (zm S L) (0, 0) := zz_J.go [(24, [4, 5, 6, 7, 8]), (33, [1, 2, 3, 4, 5, 6, 7, 8]), (52, [5, 6, 7, 8]), (58, [6, 8]), (67, [6])] 400 h
theorem zwX9_setOf_3_58 {Q : Option zv → zz_M → Prop} {X : Nat → zz_M → Prop} {S L : Nat → Nat → Int} {x1 : Int} {x2 : Int} {x3 : Int} {x4 : Int} {x5 : Int} {x7 : Int} (h : R32 x7 ∧ ((2 ≤ x7 → Q (some (vl x5)) (zm S L)) ∧ (¬ 2 ≤ x7 → zz_J zpX9_setOf_3 (zz_ret Q X 0 0) 67 [some (vr 0), some (vi x1), some (vi x2), some (vi x3), some (vi x4), some (vl x5), none, some (vi x7), some (vi 0)] [] (zm S L) (0, 0)))) : zz_J zpX9_setOf_3 (zz_ret Q X 0 0) 58 [some (vr 0), some (vi x1), some (vi x2), some (vi x3), some (vi x4), some (vl x5), none, some (vi x7), none] [] (zm S L) (0, 0) := zz_J.go [(24, [4, 5, 6, 7, 8]), (33, [1, 2, 3, 4, 5, 6, 7, 8]), (52, [5, 6, 7, 8]), (58, [6, 8]), (67, [6])] 400 h
theorem zwX9_setOf_3_67 {Q : Option zv → zz_M → Prop} {X : Nat → zz_M → Prop} {S L : Nat → Nat → Int} {x1 : Int} {x2 : Int} {x3 : Int} {x4 : Int} {x5 : Int} {x7 : Int} {x8 : Int} (h : R32 x8 ∧ ((2 ≤ x8 → zz_J zpX9_setOf_3 (zz_ret Q X 0 0) 58 [some (vr 0), some (vi x1), some (vi x2), some (vi x3), some (vi x4), some (vl x5), none, some (vi (x7 + 1)), none] [] (zm S L) (0, 0)) ∧ (¬ 2 ≤ x8 → (0 ≤ (((4 * x4) + (2 * x7)) + x8) ∧ (((4 * x4) + (2 * x7)) + x8) < 8) ∧ (R32 x7 ∧ ((¬ x7 = 0 → R32 x7 ∧ ((¬ x7 = 1 → ((x1 = 0 ∨ x1 = 1) ∧ (x8 = 0 ∨ x8 = 1) ∧ (0 ≤ x2 ∧ x2 ≤ 6) ∧ (0 ≤ x3 ∧ x3 ≤ 6) ∧ (1 ≤ S 1 194 ∧ S 1 194 ≤ 6) ∧ (x2 ≤ S 1 194 ∧ x3 ≤ S 1 194) ∧ S 1 194 - x2 + (S 1 194 - x3) ≤ 2 ∧ wyG (L 12) ∧ ((0 ≤ ((L 12 ((((4 * x4) + (2 * x7)) + x8).toNat)) * (stO (L 12) (S 1 194) x1 2 x2 x3 x8.toNat)) ∧ ((L 12 ((((4 * x4) + (2 * x7)) + x8).toNat)) * (stO (L 12) (S 1 194) x1 2 x2 x3 x8.toNat)) < 9223372036854775808) ∧ (zz_J zpX9_setOf_3 (zz_ret Q X 0 0) 67 [some (vr 0), some (vi x1), some (vi x2), some (vi x3), some (vi x4), some (vl (x5 + (((L 12 ((((4 * x4) + (2 * x7)) + x8).toNat)) * (stO (L 12) (S 1 194) x1 2 x2 x3 x8.toNat)) / 1000000000))), none, some (vi x7), some (vi (x8 + 1))] [] (zm S L) (0, 0))))) ∧ (x7 = 1 → ((x1 = 0 ∨ x1 = 1) ∧ (x8 = 0 ∨ x8 = 1) ∧ (0 ≤ x2 ∧ x2 ≤ 6) ∧ (0 ≤ (x3 + 1) ∧ (x3 + 1) ≤ 6) ∧ (1 ≤ S 1 194 ∧ S 1 194 ≤ 6) ∧ (x2 ≤ S 1 194 ∧ (x3 + 1) ≤ S 1 194) ∧ S 1 194 - x2 + (S 1 194 - (x3 + 1)) ≤ 2 ∧ wyG (L 12) ∧ ((0 ≤ ((L 12 ((((4 * x4) + (2 * x7)) + x8).toNat)) * (stO (L 12) (S 1 194) x1 2 x2 (x3 + 1) x8.toNat)) ∧ ((L 12 ((((4 * x4) + (2 * x7)) + x8).toNat)) * (stO (L 12) (S 1 194) x1 2 x2 (x3 + 1) x8.toNat)) < 9223372036854775808) ∧ (zz_J zpX9_setOf_3 (zz_ret Q X 0 0) 67 [some (vr 0), some (vi x1), some (vi x2), some (vi x3), some (vi x4), some (vl (x5 + (((L 12 ((((4 * x4) + (2 * x7)) + x8).toNat)) * (stO (L 12) (S 1 194) x1 2 x2 (x3 + 1) x8.toNat)) / 1000000000))), none, some (vi x7), some (vi (x8 + 1))] [] (zm S L) (0, 0))))))) ∧ (x7 = 0 → R32 x7 ∧ ((¬ x7 = 1 → ((x1 = 0 ∨ x1 = 1) ∧ (x8 = 0 ∨ x8 = 1) ∧ (0 ≤ (x2 + 1) ∧ (x2 + 1) ≤ 6) ∧ (0 ≤ x3 ∧ x3 ≤ 6) ∧ (1 ≤ S 1 194 ∧ S 1 194 ≤ 6) ∧ ((x2 + 1) ≤ S 1 194 ∧ x3 ≤ S 1 194) ∧ S 1 194 - (x2 + 1) + (S 1 194 - x3) ≤ 2 ∧ wyG (L 12) ∧ ((0 ≤ ((L 12 ((((4 * x4) + (2 * x7)) + x8).toNat)) * (stO (L 12) (S 1 194) x1 2 (x2 + 1) x3 x8.toNat)) ∧ ((L 12 ((((4 * x4) + (2 * x7)) + x8).toNat)) * (stO (L 12) (S 1 194) x1 2 (x2 + 1) x3 x8.toNat)) < 9223372036854775808) ∧ (zz_J zpX9_setOf_3 (zz_ret Q X 0 0) 67 [some (vr 0), some (vi x1), some (vi x2), some (vi x3), some (vi x4), some (vl (x5 + (((L 12 ((((4 * x4) + (2 * x7)) + x8).toNat)) * (stO (L 12) (S 1 194) x1 2 (x2 + 1) x3 x8.toNat)) / 1000000000))), none, some (vi x7), some (vi (x8 + 1))] [] (zm S L) (0, 0))))) ∧ (x7 = 1 → ((x1 = 0 ∨ x1 = 1) ∧ (x8 = 0 ∨ x8 = 1) ∧ (0 ≤ (x2 + 1) ∧ (x2 + 1) ≤ 6) ∧ (0 ≤ (x3 + 1) ∧ (x3 + 1) ≤ 6) ∧ (1 ≤ S 1 194 ∧ S 1 194 ≤ 6) ∧ ((x2 + 1) ≤ S 1 194 ∧ (x3 + 1) ≤ S 1 194) ∧ S 1 194 - (x2 + 1) + (S 1 194 - (x3 + 1)) ≤ 2 ∧ wyG (L 12) ∧ ((0 ≤ ((L 12 ((((4 * x4) + (2 * x7)) + x8).toNat)) * (stO (L 12) (S 1 194) x1 2 (x2 + 1) (x3 + 1) x8.toNat)) ∧ ((L 12 ((((4 * x4) + (2 * x7)) + x8).toNat)) * (stO (L 12) (S 1 194) x1 2 (x2 + 1) (x3 + 1) x8.toNat)) < 9223372036854775808) ∧ (zz_J zpX9_setOf_3 (zz_ret Q X 0 0) 67 [some (vr 0), some (vi x1), some (vi x2), some (vi x3), some (vi x4), some (vl (x5 + (((L 12 ((((4 * x4) + (2 * x7)) + x8).toNat)) * (stO (L 12) (S 1 194) x1 2 (x2 + 1) (x3 + 1) x8.toNat)) / 1000000000))), none, some (vi x7), some (vi (x8 + 1))] [] (zm S L) (0, 0)))))))))))) : zz_J zpX9_setOf_3 (zz_ret Q X 0 0) 67 [some (vr 0), some (vi x1), some (vi x2), some (vi x3), some (vi x4), some (vl x5), none, some (vi x7), some (vi x8)] [] (zm S L) (0, 0) := zz_J.go [(24, [4, 5, 6, 7, 8]), (33, [1, 2, 3, 4, 5, 6, 7, 8]), (52, [5, 6, 7, 8]), (58, [6, 8]), (67, [6])] 400 h

theorem zmX9_setOf_3 (l : Launch) (hl : l.stackTraces = false) : mm_Spec l yX9_setOf (ws_ yX9_setOf cX9_setOf 9 (some .long)) (mm_rm 4 0 0) (zE zX9_setOf_3) := by
  refine zz_Met.J hl (by decide) (fun C G hnh => ztX9_setOf_3 G hnh) ?_
  rintro as ⟨⟨t_, f⟩, S, L, P⟩ Q X h
  unfold zX9_setOf_3 at h
  split at h
  rotate_left
  · exact h.elim
  rename_i h_ p a b s
  obtain ⟨e1_, e2_, h⟩ := mm_and2 h (fun q => q)
  cases mm_beq e1_
  cases mm_beq e2_
  try dsimp only at h
  refine ⟨rfl, ?_⟩
  refine zz_Jev (M' := zm S L) rfl rfl rfl ?_
  obtain ⟨hp, hs, ha, hb, hG, hab, hr, hwy, hq⟩ := h
  have t24 : (S 1 194 ≤ a ∨ S 1 194 ≤ b) → zz_J zpX9_setOf_3 (zz_ret Q X 0 0) 24 [some (vr 0), some (vi p), some (vi a), some (vi b), none, none, none, none, none] [] (zm S L) (0, 0) := by
    intro h
    rw [stO_o h] at hq
    refine zwX9_setOf_3_24 ⟨by omega, fun c => ?_, fun c => ?_⟩
    · rw [if_neg c] at hq
      refine zwX9_setOf_3_33 ⟨by omega, by omega, fun d => ?_, fun d => ?_⟩
      · rw [if_neg (by omega)] at hq; exact hq
      · rw [if_pos (by omega)] at hq; exact hq
    · rw [if_pos c] at hq
      refine zwX9_setOf_3_33 ⟨by omega, by omega, fun d => ?_, fun d => ?_⟩
      · rw [if_neg (by omega)] at hq; exact hq
      · rw [if_pos (by omega)] at hq; exact hq
  obtain ⟨u, hu, rfl⟩ : ∃ u : Nat, u < 2 ∧ s = u := ⟨s.toNat, by omega, by omega⟩
  rw [Int.toNat_natCast] at hq
  have t52 : ¬ (S 1 194 ≤ a ∨ S 1 194 ≤ b) → zz_J zpX9_setOf_3 (zz_ret Q X 0 0) 52 [some (vr 0), some (vi p), some (vi a), some (vi b), some (vi u), none, none, none, none] [] (zm S L) (0, 0) := by
    intro h
    rw [show stO (L 12) (S 1 194) p 3 a b u = _ from stO_s h 2] at hq
    have i0 := stO_in (G := S 1 194) (p := p) hwy 2 (a + 1) b 0 (by decide)
    have i1 := stO_in (G := S 1 194) (p := p) hwy 2 (a + 1) b 1 (by decide)
    have i2 := stO_in (G := S 1 194) (p := p) hwy 2 a (b + 1) 0 (by decide)
    have i3 := stO_in (G := S 1 194) (p := p) hwy 2 a (b + 1) 1 (by decide)
    have w0 := hwy.1 (4 * u) (by omega)
    have w1 := hwy.1 (4 * u + 1) (by omega)
    have w2 := hwy.1 (4 * u + 2) (by omega)
    have w3 := hwy.1 (4 * u + 3) (by omega)
    have m0 := mul_sure w0.1 i0.1 i0.2
    have m1 := mul_sure w1.1 i1.1 i1.2
    have m2 := mul_sure w2.1 i2.1 i2.2
    have m3 := mul_sure w3.1 i3.1 i3.2
    have e0 : ((4 : Int) * u + 2 * 0 + 0).toNat = 4 * u := by omega
    have e1 : ((4 : Int) * u + 2 * 0 + 1).toNat = 4 * u + 1 := by omega
    have e2 : ((4 : Int) * u + 2 * 1 + 0).toNat = 4 * u + 2 := by omega
    have e3 : ((4 : Int) * u + 2 * 1 + 1).toNat = 4 * u + 3 := by omega
    refine zwX9_setOf_3_52 (zwX9_setOf_3_58 ⟨by decide, fun c => absurd c (by decide), fun _ => ?_⟩)
    refine zwX9_setOf_3_67 ⟨by decide, fun c => absurd c (by decide), fun _ => ⟨by omega, by decide, fun c => absurd rfl c, fun _ => ⟨by decide, fun _ => ?_, fun c => absurd c (by decide)⟩⟩⟩
    refine ⟨hp, Or.inl rfl, by omega, hb, hG, by omega, by omega, hwy, ?_⟩
    rw [e0]
    refine ⟨by show 0 ≤ L 12 (4 * u) * stO (L 12) (S 1 194) p 2 (a + 1) b 0 ∧ L 12 (4 * u) * stO (L 12) (S 1 194) p 2 (a + 1) b 0 < 9223372036854775808; omega, ?_⟩
    refine zwX9_setOf_3_67 ⟨by decide, fun c => absurd c (by decide), fun _ => ⟨by omega, by decide, fun c => absurd rfl c, fun _ => ⟨by decide, fun _ => ?_, fun c => absurd c (by decide)⟩⟩⟩
    refine ⟨hp, Or.inr rfl, by omega, hb, hG, by omega, by omega, hwy, ?_⟩
    rw [show ((4 : Int) * u + 2 * 0 + (0 + 1)).toNat = 4 * u + 1 by omega]
    refine ⟨by show 0 ≤ L 12 (4 * u + 1) * stO (L 12) (S 1 194) p 2 (a + 1) b 1 ∧ L 12 (4 * u + 1) * stO (L 12) (S 1 194) p 2 (a + 1) b 1 < 9223372036854775808; omega, ?_⟩
    refine zwX9_setOf_3_67 ⟨by decide, fun _ => ?_, fun c => absurd c (by decide)⟩
    refine zwX9_setOf_3_58 ⟨by decide, fun c => absurd c (by decide), fun _ => ?_⟩
    refine zwX9_setOf_3_67 ⟨by decide, fun c => absurd c (by decide), fun _ => ⟨by omega, by decide, fun _ => ⟨by decide, fun c => absurd rfl c, fun _ => ?_⟩, fun c => absurd c (by decide)⟩⟩
    refine ⟨hp, Or.inl rfl, ha, by omega, hG, by omega, by omega, hwy, ?_⟩
    rw [show ((4 : Int) * u + 2 * (0 + 1) + 0).toNat = 4 * u + 2 by omega]
    refine ⟨by show 0 ≤ L 12 (4 * u + 2) * stO (L 12) (S 1 194) p 2 a (b + 1) 0 ∧ L 12 (4 * u + 2) * stO (L 12) (S 1 194) p 2 a (b + 1) 0 < 9223372036854775808; omega, ?_⟩
    refine zwX9_setOf_3_67 ⟨by decide, fun c => absurd c (by decide), fun _ => ⟨by omega, by decide, fun _ => ⟨by decide, fun c => absurd rfl c, fun _ => ?_⟩, fun c => absurd c (by decide)⟩⟩
    refine ⟨hp, Or.inr rfl, ha, by omega, hG, by omega, by omega, hwy, ?_⟩
    rw [show ((4 : Int) * u + 2 * (0 + 1) + (0 + 1)).toNat = 4 * u + 3 by omega]
    refine ⟨by show 0 ≤ L 12 (4 * u + 3) * stO (L 12) (S 1 194) p 2 a (b + 1) 1 ∧ L 12 (4 * u + 3) * stO (L 12) (S 1 194) p 2 a (b + 1) 1 < 9223372036854775808; omega, ?_⟩
    refine zwX9_setOf_3_67 ⟨by decide, fun _ => ?_, fun c => absurd c (by decide)⟩
    refine zwX9_setOf_3_58 ⟨by decide, fun _ => ?_, fun c => absurd c (by decide)⟩
    have ez : ∀ x y z w : Int, 0 + x + y + z + w = x + y + z + w := fun x y z w => by omega
    rw [ez]
    exact hq
  refine zwX9_setOf_3_0 ⟨by omega, by omega, fun c => t24 (Or.inl c), fun c => ⟨by omega, by omega, fun d => t52 (by omega), fun d => t24 (Or.inr (by omega))⟩⟩
def zX9_setOf_4 : zz_Sp := fun as M Q X => match as with
  | [.inr (.inr (some h_)), .inl p, .inl a, .inl b, .inl s] => bif Nat.beq h_ 0 && Nat.beq M.1.1 1 then ((p = 0 ∨ p = 1) ∧ (s = 0 ∨ s = 1) ∧ (0 ≤ a ∧ a ≤ 6) ∧ (0 ≤ b ∧ b ≤ 6) ∧ (1 ≤ M.2.1 1 194 ∧ M.2.1 1 194 ≤ 6) ∧ (a ≤ M.2.1 1 194 ∧ b ≤ M.2.1 1 194) ∧ M.2.1 1 194 - a + (M.2.1 1 194 - b) ≤ 4 ∧ wyG (M.2.2.1 12) ∧ Q (some (vl (stO (M.2.2.1 12) (M.2.1 1 194) p 4 a b s.toNat))) (zm M.2.1 M.2.2.1)) else False
  | _ => False

def zpX9_setOf_4 : zz_P := [(0, zo_ild 1 2), (1, zo_ald 2 0), (2, zo_get 5 8 2 1), (5, zo_c 8 (vi 194)), (8, zo_ialc 9 194), (9, zo_cge false false 12 24), (12, zo_ild 13 3), (13, zo_ald 14 0), (14, zo_get 17 8 2 1), (17, zo_c 20 (vi 194)), (20, zo_ialc 21 194), (21, zo_clt false false 24 52), (24, zo_ild 25 1), (25, zo_ifne false 28 32), (28, zo_ild 29 2), (29, zo_goto 33), (32, zo_ild 33 3), (33, zo_ald 34 0), (34, zo_get 37 8 2 1), (37, zo_c 40 (vi 194)), (40, zo_ialc 41 194), (41, zo_clt false false 44 50), (44, zo_c 47 (vl 1000000000)), (47, zo_goto 51), (50, zo_c 51 (vl 0)), (51, zo_lret), (52, zo_c 53 (vl 0)), (53, zo_lst 55 5), (55, zo_c 56 (vi 0)), (56, zo_ist 58 7), (58, zo_ild 60 7), (60, zo_c 61 (vi 2)), (61, zo_cge false true 64 144), (64, zo_c 65 (vi 0)), (65, zo_ist 67 8), (67, zo_ild 69 8), (69, zo_c 70 (vi 2)), (70, zo_cge false true 73 138), (73, zo_lld 75 5), (75, zo_ald 76 0), (76, zo_get 79 8 2 24), (79, zo_c 80 (vi 4)), (80, zo_ild 82 4), (82, zo_imul 83), (83, zo_c 84 (vi 2)), (84, zo_ild 86 7), (86, zo_imul 87), (87, zo_iadd 88), (88, zo_ild 90 8), (90, zo_iadd 91), (91, zo_lald 92), (92, zo_ald 93 0), (93, zo_ild 94 1), (94, zo_ild 96 7), (96, zo_ifne false 99 105), (99, zo_ild 100 2), (100, zo_c 101 (vi 1)), (101, zo_iadd 102), (102, zo_goto 106), (105, zo_ild 106 2), (106, zo_ild 108 7), (108, zo_c 109 (vi 1)), (109, zo_cne false true 112 118), (112, zo_ild 113 3), (113, zo_c 114 (vi 1)), (114, zo_iadd 115), (115, zo_goto 119), (118, zo_ild 119 3), (119, zo_ild 121 8), (121, zo_callv 124 5 8 zX9_setOf_3), (124, zo_lmul 125), (125, zo_c 128 (vl 1000000000)), (128, zo_ldiv 129), (129, zo_ladd 130), (130, zo_lst 132 5), (132, zo_inc 135 8 1), (135, zo_goto 67), (138, zo_inc 141 7 1), (141, zo_goto 58), (144, zo_lld 146 5), (146, zo_lret)]
theorem ztX9_setOf_4 {C : mm_C} (G : mm_G C RX9 cX9_setOf (some .long) 9 (mm_rm 5 0 0)) (hnh : mm_nh C) : zz_OKs C zpX9_setOf_4 :=
  ⟨zz_of (ok_iload_n G dX9_setOf_0 rfl rfl) (z_ild _ _),
   zz_of (ok_aload_n G dX9_setOf_1 rfl rfl) (z_ald _ _),
   zz_of (ok_get G (nx := 5) (ci := 8) (kd := 2) (k := 1) (RX9, TX9, 32) rfl (by decide) rfl q1806 dX9_setOf_2 rfl) (z_get _ _ _ _),
   zz_of (ok_sipush G (v := 194) dX9_setOf_5 (by decide) rfl) (z_cn 8 194),
   zz_of (ok_iald G dX9_setOf_8 rfl) (z_ialc _ _),
   zz_of (ok_cge G dX9_setOf_9 rfl rfl) (z_cge _ _ _ _),
   zz_of (ok_iload_n G dX9_setOf_12 rfl rfl) (z_ild _ _),
   zz_of (ok_aload_n G dX9_setOf_13 rfl rfl) (z_ald _ _),
   zz_of (ok_get G (nx := 17) (ci := 8) (kd := 2) (k := 1) (RX9, TX9, 32) rfl (by decide) rfl q1806 dX9_setOf_14 rfl) (z_get _ _ _ _),
   zz_of (ok_sipush G (v := 194) dX9_setOf_17 (by decide) rfl) (z_cn 20 194),
   zz_of (ok_iald G dX9_setOf_20 rfl) (z_ialc _ _),
   zz_of (ok_clt G dX9_setOf_21 rfl rfl) (z_clt _ _ _ _),
   zz_of (ok_iload_n G dX9_setOf_24 rfl rfl) (z_ild _ _),
   zz_of (ok_ifne G dX9_setOf_25 rfl rfl) (z_ifne _ _ _),
   zz_of (ok_iload_n G dX9_setOf_28 rfl rfl) (z_ild _ _),
   zz_of (ok_goto G dX9_setOf_29 rfl) (z_goto _),
   zz_of (ok_iload_n G dX9_setOf_32 rfl rfl) (z_ild _ _),
   zz_of (ok_aload_n G dX9_setOf_33 rfl rfl) (z_ald _ _),
   zz_of (ok_get G (nx := 37) (ci := 8) (kd := 2) (k := 1) (RX9, TX9, 32) rfl (by decide) rfl q1806 dX9_setOf_34 rfl) (z_get _ _ _ _),
   zz_of (ok_sipush G (v := 194) dX9_setOf_37 (by decide) rfl) (z_cn 40 194),
   zz_of (ok_iald G dX9_setOf_40 rfl) (z_ialc _ _),
   zz_of (ok_clt G dX9_setOf_41 rfl rfl) (z_clt _ _ _ _),
   zz_of (ok_ldc2 G (v := 1000000000) q2137 dX9_setOf_44 rfl) (z_cl 47 1000000000),
   zz_of (ok_goto G dX9_setOf_47 rfl) (z_goto _),
   zz_of (ok_lconst G (v := 0) dX9_setOf_50 (by decide) rfl) (z_cl 51 0),
   zz_of (ok_lret G dX9_setOf_51) (z_lret),
   zz_of (ok_lconst G (v := 0) dX9_setOf_52 (by decide) rfl) (z_cl 53 0),
   zz_of (ok_lstore G dX9_setOf_53 rfl (by decide)) (z_lst _ _),
   zz_of (ok_iconst G (v := 0) dX9_setOf_55 (by decide) rfl) (z_cn 56 0),
   zz_of (ok_istore G dX9_setOf_56 rfl (by decide)) (z_ist _ _),
   zz_of (ok_iload G dX9_setOf_58 rfl) (z_ild _ _),
   zz_of (ok_iconst G (v := 2) dX9_setOf_60 (by decide) rfl) (z_cn 61 2),
   zz_of (ok_cge G dX9_setOf_61 rfl rfl) (z_cge _ _ _ _),
   zz_of (ok_iconst G (v := 0) dX9_setOf_64 (by decide) rfl) (z_cn 65 0),
   zz_of (ok_istore G dX9_setOf_65 rfl (by decide)) (z_ist _ _),
   zz_of (ok_iload G dX9_setOf_67 rfl) (z_ild _ _),
   zz_of (ok_iconst G (v := 2) dX9_setOf_69 (by decide) rfl) (z_cn 70 2),
   zz_of (ok_cge G dX9_setOf_70 rfl rfl) (z_cge _ _ _ _),
   zz_of (ok_lload G dX9_setOf_73 rfl) (z_lld _ _),
   zz_of (ok_aload_n G dX9_setOf_75 rfl rfl) (z_ald _ _),
   zz_of (ok_get G (nx := 79) (ci := 8) (kd := 2) (k := 24) (RX9, TX9, 32) rfl (by decide) rfl q1829 dX9_setOf_76 rfl) (z_get _ _ _ _),
   zz_of (ok_iconst G (v := 4) dX9_setOf_79 (by decide) rfl) (z_cn 80 4),
   zz_of (ok_iload G dX9_setOf_80 rfl) (z_ild _ _),
   zz_of (ok_imul G dX9_setOf_82 rfl) (z_imul _),
   zz_of (ok_iconst G (v := 2) dX9_setOf_83 (by decide) rfl) (z_cn 84 2),
   zz_of (ok_iload G dX9_setOf_84 rfl) (z_ild _ _),
   zz_of (ok_imul G dX9_setOf_86 rfl) (z_imul _),
   zz_of (ok_iadd G dX9_setOf_87 rfl) (z_iadd _),
   zz_of (ok_iload G dX9_setOf_88 rfl) (z_ild _ _),
   zz_of (ok_iadd G dX9_setOf_90 rfl) (z_iadd _),
   zz_of (ok_lald G dX9_setOf_91 rfl) (z_lald _),
   zz_of (ok_aload_n G dX9_setOf_92 rfl rfl) (z_ald _ _),
   zz_of (ok_iload_n G dX9_setOf_93 rfl rfl) (z_ild _ _),
   zz_of (ok_iload G dX9_setOf_94 rfl) (z_ild _ _),
   zz_of (ok_ifne G dX9_setOf_96 rfl rfl) (z_ifne _ _ _),
   zz_of (ok_iload_n G dX9_setOf_99 rfl rfl) (z_ild _ _),
   zz_of (ok_iconst G (v := 1) dX9_setOf_100 (by decide) rfl) (z_cn 101 1),
   zz_of (ok_iadd G dX9_setOf_101 rfl) (z_iadd _),
   zz_of (ok_goto G dX9_setOf_102 rfl) (z_goto _),
   zz_of (ok_iload_n G dX9_setOf_105 rfl rfl) (z_ild _ _),
   zz_of (ok_iload G dX9_setOf_106 rfl) (z_ild _ _),
   zz_of (ok_iconst G (v := 1) dX9_setOf_108 (by decide) rfl) (z_cn 109 1),
   zz_of (ok_cne G dX9_setOf_109 rfl rfl) (z_cne _ _ _ _),
   zz_of (ok_iload_n G dX9_setOf_112 rfl rfl) (z_ild _ _),
   zz_of (ok_iconst G (v := 1) dX9_setOf_113 (by decide) rfl) (z_cn 114 1),
   zz_of (ok_iadd G dX9_setOf_114 rfl) (z_iadd _),
   zz_of (ok_goto G dX9_setOf_115 rfl) (z_goto _),
   zz_of (ok_iload_n G dX9_setOf_118 rfl rfl) (z_ild _ _),
   zz_of (ok_iload G dX9_setOf_119 rfl) (z_ild _ _),
   zz_of (ok_callv G hnh (zmX9_setOf_3 _ G.hst) rfl rfl (RX9, TX9, 32) rfl q2165 q2167 qs75 q93 q2168 (by decide +kernel) ⟨by decide, by decide⟩ dX9_setOf_121 rfl) (z_callv _ _ _ _),
   zz_of (ok_lmul G dX9_setOf_124 rfl) (z_lmul _),
   zz_of (ok_ldc2 G (v := 1000000000) q2137 dX9_setOf_125 rfl) (z_cl 128 1000000000),
   zz_of (ok_ldiv G dX9_setOf_128 rfl) (z_ldiv _),
   zz_of (ok_ladd G dX9_setOf_129 rfl) (z_ladd _),
   zz_of (ok_lstore G dX9_setOf_130 rfl (by decide)) (z_lst _ _),
   zz_of (ok_iinc G (v := 1) dX9_setOf_132 (by decide) rfl (by decide)) (z_incn 135 8 1),
   zz_of (ok_goto G dX9_setOf_135 rfl) (z_goto _),
   zz_of (ok_iinc G (v := 1) dX9_setOf_138 (by decide) rfl (by decide)) (z_incn 141 7 1),
   zz_of (ok_goto G dX9_setOf_141 rfl) (z_goto _),
   zz_of (ok_lload G dX9_setOf_144 rfl) (z_lld _ _),
   zz_of (ok_lret G dX9_setOf_146) (z_lret), trivial⟩

theorem zwX9_setOf_4_0 {Q : Option zv → zz_M → Prop} {X : Nat → zz_M → Prop} {S L : Nat → Nat → Int} {p : Int} {a : Int} {b : Int} {s : Int} (h : R32 a ∧ (R32 (S 1 194) ∧ (((S 1 194) ≤ a → zz_J zpX9_setOf_4 (zz_ret Q X 0 0) 24 [some (vr 0), some (vi p), some (vi a), some (vi b), none, none, none, none, none] [] (zm S L) (0, 0)) ∧ (¬ (S 1 194) ≤ a → R32 b ∧ (R32 (S 1 194) ∧ ((b < (S 1 194) → zz_J zpX9_setOf_4 (zz_ret Q X 0 0) 52 [some (vr 0), some (vi p), some (vi a), some (vi b), some (vi s), none, none, none, none] [] (zm S L) (0, 0)) ∧ (¬ b < (S 1 194) → zz_J zpX9_setOf_4 (zz_ret Q X 0 0) 24 [some (vr 0), some (vi p), some (vi a), some (vi b), none, none, none, none, none] [] (zm S L) (0, 0)))))))) : zz_J zpX9_setOf_4 (zz_ret Q X 0 0) 0 [some (vr 0), some (vi p), some (vi a), some (vi b), some (vi s), none, none, none, none] [] (zm S L) (0, 0) := zz_J.go [(24, [4, 5, 6, 7, 8]), (33, [1, 2, 3, 4, 5, 6, 7, 8]), (52, [5, 6, 7, 8]), (58, [6, 8]), (67, [6])] 400 h
theorem zwX9_setOf_4_24 {Q : Option zv → zz_M → Prop} {X : Nat → zz_M → Prop} {S L : Nat → Nat → Int} {x1 : Int} {x2 : Int} {x3 : Int} (h : R32 x1 ∧ ((¬ x1 = 0 → zz_J zpX9_setOf_4 (zz_ret Q X 0 0) 33 [some (vr 0), none, none, none, none, none, none, none, none] [vi x3] (zm S L) (0, 0)) ∧ (x1 = 0 → zz_J zpX9_setOf_4 (zz_ret Q X 0 0) 33 [some (vr 0), none, none, none, none, none, none, none, none] [vi x2] (zm S L) (0, 0)))) : zz_J zpX9_setOf_4 (zz_ret Q X 0 0) 24 [some (vr 0), some (vi x1), some (vi x2), some (vi x3), none, none, none, none, none] [] (zm S L) (0, 0) := zz_J.go [(24, [4, 5, 6, 7, 8]), (33, [1, 2, 3, 4, 5, 6, 7, 8]), (52, [5, 6, 7, 8]), (58, [6, 8]), (67, [6])] 400 h
theorem zwX9_setOf_4_33 {Q : Option zv → zz_M → Prop} {X : Nat → zz_M → Prop} {S L : Nat → Nat → Int} {t0 : Int} (h : R32 t0 ∧ (R32 (S 1 194) ∧ ((t0 < (S 1 194) → Q (some (vl 0)) (zm S L)) ∧ (¬ t0 < (S 1 194) → Q (some (vl 1000000000)) (zm S L))))) : zz_J zpX9_setOf_4 (zz_ret Q X 0 0) 33 [some (vr 0), none, none, none, none, none, none, none, none] [vi t0] (zm S L) (0, 0) := zz_J.go [(24, [4, 5, 6, 7, 8]), (33, [1, 2, 3, 4, 5, 6, 7, 8]), (52, [5, 6, 7, 8]), (58, [6, 8]), (67, [6])] 400 h
theorem zwX9_setOf_4_52 {Q : Option zv → zz_M → Prop} {X : Nat → zz_M → Prop} {S L : Nat → Nat → Int} {x1 : Int} {x2 : Int} {x3 : Int} {x4 : Int} (h : zz_J zpX9_setOf_4 (zz_ret Q X 0 0) 58 [some (vr 0), some (vi x1), some (vi x2), some (vi x3), some (vi x4), some (vl 0), none, some (vi 0), none] [] (zm S L) (0, 0)) : zz_J zpX9_setOf_4 (zz_ret Q X 0 0) 52 [some (vr 0), some (vi x1), some (vi x2), some (vi x3), some (vi x4), none, none, none, none] [] (zm S L) (0, 0) := zz_J.go [(24, [4, 5, 6, 7, 8]), (33, [1, 2, 3, 4, 5, 6, 7, 8]), (52, [5, 6, 7, 8]), (58, [6, 8]), (67, [6])] 400 h
theorem zwX9_setOf_4_58 {Q : Option zv → zz_M → Prop} {X : Nat → zz_M → Prop} {S L : Nat → Nat → Int} {x1 : Int} {x2 : Int} {x3 : Int} {x4 : Int} {x5 : Int} {x7 : Int} (h : R32 x7 ∧ ((2 ≤ x7 → Q (some (vl x5)) (zm S L)) ∧ (¬ 2 ≤ x7 → zz_J zpX9_setOf_4 (zz_ret Q X 0 0) 67 [some (vr 0), some (vi x1), some (vi x2), some (vi x3), some (vi x4), some (vl x5), none, some (vi x7), some (vi 0)] [] (zm S L) (0, 0)))) : zz_J zpX9_setOf_4 (zz_ret Q X 0 0) 58 [some (vr 0), some (vi x1), some (vi x2), some (vi x3), some (vi x4), some (vl x5), none, some (vi x7), none] [] (zm S L) (0, 0) := zz_J.go [(24, [4, 5, 6, 7, 8]), (33, [1, 2, 3, 4, 5, 6, 7, 8]), (52, [5, 6, 7, 8]), (58, [6, 8]), (67, [6])] 400 h
theorem zwX9_setOf_4_67 {Q : Option zv → zz_M → Prop} {X : Nat → zz_M → Prop} {S L : Nat → Nat → Int} {x1 : Int} {x2 : Int} {x3 : Int} {x4 : Int} {x5 : Int} {x7 : Int} {x8 : Int} (h : R32 x8 ∧ ((2 ≤ x8 → zz_J zpX9_setOf_4 (zz_ret Q X 0 0) 58 [some (vr 0), some (vi x1), some (vi x2), some (vi x3), some (vi x4), some (vl x5), none, some (vi (x7 + 1)), none] [] (zm S L) (0, 0)) ∧ (¬ 2 ≤ x8 → (0 ≤ (((4 * x4) + (2 * x7)) + x8) ∧ (((4 * x4) + (2 * x7)) + x8) < 8) ∧ (R32 x7 ∧ ((¬ x7 = 0 → R32 x7 ∧ ((¬ x7 = 1 → ((x1 = 0 ∨ x1 = 1) ∧ (x8 = 0 ∨ x8 = 1) ∧ (0 ≤ x2 ∧ x2 ≤ 6) ∧ (0 ≤ x3 ∧ x3 ≤ 6) ∧ (1 ≤ S 1 194 ∧ S 1 194 ≤ 6) ∧ (x2 ≤ S 1 194 ∧ x3 ≤ S 1 194) ∧ S 1 194 - x2 + (S 1 194 - x3) ≤ 3 ∧ wyG (L 12) ∧ ((0 ≤ ((L 12 ((((4 * x4) + (2 * x7)) + x8).toNat)) * (stO (L 12) (S 1 194) x1 3 x2 x3 x8.toNat)) ∧ ((L 12 ((((4 * x4) + (2 * x7)) + x8).toNat)) * (stO (L 12) (S 1 194) x1 3 x2 x3 x8.toNat)) < 9223372036854775808) ∧ (zz_J zpX9_setOf_4 (zz_ret Q X 0 0) 67 [some (vr 0), some (vi x1), some (vi x2), some (vi x3), some (vi x4), some (vl (x5 + (((L 12 ((((4 * x4) + (2 * x7)) + x8).toNat)) * (stO (L 12) (S 1 194) x1 3 x2 x3 x8.toNat)) / 1000000000))), none, some (vi x7), some (vi (x8 + 1))] [] (zm S L) (0, 0))))) ∧ (x7 = 1 → ((x1 = 0 ∨ x1 = 1) ∧ (x8 = 0 ∨ x8 = 1) ∧ (0 ≤ x2 ∧ x2 ≤ 6) ∧ (0 ≤ (x3 + 1) ∧ (x3 + 1) ≤ 6) ∧ (1 ≤ S 1 194 ∧ S 1 194 ≤ 6) ∧ (x2 ≤ S 1 194 ∧ (x3 + 1) ≤ S 1 194) ∧ S 1 194 - x2 + (S 1 194 - (x3 + 1)) ≤ 3 ∧ wyG (L 12) ∧ ((0 ≤ ((L 12 ((((4 * x4) + (2 * x7)) + x8).toNat)) * (stO (L 12) (S 1 194) x1 3 x2 (x3 + 1) x8.toNat)) ∧ ((L 12 ((((4 * x4) + (2 * x7)) + x8).toNat)) * (stO (L 12) (S 1 194) x1 3 x2 (x3 + 1) x8.toNat)) < 9223372036854775808) ∧ (zz_J zpX9_setOf_4 (zz_ret Q X 0 0) 67 [some (vr 0), some (vi x1), some (vi x2), some (vi x3), some (vi x4), some (vl (x5 + (((L 12 ((((4 * x4) + (2 * x7)) + x8).toNat)) * (stO (L 12) (S 1 194) x1 3 x2 (x3 + 1) x8.toNat)) / 1000000000))), none, some (vi x7), some (vi (x8 + 1))] [] (zm S L) (0, 0))))))) ∧ (x7 = 0 → R32 x7 ∧ ((¬ x7 = 1 → ((x1 = 0 ∨ x1 = 1) ∧ (x8 = 0 ∨ x8 = 1) ∧ (0 ≤ (x2 + 1) ∧ (x2 + 1) ≤ 6) ∧ (0 ≤ x3 ∧ x3 ≤ 6) ∧ (1 ≤ S 1 194 ∧ S 1 194 ≤ 6) ∧ ((x2 + 1) ≤ S 1 194 ∧ x3 ≤ S 1 194) ∧ S 1 194 - (x2 + 1) + (S 1 194 - x3) ≤ 3 ∧ wyG (L 12) ∧ ((0 ≤ ((L 12 ((((4 * x4) + (2 * x7)) + x8).toNat)) * (stO (L 12) (S 1 194) x1 3 (x2 + 1) x3 x8.toNat)) ∧ ((L 12 ((((4 * x4) + (2 * x7)) + x8).toNat)) * (stO (L 12) (S 1 194) x1 3 (x2 + 1) x3 x8.toNat)) < 9223372036854775808) ∧ (zz_J zpX9_setOf_4 (zz_ret Q X 0 0) 67 [some (vr 0), some (vi x1), some (vi x2), some (vi x3), some (vi x4), some (vl (x5 + (((L 12 ((((4 * x4) + (2 * x7)) + x8).toNat)) * (stO (L 12) (S 1 194) x1 3 (x2 + 1) x3 x8.toNat)) / 1000000000))), none, some (vi x7), some (vi (x8 + 1))] [] (zm S L) (0, 0))))) ∧ (x7 = 1 → ((x1 = 0 ∨ x1 = 1) ∧ (x8 = 0 ∨ x8 = 1) ∧ (0 ≤ (x2 + 1) ∧ (x2 + 1) ≤ 6) ∧ (0 ≤ (x3 + 1) ∧ (x3 + 1) ≤ 6) ∧ (1 ≤ S 1 194 ∧ S 1 194 ≤ 6) ∧ ((x2 + 1) ≤ S 1 194 ∧ (x3 + 1) ≤ S 1 194) ∧ S 1 194 - (x2 + 1) + (S 1 194 - (x3 + 1)) ≤ 3 ∧ wyG (L 12) ∧ ((0 ≤ ((L 12 ((((4 * x4) + (2 * x7)) + x8).toNat)) * (stO (L 12) (S 1 194) x1 3 (x2 + 1) (x3 + 1) x8.toNat)) ∧ ((L 12 ((((4 * x4) + (2 * x7)) + x8).toNat)) * (stO (L 12) (S 1 194) x1 3 (x2 + 1) (x3 + 1) x8.toNat)) < 9223372036854775808) ∧ (zz_J zpX9_setOf_4 (zz_ret Q X 0 0) 67 [some (vr 0), some (vi x1), some (vi x2), some (vi x3), some (vi x4), some (vl (x5 + (((L 12 ((((4 * x4) + (2 * x7)) + x8).toNat)) * (stO (L 12) (S 1 194) x1 3 (x2 + 1) (x3 + 1) x8.toNat)) / 1000000000))), none, some (vi x7), some (vi (x8 + 1))] [] (zm S L) (0, 0)))))))))))) : zz_J zpX9_setOf_4 (zz_ret Q X 0 0) 67 [some (vr 0), some (vi x1), some (vi x2), some (vi x3), some (vi x4), some (vl x5), none, some (vi x7), some (vi x8)] [] (zm S L) (0, 0) := zz_J.go [(24, [4, 5, 6, 7, 8]), (33, [1, 2, 3, 4, 5, 6, 7, 8]), (52, [5, 6, 7, 8]), (58, [6, 8]), (67, [6])] 400 h

theorem zmX9_setOf_4 (l : Launch) (hl : l.stackTraces = false) : mm_Spec l yX9_setOf (ws_ yX9_setOf cX9_setOf 9 (some .long)) (mm_rm 5 0 0) (zE zX9_setOf_4) := by
  refine zz_Met.J hl (by decide) (fun C G hnh => ztX9_setOf_4 G hnh) ?_
  rintro as ⟨⟨t_, f⟩, S, L, P⟩ Q X h
  unfold zX9_setOf_4 at h
  split at h
  rotate_left
  · exact h.elim
  rename_i h_ p a b s
  obtain ⟨e1_, e2_, h⟩ := mm_and2 h (fun q => q)
  cases mm_beq e1_
  cases mm_beq e2_
  try dsimp only at h
  refine ⟨rfl, ?_⟩
  refine zz_Jev (M' := zm S L) rfl rfl rfl ?_
  obtain ⟨hp, hs, ha, hb, hG, hab, hr, hwy, hq⟩ := h
  have t24 : (S 1 194 ≤ a ∨ S 1 194 ≤ b) → zz_J zpX9_setOf_4 (zz_ret Q X 0 0) 24 [some (vr 0), some (vi p), some (vi a), some (vi b), none, none, none, none, none] [] (zm S L) (0, 0) := by
    intro h
    rw [stO_o h] at hq
    refine zwX9_setOf_4_24 ⟨by omega, fun c => ?_, fun c => ?_⟩
    · rw [if_neg c] at hq
      refine zwX9_setOf_4_33 ⟨by omega, by omega, fun d => ?_, fun d => ?_⟩
      · rw [if_neg (by omega)] at hq; exact hq
      · rw [if_pos (by omega)] at hq; exact hq
    · rw [if_pos c] at hq
      refine zwX9_setOf_4_33 ⟨by omega, by omega, fun d => ?_, fun d => ?_⟩
      · rw [if_neg (by omega)] at hq; exact hq
      · rw [if_pos (by omega)] at hq; exact hq
  obtain ⟨u, hu, rfl⟩ : ∃ u : Nat, u < 2 ∧ s = u := ⟨s.toNat, by omega, by omega⟩
  rw [Int.toNat_natCast] at hq
  have t52 : ¬ (S 1 194 ≤ a ∨ S 1 194 ≤ b) → zz_J zpX9_setOf_4 (zz_ret Q X 0 0) 52 [some (vr 0), some (vi p), some (vi a), some (vi b), some (vi u), none, none, none, none] [] (zm S L) (0, 0) := by
    intro h
    rw [show stO (L 12) (S 1 194) p 4 a b u = _ from stO_s h 3] at hq
    have i0 := stO_in (G := S 1 194) (p := p) hwy 3 (a + 1) b 0 (by decide)
    have i1 := stO_in (G := S 1 194) (p := p) hwy 3 (a + 1) b 1 (by decide)
    have i2 := stO_in (G := S 1 194) (p := p) hwy 3 a (b + 1) 0 (by decide)
    have i3 := stO_in (G := S 1 194) (p := p) hwy 3 a (b + 1) 1 (by decide)
    have w0 := hwy.1 (4 * u) (by omega)
    have w1 := hwy.1 (4 * u + 1) (by omega)
    have w2 := hwy.1 (4 * u + 2) (by omega)
    have w3 := hwy.1 (4 * u + 3) (by omega)
    have m0 := mul_sure w0.1 i0.1 i0.2
    have m1 := mul_sure w1.1 i1.1 i1.2
    have m2 := mul_sure w2.1 i2.1 i2.2
    have m3 := mul_sure w3.1 i3.1 i3.2
    have e0 : ((4 : Int) * u + 2 * 0 + 0).toNat = 4 * u := by omega
    have e1 : ((4 : Int) * u + 2 * 0 + 1).toNat = 4 * u + 1 := by omega
    have e2 : ((4 : Int) * u + 2 * 1 + 0).toNat = 4 * u + 2 := by omega
    have e3 : ((4 : Int) * u + 2 * 1 + 1).toNat = 4 * u + 3 := by omega
    refine zwX9_setOf_4_52 (zwX9_setOf_4_58 ⟨by decide, fun c => absurd c (by decide), fun _ => ?_⟩)
    refine zwX9_setOf_4_67 ⟨by decide, fun c => absurd c (by decide), fun _ => ⟨by omega, by decide, fun c => absurd rfl c, fun _ => ⟨by decide, fun _ => ?_, fun c => absurd c (by decide)⟩⟩⟩
    refine ⟨hp, Or.inl rfl, by omega, hb, hG, by omega, by omega, hwy, ?_⟩
    rw [e0]
    refine ⟨by show 0 ≤ L 12 (4 * u) * stO (L 12) (S 1 194) p 3 (a + 1) b 0 ∧ L 12 (4 * u) * stO (L 12) (S 1 194) p 3 (a + 1) b 0 < 9223372036854775808; omega, ?_⟩
    refine zwX9_setOf_4_67 ⟨by decide, fun c => absurd c (by decide), fun _ => ⟨by omega, by decide, fun c => absurd rfl c, fun _ => ⟨by decide, fun _ => ?_, fun c => absurd c (by decide)⟩⟩⟩
    refine ⟨hp, Or.inr rfl, by omega, hb, hG, by omega, by omega, hwy, ?_⟩
    rw [show ((4 : Int) * u + 2 * 0 + (0 + 1)).toNat = 4 * u + 1 by omega]
    refine ⟨by show 0 ≤ L 12 (4 * u + 1) * stO (L 12) (S 1 194) p 3 (a + 1) b 1 ∧ L 12 (4 * u + 1) * stO (L 12) (S 1 194) p 3 (a + 1) b 1 < 9223372036854775808; omega, ?_⟩
    refine zwX9_setOf_4_67 ⟨by decide, fun _ => ?_, fun c => absurd c (by decide)⟩
    refine zwX9_setOf_4_58 ⟨by decide, fun c => absurd c (by decide), fun _ => ?_⟩
    refine zwX9_setOf_4_67 ⟨by decide, fun c => absurd c (by decide), fun _ => ⟨by omega, by decide, fun _ => ⟨by decide, fun c => absurd rfl c, fun _ => ?_⟩, fun c => absurd c (by decide)⟩⟩
    refine ⟨hp, Or.inl rfl, ha, by omega, hG, by omega, by omega, hwy, ?_⟩
    rw [show ((4 : Int) * u + 2 * (0 + 1) + 0).toNat = 4 * u + 2 by omega]
    refine ⟨by show 0 ≤ L 12 (4 * u + 2) * stO (L 12) (S 1 194) p 3 a (b + 1) 0 ∧ L 12 (4 * u + 2) * stO (L 12) (S 1 194) p 3 a (b + 1) 0 < 9223372036854775808; omega, ?_⟩
    refine zwX9_setOf_4_67 ⟨by decide, fun c => absurd c (by decide), fun _ => ⟨by omega, by decide, fun _ => ⟨by decide, fun c => absurd rfl c, fun _ => ?_⟩, fun c => absurd c (by decide)⟩⟩
    refine ⟨hp, Or.inr rfl, ha, by omega, hG, by omega, by omega, hwy, ?_⟩
    rw [show ((4 : Int) * u + 2 * (0 + 1) + (0 + 1)).toNat = 4 * u + 3 by omega]
    refine ⟨by show 0 ≤ L 12 (4 * u + 3) * stO (L 12) (S 1 194) p 3 a (b + 1) 1 ∧ L 12 (4 * u + 3) * stO (L 12) (S 1 194) p 3 a (b + 1) 1 < 9223372036854775808; omega, ?_⟩
    refine zwX9_setOf_4_67 ⟨by decide, fun _ => ?_, fun c => absurd c (by decide)⟩
    refine zwX9_setOf_4_58 ⟨by decide, fun _ => ?_, fun c => absurd c (by decide)⟩
    have ez : ∀ x y z w : Int, 0 + x + y + z + w = x + y + z + w := fun x y z w => by omega
    rw [ez]
    exact hq
  refine zwX9_setOf_4_0 ⟨by omega, by omega, fun c => t24 (Or.inl c), fun c => ⟨by omega, by omega, fun d => t52 (by omega), fun d => t24 (Or.inr (by omega))⟩⟩
def zX9_setOf_5 : zz_Sp := fun as M Q X => match as with
  | [.inr (.inr (some h_)), .inl p, .inl a, .inl b, .inl s] => bif Nat.beq h_ 0 && Nat.beq M.1.1 1 then ((p = 0 ∨ p = 1) ∧ (s = 0 ∨ s = 1) ∧ (0 ≤ a ∧ a ≤ 6) ∧ (0 ≤ b ∧ b ≤ 6) ∧ (1 ≤ M.2.1 1 194 ∧ M.2.1 1 194 ≤ 6) ∧ (a ≤ M.2.1 1 194 ∧ b ≤ M.2.1 1 194) ∧ M.2.1 1 194 - a + (M.2.1 1 194 - b) ≤ 5 ∧ wyG (M.2.2.1 12) ∧ Q (some (vl (stO (M.2.2.1 12) (M.2.1 1 194) p 5 a b s.toNat))) (zm M.2.1 M.2.2.1)) else False
  | _ => False

def zpX9_setOf_5 : zz_P := [(0, zo_ild 1 2), (1, zo_ald 2 0), (2, zo_get 5 8 2 1), (5, zo_c 8 (vi 194)), (8, zo_ialc 9 194), (9, zo_cge false false 12 24), (12, zo_ild 13 3), (13, zo_ald 14 0), (14, zo_get 17 8 2 1), (17, zo_c 20 (vi 194)), (20, zo_ialc 21 194), (21, zo_clt false false 24 52), (24, zo_ild 25 1), (25, zo_ifne false 28 32), (28, zo_ild 29 2), (29, zo_goto 33), (32, zo_ild 33 3), (33, zo_ald 34 0), (34, zo_get 37 8 2 1), (37, zo_c 40 (vi 194)), (40, zo_ialc 41 194), (41, zo_clt false false 44 50), (44, zo_c 47 (vl 1000000000)), (47, zo_goto 51), (50, zo_c 51 (vl 0)), (51, zo_lret), (52, zo_c 53 (vl 0)), (53, zo_lst 55 5), (55, zo_c 56 (vi 0)), (56, zo_ist 58 7), (58, zo_ild 60 7), (60, zo_c 61 (vi 2)), (61, zo_cge false true 64 144), (64, zo_c 65 (vi 0)), (65, zo_ist 67 8), (67, zo_ild 69 8), (69, zo_c 70 (vi 2)), (70, zo_cge false true 73 138), (73, zo_lld 75 5), (75, zo_ald 76 0), (76, zo_get 79 8 2 24), (79, zo_c 80 (vi 4)), (80, zo_ild 82 4), (82, zo_imul 83), (83, zo_c 84 (vi 2)), (84, zo_ild 86 7), (86, zo_imul 87), (87, zo_iadd 88), (88, zo_ild 90 8), (90, zo_iadd 91), (91, zo_lald 92), (92, zo_ald 93 0), (93, zo_ild 94 1), (94, zo_ild 96 7), (96, zo_ifne false 99 105), (99, zo_ild 100 2), (100, zo_c 101 (vi 1)), (101, zo_iadd 102), (102, zo_goto 106), (105, zo_ild 106 2), (106, zo_ild 108 7), (108, zo_c 109 (vi 1)), (109, zo_cne false true 112 118), (112, zo_ild 113 3), (113, zo_c 114 (vi 1)), (114, zo_iadd 115), (115, zo_goto 119), (118, zo_ild 119 3), (119, zo_ild 121 8), (121, zo_callv 124 5 8 zX9_setOf_4), (124, zo_lmul 125), (125, zo_c 128 (vl 1000000000)), (128, zo_ldiv 129), (129, zo_ladd 130), (130, zo_lst 132 5), (132, zo_inc 135 8 1), (135, zo_goto 67), (138, zo_inc 141 7 1), (141, zo_goto 58), (144, zo_lld 146 5), (146, zo_lret)]
theorem ztX9_setOf_5 {C : mm_C} (G : mm_G C RX9 cX9_setOf (some .long) 9 (mm_rm 6 0 0)) (hnh : mm_nh C) : zz_OKs C zpX9_setOf_5 :=
  ⟨zz_of (ok_iload_n G dX9_setOf_0 rfl rfl) (z_ild _ _),
   zz_of (ok_aload_n G dX9_setOf_1 rfl rfl) (z_ald _ _),
   zz_of (ok_get G (nx := 5) (ci := 8) (kd := 2) (k := 1) (RX9, TX9, 32) rfl (by decide) rfl q1806 dX9_setOf_2 rfl) (z_get _ _ _ _),
   zz_of (ok_sipush G (v := 194) dX9_setOf_5 (by decide) rfl) (z_cn 8 194),
   zz_of (ok_iald G dX9_setOf_8 rfl) (z_ialc _ _),
   zz_of (ok_cge G dX9_setOf_9 rfl rfl) (z_cge _ _ _ _),
   zz_of (ok_iload_n G dX9_setOf_12 rfl rfl) (z_ild _ _),
   zz_of (ok_aload_n G dX9_setOf_13 rfl rfl) (z_ald _ _),
   zz_of (ok_get G (nx := 17) (ci := 8) (kd := 2) (k := 1) (RX9, TX9, 32) rfl (by decide) rfl q1806 dX9_setOf_14 rfl) (z_get _ _ _ _),
   zz_of (ok_sipush G (v := 194) dX9_setOf_17 (by decide) rfl) (z_cn 20 194),
   zz_of (ok_iald G dX9_setOf_20 rfl) (z_ialc _ _),
   zz_of (ok_clt G dX9_setOf_21 rfl rfl) (z_clt _ _ _ _),
   zz_of (ok_iload_n G dX9_setOf_24 rfl rfl) (z_ild _ _),
   zz_of (ok_ifne G dX9_setOf_25 rfl rfl) (z_ifne _ _ _),
   zz_of (ok_iload_n G dX9_setOf_28 rfl rfl) (z_ild _ _),
   zz_of (ok_goto G dX9_setOf_29 rfl) (z_goto _),
   zz_of (ok_iload_n G dX9_setOf_32 rfl rfl) (z_ild _ _),
   zz_of (ok_aload_n G dX9_setOf_33 rfl rfl) (z_ald _ _),
   zz_of (ok_get G (nx := 37) (ci := 8) (kd := 2) (k := 1) (RX9, TX9, 32) rfl (by decide) rfl q1806 dX9_setOf_34 rfl) (z_get _ _ _ _),
   zz_of (ok_sipush G (v := 194) dX9_setOf_37 (by decide) rfl) (z_cn 40 194),
   zz_of (ok_iald G dX9_setOf_40 rfl) (z_ialc _ _),
   zz_of (ok_clt G dX9_setOf_41 rfl rfl) (z_clt _ _ _ _),
   zz_of (ok_ldc2 G (v := 1000000000) q2137 dX9_setOf_44 rfl) (z_cl 47 1000000000),
   zz_of (ok_goto G dX9_setOf_47 rfl) (z_goto _),
   zz_of (ok_lconst G (v := 0) dX9_setOf_50 (by decide) rfl) (z_cl 51 0),
   zz_of (ok_lret G dX9_setOf_51) (z_lret),
   zz_of (ok_lconst G (v := 0) dX9_setOf_52 (by decide) rfl) (z_cl 53 0),
   zz_of (ok_lstore G dX9_setOf_53 rfl (by decide)) (z_lst _ _),
   zz_of (ok_iconst G (v := 0) dX9_setOf_55 (by decide) rfl) (z_cn 56 0),
   zz_of (ok_istore G dX9_setOf_56 rfl (by decide)) (z_ist _ _),
   zz_of (ok_iload G dX9_setOf_58 rfl) (z_ild _ _),
   zz_of (ok_iconst G (v := 2) dX9_setOf_60 (by decide) rfl) (z_cn 61 2),
   zz_of (ok_cge G dX9_setOf_61 rfl rfl) (z_cge _ _ _ _),
   zz_of (ok_iconst G (v := 0) dX9_setOf_64 (by decide) rfl) (z_cn 65 0),
   zz_of (ok_istore G dX9_setOf_65 rfl (by decide)) (z_ist _ _),
   zz_of (ok_iload G dX9_setOf_67 rfl) (z_ild _ _),
   zz_of (ok_iconst G (v := 2) dX9_setOf_69 (by decide) rfl) (z_cn 70 2),
   zz_of (ok_cge G dX9_setOf_70 rfl rfl) (z_cge _ _ _ _),
   zz_of (ok_lload G dX9_setOf_73 rfl) (z_lld _ _),
   zz_of (ok_aload_n G dX9_setOf_75 rfl rfl) (z_ald _ _),
   zz_of (ok_get G (nx := 79) (ci := 8) (kd := 2) (k := 24) (RX9, TX9, 32) rfl (by decide) rfl q1829 dX9_setOf_76 rfl) (z_get _ _ _ _),
   zz_of (ok_iconst G (v := 4) dX9_setOf_79 (by decide) rfl) (z_cn 80 4),
   zz_of (ok_iload G dX9_setOf_80 rfl) (z_ild _ _),
   zz_of (ok_imul G dX9_setOf_82 rfl) (z_imul _),
   zz_of (ok_iconst G (v := 2) dX9_setOf_83 (by decide) rfl) (z_cn 84 2),
   zz_of (ok_iload G dX9_setOf_84 rfl) (z_ild _ _),
   zz_of (ok_imul G dX9_setOf_86 rfl) (z_imul _),
   zz_of (ok_iadd G dX9_setOf_87 rfl) (z_iadd _),
   zz_of (ok_iload G dX9_setOf_88 rfl) (z_ild _ _),
   zz_of (ok_iadd G dX9_setOf_90 rfl) (z_iadd _),
   zz_of (ok_lald G dX9_setOf_91 rfl) (z_lald _),
   zz_of (ok_aload_n G dX9_setOf_92 rfl rfl) (z_ald _ _),
   zz_of (ok_iload_n G dX9_setOf_93 rfl rfl) (z_ild _ _),
   zz_of (ok_iload G dX9_setOf_94 rfl) (z_ild _ _),
   zz_of (ok_ifne G dX9_setOf_96 rfl rfl) (z_ifne _ _ _),
   zz_of (ok_iload_n G dX9_setOf_99 rfl rfl) (z_ild _ _),
   zz_of (ok_iconst G (v := 1) dX9_setOf_100 (by decide) rfl) (z_cn 101 1),
   zz_of (ok_iadd G dX9_setOf_101 rfl) (z_iadd _),
   zz_of (ok_goto G dX9_setOf_102 rfl) (z_goto _),
   zz_of (ok_iload_n G dX9_setOf_105 rfl rfl) (z_ild _ _),
   zz_of (ok_iload G dX9_setOf_106 rfl) (z_ild _ _),
   zz_of (ok_iconst G (v := 1) dX9_setOf_108 (by decide) rfl) (z_cn 109 1),
   zz_of (ok_cne G dX9_setOf_109 rfl rfl) (z_cne _ _ _ _),
   zz_of (ok_iload_n G dX9_setOf_112 rfl rfl) (z_ild _ _),
   zz_of (ok_iconst G (v := 1) dX9_setOf_113 (by decide) rfl) (z_cn 114 1),
   zz_of (ok_iadd G dX9_setOf_114 rfl) (z_iadd _),
   zz_of (ok_goto G dX9_setOf_115 rfl) (z_goto _),
   zz_of (ok_iload_n G dX9_setOf_118 rfl rfl) (z_ild _ _),
   zz_of (ok_iload G dX9_setOf_119 rfl) (z_ild _ _),
   zz_of (ok_callv G hnh (zmX9_setOf_4 _ G.hst) rfl rfl (RX9, TX9, 32) rfl q2165 q2167 qs75 q93 q2168 (by decide +kernel) ⟨by decide, by decide⟩ dX9_setOf_121 rfl) (z_callv _ _ _ _),
   zz_of (ok_lmul G dX9_setOf_124 rfl) (z_lmul _),
   zz_of (ok_ldc2 G (v := 1000000000) q2137 dX9_setOf_125 rfl) (z_cl 128 1000000000),
   zz_of (ok_ldiv G dX9_setOf_128 rfl) (z_ldiv _),
   zz_of (ok_ladd G dX9_setOf_129 rfl) (z_ladd _),
   zz_of (ok_lstore G dX9_setOf_130 rfl (by decide)) (z_lst _ _),
   zz_of (ok_iinc G (v := 1) dX9_setOf_132 (by decide) rfl (by decide)) (z_incn 135 8 1),
   zz_of (ok_goto G dX9_setOf_135 rfl) (z_goto _),
   zz_of (ok_iinc G (v := 1) dX9_setOf_138 (by decide) rfl (by decide)) (z_incn 141 7 1),
   zz_of (ok_goto G dX9_setOf_141 rfl) (z_goto _),
   zz_of (ok_lload G dX9_setOf_144 rfl) (z_lld _ _),
   zz_of (ok_lret G dX9_setOf_146) (z_lret), trivial⟩

theorem zwX9_setOf_5_0 {Q : Option zv → zz_M → Prop} {X : Nat → zz_M → Prop} {S L : Nat → Nat → Int} {p : Int} {a : Int} {b : Int} {s : Int} (h : R32 a ∧ (R32 (S 1 194) ∧ (((S 1 194) ≤ a → zz_J zpX9_setOf_5 (zz_ret Q X 0 0) 24 [some (vr 0), some (vi p), some (vi a), some (vi b), none, none, none, none, none] [] (zm S L) (0, 0)) ∧ (¬ (S 1 194) ≤ a → R32 b ∧ (R32 (S 1 194) ∧ ((b < (S 1 194) → zz_J zpX9_setOf_5 (zz_ret Q X 0 0) 52 [some (vr 0), some (vi p), some (vi a), some (vi b), some (vi s), none, none, none, none] [] (zm S L) (0, 0)) ∧ (¬ b < (S 1 194) → zz_J zpX9_setOf_5 (zz_ret Q X 0 0) 24 [some (vr 0), some (vi p), some (vi a), some (vi b), none, none, none, none, none] [] (zm S L) (0, 0)))))))) : zz_J zpX9_setOf_5 (zz_ret Q X 0 0) 0 [some (vr 0), some (vi p), some (vi a), some (vi b), some (vi s), none, none, none, none] [] (zm S L) (0, 0) := zz_J.go [(24, [4, 5, 6, 7, 8]), (33, [1, 2, 3, 4, 5, 6, 7, 8]), (52, [5, 6, 7, 8]), (58, [6, 8]), (67, [6])] 400 h
theorem zwX9_setOf_5_24 {Q : Option zv → zz_M → Prop} {X : Nat → zz_M → Prop} {S L : Nat → Nat → Int} {x1 : Int} {x2 : Int} {x3 : Int} (h : R32 x1 ∧ ((¬ x1 = 0 → zz_J zpX9_setOf_5 (zz_ret Q X 0 0) 33 [some (vr 0), none, none, none, none, none, none, none, none] [vi x3] (zm S L) (0, 0)) ∧ (x1 = 0 → zz_J zpX9_setOf_5 (zz_ret Q X 0 0) 33 [some (vr 0), none, none, none, none, none, none, none, none] [vi x2] (zm S L) (0, 0)))) : zz_J zpX9_setOf_5 (zz_ret Q X 0 0) 24 [some (vr 0), some (vi x1), some (vi x2), some (vi x3), none, none, none, none, none] [] (zm S L) (0, 0) := zz_J.go [(24, [4, 5, 6, 7, 8]), (33, [1, 2, 3, 4, 5, 6, 7, 8]), (52, [5, 6, 7, 8]), (58, [6, 8]), (67, [6])] 400 h
theorem zwX9_setOf_5_33 {Q : Option zv → zz_M → Prop} {X : Nat → zz_M → Prop} {S L : Nat → Nat → Int} {t0 : Int} (h : R32 t0 ∧ (R32 (S 1 194) ∧ ((t0 < (S 1 194) → Q (some (vl 0)) (zm S L)) ∧ (¬ t0 < (S 1 194) → Q (some (vl 1000000000)) (zm S L))))) : zz_J zpX9_setOf_5 (zz_ret Q X 0 0) 33 [some (vr 0), none, none, none, none, none, none, none, none] [vi t0] (zm S L) (0, 0) := zz_J.go [(24, [4, 5, 6, 7, 8]), (33, [1, 2, 3, 4, 5, 6, 7, 8]), (52, [5, 6, 7, 8]), (58, [6, 8]), (67, [6])] 400 h
theorem zwX9_setOf_5_52 {Q : Option zv → zz_M → Prop} {X : Nat → zz_M → Prop} {S L : Nat → Nat → Int} {x1 : Int} {x2 : Int} {x3 : Int} {x4 : Int} (h : zz_J zpX9_setOf_5 (zz_ret Q X 0 0) 58 [some (vr 0), some (vi x1), some (vi x2), some (vi x3), some (vi x4), some (vl 0), none, some (vi 0), none] [] (zm S L) (0, 0)) : zz_J zpX9_setOf_5 (zz_ret Q X 0 0) 52 [some (vr 0), some (vi x1), some (vi x2), some (vi x3), some (vi x4), none, none, none, none] [] (zm S L) (0, 0) := zz_J.go [(24, [4, 5, 6, 7, 8]), (33, [1, 2, 3, 4, 5, 6, 7, 8]), (52, [5, 6, 7, 8]), (58, [6, 8]), (67, [6])] 400 h
theorem zwX9_setOf_5_58 {Q : Option zv → zz_M → Prop} {X : Nat → zz_M → Prop} {S L : Nat → Nat → Int} {x1 : Int} {x2 : Int} {x3 : Int} {x4 : Int} {x5 : Int} {x7 : Int} (h : R32 x7 ∧ ((2 ≤ x7 → Q (some (vl x5)) (zm S L)) ∧ (¬ 2 ≤ x7 → zz_J zpX9_setOf_5 (zz_ret Q X 0 0) 67 [some (vr 0), some (vi x1), some (vi x2), some (vi x3), some (vi x4), some (vl x5), none, some (vi x7), some (vi 0)] [] (zm S L) (0, 0)))) : zz_J zpX9_setOf_5 (zz_ret Q X 0 0) 58 [some (vr 0), some (vi x1), some (vi x2), some (vi x3), some (vi x4), some (vl x5), none, some (vi x7), none] [] (zm S L) (0, 0) := zz_J.go [(24, [4, 5, 6, 7, 8]), (33, [1, 2, 3, 4, 5, 6, 7, 8]), (52, [5, 6, 7, 8]), (58, [6, 8]), (67, [6])] 400 h
theorem zwX9_setOf_5_67 {Q : Option zv → zz_M → Prop} {X : Nat → zz_M → Prop} {S L : Nat → Nat → Int} {x1 : Int} {x2 : Int} {x3 : Int} {x4 : Int} {x5 : Int} {x7 : Int} {x8 : Int} (h : R32 x8 ∧ ((2 ≤ x8 → zz_J zpX9_setOf_5 (zz_ret Q X 0 0) 58 [some (vr 0), some (vi x1), some (vi x2), some (vi x3), some (vi x4), some (vl x5), none, some (vi (x7 + 1)), none] [] (zm S L) (0, 0)) ∧ (¬ 2 ≤ x8 → (0 ≤ (((4 * x4) + (2 * x7)) + x8) ∧ (((4 * x4) + (2 * x7)) + x8) < 8) ∧ (R32 x7 ∧ ((¬ x7 = 0 → R32 x7 ∧ ((¬ x7 = 1 → ((x1 = 0 ∨ x1 = 1) ∧ (x8 = 0 ∨ x8 = 1) ∧ (0 ≤ x2 ∧ x2 ≤ 6) ∧ (0 ≤ x3 ∧ x3 ≤ 6) ∧ (1 ≤ S 1 194 ∧ S 1 194 ≤ 6) ∧ (x2 ≤ S 1 194 ∧ x3 ≤ S 1 194) ∧ S 1 194 - x2 + (S 1 194 - x3) ≤ 4 ∧ wyG (L 12) ∧ ((0 ≤ ((L 12 ((((4 * x4) + (2 * x7)) + x8).toNat)) * (stO (L 12) (S 1 194) x1 4 x2 x3 x8.toNat)) ∧ ((L 12 ((((4 * x4) + (2 * x7)) + x8).toNat)) * (stO (L 12) (S 1 194) x1 4 x2 x3 x8.toNat)) < 9223372036854775808) ∧ (zz_J zpX9_setOf_5 (zz_ret Q X 0 0) 67 [some (vr 0), some (vi x1), some (vi x2), some (vi x3), some (vi x4), some (vl (x5 + (((L 12 ((((4 * x4) + (2 * x7)) + x8).toNat)) * (stO (L 12) (S 1 194) x1 4 x2 x3 x8.toNat)) / 1000000000))), none, some (vi x7), some (vi (x8 + 1))] [] (zm S L) (0, 0))))) ∧ (x7 = 1 → ((x1 = 0 ∨ x1 = 1) ∧ (x8 = 0 ∨ x8 = 1) ∧ (0 ≤ x2 ∧ x2 ≤ 6) ∧ (0 ≤ (x3 + 1) ∧ (x3 + 1) ≤ 6) ∧ (1 ≤ S 1 194 ∧ S 1 194 ≤ 6) ∧ (x2 ≤ S 1 194 ∧ (x3 + 1) ≤ S 1 194) ∧ S 1 194 - x2 + (S 1 194 - (x3 + 1)) ≤ 4 ∧ wyG (L 12) ∧ ((0 ≤ ((L 12 ((((4 * x4) + (2 * x7)) + x8).toNat)) * (stO (L 12) (S 1 194) x1 4 x2 (x3 + 1) x8.toNat)) ∧ ((L 12 ((((4 * x4) + (2 * x7)) + x8).toNat)) * (stO (L 12) (S 1 194) x1 4 x2 (x3 + 1) x8.toNat)) < 9223372036854775808) ∧ (zz_J zpX9_setOf_5 (zz_ret Q X 0 0) 67 [some (vr 0), some (vi x1), some (vi x2), some (vi x3), some (vi x4), some (vl (x5 + (((L 12 ((((4 * x4) + (2 * x7)) + x8).toNat)) * (stO (L 12) (S 1 194) x1 4 x2 (x3 + 1) x8.toNat)) / 1000000000))), none, some (vi x7), some (vi (x8 + 1))] [] (zm S L) (0, 0))))))) ∧ (x7 = 0 → R32 x7 ∧ ((¬ x7 = 1 → ((x1 = 0 ∨ x1 = 1) ∧ (x8 = 0 ∨ x8 = 1) ∧ (0 ≤ (x2 + 1) ∧ (x2 + 1) ≤ 6) ∧ (0 ≤ x3 ∧ x3 ≤ 6) ∧ (1 ≤ S 1 194 ∧ S 1 194 ≤ 6) ∧ ((x2 + 1) ≤ S 1 194 ∧ x3 ≤ S 1 194) ∧ S 1 194 - (x2 + 1) + (S 1 194 - x3) ≤ 4 ∧ wyG (L 12) ∧ ((0 ≤ ((L 12 ((((4 * x4) + (2 * x7)) + x8).toNat)) * (stO (L 12) (S 1 194) x1 4 (x2 + 1) x3 x8.toNat)) ∧ ((L 12 ((((4 * x4) + (2 * x7)) + x8).toNat)) * (stO (L 12) (S 1 194) x1 4 (x2 + 1) x3 x8.toNat)) < 9223372036854775808) ∧ (zz_J zpX9_setOf_5 (zz_ret Q X 0 0) 67 [some (vr 0), some (vi x1), some (vi x2), some (vi x3), some (vi x4), some (vl (x5 + (((L 12 ((((4 * x4) + (2 * x7)) + x8).toNat)) * (stO (L 12) (S 1 194) x1 4 (x2 + 1) x3 x8.toNat)) / 1000000000))), none, some (vi x7), some (vi (x8 + 1))] [] (zm S L) (0, 0))))) ∧ (x7 = 1 → ((x1 = 0 ∨ x1 = 1) ∧ (x8 = 0 ∨ x8 = 1) ∧ (0 ≤ (x2 + 1) ∧ (x2 + 1) ≤ 6) ∧ (0 ≤ (x3 + 1) ∧ (x3 + 1) ≤ 6) ∧ (1 ≤ S 1 194 ∧ S 1 194 ≤ 6) ∧ ((x2 + 1) ≤ S 1 194 ∧ (x3 + 1) ≤ S 1 194) ∧ S 1 194 - (x2 + 1) + (S 1 194 - (x3 + 1)) ≤ 4 ∧ wyG (L 12) ∧ ((0 ≤ ((L 12 ((((4 * x4) + (2 * x7)) + x8).toNat)) * (stO (L 12) (S 1 194) x1 4 (x2 + 1) (x3 + 1) x8.toNat)) ∧ ((L 12 ((((4 * x4) + (2 * x7)) + x8).toNat)) * (stO (L 12) (S 1 194) x1 4 (x2 + 1) (x3 + 1) x8.toNat)) < 9223372036854775808) ∧ (zz_J zpX9_setOf_5 (zz_ret Q X 0 0) 67 [some (vr 0), some (vi x1), some (vi x2), some (vi x3), some (vi x4), some (vl (x5 + (((L 12 ((((4 * x4) + (2 * x7)) + x8).toNat)) * (stO (L 12) (S 1 194) x1 4 (x2 + 1) (x3 + 1) x8.toNat)) / 1000000000))), none, some (vi x7), some (vi (x8 + 1))] [] (zm S L) (0, 0)))))))))))) : zz_J zpX9_setOf_5 (zz_ret Q X 0 0) 67 [some (vr 0), some (vi x1), some (vi x2), some (vi x3), some (vi x4), some (vl x5), none, some (vi x7), some (vi x8)] [] (zm S L) (0, 0) := zz_J.go [(24, [4, 5, 6, 7, 8]), (33, [1, 2, 3, 4, 5, 6, 7, 8]), (52, [5, 6, 7, 8]), (58, [6, 8]), (67, [6])] 400 h

theorem zmX9_setOf_5 (l : Launch) (hl : l.stackTraces = false) : mm_Spec l yX9_setOf (ws_ yX9_setOf cX9_setOf 9 (some .long)) (mm_rm 6 0 0) (zE zX9_setOf_5) := by
  refine zz_Met.J hl (by decide) (fun C G hnh => ztX9_setOf_5 G hnh) ?_
  rintro as ⟨⟨t_, f⟩, S, L, P⟩ Q X h
  unfold zX9_setOf_5 at h
  split at h
  rotate_left
  · exact h.elim
  rename_i h_ p a b s
  obtain ⟨e1_, e2_, h⟩ := mm_and2 h (fun q => q)
  cases mm_beq e1_
  cases mm_beq e2_
  try dsimp only at h
  refine ⟨rfl, ?_⟩
  refine zz_Jev (M' := zm S L) rfl rfl rfl ?_
  obtain ⟨hp, hs, ha, hb, hG, hab, hr, hwy, hq⟩ := h
  have t24 : (S 1 194 ≤ a ∨ S 1 194 ≤ b) → zz_J zpX9_setOf_5 (zz_ret Q X 0 0) 24 [some (vr 0), some (vi p), some (vi a), some (vi b), none, none, none, none, none] [] (zm S L) (0, 0) := by
    intro h
    rw [stO_o h] at hq
    refine zwX9_setOf_5_24 ⟨by omega, fun c => ?_, fun c => ?_⟩
    · rw [if_neg c] at hq
      refine zwX9_setOf_5_33 ⟨by omega, by omega, fun d => ?_, fun d => ?_⟩
      · rw [if_neg (by omega)] at hq; exact hq
      · rw [if_pos (by omega)] at hq; exact hq
    · rw [if_pos c] at hq
      refine zwX9_setOf_5_33 ⟨by omega, by omega, fun d => ?_, fun d => ?_⟩
      · rw [if_neg (by omega)] at hq; exact hq
      · rw [if_pos (by omega)] at hq; exact hq
  obtain ⟨u, hu, rfl⟩ : ∃ u : Nat, u < 2 ∧ s = u := ⟨s.toNat, by omega, by omega⟩
  rw [Int.toNat_natCast] at hq
  have t52 : ¬ (S 1 194 ≤ a ∨ S 1 194 ≤ b) → zz_J zpX9_setOf_5 (zz_ret Q X 0 0) 52 [some (vr 0), some (vi p), some (vi a), some (vi b), some (vi u), none, none, none, none] [] (zm S L) (0, 0) := by
    intro h
    rw [show stO (L 12) (S 1 194) p 5 a b u = _ from stO_s h 4] at hq
    have i0 := stO_in (G := S 1 194) (p := p) hwy 4 (a + 1) b 0 (by decide)
    have i1 := stO_in (G := S 1 194) (p := p) hwy 4 (a + 1) b 1 (by decide)
    have i2 := stO_in (G := S 1 194) (p := p) hwy 4 a (b + 1) 0 (by decide)
    have i3 := stO_in (G := S 1 194) (p := p) hwy 4 a (b + 1) 1 (by decide)
    have w0 := hwy.1 (4 * u) (by omega)
    have w1 := hwy.1 (4 * u + 1) (by omega)
    have w2 := hwy.1 (4 * u + 2) (by omega)
    have w3 := hwy.1 (4 * u + 3) (by omega)
    have m0 := mul_sure w0.1 i0.1 i0.2
    have m1 := mul_sure w1.1 i1.1 i1.2
    have m2 := mul_sure w2.1 i2.1 i2.2
    have m3 := mul_sure w3.1 i3.1 i3.2
    have e0 : ((4 : Int) * u + 2 * 0 + 0).toNat = 4 * u := by omega
    have e1 : ((4 : Int) * u + 2 * 0 + 1).toNat = 4 * u + 1 := by omega
    have e2 : ((4 : Int) * u + 2 * 1 + 0).toNat = 4 * u + 2 := by omega
    have e3 : ((4 : Int) * u + 2 * 1 + 1).toNat = 4 * u + 3 := by omega
    refine zwX9_setOf_5_52 (zwX9_setOf_5_58 ⟨by decide, fun c => absurd c (by decide), fun _ => ?_⟩)
    refine zwX9_setOf_5_67 ⟨by decide, fun c => absurd c (by decide), fun _ => ⟨by omega, by decide, fun c => absurd rfl c, fun _ => ⟨by decide, fun _ => ?_, fun c => absurd c (by decide)⟩⟩⟩
    refine ⟨hp, Or.inl rfl, by omega, hb, hG, by omega, by omega, hwy, ?_⟩
    rw [e0]
    refine ⟨by show 0 ≤ L 12 (4 * u) * stO (L 12) (S 1 194) p 4 (a + 1) b 0 ∧ L 12 (4 * u) * stO (L 12) (S 1 194) p 4 (a + 1) b 0 < 9223372036854775808; omega, ?_⟩
    refine zwX9_setOf_5_67 ⟨by decide, fun c => absurd c (by decide), fun _ => ⟨by omega, by decide, fun c => absurd rfl c, fun _ => ⟨by decide, fun _ => ?_, fun c => absurd c (by decide)⟩⟩⟩
    refine ⟨hp, Or.inr rfl, by omega, hb, hG, by omega, by omega, hwy, ?_⟩
    rw [show ((4 : Int) * u + 2 * 0 + (0 + 1)).toNat = 4 * u + 1 by omega]
    refine ⟨by show 0 ≤ L 12 (4 * u + 1) * stO (L 12) (S 1 194) p 4 (a + 1) b 1 ∧ L 12 (4 * u + 1) * stO (L 12) (S 1 194) p 4 (a + 1) b 1 < 9223372036854775808; omega, ?_⟩
    refine zwX9_setOf_5_67 ⟨by decide, fun _ => ?_, fun c => absurd c (by decide)⟩
    refine zwX9_setOf_5_58 ⟨by decide, fun c => absurd c (by decide), fun _ => ?_⟩
    refine zwX9_setOf_5_67 ⟨by decide, fun c => absurd c (by decide), fun _ => ⟨by omega, by decide, fun _ => ⟨by decide, fun c => absurd rfl c, fun _ => ?_⟩, fun c => absurd c (by decide)⟩⟩
    refine ⟨hp, Or.inl rfl, ha, by omega, hG, by omega, by omega, hwy, ?_⟩
    rw [show ((4 : Int) * u + 2 * (0 + 1) + 0).toNat = 4 * u + 2 by omega]
    refine ⟨by show 0 ≤ L 12 (4 * u + 2) * stO (L 12) (S 1 194) p 4 a (b + 1) 0 ∧ L 12 (4 * u + 2) * stO (L 12) (S 1 194) p 4 a (b + 1) 0 < 9223372036854775808; omega, ?_⟩
    refine zwX9_setOf_5_67 ⟨by decide, fun c => absurd c (by decide), fun _ => ⟨by omega, by decide, fun _ => ⟨by decide, fun c => absurd rfl c, fun _ => ?_⟩, fun c => absurd c (by decide)⟩⟩
    refine ⟨hp, Or.inr rfl, ha, by omega, hG, by omega, by omega, hwy, ?_⟩
    rw [show ((4 : Int) * u + 2 * (0 + 1) + (0 + 1)).toNat = 4 * u + 3 by omega]
    refine ⟨by show 0 ≤ L 12 (4 * u + 3) * stO (L 12) (S 1 194) p 4 a (b + 1) 1 ∧ L 12 (4 * u + 3) * stO (L 12) (S 1 194) p 4 a (b + 1) 1 < 9223372036854775808; omega, ?_⟩
    refine zwX9_setOf_5_67 ⟨by decide, fun _ => ?_, fun c => absurd c (by decide)⟩
    refine zwX9_setOf_5_58 ⟨by decide, fun _ => ?_, fun c => absurd c (by decide)⟩
    have ez : ∀ x y z w : Int, 0 + x + y + z + w = x + y + z + w := fun x y z w => by omega
    rw [ez]
    exact hq
  refine zwX9_setOf_5_0 ⟨by omega, by omega, fun c => t24 (Or.inl c), fun c => ⟨by omega, by omega, fun d => t52 (by omega), fun d => t24 (Or.inr (by omega))⟩⟩
def zX9_setOf_6 : zz_Sp := fun as M Q X => match as with
  | [.inr (.inr (some h_)), .inl p, .inl a, .inl b, .inl s] => bif Nat.beq h_ 0 && Nat.beq M.1.1 1 then ((p = 0 ∨ p = 1) ∧ (s = 0 ∨ s = 1) ∧ (0 ≤ a ∧ a ≤ 6) ∧ (0 ≤ b ∧ b ≤ 6) ∧ (1 ≤ M.2.1 1 194 ∧ M.2.1 1 194 ≤ 6) ∧ (a ≤ M.2.1 1 194 ∧ b ≤ M.2.1 1 194) ∧ M.2.1 1 194 - a + (M.2.1 1 194 - b) ≤ 6 ∧ wyG (M.2.2.1 12) ∧ Q (some (vl (stO (M.2.2.1 12) (M.2.1 1 194) p 6 a b s.toNat))) (zm M.2.1 M.2.2.1)) else False
  | _ => False

def zpX9_setOf_6 : zz_P := [(0, zo_ild 1 2), (1, zo_ald 2 0), (2, zo_get 5 8 2 1), (5, zo_c 8 (vi 194)), (8, zo_ialc 9 194), (9, zo_cge false false 12 24), (12, zo_ild 13 3), (13, zo_ald 14 0), (14, zo_get 17 8 2 1), (17, zo_c 20 (vi 194)), (20, zo_ialc 21 194), (21, zo_clt false false 24 52), (24, zo_ild 25 1), (25, zo_ifne false 28 32), (28, zo_ild 29 2), (29, zo_goto 33), (32, zo_ild 33 3), (33, zo_ald 34 0), (34, zo_get 37 8 2 1), (37, zo_c 40 (vi 194)), (40, zo_ialc 41 194), (41, zo_clt false false 44 50), (44, zo_c 47 (vl 1000000000)), (47, zo_goto 51), (50, zo_c 51 (vl 0)), (51, zo_lret), (52, zo_c 53 (vl 0)), (53, zo_lst 55 5), (55, zo_c 56 (vi 0)), (56, zo_ist 58 7), (58, zo_ild 60 7), (60, zo_c 61 (vi 2)), (61, zo_cge false true 64 144), (64, zo_c 65 (vi 0)), (65, zo_ist 67 8), (67, zo_ild 69 8), (69, zo_c 70 (vi 2)), (70, zo_cge false true 73 138), (73, zo_lld 75 5), (75, zo_ald 76 0), (76, zo_get 79 8 2 24), (79, zo_c 80 (vi 4)), (80, zo_ild 82 4), (82, zo_imul 83), (83, zo_c 84 (vi 2)), (84, zo_ild 86 7), (86, zo_imul 87), (87, zo_iadd 88), (88, zo_ild 90 8), (90, zo_iadd 91), (91, zo_lald 92), (92, zo_ald 93 0), (93, zo_ild 94 1), (94, zo_ild 96 7), (96, zo_ifne false 99 105), (99, zo_ild 100 2), (100, zo_c 101 (vi 1)), (101, zo_iadd 102), (102, zo_goto 106), (105, zo_ild 106 2), (106, zo_ild 108 7), (108, zo_c 109 (vi 1)), (109, zo_cne false true 112 118), (112, zo_ild 113 3), (113, zo_c 114 (vi 1)), (114, zo_iadd 115), (115, zo_goto 119), (118, zo_ild 119 3), (119, zo_ild 121 8), (121, zo_callv 124 5 8 zX9_setOf_5), (124, zo_lmul 125), (125, zo_c 128 (vl 1000000000)), (128, zo_ldiv 129), (129, zo_ladd 130), (130, zo_lst 132 5), (132, zo_inc 135 8 1), (135, zo_goto 67), (138, zo_inc 141 7 1), (141, zo_goto 58), (144, zo_lld 146 5), (146, zo_lret)]
theorem ztX9_setOf_6 {C : mm_C} (G : mm_G C RX9 cX9_setOf (some .long) 9 (mm_rm 7 0 0)) (hnh : mm_nh C) : zz_OKs C zpX9_setOf_6 :=
  ⟨zz_of (ok_iload_n G dX9_setOf_0 rfl rfl) (z_ild _ _),
   zz_of (ok_aload_n G dX9_setOf_1 rfl rfl) (z_ald _ _),
   zz_of (ok_get G (nx := 5) (ci := 8) (kd := 2) (k := 1) (RX9, TX9, 32) rfl (by decide) rfl q1806 dX9_setOf_2 rfl) (z_get _ _ _ _),
   zz_of (ok_sipush G (v := 194) dX9_setOf_5 (by decide) rfl) (z_cn 8 194),
   zz_of (ok_iald G dX9_setOf_8 rfl) (z_ialc _ _),
   zz_of (ok_cge G dX9_setOf_9 rfl rfl) (z_cge _ _ _ _),
   zz_of (ok_iload_n G dX9_setOf_12 rfl rfl) (z_ild _ _),
   zz_of (ok_aload_n G dX9_setOf_13 rfl rfl) (z_ald _ _),
   zz_of (ok_get G (nx := 17) (ci := 8) (kd := 2) (k := 1) (RX9, TX9, 32) rfl (by decide) rfl q1806 dX9_setOf_14 rfl) (z_get _ _ _ _),
   zz_of (ok_sipush G (v := 194) dX9_setOf_17 (by decide) rfl) (z_cn 20 194),
   zz_of (ok_iald G dX9_setOf_20 rfl) (z_ialc _ _),
   zz_of (ok_clt G dX9_setOf_21 rfl rfl) (z_clt _ _ _ _),
   zz_of (ok_iload_n G dX9_setOf_24 rfl rfl) (z_ild _ _),
   zz_of (ok_ifne G dX9_setOf_25 rfl rfl) (z_ifne _ _ _),
   zz_of (ok_iload_n G dX9_setOf_28 rfl rfl) (z_ild _ _),
   zz_of (ok_goto G dX9_setOf_29 rfl) (z_goto _),
   zz_of (ok_iload_n G dX9_setOf_32 rfl rfl) (z_ild _ _),
   zz_of (ok_aload_n G dX9_setOf_33 rfl rfl) (z_ald _ _),
   zz_of (ok_get G (nx := 37) (ci := 8) (kd := 2) (k := 1) (RX9, TX9, 32) rfl (by decide) rfl q1806 dX9_setOf_34 rfl) (z_get _ _ _ _),
   zz_of (ok_sipush G (v := 194) dX9_setOf_37 (by decide) rfl) (z_cn 40 194),
   zz_of (ok_iald G dX9_setOf_40 rfl) (z_ialc _ _),
   zz_of (ok_clt G dX9_setOf_41 rfl rfl) (z_clt _ _ _ _),
   zz_of (ok_ldc2 G (v := 1000000000) q2137 dX9_setOf_44 rfl) (z_cl 47 1000000000),
   zz_of (ok_goto G dX9_setOf_47 rfl) (z_goto _),
   zz_of (ok_lconst G (v := 0) dX9_setOf_50 (by decide) rfl) (z_cl 51 0),
   zz_of (ok_lret G dX9_setOf_51) (z_lret),
   zz_of (ok_lconst G (v := 0) dX9_setOf_52 (by decide) rfl) (z_cl 53 0),
   zz_of (ok_lstore G dX9_setOf_53 rfl (by decide)) (z_lst _ _),
   zz_of (ok_iconst G (v := 0) dX9_setOf_55 (by decide) rfl) (z_cn 56 0),
   zz_of (ok_istore G dX9_setOf_56 rfl (by decide)) (z_ist _ _),
   zz_of (ok_iload G dX9_setOf_58 rfl) (z_ild _ _),
   zz_of (ok_iconst G (v := 2) dX9_setOf_60 (by decide) rfl) (z_cn 61 2),
   zz_of (ok_cge G dX9_setOf_61 rfl rfl) (z_cge _ _ _ _),
   zz_of (ok_iconst G (v := 0) dX9_setOf_64 (by decide) rfl) (z_cn 65 0),
   zz_of (ok_istore G dX9_setOf_65 rfl (by decide)) (z_ist _ _),
   zz_of (ok_iload G dX9_setOf_67 rfl) (z_ild _ _),
   zz_of (ok_iconst G (v := 2) dX9_setOf_69 (by decide) rfl) (z_cn 70 2),
   zz_of (ok_cge G dX9_setOf_70 rfl rfl) (z_cge _ _ _ _),
   zz_of (ok_lload G dX9_setOf_73 rfl) (z_lld _ _),
   zz_of (ok_aload_n G dX9_setOf_75 rfl rfl) (z_ald _ _),
   zz_of (ok_get G (nx := 79) (ci := 8) (kd := 2) (k := 24) (RX9, TX9, 32) rfl (by decide) rfl q1829 dX9_setOf_76 rfl) (z_get _ _ _ _),
   zz_of (ok_iconst G (v := 4) dX9_setOf_79 (by decide) rfl) (z_cn 80 4),
   zz_of (ok_iload G dX9_setOf_80 rfl) (z_ild _ _),
   zz_of (ok_imul G dX9_setOf_82 rfl) (z_imul _),
   zz_of (ok_iconst G (v := 2) dX9_setOf_83 (by decide) rfl) (z_cn 84 2),
   zz_of (ok_iload G dX9_setOf_84 rfl) (z_ild _ _),
   zz_of (ok_imul G dX9_setOf_86 rfl) (z_imul _),
   zz_of (ok_iadd G dX9_setOf_87 rfl) (z_iadd _),
   zz_of (ok_iload G dX9_setOf_88 rfl) (z_ild _ _),
   zz_of (ok_iadd G dX9_setOf_90 rfl) (z_iadd _),
   zz_of (ok_lald G dX9_setOf_91 rfl) (z_lald _),
   zz_of (ok_aload_n G dX9_setOf_92 rfl rfl) (z_ald _ _),
   zz_of (ok_iload_n G dX9_setOf_93 rfl rfl) (z_ild _ _),
   zz_of (ok_iload G dX9_setOf_94 rfl) (z_ild _ _),
   zz_of (ok_ifne G dX9_setOf_96 rfl rfl) (z_ifne _ _ _),
   zz_of (ok_iload_n G dX9_setOf_99 rfl rfl) (z_ild _ _),
   zz_of (ok_iconst G (v := 1) dX9_setOf_100 (by decide) rfl) (z_cn 101 1),
   zz_of (ok_iadd G dX9_setOf_101 rfl) (z_iadd _),
   zz_of (ok_goto G dX9_setOf_102 rfl) (z_goto _),
   zz_of (ok_iload_n G dX9_setOf_105 rfl rfl) (z_ild _ _),
   zz_of (ok_iload G dX9_setOf_106 rfl) (z_ild _ _),
   zz_of (ok_iconst G (v := 1) dX9_setOf_108 (by decide) rfl) (z_cn 109 1),
   zz_of (ok_cne G dX9_setOf_109 rfl rfl) (z_cne _ _ _ _),
   zz_of (ok_iload_n G dX9_setOf_112 rfl rfl) (z_ild _ _),
   zz_of (ok_iconst G (v := 1) dX9_setOf_113 (by decide) rfl) (z_cn 114 1),
   zz_of (ok_iadd G dX9_setOf_114 rfl) (z_iadd _),
   zz_of (ok_goto G dX9_setOf_115 rfl) (z_goto _),
   zz_of (ok_iload_n G dX9_setOf_118 rfl rfl) (z_ild _ _),
   zz_of (ok_iload G dX9_setOf_119 rfl) (z_ild _ _),
   zz_of (ok_callv G hnh (zmX9_setOf_5 _ G.hst) rfl rfl (RX9, TX9, 32) rfl q2165 q2167 qs75 q93 q2168 (by decide +kernel) ⟨by decide, by decide⟩ dX9_setOf_121 rfl) (z_callv _ _ _ _),
   zz_of (ok_lmul G dX9_setOf_124 rfl) (z_lmul _),
   zz_of (ok_ldc2 G (v := 1000000000) q2137 dX9_setOf_125 rfl) (z_cl 128 1000000000),
   zz_of (ok_ldiv G dX9_setOf_128 rfl) (z_ldiv _),
   zz_of (ok_ladd G dX9_setOf_129 rfl) (z_ladd _),
   zz_of (ok_lstore G dX9_setOf_130 rfl (by decide)) (z_lst _ _),
   zz_of (ok_iinc G (v := 1) dX9_setOf_132 (by decide) rfl (by decide)) (z_incn 135 8 1),
   zz_of (ok_goto G dX9_setOf_135 rfl) (z_goto _),
   zz_of (ok_iinc G (v := 1) dX9_setOf_138 (by decide) rfl (by decide)) (z_incn 141 7 1),
   zz_of (ok_goto G dX9_setOf_141 rfl) (z_goto _),
   zz_of (ok_lload G dX9_setOf_144 rfl) (z_lld _ _),
   zz_of (ok_lret G dX9_setOf_146) (z_lret), trivial⟩

theorem zwX9_setOf_6_0 {Q : Option zv → zz_M → Prop} {X : Nat → zz_M → Prop} {S L : Nat → Nat → Int} {p : Int} {a : Int} {b : Int} {s : Int} (h : R32 a ∧ (R32 (S 1 194) ∧ (((S 1 194) ≤ a → zz_J zpX9_setOf_6 (zz_ret Q X 0 0) 24 [some (vr 0), some (vi p), some (vi a), some (vi b), none, none, none, none, none] [] (zm S L) (0, 0)) ∧ (¬ (S 1 194) ≤ a → R32 b ∧ (R32 (S 1 194) ∧ ((b < (S 1 194) → zz_J zpX9_setOf_6 (zz_ret Q X 0 0) 52 [some (vr 0), some (vi p), some (vi a), some (vi b), some (vi s), none, none, none, none] [] (zm S L) (0, 0)) ∧ (¬ b < (S 1 194) → zz_J zpX9_setOf_6 (zz_ret Q X 0 0) 24 [some (vr 0), some (vi p), some (vi a), some (vi b), none, none, none, none, none] [] (zm S L) (0, 0)))))))) : zz_J zpX9_setOf_6 (zz_ret Q X 0 0) 0 [some (vr 0), some (vi p), some (vi a), some (vi b), some (vi s), none, none, none, none] [] (zm S L) (0, 0) := zz_J.go [(24, [4, 5, 6, 7, 8]), (33, [1, 2, 3, 4, 5, 6, 7, 8]), (52, [5, 6, 7, 8]), (58, [6, 8]), (67, [6])] 400 h
theorem zwX9_setOf_6_24 {Q : Option zv → zz_M → Prop} {X : Nat → zz_M → Prop} {S L : Nat → Nat → Int} {x1 : Int} {x2 : Int} {x3 : Int} (h : R32 x1 ∧ ((¬ x1 = 0 → zz_J zpX9_setOf_6 (zz_ret Q X 0 0) 33 [some (vr 0), none, none, none, none, none, none, none, none] [vi x3] (zm S L) (0, 0)) ∧ (x1 = 0 → zz_J zpX9_setOf_6 (zz_ret Q X 0 0) 33 [some (vr 0), none, none, none, none, none, none, none, none] [vi x2] (zm S L) (0, 0)))) : zz_J zpX9_setOf_6 (zz_ret Q X 0 0) 24 [some (vr 0), some (vi x1), some (vi x2), some (vi x3), none, none, none, none, none] [] (zm S L) (0, 0) := zz_J.go [(24, [4, 5, 6, 7, 8]), (33, [1, 2, 3, 4, 5, 6, 7, 8]), (52, [5, 6, 7, 8]), (58, [6, 8]), (67, [6])] 400 h
theorem zwX9_setOf_6_33 {Q : Option zv → zz_M → Prop} {X : Nat → zz_M → Prop} {S L : Nat → Nat → Int} {t0 : Int} (h : R32 t0 ∧ (R32 (S 1 194) ∧ ((t0 < (S 1 194) → Q (some (vl 0)) (zm S L)) ∧ (¬ t0 < (S 1 194) → Q (some (vl 1000000000)) (zm S L))))) : zz_J zpX9_setOf_6 (zz_ret Q X 0 0) 33 [some (vr 0), none, none, none, none, none, none, none, none] [vi t0] (zm S L) (0, 0) := zz_J.go [(24, [4, 5, 6, 7, 8]), (33, [1, 2, 3, 4, 5, 6, 7, 8]), (52, [5, 6, 7, 8]), (58, [6, 8]), (67, [6])] 400 h
theorem zwX9_setOf_6_52 {Q : Option zv → zz_M → Prop} {X : Nat → zz_M → Prop} {S L : Nat → Nat → Int} {x1 : Int} {x2 : Int} {x3 : Int} {x4 : Int} (h : zz_J zpX9_setOf_6 (zz_ret Q X 0 0) 58 [some (vr 0), some (vi x1), some (vi x2), some (vi x3), some (vi x4), some (vl 0), none, some (vi 0), none] [] (zm S L) (0, 0)) : zz_J zpX9_setOf_6 (zz_ret Q X 0 0) 52 [some (vr 0), some (vi x1), some (vi x2), some (vi x3), some (vi x4), none, none, none, none] [] (zm S L) (0, 0) := zz_J.go [(24, [4, 5, 6, 7, 8]), (33, [1, 2, 3, 4, 5, 6, 7, 8]), (52, [5, 6, 7, 8]), (58, [6, 8]), (67, [6])] 400 h
theorem zwX9_setOf_6_58 {Q : Option zv → zz_M → Prop} {X : Nat → zz_M → Prop} {S L : Nat → Nat → Int} {x1 : Int} {x2 : Int} {x3 : Int} {x4 : Int} {x5 : Int} {x7 : Int} (h : R32 x7 ∧ ((2 ≤ x7 → Q (some (vl x5)) (zm S L)) ∧ (¬ 2 ≤ x7 → zz_J zpX9_setOf_6 (zz_ret Q X 0 0) 67 [some (vr 0), some (vi x1), some (vi x2), some (vi x3), some (vi x4), some (vl x5), none, some (vi x7), some (vi 0)] [] (zm S L) (0, 0)))) : zz_J zpX9_setOf_6 (zz_ret Q X 0 0) 58 [some (vr 0), some (vi x1), some (vi x2), some (vi x3), some (vi x4), some (vl x5), none, some (vi x7), none] [] (zm S L) (0, 0) := zz_J.go [(24, [4, 5, 6, 7, 8]), (33, [1, 2, 3, 4, 5, 6, 7, 8]), (52, [5, 6, 7, 8]), (58, [6, 8]), (67, [6])] 400 h
theorem zwX9_setOf_6_67 {Q : Option zv → zz_M → Prop} {X : Nat → zz_M → Prop} {S L : Nat → Nat → Int} {x1 : Int} {x2 : Int} {x3 : Int} {x4 : Int} {x5 : Int} {x7 : Int} {x8 : Int} (h : R32 x8 ∧ ((2 ≤ x8 → zz_J zpX9_setOf_6 (zz_ret Q X 0 0) 58 [some (vr 0), some (vi x1), some (vi x2), some (vi x3), some (vi x4), some (vl x5), none, some (vi (x7 + 1)), none] [] (zm S L) (0, 0)) ∧ (¬ 2 ≤ x8 → (0 ≤ (((4 * x4) + (2 * x7)) + x8) ∧ (((4 * x4) + (2 * x7)) + x8) < 8) ∧ (R32 x7 ∧ ((¬ x7 = 0 → R32 x7 ∧ ((¬ x7 = 1 → ((x1 = 0 ∨ x1 = 1) ∧ (x8 = 0 ∨ x8 = 1) ∧ (0 ≤ x2 ∧ x2 ≤ 6) ∧ (0 ≤ x3 ∧ x3 ≤ 6) ∧ (1 ≤ S 1 194 ∧ S 1 194 ≤ 6) ∧ (x2 ≤ S 1 194 ∧ x3 ≤ S 1 194) ∧ S 1 194 - x2 + (S 1 194 - x3) ≤ 5 ∧ wyG (L 12) ∧ ((0 ≤ ((L 12 ((((4 * x4) + (2 * x7)) + x8).toNat)) * (stO (L 12) (S 1 194) x1 5 x2 x3 x8.toNat)) ∧ ((L 12 ((((4 * x4) + (2 * x7)) + x8).toNat)) * (stO (L 12) (S 1 194) x1 5 x2 x3 x8.toNat)) < 9223372036854775808) ∧ (zz_J zpX9_setOf_6 (zz_ret Q X 0 0) 67 [some (vr 0), some (vi x1), some (vi x2), some (vi x3), some (vi x4), some (vl (x5 + (((L 12 ((((4 * x4) + (2 * x7)) + x8).toNat)) * (stO (L 12) (S 1 194) x1 5 x2 x3 x8.toNat)) / 1000000000))), none, some (vi x7), some (vi (x8 + 1))] [] (zm S L) (0, 0))))) ∧ (x7 = 1 → ((x1 = 0 ∨ x1 = 1) ∧ (x8 = 0 ∨ x8 = 1) ∧ (0 ≤ x2 ∧ x2 ≤ 6) ∧ (0 ≤ (x3 + 1) ∧ (x3 + 1) ≤ 6) ∧ (1 ≤ S 1 194 ∧ S 1 194 ≤ 6) ∧ (x2 ≤ S 1 194 ∧ (x3 + 1) ≤ S 1 194) ∧ S 1 194 - x2 + (S 1 194 - (x3 + 1)) ≤ 5 ∧ wyG (L 12) ∧ ((0 ≤ ((L 12 ((((4 * x4) + (2 * x7)) + x8).toNat)) * (stO (L 12) (S 1 194) x1 5 x2 (x3 + 1) x8.toNat)) ∧ ((L 12 ((((4 * x4) + (2 * x7)) + x8).toNat)) * (stO (L 12) (S 1 194) x1 5 x2 (x3 + 1) x8.toNat)) < 9223372036854775808) ∧ (zz_J zpX9_setOf_6 (zz_ret Q X 0 0) 67 [some (vr 0), some (vi x1), some (vi x2), some (vi x3), some (vi x4), some (vl (x5 + (((L 12 ((((4 * x4) + (2 * x7)) + x8).toNat)) * (stO (L 12) (S 1 194) x1 5 x2 (x3 + 1) x8.toNat)) / 1000000000))), none, some (vi x7), some (vi (x8 + 1))] [] (zm S L) (0, 0))))))) ∧ (x7 = 0 → R32 x7 ∧ ((¬ x7 = 1 → ((x1 = 0 ∨ x1 = 1) ∧ (x8 = 0 ∨ x8 = 1) ∧ (0 ≤ (x2 + 1) ∧ (x2 + 1) ≤ 6) ∧ (0 ≤ x3 ∧ x3 ≤ 6) ∧ (1 ≤ S 1 194 ∧ S 1 194 ≤ 6) ∧ ((x2 + 1) ≤ S 1 194 ∧ x3 ≤ S 1 194) ∧ S 1 194 - (x2 + 1) + (S 1 194 - x3) ≤ 5 ∧ wyG (L 12) ∧ ((0 ≤ ((L 12 ((((4 * x4) + (2 * x7)) + x8).toNat)) * (stO (L 12) (S 1 194) x1 5 (x2 + 1) x3 x8.toNat)) ∧ ((L 12 ((((4 * x4) + (2 * x7)) + x8).toNat)) * (stO (L 12) (S 1 194) x1 5 (x2 + 1) x3 x8.toNat)) < 9223372036854775808) ∧ (zz_J zpX9_setOf_6 (zz_ret Q X 0 0) 67 [some (vr 0), some (vi x1), some (vi x2), some (vi x3), some (vi x4), some (vl (x5 + (((L 12 ((((4 * x4) + (2 * x7)) + x8).toNat)) * (stO (L 12) (S 1 194) x1 5 (x2 + 1) x3 x8.toNat)) / 1000000000))), none, some (vi x7), some (vi (x8 + 1))] [] (zm S L) (0, 0))))) ∧ (x7 = 1 → ((x1 = 0 ∨ x1 = 1) ∧ (x8 = 0 ∨ x8 = 1) ∧ (0 ≤ (x2 + 1) ∧ (x2 + 1) ≤ 6) ∧ (0 ≤ (x3 + 1) ∧ (x3 + 1) ≤ 6) ∧ (1 ≤ S 1 194 ∧ S 1 194 ≤ 6) ∧ ((x2 + 1) ≤ S 1 194 ∧ (x3 + 1) ≤ S 1 194) ∧ S 1 194 - (x2 + 1) + (S 1 194 - (x3 + 1)) ≤ 5 ∧ wyG (L 12) ∧ ((0 ≤ ((L 12 ((((4 * x4) + (2 * x7)) + x8).toNat)) * (stO (L 12) (S 1 194) x1 5 (x2 + 1) (x3 + 1) x8.toNat)) ∧ ((L 12 ((((4 * x4) + (2 * x7)) + x8).toNat)) * (stO (L 12) (S 1 194) x1 5 (x2 + 1) (x3 + 1) x8.toNat)) < 9223372036854775808) ∧ (zz_J zpX9_setOf_6 (zz_ret Q X 0 0) 67 [some (vr 0), some (vi x1), some (vi x2), some (vi x3), some (vi x4), some (vl (x5 + (((L 12 ((((4 * x4) + (2 * x7)) + x8).toNat)) * (stO (L 12) (S 1 194) x1 5 (x2 + 1) (x3 + 1) x8.toNat)) / 1000000000))), none, some (vi x7), some (vi (x8 + 1))] [] (zm S L) (0, 0)))))))))))) : zz_J zpX9_setOf_6 (zz_ret Q X 0 0) 67 [some (vr 0), some (vi x1), some (vi x2), some (vi x3), some (vi x4), some (vl x5), none, some (vi x7), some (vi x8)] [] (zm S L) (0, 0) := zz_J.go [(24, [4, 5, 6, 7, 8]), (33, [1, 2, 3, 4, 5, 6, 7, 8]), (52, [5, 6, 7, 8]), (58, [6, 8]), (67, [6])] 400 h

theorem zmX9_setOf_6 (l : Launch) (hl : l.stackTraces = false) : mm_Spec l yX9_setOf (ws_ yX9_setOf cX9_setOf 9 (some .long)) (mm_rm 7 0 0) (zE zX9_setOf_6) := by
  refine zz_Met.J hl (by decide) (fun C G hnh => ztX9_setOf_6 G hnh) ?_
  rintro as ⟨⟨t_, f⟩, S, L, P⟩ Q X h
  unfold zX9_setOf_6 at h
  split at h
  rotate_left
  · exact h.elim
  rename_i h_ p a b s
  obtain ⟨e1_, e2_, h⟩ := mm_and2 h (fun q => q)
  cases mm_beq e1_
  cases mm_beq e2_
  try dsimp only at h
  refine ⟨rfl, ?_⟩
  refine zz_Jev (M' := zm S L) rfl rfl rfl ?_
  obtain ⟨hp, hs, ha, hb, hG, hab, hr, hwy, hq⟩ := h
  have t24 : (S 1 194 ≤ a ∨ S 1 194 ≤ b) → zz_J zpX9_setOf_6 (zz_ret Q X 0 0) 24 [some (vr 0), some (vi p), some (vi a), some (vi b), none, none, none, none, none] [] (zm S L) (0, 0) := by
    intro h
    rw [stO_o h] at hq
    refine zwX9_setOf_6_24 ⟨by omega, fun c => ?_, fun c => ?_⟩
    · rw [if_neg c] at hq
      refine zwX9_setOf_6_33 ⟨by omega, by omega, fun d => ?_, fun d => ?_⟩
      · rw [if_neg (by omega)] at hq; exact hq
      · rw [if_pos (by omega)] at hq; exact hq
    · rw [if_pos c] at hq
      refine zwX9_setOf_6_33 ⟨by omega, by omega, fun d => ?_, fun d => ?_⟩
      · rw [if_neg (by omega)] at hq; exact hq
      · rw [if_pos (by omega)] at hq; exact hq
  obtain ⟨u, hu, rfl⟩ : ∃ u : Nat, u < 2 ∧ s = u := ⟨s.toNat, by omega, by omega⟩
  rw [Int.toNat_natCast] at hq
  have t52 : ¬ (S 1 194 ≤ a ∨ S 1 194 ≤ b) → zz_J zpX9_setOf_6 (zz_ret Q X 0 0) 52 [some (vr 0), some (vi p), some (vi a), some (vi b), some (vi u), none, none, none, none] [] (zm S L) (0, 0) := by
    intro h
    rw [show stO (L 12) (S 1 194) p 6 a b u = _ from stO_s h 5] at hq
    have i0 := stO_in (G := S 1 194) (p := p) hwy 5 (a + 1) b 0 (by decide)
    have i1 := stO_in (G := S 1 194) (p := p) hwy 5 (a + 1) b 1 (by decide)
    have i2 := stO_in (G := S 1 194) (p := p) hwy 5 a (b + 1) 0 (by decide)
    have i3 := stO_in (G := S 1 194) (p := p) hwy 5 a (b + 1) 1 (by decide)
    have w0 := hwy.1 (4 * u) (by omega)
    have w1 := hwy.1 (4 * u + 1) (by omega)
    have w2 := hwy.1 (4 * u + 2) (by omega)
    have w3 := hwy.1 (4 * u + 3) (by omega)
    have m0 := mul_sure w0.1 i0.1 i0.2
    have m1 := mul_sure w1.1 i1.1 i1.2
    have m2 := mul_sure w2.1 i2.1 i2.2
    have m3 := mul_sure w3.1 i3.1 i3.2
    have e0 : ((4 : Int) * u + 2 * 0 + 0).toNat = 4 * u := by omega
    have e1 : ((4 : Int) * u + 2 * 0 + 1).toNat = 4 * u + 1 := by omega
    have e2 : ((4 : Int) * u + 2 * 1 + 0).toNat = 4 * u + 2 := by omega
    have e3 : ((4 : Int) * u + 2 * 1 + 1).toNat = 4 * u + 3 := by omega
    refine zwX9_setOf_6_52 (zwX9_setOf_6_58 ⟨by decide, fun c => absurd c (by decide), fun _ => ?_⟩)
    refine zwX9_setOf_6_67 ⟨by decide, fun c => absurd c (by decide), fun _ => ⟨by omega, by decide, fun c => absurd rfl c, fun _ => ⟨by decide, fun _ => ?_, fun c => absurd c (by decide)⟩⟩⟩
    refine ⟨hp, Or.inl rfl, by omega, hb, hG, by omega, by omega, hwy, ?_⟩
    rw [e0]
    refine ⟨by show 0 ≤ L 12 (4 * u) * stO (L 12) (S 1 194) p 5 (a + 1) b 0 ∧ L 12 (4 * u) * stO (L 12) (S 1 194) p 5 (a + 1) b 0 < 9223372036854775808; omega, ?_⟩
    refine zwX9_setOf_6_67 ⟨by decide, fun c => absurd c (by decide), fun _ => ⟨by omega, by decide, fun c => absurd rfl c, fun _ => ⟨by decide, fun _ => ?_, fun c => absurd c (by decide)⟩⟩⟩
    refine ⟨hp, Or.inr rfl, by omega, hb, hG, by omega, by omega, hwy, ?_⟩
    rw [show ((4 : Int) * u + 2 * 0 + (0 + 1)).toNat = 4 * u + 1 by omega]
    refine ⟨by show 0 ≤ L 12 (4 * u + 1) * stO (L 12) (S 1 194) p 5 (a + 1) b 1 ∧ L 12 (4 * u + 1) * stO (L 12) (S 1 194) p 5 (a + 1) b 1 < 9223372036854775808; omega, ?_⟩
    refine zwX9_setOf_6_67 ⟨by decide, fun _ => ?_, fun c => absurd c (by decide)⟩
    refine zwX9_setOf_6_58 ⟨by decide, fun c => absurd c (by decide), fun _ => ?_⟩
    refine zwX9_setOf_6_67 ⟨by decide, fun c => absurd c (by decide), fun _ => ⟨by omega, by decide, fun _ => ⟨by decide, fun c => absurd rfl c, fun _ => ?_⟩, fun c => absurd c (by decide)⟩⟩
    refine ⟨hp, Or.inl rfl, ha, by omega, hG, by omega, by omega, hwy, ?_⟩
    rw [show ((4 : Int) * u + 2 * (0 + 1) + 0).toNat = 4 * u + 2 by omega]
    refine ⟨by show 0 ≤ L 12 (4 * u + 2) * stO (L 12) (S 1 194) p 5 a (b + 1) 0 ∧ L 12 (4 * u + 2) * stO (L 12) (S 1 194) p 5 a (b + 1) 0 < 9223372036854775808; omega, ?_⟩
    refine zwX9_setOf_6_67 ⟨by decide, fun c => absurd c (by decide), fun _ => ⟨by omega, by decide, fun _ => ⟨by decide, fun c => absurd rfl c, fun _ => ?_⟩, fun c => absurd c (by decide)⟩⟩
    refine ⟨hp, Or.inr rfl, ha, by omega, hG, by omega, by omega, hwy, ?_⟩
    rw [show ((4 : Int) * u + 2 * (0 + 1) + (0 + 1)).toNat = 4 * u + 3 by omega]
    refine ⟨by show 0 ≤ L 12 (4 * u + 3) * stO (L 12) (S 1 194) p 5 a (b + 1) 1 ∧ L 12 (4 * u + 3) * stO (L 12) (S 1 194) p 5 a (b + 1) 1 < 9223372036854775808; omega, ?_⟩
    refine zwX9_setOf_6_67 ⟨by decide, fun _ => ?_, fun c => absurd c (by decide)⟩
    refine zwX9_setOf_6_58 ⟨by decide, fun _ => ?_, fun c => absurd c (by decide)⟩
    have ez : ∀ x y z w : Int, 0 + x + y + z + w = x + y + z + w := fun x y z w => by omega
    rw [ez]
    exact hq
  refine zwX9_setOf_6_0 ⟨by omega, by omega, fun c => t24 (Or.inl c), fun c => ⟨by omega, by omega, fun d => t52 (by omega), fun d => t24 (Or.inr (by omega))⟩⟩
def zX9_setOf_7 : zz_Sp := fun as M Q X => match as with
  | [.inr (.inr (some h_)), .inl p, .inl a, .inl b, .inl s] => bif Nat.beq h_ 0 && Nat.beq M.1.1 1 then ((p = 0 ∨ p = 1) ∧ (s = 0 ∨ s = 1) ∧ (0 ≤ a ∧ a ≤ 6) ∧ (0 ≤ b ∧ b ≤ 6) ∧ (1 ≤ M.2.1 1 194 ∧ M.2.1 1 194 ≤ 6) ∧ (a ≤ M.2.1 1 194 ∧ b ≤ M.2.1 1 194) ∧ M.2.1 1 194 - a + (M.2.1 1 194 - b) ≤ 7 ∧ wyG (M.2.2.1 12) ∧ Q (some (vl (stO (M.2.2.1 12) (M.2.1 1 194) p 7 a b s.toNat))) (zm M.2.1 M.2.2.1)) else False
  | _ => False

def zpX9_setOf_7 : zz_P := [(0, zo_ild 1 2), (1, zo_ald 2 0), (2, zo_get 5 8 2 1), (5, zo_c 8 (vi 194)), (8, zo_ialc 9 194), (9, zo_cge false false 12 24), (12, zo_ild 13 3), (13, zo_ald 14 0), (14, zo_get 17 8 2 1), (17, zo_c 20 (vi 194)), (20, zo_ialc 21 194), (21, zo_clt false false 24 52), (24, zo_ild 25 1), (25, zo_ifne false 28 32), (28, zo_ild 29 2), (29, zo_goto 33), (32, zo_ild 33 3), (33, zo_ald 34 0), (34, zo_get 37 8 2 1), (37, zo_c 40 (vi 194)), (40, zo_ialc 41 194), (41, zo_clt false false 44 50), (44, zo_c 47 (vl 1000000000)), (47, zo_goto 51), (50, zo_c 51 (vl 0)), (51, zo_lret), (52, zo_c 53 (vl 0)), (53, zo_lst 55 5), (55, zo_c 56 (vi 0)), (56, zo_ist 58 7), (58, zo_ild 60 7), (60, zo_c 61 (vi 2)), (61, zo_cge false true 64 144), (64, zo_c 65 (vi 0)), (65, zo_ist 67 8), (67, zo_ild 69 8), (69, zo_c 70 (vi 2)), (70, zo_cge false true 73 138), (73, zo_lld 75 5), (75, zo_ald 76 0), (76, zo_get 79 8 2 24), (79, zo_c 80 (vi 4)), (80, zo_ild 82 4), (82, zo_imul 83), (83, zo_c 84 (vi 2)), (84, zo_ild 86 7), (86, zo_imul 87), (87, zo_iadd 88), (88, zo_ild 90 8), (90, zo_iadd 91), (91, zo_lald 92), (92, zo_ald 93 0), (93, zo_ild 94 1), (94, zo_ild 96 7), (96, zo_ifne false 99 105), (99, zo_ild 100 2), (100, zo_c 101 (vi 1)), (101, zo_iadd 102), (102, zo_goto 106), (105, zo_ild 106 2), (106, zo_ild 108 7), (108, zo_c 109 (vi 1)), (109, zo_cne false true 112 118), (112, zo_ild 113 3), (113, zo_c 114 (vi 1)), (114, zo_iadd 115), (115, zo_goto 119), (118, zo_ild 119 3), (119, zo_ild 121 8), (121, zo_callv 124 5 8 zX9_setOf_6), (124, zo_lmul 125), (125, zo_c 128 (vl 1000000000)), (128, zo_ldiv 129), (129, zo_ladd 130), (130, zo_lst 132 5), (132, zo_inc 135 8 1), (135, zo_goto 67), (138, zo_inc 141 7 1), (141, zo_goto 58), (144, zo_lld 146 5), (146, zo_lret)]
theorem ztX9_setOf_7 {C : mm_C} (G : mm_G C RX9 cX9_setOf (some .long) 9 (mm_rm 8 0 0)) (hnh : mm_nh C) : zz_OKs C zpX9_setOf_7 :=
  ⟨zz_of (ok_iload_n G dX9_setOf_0 rfl rfl) (z_ild _ _),
   zz_of (ok_aload_n G dX9_setOf_1 rfl rfl) (z_ald _ _),
   zz_of (ok_get G (nx := 5) (ci := 8) (kd := 2) (k := 1) (RX9, TX9, 32) rfl (by decide) rfl q1806 dX9_setOf_2 rfl) (z_get _ _ _ _),
   zz_of (ok_sipush G (v := 194) dX9_setOf_5 (by decide) rfl) (z_cn 8 194),
   zz_of (ok_iald G dX9_setOf_8 rfl) (z_ialc _ _),
   zz_of (ok_cge G dX9_setOf_9 rfl rfl) (z_cge _ _ _ _),
   zz_of (ok_iload_n G dX9_setOf_12 rfl rfl) (z_ild _ _),
   zz_of (ok_aload_n G dX9_setOf_13 rfl rfl) (z_ald _ _),
   zz_of (ok_get G (nx := 17) (ci := 8) (kd := 2) (k := 1) (RX9, TX9, 32) rfl (by decide) rfl q1806 dX9_setOf_14 rfl) (z_get _ _ _ _),
   zz_of (ok_sipush G (v := 194) dX9_setOf_17 (by decide) rfl) (z_cn 20 194),
   zz_of (ok_iald G dX9_setOf_20 rfl) (z_ialc _ _),
   zz_of (ok_clt G dX9_setOf_21 rfl rfl) (z_clt _ _ _ _),
   zz_of (ok_iload_n G dX9_setOf_24 rfl rfl) (z_ild _ _),
   zz_of (ok_ifne G dX9_setOf_25 rfl rfl) (z_ifne _ _ _),
   zz_of (ok_iload_n G dX9_setOf_28 rfl rfl) (z_ild _ _),
   zz_of (ok_goto G dX9_setOf_29 rfl) (z_goto _),
   zz_of (ok_iload_n G dX9_setOf_32 rfl rfl) (z_ild _ _),
   zz_of (ok_aload_n G dX9_setOf_33 rfl rfl) (z_ald _ _),
   zz_of (ok_get G (nx := 37) (ci := 8) (kd := 2) (k := 1) (RX9, TX9, 32) rfl (by decide) rfl q1806 dX9_setOf_34 rfl) (z_get _ _ _ _),
   zz_of (ok_sipush G (v := 194) dX9_setOf_37 (by decide) rfl) (z_cn 40 194),
   zz_of (ok_iald G dX9_setOf_40 rfl) (z_ialc _ _),
   zz_of (ok_clt G dX9_setOf_41 rfl rfl) (z_clt _ _ _ _),
   zz_of (ok_ldc2 G (v := 1000000000) q2137 dX9_setOf_44 rfl) (z_cl 47 1000000000),
   zz_of (ok_goto G dX9_setOf_47 rfl) (z_goto _),
   zz_of (ok_lconst G (v := 0) dX9_setOf_50 (by decide) rfl) (z_cl 51 0),
   zz_of (ok_lret G dX9_setOf_51) (z_lret),
   zz_of (ok_lconst G (v := 0) dX9_setOf_52 (by decide) rfl) (z_cl 53 0),
   zz_of (ok_lstore G dX9_setOf_53 rfl (by decide)) (z_lst _ _),
   zz_of (ok_iconst G (v := 0) dX9_setOf_55 (by decide) rfl) (z_cn 56 0),
   zz_of (ok_istore G dX9_setOf_56 rfl (by decide)) (z_ist _ _),
   zz_of (ok_iload G dX9_setOf_58 rfl) (z_ild _ _),
   zz_of (ok_iconst G (v := 2) dX9_setOf_60 (by decide) rfl) (z_cn 61 2),
   zz_of (ok_cge G dX9_setOf_61 rfl rfl) (z_cge _ _ _ _),
   zz_of (ok_iconst G (v := 0) dX9_setOf_64 (by decide) rfl) (z_cn 65 0),
   zz_of (ok_istore G dX9_setOf_65 rfl (by decide)) (z_ist _ _),
   zz_of (ok_iload G dX9_setOf_67 rfl) (z_ild _ _),
   zz_of (ok_iconst G (v := 2) dX9_setOf_69 (by decide) rfl) (z_cn 70 2),
   zz_of (ok_cge G dX9_setOf_70 rfl rfl) (z_cge _ _ _ _),
   zz_of (ok_lload G dX9_setOf_73 rfl) (z_lld _ _),
   zz_of (ok_aload_n G dX9_setOf_75 rfl rfl) (z_ald _ _),
   zz_of (ok_get G (nx := 79) (ci := 8) (kd := 2) (k := 24) (RX9, TX9, 32) rfl (by decide) rfl q1829 dX9_setOf_76 rfl) (z_get _ _ _ _),
   zz_of (ok_iconst G (v := 4) dX9_setOf_79 (by decide) rfl) (z_cn 80 4),
   zz_of (ok_iload G dX9_setOf_80 rfl) (z_ild _ _),
   zz_of (ok_imul G dX9_setOf_82 rfl) (z_imul _),
   zz_of (ok_iconst G (v := 2) dX9_setOf_83 (by decide) rfl) (z_cn 84 2),
   zz_of (ok_iload G dX9_setOf_84 rfl) (z_ild _ _),
   zz_of (ok_imul G dX9_setOf_86 rfl) (z_imul _),
   zz_of (ok_iadd G dX9_setOf_87 rfl) (z_iadd _),
   zz_of (ok_iload G dX9_setOf_88 rfl) (z_ild _ _),
   zz_of (ok_iadd G dX9_setOf_90 rfl) (z_iadd _),
   zz_of (ok_lald G dX9_setOf_91 rfl) (z_lald _),
   zz_of (ok_aload_n G dX9_setOf_92 rfl rfl) (z_ald _ _),
   zz_of (ok_iload_n G dX9_setOf_93 rfl rfl) (z_ild _ _),
   zz_of (ok_iload G dX9_setOf_94 rfl) (z_ild _ _),
   zz_of (ok_ifne G dX9_setOf_96 rfl rfl) (z_ifne _ _ _),
   zz_of (ok_iload_n G dX9_setOf_99 rfl rfl) (z_ild _ _),
   zz_of (ok_iconst G (v := 1) dX9_setOf_100 (by decide) rfl) (z_cn 101 1),
   zz_of (ok_iadd G dX9_setOf_101 rfl) (z_iadd _),
   zz_of (ok_goto G dX9_setOf_102 rfl) (z_goto _),
   zz_of (ok_iload_n G dX9_setOf_105 rfl rfl) (z_ild _ _),
   zz_of (ok_iload G dX9_setOf_106 rfl) (z_ild _ _),
   zz_of (ok_iconst G (v := 1) dX9_setOf_108 (by decide) rfl) (z_cn 109 1),
   zz_of (ok_cne G dX9_setOf_109 rfl rfl) (z_cne _ _ _ _),
   zz_of (ok_iload_n G dX9_setOf_112 rfl rfl) (z_ild _ _),
   zz_of (ok_iconst G (v := 1) dX9_setOf_113 (by decide) rfl) (z_cn 114 1),
   zz_of (ok_iadd G dX9_setOf_114 rfl) (z_iadd _),
   zz_of (ok_goto G dX9_setOf_115 rfl) (z_goto _),
   zz_of (ok_iload_n G dX9_setOf_118 rfl rfl) (z_ild _ _),
   zz_of (ok_iload G dX9_setOf_119 rfl) (z_ild _ _),
   zz_of (ok_callv G hnh (zmX9_setOf_6 _ G.hst) rfl rfl (RX9, TX9, 32) rfl q2165 q2167 qs75 q93 q2168 (by decide +kernel) ⟨by decide, by decide⟩ dX9_setOf_121 rfl) (z_callv _ _ _ _),
   zz_of (ok_lmul G dX9_setOf_124 rfl) (z_lmul _),
   zz_of (ok_ldc2 G (v := 1000000000) q2137 dX9_setOf_125 rfl) (z_cl 128 1000000000),
   zz_of (ok_ldiv G dX9_setOf_128 rfl) (z_ldiv _),
   zz_of (ok_ladd G dX9_setOf_129 rfl) (z_ladd _),
   zz_of (ok_lstore G dX9_setOf_130 rfl (by decide)) (z_lst _ _),
   zz_of (ok_iinc G (v := 1) dX9_setOf_132 (by decide) rfl (by decide)) (z_incn 135 8 1),
   zz_of (ok_goto G dX9_setOf_135 rfl) (z_goto _),
   zz_of (ok_iinc G (v := 1) dX9_setOf_138 (by decide) rfl (by decide)) (z_incn 141 7 1),
   zz_of (ok_goto G dX9_setOf_141 rfl) (z_goto _),
   zz_of (ok_lload G dX9_setOf_144 rfl) (z_lld _ _),
   zz_of (ok_lret G dX9_setOf_146) (z_lret), trivial⟩

theorem zwX9_setOf_7_0 {Q : Option zv → zz_M → Prop} {X : Nat → zz_M → Prop} {S L : Nat → Nat → Int} {p : Int} {a : Int} {b : Int} {s : Int} (h : R32 a ∧ (R32 (S 1 194) ∧ (((S 1 194) ≤ a → zz_J zpX9_setOf_7 (zz_ret Q X 0 0) 24 [some (vr 0), some (vi p), some (vi a), some (vi b), none, none, none, none, none] [] (zm S L) (0, 0)) ∧ (¬ (S 1 194) ≤ a → R32 b ∧ (R32 (S 1 194) ∧ ((b < (S 1 194) → zz_J zpX9_setOf_7 (zz_ret Q X 0 0) 52 [some (vr 0), some (vi p), some (vi a), some (vi b), some (vi s), none, none, none, none] [] (zm S L) (0, 0)) ∧ (¬ b < (S 1 194) → zz_J zpX9_setOf_7 (zz_ret Q X 0 0) 24 [some (vr 0), some (vi p), some (vi a), some (vi b), none, none, none, none, none] [] (zm S L) (0, 0)))))))) : zz_J zpX9_setOf_7 (zz_ret Q X 0 0) 0 [some (vr 0), some (vi p), some (vi a), some (vi b), some (vi s), none, none, none, none] [] (zm S L) (0, 0) := zz_J.go [(24, [4, 5, 6, 7, 8]), (33, [1, 2, 3, 4, 5, 6, 7, 8]), (52, [5, 6, 7, 8]), (58, [6, 8]), (67, [6])] 400 h
theorem zwX9_setOf_7_24 {Q : Option zv → zz_M → Prop} {X : Nat → zz_M → Prop} {S L : Nat → Nat → Int} {x1 : Int} {x2 : Int} {x3 : Int} (h : R32 x1 ∧ ((¬ x1 = 0 → zz_J zpX9_setOf_7 (zz_ret Q X 0 0) 33 [some (vr 0), none, none, none, none, none, none, none, none] [vi x3] (zm S L) (0, 0)) ∧ (x1 = 0 → zz_J zpX9_setOf_7 (zz_ret Q X 0 0) 33 [some (vr 0), none, none, none, none, none, none, none, none] [vi x2] (zm S L) (0, 0)))) : zz_J zpX9_setOf_7 (zz_ret Q X 0 0) 24 [some (vr 0), some (vi x1), some (vi x2), some (vi x3), none, none, none, none, none] [] (zm S L) (0, 0) := zz_J.go [(24, [4, 5, 6, 7, 8]), (33, [1, 2, 3, 4, 5, 6, 7, 8]), (52, [5, 6, 7, 8]), (58, [6, 8]), (67, [6])] 400 h
theorem zwX9_setOf_7_33 {Q : Option zv → zz_M → Prop} {X : Nat → zz_M → Prop} {S L : Nat → Nat → Int} {t0 : Int} (h : R32 t0 ∧ (R32 (S 1 194) ∧ ((t0 < (S 1 194) → Q (some (vl 0)) (zm S L)) ∧ (¬ t0 < (S 1 194) → Q (some (vl 1000000000)) (zm S L))))) : zz_J zpX9_setOf_7 (zz_ret Q X 0 0) 33 [some (vr 0), none, none, none, none, none, none, none, none] [vi t0] (zm S L) (0, 0) := zz_J.go [(24, [4, 5, 6, 7, 8]), (33, [1, 2, 3, 4, 5, 6, 7, 8]), (52, [5, 6, 7, 8]), (58, [6, 8]), (67, [6])] 400 h
theorem zwX9_setOf_7_52 {Q : Option zv → zz_M → Prop} {X : Nat → zz_M → Prop} {S L : Nat → Nat → Int} {x1 : Int} {x2 : Int} {x3 : Int} {x4 : Int} (h : zz_J zpX9_setOf_7 (zz_ret Q X 0 0) 58 [some (vr 0), some (vi x1), some (vi x2), some (vi x3), some (vi x4), some (vl 0), none, some (vi 0), none] [] (zm S L) (0, 0)) : zz_J zpX9_setOf_7 (zz_ret Q X 0 0) 52 [some (vr 0), some (vi x1), some (vi x2), some (vi x3), some (vi x4), none, none, none, none] [] (zm S L) (0, 0) := zz_J.go [(24, [4, 5, 6, 7, 8]), (33, [1, 2, 3, 4, 5, 6, 7, 8]), (52, [5, 6, 7, 8]), (58, [6, 8]), (67, [6])] 400 h
theorem zwX9_setOf_7_58 {Q : Option zv → zz_M → Prop} {X : Nat → zz_M → Prop} {S L : Nat → Nat → Int} {x1 : Int} {x2 : Int} {x3 : Int} {x4 : Int} {x5 : Int} {x7 : Int} (h : R32 x7 ∧ ((2 ≤ x7 → Q (some (vl x5)) (zm S L)) ∧ (¬ 2 ≤ x7 → zz_J zpX9_setOf_7 (zz_ret Q X 0 0) 67 [some (vr 0), some (vi x1), some (vi x2), some (vi x3), some (vi x4), some (vl x5), none, some (vi x7), some (vi 0)] [] (zm S L) (0, 0)))) : zz_J zpX9_setOf_7 (zz_ret Q X 0 0) 58 [some (vr 0), some (vi x1), some (vi x2), some (vi x3), some (vi x4), some (vl x5), none, some (vi x7), none] [] (zm S L) (0, 0) := zz_J.go [(24, [4, 5, 6, 7, 8]), (33, [1, 2, 3, 4, 5, 6, 7, 8]), (52, [5, 6, 7, 8]), (58, [6, 8]), (67, [6])] 400 h
theorem zwX9_setOf_7_67 {Q : Option zv → zz_M → Prop} {X : Nat → zz_M → Prop} {S L : Nat → Nat → Int} {x1 : Int} {x2 : Int} {x3 : Int} {x4 : Int} {x5 : Int} {x7 : Int} {x8 : Int} (h : R32 x8 ∧ ((2 ≤ x8 → zz_J zpX9_setOf_7 (zz_ret Q X 0 0) 58 [some (vr 0), some (vi x1), some (vi x2), some (vi x3), some (vi x4), some (vl x5), none, some (vi (x7 + 1)), none] [] (zm S L) (0, 0)) ∧ (¬ 2 ≤ x8 → (0 ≤ (((4 * x4) + (2 * x7)) + x8) ∧ (((4 * x4) + (2 * x7)) + x8) < 8) ∧ (R32 x7 ∧ ((¬ x7 = 0 → R32 x7 ∧ ((¬ x7 = 1 → ((x1 = 0 ∨ x1 = 1) ∧ (x8 = 0 ∨ x8 = 1) ∧ (0 ≤ x2 ∧ x2 ≤ 6) ∧ (0 ≤ x3 ∧ x3 ≤ 6) ∧ (1 ≤ S 1 194 ∧ S 1 194 ≤ 6) ∧ (x2 ≤ S 1 194 ∧ x3 ≤ S 1 194) ∧ S 1 194 - x2 + (S 1 194 - x3) ≤ 6 ∧ wyG (L 12) ∧ ((0 ≤ ((L 12 ((((4 * x4) + (2 * x7)) + x8).toNat)) * (stO (L 12) (S 1 194) x1 6 x2 x3 x8.toNat)) ∧ ((L 12 ((((4 * x4) + (2 * x7)) + x8).toNat)) * (stO (L 12) (S 1 194) x1 6 x2 x3 x8.toNat)) < 9223372036854775808) ∧ (zz_J zpX9_setOf_7 (zz_ret Q X 0 0) 67 [some (vr 0), some (vi x1), some (vi x2), some (vi x3), some (vi x4), some (vl (x5 + (((L 12 ((((4 * x4) + (2 * x7)) + x8).toNat)) * (stO (L 12) (S 1 194) x1 6 x2 x3 x8.toNat)) / 1000000000))), none, some (vi x7), some (vi (x8 + 1))] [] (zm S L) (0, 0))))) ∧ (x7 = 1 → ((x1 = 0 ∨ x1 = 1) ∧ (x8 = 0 ∨ x8 = 1) ∧ (0 ≤ x2 ∧ x2 ≤ 6) ∧ (0 ≤ (x3 + 1) ∧ (x3 + 1) ≤ 6) ∧ (1 ≤ S 1 194 ∧ S 1 194 ≤ 6) ∧ (x2 ≤ S 1 194 ∧ (x3 + 1) ≤ S 1 194) ∧ S 1 194 - x2 + (S 1 194 - (x3 + 1)) ≤ 6 ∧ wyG (L 12) ∧ ((0 ≤ ((L 12 ((((4 * x4) + (2 * x7)) + x8).toNat)) * (stO (L 12) (S 1 194) x1 6 x2 (x3 + 1) x8.toNat)) ∧ ((L 12 ((((4 * x4) + (2 * x7)) + x8).toNat)) * (stO (L 12) (S 1 194) x1 6 x2 (x3 + 1) x8.toNat)) < 9223372036854775808) ∧ (zz_J zpX9_setOf_7 (zz_ret Q X 0 0) 67 [some (vr 0), some (vi x1), some (vi x2), some (vi x3), some (vi x4), some (vl (x5 + (((L 12 ((((4 * x4) + (2 * x7)) + x8).toNat)) * (stO (L 12) (S 1 194) x1 6 x2 (x3 + 1) x8.toNat)) / 1000000000))), none, some (vi x7), some (vi (x8 + 1))] [] (zm S L) (0, 0))))))) ∧ (x7 = 0 → R32 x7 ∧ ((¬ x7 = 1 → ((x1 = 0 ∨ x1 = 1) ∧ (x8 = 0 ∨ x8 = 1) ∧ (0 ≤ (x2 + 1) ∧ (x2 + 1) ≤ 6) ∧ (0 ≤ x3 ∧ x3 ≤ 6) ∧ (1 ≤ S 1 194 ∧ S 1 194 ≤ 6) ∧ ((x2 + 1) ≤ S 1 194 ∧ x3 ≤ S 1 194) ∧ S 1 194 - (x2 + 1) + (S 1 194 - x3) ≤ 6 ∧ wyG (L 12) ∧ ((0 ≤ ((L 12 ((((4 * x4) + (2 * x7)) + x8).toNat)) * (stO (L 12) (S 1 194) x1 6 (x2 + 1) x3 x8.toNat)) ∧ ((L 12 ((((4 * x4) + (2 * x7)) + x8).toNat)) * (stO (L 12) (S 1 194) x1 6 (x2 + 1) x3 x8.toNat)) < 9223372036854775808) ∧ (zz_J zpX9_setOf_7 (zz_ret Q X 0 0) 67 [some (vr 0), some (vi x1), some (vi x2), some (vi x3), some (vi x4), some (vl (x5 + (((L 12 ((((4 * x4) + (2 * x7)) + x8).toNat)) * (stO (L 12) (S 1 194) x1 6 (x2 + 1) x3 x8.toNat)) / 1000000000))), none, some (vi x7), some (vi (x8 + 1))] [] (zm S L) (0, 0))))) ∧ (x7 = 1 → ((x1 = 0 ∨ x1 = 1) ∧ (x8 = 0 ∨ x8 = 1) ∧ (0 ≤ (x2 + 1) ∧ (x2 + 1) ≤ 6) ∧ (0 ≤ (x3 + 1) ∧ (x3 + 1) ≤ 6) ∧ (1 ≤ S 1 194 ∧ S 1 194 ≤ 6) ∧ ((x2 + 1) ≤ S 1 194 ∧ (x3 + 1) ≤ S 1 194) ∧ S 1 194 - (x2 + 1) + (S 1 194 - (x3 + 1)) ≤ 6 ∧ wyG (L 12) ∧ ((0 ≤ ((L 12 ((((4 * x4) + (2 * x7)) + x8).toNat)) * (stO (L 12) (S 1 194) x1 6 (x2 + 1) (x3 + 1) x8.toNat)) ∧ ((L 12 ((((4 * x4) + (2 * x7)) + x8).toNat)) * (stO (L 12) (S 1 194) x1 6 (x2 + 1) (x3 + 1) x8.toNat)) < 9223372036854775808) ∧ (zz_J zpX9_setOf_7 (zz_ret Q X 0 0) 67 [some (vr 0), some (vi x1), some (vi x2), some (vi x3), some (vi x4), some (vl (x5 + (((L 12 ((((4 * x4) + (2 * x7)) + x8).toNat)) * (stO (L 12) (S 1 194) x1 6 (x2 + 1) (x3 + 1) x8.toNat)) / 1000000000))), none, some (vi x7), some (vi (x8 + 1))] [] (zm S L) (0, 0)))))))))))) : zz_J zpX9_setOf_7 (zz_ret Q X 0 0) 67 [some (vr 0), some (vi x1), some (vi x2), some (vi x3), some (vi x4), some (vl x5), none, some (vi x7), some (vi x8)] [] (zm S L) (0, 0) := zz_J.go [(24, [4, 5, 6, 7, 8]), (33, [1, 2, 3, 4, 5, 6, 7, 8]), (52, [5, 6, 7, 8]), (58, [6, 8]), (67, [6])] 400 h

theorem zmX9_setOf_7 (l : Launch) (hl : l.stackTraces = false) : mm_Spec l yX9_setOf (ws_ yX9_setOf cX9_setOf 9 (some .long)) (mm_rm 8 0 0) (zE zX9_setOf_7) := by
  refine zz_Met.J hl (by decide) (fun C G hnh => ztX9_setOf_7 G hnh) ?_
  rintro as ⟨⟨t_, f⟩, S, L, P⟩ Q X h
  unfold zX9_setOf_7 at h
  split at h
  rotate_left
  · exact h.elim
  rename_i h_ p a b s
  obtain ⟨e1_, e2_, h⟩ := mm_and2 h (fun q => q)
  cases mm_beq e1_
  cases mm_beq e2_
  try dsimp only at h
  refine ⟨rfl, ?_⟩
  refine zz_Jev (M' := zm S L) rfl rfl rfl ?_
  obtain ⟨hp, hs, ha, hb, hG, hab, hr, hwy, hq⟩ := h
  have t24 : (S 1 194 ≤ a ∨ S 1 194 ≤ b) → zz_J zpX9_setOf_7 (zz_ret Q X 0 0) 24 [some (vr 0), some (vi p), some (vi a), some (vi b), none, none, none, none, none] [] (zm S L) (0, 0) := by
    intro h
    rw [stO_o h] at hq
    refine zwX9_setOf_7_24 ⟨by omega, fun c => ?_, fun c => ?_⟩
    · rw [if_neg c] at hq
      refine zwX9_setOf_7_33 ⟨by omega, by omega, fun d => ?_, fun d => ?_⟩
      · rw [if_neg (by omega)] at hq; exact hq
      · rw [if_pos (by omega)] at hq; exact hq
    · rw [if_pos c] at hq
      refine zwX9_setOf_7_33 ⟨by omega, by omega, fun d => ?_, fun d => ?_⟩
      · rw [if_neg (by omega)] at hq; exact hq
      · rw [if_pos (by omega)] at hq; exact hq
  obtain ⟨u, hu, rfl⟩ : ∃ u : Nat, u < 2 ∧ s = u := ⟨s.toNat, by omega, by omega⟩
  rw [Int.toNat_natCast] at hq
  have t52 : ¬ (S 1 194 ≤ a ∨ S 1 194 ≤ b) → zz_J zpX9_setOf_7 (zz_ret Q X 0 0) 52 [some (vr 0), some (vi p), some (vi a), some (vi b), some (vi u), none, none, none, none] [] (zm S L) (0, 0) := by
    intro h
    rw [show stO (L 12) (S 1 194) p 7 a b u = _ from stO_s h 6] at hq
    have i0 := stO_in (G := S 1 194) (p := p) hwy 6 (a + 1) b 0 (by decide)
    have i1 := stO_in (G := S 1 194) (p := p) hwy 6 (a + 1) b 1 (by decide)
    have i2 := stO_in (G := S 1 194) (p := p) hwy 6 a (b + 1) 0 (by decide)
    have i3 := stO_in (G := S 1 194) (p := p) hwy 6 a (b + 1) 1 (by decide)
    have w0 := hwy.1 (4 * u) (by omega)
    have w1 := hwy.1 (4 * u + 1) (by omega)
    have w2 := hwy.1 (4 * u + 2) (by omega)
    have w3 := hwy.1 (4 * u + 3) (by omega)
    have m0 := mul_sure w0.1 i0.1 i0.2
    have m1 := mul_sure w1.1 i1.1 i1.2
    have m2 := mul_sure w2.1 i2.1 i2.2
    have m3 := mul_sure w3.1 i3.1 i3.2
    have e0 : ((4 : Int) * u + 2 * 0 + 0).toNat = 4 * u := by omega
    have e1 : ((4 : Int) * u + 2 * 0 + 1).toNat = 4 * u + 1 := by omega
    have e2 : ((4 : Int) * u + 2 * 1 + 0).toNat = 4 * u + 2 := by omega
    have e3 : ((4 : Int) * u + 2 * 1 + 1).toNat = 4 * u + 3 := by omega
    refine zwX9_setOf_7_52 (zwX9_setOf_7_58 ⟨by decide, fun c => absurd c (by decide), fun _ => ?_⟩)
    refine zwX9_setOf_7_67 ⟨by decide, fun c => absurd c (by decide), fun _ => ⟨by omega, by decide, fun c => absurd rfl c, fun _ => ⟨by decide, fun _ => ?_, fun c => absurd c (by decide)⟩⟩⟩
    refine ⟨hp, Or.inl rfl, by omega, hb, hG, by omega, by omega, hwy, ?_⟩
    rw [e0]
    refine ⟨by show 0 ≤ L 12 (4 * u) * stO (L 12) (S 1 194) p 6 (a + 1) b 0 ∧ L 12 (4 * u) * stO (L 12) (S 1 194) p 6 (a + 1) b 0 < 9223372036854775808; omega, ?_⟩
    refine zwX9_setOf_7_67 ⟨by decide, fun c => absurd c (by decide), fun _ => ⟨by omega, by decide, fun c => absurd rfl c, fun _ => ⟨by decide, fun _ => ?_, fun c => absurd c (by decide)⟩⟩⟩
    refine ⟨hp, Or.inr rfl, by omega, hb, hG, by omega, by omega, hwy, ?_⟩
    rw [show ((4 : Int) * u + 2 * 0 + (0 + 1)).toNat = 4 * u + 1 by omega]
    refine ⟨by show 0 ≤ L 12 (4 * u + 1) * stO (L 12) (S 1 194) p 6 (a + 1) b 1 ∧ L 12 (4 * u + 1) * stO (L 12) (S 1 194) p 6 (a + 1) b 1 < 9223372036854775808; omega, ?_⟩
    refine zwX9_setOf_7_67 ⟨by decide, fun _ => ?_, fun c => absurd c (by decide)⟩
    refine zwX9_setOf_7_58 ⟨by decide, fun c => absurd c (by decide), fun _ => ?_⟩
    refine zwX9_setOf_7_67 ⟨by decide, fun c => absurd c (by decide), fun _ => ⟨by omega, by decide, fun _ => ⟨by decide, fun c => absurd rfl c, fun _ => ?_⟩, fun c => absurd c (by decide)⟩⟩
    refine ⟨hp, Or.inl rfl, ha, by omega, hG, by omega, by omega, hwy, ?_⟩
    rw [show ((4 : Int) * u + 2 * (0 + 1) + 0).toNat = 4 * u + 2 by omega]
    refine ⟨by show 0 ≤ L 12 (4 * u + 2) * stO (L 12) (S 1 194) p 6 a (b + 1) 0 ∧ L 12 (4 * u + 2) * stO (L 12) (S 1 194) p 6 a (b + 1) 0 < 9223372036854775808; omega, ?_⟩
    refine zwX9_setOf_7_67 ⟨by decide, fun c => absurd c (by decide), fun _ => ⟨by omega, by decide, fun _ => ⟨by decide, fun c => absurd rfl c, fun _ => ?_⟩, fun c => absurd c (by decide)⟩⟩
    refine ⟨hp, Or.inr rfl, ha, by omega, hG, by omega, by omega, hwy, ?_⟩
    rw [show ((4 : Int) * u + 2 * (0 + 1) + (0 + 1)).toNat = 4 * u + 3 by omega]
    refine ⟨by show 0 ≤ L 12 (4 * u + 3) * stO (L 12) (S 1 194) p 6 a (b + 1) 1 ∧ L 12 (4 * u + 3) * stO (L 12) (S 1 194) p 6 a (b + 1) 1 < 9223372036854775808; omega, ?_⟩
    refine zwX9_setOf_7_67 ⟨by decide, fun _ => ?_, fun c => absurd c (by decide)⟩
    refine zwX9_setOf_7_58 ⟨by decide, fun _ => ?_, fun c => absurd c (by decide)⟩
    have ez : ∀ x y z w : Int, 0 + x + y + z + w = x + y + z + w := fun x y z w => by omega
    rw [ez]
    exact hq
  refine zwX9_setOf_7_0 ⟨by omega, by omega, fun c => t24 (Or.inl c), fun c => ⟨by omega, by omega, fun d => t52 (by omega), fun d => t24 (Or.inr (by omega))⟩⟩
def zX9_setOf_8 : zz_Sp := fun as M Q X => match as with
  | [.inr (.inr (some h_)), .inl p, .inl a, .inl b, .inl s] => bif Nat.beq h_ 0 && Nat.beq M.1.1 1 then ((p = 0 ∨ p = 1) ∧ (s = 0 ∨ s = 1) ∧ (0 ≤ a ∧ a ≤ 6) ∧ (0 ≤ b ∧ b ≤ 6) ∧ (1 ≤ M.2.1 1 194 ∧ M.2.1 1 194 ≤ 6) ∧ (a ≤ M.2.1 1 194 ∧ b ≤ M.2.1 1 194) ∧ M.2.1 1 194 - a + (M.2.1 1 194 - b) ≤ 8 ∧ wyG (M.2.2.1 12) ∧ Q (some (vl (stO (M.2.2.1 12) (M.2.1 1 194) p 8 a b s.toNat))) (zm M.2.1 M.2.2.1)) else False
  | _ => False

def zpX9_setOf_8 : zz_P := [(0, zo_ild 1 2), (1, zo_ald 2 0), (2, zo_get 5 8 2 1), (5, zo_c 8 (vi 194)), (8, zo_ialc 9 194), (9, zo_cge false false 12 24), (12, zo_ild 13 3), (13, zo_ald 14 0), (14, zo_get 17 8 2 1), (17, zo_c 20 (vi 194)), (20, zo_ialc 21 194), (21, zo_clt false false 24 52), (24, zo_ild 25 1), (25, zo_ifne false 28 32), (28, zo_ild 29 2), (29, zo_goto 33), (32, zo_ild 33 3), (33, zo_ald 34 0), (34, zo_get 37 8 2 1), (37, zo_c 40 (vi 194)), (40, zo_ialc 41 194), (41, zo_clt false false 44 50), (44, zo_c 47 (vl 1000000000)), (47, zo_goto 51), (50, zo_c 51 (vl 0)), (51, zo_lret), (52, zo_c 53 (vl 0)), (53, zo_lst 55 5), (55, zo_c 56 (vi 0)), (56, zo_ist 58 7), (58, zo_ild 60 7), (60, zo_c 61 (vi 2)), (61, zo_cge false true 64 144), (64, zo_c 65 (vi 0)), (65, zo_ist 67 8), (67, zo_ild 69 8), (69, zo_c 70 (vi 2)), (70, zo_cge false true 73 138), (73, zo_lld 75 5), (75, zo_ald 76 0), (76, zo_get 79 8 2 24), (79, zo_c 80 (vi 4)), (80, zo_ild 82 4), (82, zo_imul 83), (83, zo_c 84 (vi 2)), (84, zo_ild 86 7), (86, zo_imul 87), (87, zo_iadd 88), (88, zo_ild 90 8), (90, zo_iadd 91), (91, zo_lald 92), (92, zo_ald 93 0), (93, zo_ild 94 1), (94, zo_ild 96 7), (96, zo_ifne false 99 105), (99, zo_ild 100 2), (100, zo_c 101 (vi 1)), (101, zo_iadd 102), (102, zo_goto 106), (105, zo_ild 106 2), (106, zo_ild 108 7), (108, zo_c 109 (vi 1)), (109, zo_cne false true 112 118), (112, zo_ild 113 3), (113, zo_c 114 (vi 1)), (114, zo_iadd 115), (115, zo_goto 119), (118, zo_ild 119 3), (119, zo_ild 121 8), (121, zo_callv 124 5 8 zX9_setOf_7), (124, zo_lmul 125), (125, zo_c 128 (vl 1000000000)), (128, zo_ldiv 129), (129, zo_ladd 130), (130, zo_lst 132 5), (132, zo_inc 135 8 1), (135, zo_goto 67), (138, zo_inc 141 7 1), (141, zo_goto 58), (144, zo_lld 146 5), (146, zo_lret)]
theorem ztX9_setOf_8 {C : mm_C} (G : mm_G C RX9 cX9_setOf (some .long) 9 (mm_rm 9 0 0)) (hnh : mm_nh C) : zz_OKs C zpX9_setOf_8 :=
  ⟨zz_of (ok_iload_n G dX9_setOf_0 rfl rfl) (z_ild _ _),
   zz_of (ok_aload_n G dX9_setOf_1 rfl rfl) (z_ald _ _),
   zz_of (ok_get G (nx := 5) (ci := 8) (kd := 2) (k := 1) (RX9, TX9, 32) rfl (by decide) rfl q1806 dX9_setOf_2 rfl) (z_get _ _ _ _),
   zz_of (ok_sipush G (v := 194) dX9_setOf_5 (by decide) rfl) (z_cn 8 194),
   zz_of (ok_iald G dX9_setOf_8 rfl) (z_ialc _ _),
   zz_of (ok_cge G dX9_setOf_9 rfl rfl) (z_cge _ _ _ _),
   zz_of (ok_iload_n G dX9_setOf_12 rfl rfl) (z_ild _ _),
   zz_of (ok_aload_n G dX9_setOf_13 rfl rfl) (z_ald _ _),
   zz_of (ok_get G (nx := 17) (ci := 8) (kd := 2) (k := 1) (RX9, TX9, 32) rfl (by decide) rfl q1806 dX9_setOf_14 rfl) (z_get _ _ _ _),
   zz_of (ok_sipush G (v := 194) dX9_setOf_17 (by decide) rfl) (z_cn 20 194),
   zz_of (ok_iald G dX9_setOf_20 rfl) (z_ialc _ _),
   zz_of (ok_clt G dX9_setOf_21 rfl rfl) (z_clt _ _ _ _),
   zz_of (ok_iload_n G dX9_setOf_24 rfl rfl) (z_ild _ _),
   zz_of (ok_ifne G dX9_setOf_25 rfl rfl) (z_ifne _ _ _),
   zz_of (ok_iload_n G dX9_setOf_28 rfl rfl) (z_ild _ _),
   zz_of (ok_goto G dX9_setOf_29 rfl) (z_goto _),
   zz_of (ok_iload_n G dX9_setOf_32 rfl rfl) (z_ild _ _),
   zz_of (ok_aload_n G dX9_setOf_33 rfl rfl) (z_ald _ _),
   zz_of (ok_get G (nx := 37) (ci := 8) (kd := 2) (k := 1) (RX9, TX9, 32) rfl (by decide) rfl q1806 dX9_setOf_34 rfl) (z_get _ _ _ _),
   zz_of (ok_sipush G (v := 194) dX9_setOf_37 (by decide) rfl) (z_cn 40 194),
   zz_of (ok_iald G dX9_setOf_40 rfl) (z_ialc _ _),
   zz_of (ok_clt G dX9_setOf_41 rfl rfl) (z_clt _ _ _ _),
   zz_of (ok_ldc2 G (v := 1000000000) q2137 dX9_setOf_44 rfl) (z_cl 47 1000000000),
   zz_of (ok_goto G dX9_setOf_47 rfl) (z_goto _),
   zz_of (ok_lconst G (v := 0) dX9_setOf_50 (by decide) rfl) (z_cl 51 0),
   zz_of (ok_lret G dX9_setOf_51) (z_lret),
   zz_of (ok_lconst G (v := 0) dX9_setOf_52 (by decide) rfl) (z_cl 53 0),
   zz_of (ok_lstore G dX9_setOf_53 rfl (by decide)) (z_lst _ _),
   zz_of (ok_iconst G (v := 0) dX9_setOf_55 (by decide) rfl) (z_cn 56 0),
   zz_of (ok_istore G dX9_setOf_56 rfl (by decide)) (z_ist _ _),
   zz_of (ok_iload G dX9_setOf_58 rfl) (z_ild _ _),
   zz_of (ok_iconst G (v := 2) dX9_setOf_60 (by decide) rfl) (z_cn 61 2),
   zz_of (ok_cge G dX9_setOf_61 rfl rfl) (z_cge _ _ _ _),
   zz_of (ok_iconst G (v := 0) dX9_setOf_64 (by decide) rfl) (z_cn 65 0),
   zz_of (ok_istore G dX9_setOf_65 rfl (by decide)) (z_ist _ _),
   zz_of (ok_iload G dX9_setOf_67 rfl) (z_ild _ _),
   zz_of (ok_iconst G (v := 2) dX9_setOf_69 (by decide) rfl) (z_cn 70 2),
   zz_of (ok_cge G dX9_setOf_70 rfl rfl) (z_cge _ _ _ _),
   zz_of (ok_lload G dX9_setOf_73 rfl) (z_lld _ _),
   zz_of (ok_aload_n G dX9_setOf_75 rfl rfl) (z_ald _ _),
   zz_of (ok_get G (nx := 79) (ci := 8) (kd := 2) (k := 24) (RX9, TX9, 32) rfl (by decide) rfl q1829 dX9_setOf_76 rfl) (z_get _ _ _ _),
   zz_of (ok_iconst G (v := 4) dX9_setOf_79 (by decide) rfl) (z_cn 80 4),
   zz_of (ok_iload G dX9_setOf_80 rfl) (z_ild _ _),
   zz_of (ok_imul G dX9_setOf_82 rfl) (z_imul _),
   zz_of (ok_iconst G (v := 2) dX9_setOf_83 (by decide) rfl) (z_cn 84 2),
   zz_of (ok_iload G dX9_setOf_84 rfl) (z_ild _ _),
   zz_of (ok_imul G dX9_setOf_86 rfl) (z_imul _),
   zz_of (ok_iadd G dX9_setOf_87 rfl) (z_iadd _),
   zz_of (ok_iload G dX9_setOf_88 rfl) (z_ild _ _),
   zz_of (ok_iadd G dX9_setOf_90 rfl) (z_iadd _),
   zz_of (ok_lald G dX9_setOf_91 rfl) (z_lald _),
   zz_of (ok_aload_n G dX9_setOf_92 rfl rfl) (z_ald _ _),
   zz_of (ok_iload_n G dX9_setOf_93 rfl rfl) (z_ild _ _),
   zz_of (ok_iload G dX9_setOf_94 rfl) (z_ild _ _),
   zz_of (ok_ifne G dX9_setOf_96 rfl rfl) (z_ifne _ _ _),
   zz_of (ok_iload_n G dX9_setOf_99 rfl rfl) (z_ild _ _),
   zz_of (ok_iconst G (v := 1) dX9_setOf_100 (by decide) rfl) (z_cn 101 1),
   zz_of (ok_iadd G dX9_setOf_101 rfl) (z_iadd _),
   zz_of (ok_goto G dX9_setOf_102 rfl) (z_goto _),
   zz_of (ok_iload_n G dX9_setOf_105 rfl rfl) (z_ild _ _),
   zz_of (ok_iload G dX9_setOf_106 rfl) (z_ild _ _),
   zz_of (ok_iconst G (v := 1) dX9_setOf_108 (by decide) rfl) (z_cn 109 1),
   zz_of (ok_cne G dX9_setOf_109 rfl rfl) (z_cne _ _ _ _),
   zz_of (ok_iload_n G dX9_setOf_112 rfl rfl) (z_ild _ _),
   zz_of (ok_iconst G (v := 1) dX9_setOf_113 (by decide) rfl) (z_cn 114 1),
   zz_of (ok_iadd G dX9_setOf_114 rfl) (z_iadd _),
   zz_of (ok_goto G dX9_setOf_115 rfl) (z_goto _),
   zz_of (ok_iload_n G dX9_setOf_118 rfl rfl) (z_ild _ _),
   zz_of (ok_iload G dX9_setOf_119 rfl) (z_ild _ _),
   zz_of (ok_callv G hnh (zmX9_setOf_7 _ G.hst) rfl rfl (RX9, TX9, 32) rfl q2165 q2167 qs75 q93 q2168 (by decide +kernel) ⟨by decide, by decide⟩ dX9_setOf_121 rfl) (z_callv _ _ _ _),
   zz_of (ok_lmul G dX9_setOf_124 rfl) (z_lmul _),
   zz_of (ok_ldc2 G (v := 1000000000) q2137 dX9_setOf_125 rfl) (z_cl 128 1000000000),
   zz_of (ok_ldiv G dX9_setOf_128 rfl) (z_ldiv _),
   zz_of (ok_ladd G dX9_setOf_129 rfl) (z_ladd _),
   zz_of (ok_lstore G dX9_setOf_130 rfl (by decide)) (z_lst _ _),
   zz_of (ok_iinc G (v := 1) dX9_setOf_132 (by decide) rfl (by decide)) (z_incn 135 8 1),
   zz_of (ok_goto G dX9_setOf_135 rfl) (z_goto _),
   zz_of (ok_iinc G (v := 1) dX9_setOf_138 (by decide) rfl (by decide)) (z_incn 141 7 1),
   zz_of (ok_goto G dX9_setOf_141 rfl) (z_goto _),
   zz_of (ok_lload G dX9_setOf_144 rfl) (z_lld _ _),
   zz_of (ok_lret G dX9_setOf_146) (z_lret), trivial⟩

theorem zwX9_setOf_8_0 {Q : Option zv → zz_M → Prop} {X : Nat → zz_M → Prop} {S L : Nat → Nat → Int} {p : Int} {a : Int} {b : Int} {s : Int} (h : R32 a ∧ (R32 (S 1 194) ∧ (((S 1 194) ≤ a → zz_J zpX9_setOf_8 (zz_ret Q X 0 0) 24 [some (vr 0), some (vi p), some (vi a), some (vi b), none, none, none, none, none] [] (zm S L) (0, 0)) ∧ (¬ (S 1 194) ≤ a → R32 b ∧ (R32 (S 1 194) ∧ ((b < (S 1 194) → zz_J zpX9_setOf_8 (zz_ret Q X 0 0) 52 [some (vr 0), some (vi p), some (vi a), some (vi b), some (vi s), none, none, none, none] [] (zm S L) (0, 0)) ∧ (¬ b < (S 1 194) → zz_J zpX9_setOf_8 (zz_ret Q X 0 0) 24 [some (vr 0), some (vi p), some (vi a), some (vi b), none, none, none, none, none] [] (zm S L) (0, 0)))))))) : zz_J zpX9_setOf_8 (zz_ret Q X 0 0) 0 [some (vr 0), some (vi p), some (vi a), some (vi b), some (vi s), none, none, none, none] [] (zm S L) (0, 0) := zz_J.go [(24, [4, 5, 6, 7, 8]), (33, [1, 2, 3, 4, 5, 6, 7, 8]), (52, [5, 6, 7, 8]), (58, [6, 8]), (67, [6])] 400 h
theorem zwX9_setOf_8_24 {Q : Option zv → zz_M → Prop} {X : Nat → zz_M → Prop} {S L : Nat → Nat → Int} {x1 : Int} {x2 : Int} {x3 : Int} (h : R32 x1 ∧ ((¬ x1 = 0 → zz_J zpX9_setOf_8 (zz_ret Q X 0 0) 33 [some (vr 0), none, none, none, none, none, none, none, none] [vi x3] (zm S L) (0, 0)) ∧ (x1 = 0 → zz_J zpX9_setOf_8 (zz_ret Q X 0 0) 33 [some (vr 0), none, none, none, none, none, none, none, none] [vi x2] (zm S L) (0, 0)))) : zz_J zpX9_setOf_8 (zz_ret Q X 0 0) 24 [some (vr 0), some (vi x1), some (vi x2), some (vi x3), none, none, none, none, none] [] (zm S L) (0, 0) := zz_J.go [(24, [4, 5, 6, 7, 8]), (33, [1, 2, 3, 4, 5, 6, 7, 8]), (52, [5, 6, 7, 8]), (58, [6, 8]), (67, [6])] 400 h
theorem zwX9_setOf_8_33 {Q : Option zv → zz_M → Prop} {X : Nat → zz_M → Prop} {S L : Nat → Nat → Int} {t0 : Int} (h : R32 t0 ∧ (R32 (S 1 194) ∧ ((t0 < (S 1 194) → Q (some (vl 0)) (zm S L)) ∧ (¬ t0 < (S 1 194) → Q (some (vl 1000000000)) (zm S L))))) : zz_J zpX9_setOf_8 (zz_ret Q X 0 0) 33 [some (vr 0), none, none, none, none, none, none, none, none] [vi t0] (zm S L) (0, 0) := zz_J.go [(24, [4, 5, 6, 7, 8]), (33, [1, 2, 3, 4, 5, 6, 7, 8]), (52, [5, 6, 7, 8]), (58, [6, 8]), (67, [6])] 400 h
theorem zwX9_setOf_8_52 {Q : Option zv → zz_M → Prop} {X : Nat → zz_M → Prop} {S L : Nat → Nat → Int} {x1 : Int} {x2 : Int} {x3 : Int} {x4 : Int} (h : zz_J zpX9_setOf_8 (zz_ret Q X 0 0) 58 [some (vr 0), some (vi x1), some (vi x2), some (vi x3), some (vi x4), some (vl 0), none, some (vi 0), none] [] (zm S L) (0, 0)) : zz_J zpX9_setOf_8 (zz_ret Q X 0 0) 52 [some (vr 0), some (vi x1), some (vi x2), some (vi x3), some (vi x4), none, none, none, none] [] (zm S L) (0, 0) := zz_J.go [(24, [4, 5, 6, 7, 8]), (33, [1, 2, 3, 4, 5, 6, 7, 8]), (52, [5, 6, 7, 8]), (58, [6, 8]), (67, [6])] 400 h
theorem zwX9_setOf_8_58 {Q : Option zv → zz_M → Prop} {X : Nat → zz_M → Prop} {S L : Nat → Nat → Int} {x1 : Int} {x2 : Int} {x3 : Int} {x4 : Int} {x5 : Int} {x7 : Int} (h : R32 x7 ∧ ((2 ≤ x7 → Q (some (vl x5)) (zm S L)) ∧ (¬ 2 ≤ x7 → zz_J zpX9_setOf_8 (zz_ret Q X 0 0) 67 [some (vr 0), some (vi x1), some (vi x2), some (vi x3), some (vi x4), some (vl x5), none, some (vi x7), some (vi 0)] [] (zm S L) (0, 0)))) : zz_J zpX9_setOf_8 (zz_ret Q X 0 0) 58 [some (vr 0), some (vi x1), some (vi x2), some (vi x3), some (vi x4), some (vl x5), none, some (vi x7), none] [] (zm S L) (0, 0) := zz_J.go [(24, [4, 5, 6, 7, 8]), (33, [1, 2, 3, 4, 5, 6, 7, 8]), (52, [5, 6, 7, 8]), (58, [6, 8]), (67, [6])] 400 h
theorem zwX9_setOf_8_67 {Q : Option zv → zz_M → Prop} {X : Nat → zz_M → Prop} {S L : Nat → Nat → Int} {x1 : Int} {x2 : Int} {x3 : Int} {x4 : Int} {x5 : Int} {x7 : Int} {x8 : Int} (h : R32 x8 ∧ ((2 ≤ x8 → zz_J zpX9_setOf_8 (zz_ret Q X 0 0) 58 [some (vr 0), some (vi x1), some (vi x2), some (vi x3), some (vi x4), some (vl x5), none, some (vi (x7 + 1)), none] [] (zm S L) (0, 0)) ∧ (¬ 2 ≤ x8 → (0 ≤ (((4 * x4) + (2 * x7)) + x8) ∧ (((4 * x4) + (2 * x7)) + x8) < 8) ∧ (R32 x7 ∧ ((¬ x7 = 0 → R32 x7 ∧ ((¬ x7 = 1 → ((x1 = 0 ∨ x1 = 1) ∧ (x8 = 0 ∨ x8 = 1) ∧ (0 ≤ x2 ∧ x2 ≤ 6) ∧ (0 ≤ x3 ∧ x3 ≤ 6) ∧ (1 ≤ S 1 194 ∧ S 1 194 ≤ 6) ∧ (x2 ≤ S 1 194 ∧ x3 ≤ S 1 194) ∧ S 1 194 - x2 + (S 1 194 - x3) ≤ 7 ∧ wyG (L 12) ∧ ((0 ≤ ((L 12 ((((4 * x4) + (2 * x7)) + x8).toNat)) * (stO (L 12) (S 1 194) x1 7 x2 x3 x8.toNat)) ∧ ((L 12 ((((4 * x4) + (2 * x7)) + x8).toNat)) * (stO (L 12) (S 1 194) x1 7 x2 x3 x8.toNat)) < 9223372036854775808) ∧ (zz_J zpX9_setOf_8 (zz_ret Q X 0 0) 67 [some (vr 0), some (vi x1), some (vi x2), some (vi x3), some (vi x4), some (vl (x5 + (((L 12 ((((4 * x4) + (2 * x7)) + x8).toNat)) * (stO (L 12) (S 1 194) x1 7 x2 x3 x8.toNat)) / 1000000000))), none, some (vi x7), some (vi (x8 + 1))] [] (zm S L) (0, 0))))) ∧ (x7 = 1 → ((x1 = 0 ∨ x1 = 1) ∧ (x8 = 0 ∨ x8 = 1) ∧ (0 ≤ x2 ∧ x2 ≤ 6) ∧ (0 ≤ (x3 + 1) ∧ (x3 + 1) ≤ 6) ∧ (1 ≤ S 1 194 ∧ S 1 194 ≤ 6) ∧ (x2 ≤ S 1 194 ∧ (x3 + 1) ≤ S 1 194) ∧ S 1 194 - x2 + (S 1 194 - (x3 + 1)) ≤ 7 ∧ wyG (L 12) ∧ ((0 ≤ ((L 12 ((((4 * x4) + (2 * x7)) + x8).toNat)) * (stO (L 12) (S 1 194) x1 7 x2 (x3 + 1) x8.toNat)) ∧ ((L 12 ((((4 * x4) + (2 * x7)) + x8).toNat)) * (stO (L 12) (S 1 194) x1 7 x2 (x3 + 1) x8.toNat)) < 9223372036854775808) ∧ (zz_J zpX9_setOf_8 (zz_ret Q X 0 0) 67 [some (vr 0), some (vi x1), some (vi x2), some (vi x3), some (vi x4), some (vl (x5 + (((L 12 ((((4 * x4) + (2 * x7)) + x8).toNat)) * (stO (L 12) (S 1 194) x1 7 x2 (x3 + 1) x8.toNat)) / 1000000000))), none, some (vi x7), some (vi (x8 + 1))] [] (zm S L) (0, 0))))))) ∧ (x7 = 0 → R32 x7 ∧ ((¬ x7 = 1 → ((x1 = 0 ∨ x1 = 1) ∧ (x8 = 0 ∨ x8 = 1) ∧ (0 ≤ (x2 + 1) ∧ (x2 + 1) ≤ 6) ∧ (0 ≤ x3 ∧ x3 ≤ 6) ∧ (1 ≤ S 1 194 ∧ S 1 194 ≤ 6) ∧ ((x2 + 1) ≤ S 1 194 ∧ x3 ≤ S 1 194) ∧ S 1 194 - (x2 + 1) + (S 1 194 - x3) ≤ 7 ∧ wyG (L 12) ∧ ((0 ≤ ((L 12 ((((4 * x4) + (2 * x7)) + x8).toNat)) * (stO (L 12) (S 1 194) x1 7 (x2 + 1) x3 x8.toNat)) ∧ ((L 12 ((((4 * x4) + (2 * x7)) + x8).toNat)) * (stO (L 12) (S 1 194) x1 7 (x2 + 1) x3 x8.toNat)) < 9223372036854775808) ∧ (zz_J zpX9_setOf_8 (zz_ret Q X 0 0) 67 [some (vr 0), some (vi x1), some (vi x2), some (vi x3), some (vi x4), some (vl (x5 + (((L 12 ((((4 * x4) + (2 * x7)) + x8).toNat)) * (stO (L 12) (S 1 194) x1 7 (x2 + 1) x3 x8.toNat)) / 1000000000))), none, some (vi x7), some (vi (x8 + 1))] [] (zm S L) (0, 0))))) ∧ (x7 = 1 → ((x1 = 0 ∨ x1 = 1) ∧ (x8 = 0 ∨ x8 = 1) ∧ (0 ≤ (x2 + 1) ∧ (x2 + 1) ≤ 6) ∧ (0 ≤ (x3 + 1) ∧ (x3 + 1) ≤ 6) ∧ (1 ≤ S 1 194 ∧ S 1 194 ≤ 6) ∧ ((x2 + 1) ≤ S 1 194 ∧ (x3 + 1) ≤ S 1 194) ∧ S 1 194 - (x2 + 1) + (S 1 194 - (x3 + 1)) ≤ 7 ∧ wyG (L 12) ∧ ((0 ≤ ((L 12 ((((4 * x4) + (2 * x7)) + x8).toNat)) * (stO (L 12) (S 1 194) x1 7 (x2 + 1) (x3 + 1) x8.toNat)) ∧ ((L 12 ((((4 * x4) + (2 * x7)) + x8).toNat)) * (stO (L 12) (S 1 194) x1 7 (x2 + 1) (x3 + 1) x8.toNat)) < 9223372036854775808) ∧ (zz_J zpX9_setOf_8 (zz_ret Q X 0 0) 67 [some (vr 0), some (vi x1), some (vi x2), some (vi x3), some (vi x4), some (vl (x5 + (((L 12 ((((4 * x4) + (2 * x7)) + x8).toNat)) * (stO (L 12) (S 1 194) x1 7 (x2 + 1) (x3 + 1) x8.toNat)) / 1000000000))), none, some (vi x7), some (vi (x8 + 1))] [] (zm S L) (0, 0)))))))))))) : zz_J zpX9_setOf_8 (zz_ret Q X 0 0) 67 [some (vr 0), some (vi x1), some (vi x2), some (vi x3), some (vi x4), some (vl x5), none, some (vi x7), some (vi x8)] [] (zm S L) (0, 0) := zz_J.go [(24, [4, 5, 6, 7, 8]), (33, [1, 2, 3, 4, 5, 6, 7, 8]), (52, [5, 6, 7, 8]), (58, [6, 8]), (67, [6])] 400 h

theorem zmX9_setOf_8 (l : Launch) (hl : l.stackTraces = false) : mm_Spec l yX9_setOf (ws_ yX9_setOf cX9_setOf 9 (some .long)) (mm_rm 9 0 0) (zE zX9_setOf_8) := by
  refine zz_Met.J hl (by decide) (fun C G hnh => ztX9_setOf_8 G hnh) ?_
  rintro as ⟨⟨t_, f⟩, S, L, P⟩ Q X h
  unfold zX9_setOf_8 at h
  split at h
  rotate_left
  · exact h.elim
  rename_i h_ p a b s
  obtain ⟨e1_, e2_, h⟩ := mm_and2 h (fun q => q)
  cases mm_beq e1_
  cases mm_beq e2_
  try dsimp only at h
  refine ⟨rfl, ?_⟩
  refine zz_Jev (M' := zm S L) rfl rfl rfl ?_
  obtain ⟨hp, hs, ha, hb, hG, hab, hr, hwy, hq⟩ := h
  have t24 : (S 1 194 ≤ a ∨ S 1 194 ≤ b) → zz_J zpX9_setOf_8 (zz_ret Q X 0 0) 24 [some (vr 0), some (vi p), some (vi a), some (vi b), none, none, none, none, none] [] (zm S L) (0, 0) := by
    intro h
    rw [stO_o h] at hq
    refine zwX9_setOf_8_24 ⟨by omega, fun c => ?_, fun c => ?_⟩
    · rw [if_neg c] at hq
      refine zwX9_setOf_8_33 ⟨by omega, by omega, fun d => ?_, fun d => ?_⟩
      · rw [if_neg (by omega)] at hq; exact hq
      · rw [if_pos (by omega)] at hq; exact hq
    · rw [if_pos c] at hq
      refine zwX9_setOf_8_33 ⟨by omega, by omega, fun d => ?_, fun d => ?_⟩
      · rw [if_neg (by omega)] at hq; exact hq
      · rw [if_pos (by omega)] at hq; exact hq
  obtain ⟨u, hu, rfl⟩ : ∃ u : Nat, u < 2 ∧ s = u := ⟨s.toNat, by omega, by omega⟩
  rw [Int.toNat_natCast] at hq
  have t52 : ¬ (S 1 194 ≤ a ∨ S 1 194 ≤ b) → zz_J zpX9_setOf_8 (zz_ret Q X 0 0) 52 [some (vr 0), some (vi p), some (vi a), some (vi b), some (vi u), none, none, none, none] [] (zm S L) (0, 0) := by
    intro h
    rw [show stO (L 12) (S 1 194) p 8 a b u = _ from stO_s h 7] at hq
    have i0 := stO_in (G := S 1 194) (p := p) hwy 7 (a + 1) b 0 (by decide)
    have i1 := stO_in (G := S 1 194) (p := p) hwy 7 (a + 1) b 1 (by decide)
    have i2 := stO_in (G := S 1 194) (p := p) hwy 7 a (b + 1) 0 (by decide)
    have i3 := stO_in (G := S 1 194) (p := p) hwy 7 a (b + 1) 1 (by decide)
    have w0 := hwy.1 (4 * u) (by omega)
    have w1 := hwy.1 (4 * u + 1) (by omega)
    have w2 := hwy.1 (4 * u + 2) (by omega)
    have w3 := hwy.1 (4 * u + 3) (by omega)
    have m0 := mul_sure w0.1 i0.1 i0.2
    have m1 := mul_sure w1.1 i1.1 i1.2
    have m2 := mul_sure w2.1 i2.1 i2.2
    have m3 := mul_sure w3.1 i3.1 i3.2
    have e0 : ((4 : Int) * u + 2 * 0 + 0).toNat = 4 * u := by omega
    have e1 : ((4 : Int) * u + 2 * 0 + 1).toNat = 4 * u + 1 := by omega
    have e2 : ((4 : Int) * u + 2 * 1 + 0).toNat = 4 * u + 2 := by omega
    have e3 : ((4 : Int) * u + 2 * 1 + 1).toNat = 4 * u + 3 := by omega
    refine zwX9_setOf_8_52 (zwX9_setOf_8_58 ⟨by decide, fun c => absurd c (by decide), fun _ => ?_⟩)
    refine zwX9_setOf_8_67 ⟨by decide, fun c => absurd c (by decide), fun _ => ⟨by omega, by decide, fun c => absurd rfl c, fun _ => ⟨by decide, fun _ => ?_, fun c => absurd c (by decide)⟩⟩⟩
    refine ⟨hp, Or.inl rfl, by omega, hb, hG, by omega, by omega, hwy, ?_⟩
    rw [e0]
    refine ⟨by show 0 ≤ L 12 (4 * u) * stO (L 12) (S 1 194) p 7 (a + 1) b 0 ∧ L 12 (4 * u) * stO (L 12) (S 1 194) p 7 (a + 1) b 0 < 9223372036854775808; omega, ?_⟩
    refine zwX9_setOf_8_67 ⟨by decide, fun c => absurd c (by decide), fun _ => ⟨by omega, by decide, fun c => absurd rfl c, fun _ => ⟨by decide, fun _ => ?_, fun c => absurd c (by decide)⟩⟩⟩
    refine ⟨hp, Or.inr rfl, by omega, hb, hG, by omega, by omega, hwy, ?_⟩
    rw [show ((4 : Int) * u + 2 * 0 + (0 + 1)).toNat = 4 * u + 1 by omega]
    refine ⟨by show 0 ≤ L 12 (4 * u + 1) * stO (L 12) (S 1 194) p 7 (a + 1) b 1 ∧ L 12 (4 * u + 1) * stO (L 12) (S 1 194) p 7 (a + 1) b 1 < 9223372036854775808; omega, ?_⟩
    refine zwX9_setOf_8_67 ⟨by decide, fun _ => ?_, fun c => absurd c (by decide)⟩
    refine zwX9_setOf_8_58 ⟨by decide, fun c => absurd c (by decide), fun _ => ?_⟩
    refine zwX9_setOf_8_67 ⟨by decide, fun c => absurd c (by decide), fun _ => ⟨by omega, by decide, fun _ => ⟨by decide, fun c => absurd rfl c, fun _ => ?_⟩, fun c => absurd c (by decide)⟩⟩
    refine ⟨hp, Or.inl rfl, ha, by omega, hG, by omega, by omega, hwy, ?_⟩
    rw [show ((4 : Int) * u + 2 * (0 + 1) + 0).toNat = 4 * u + 2 by omega]
    refine ⟨by show 0 ≤ L 12 (4 * u + 2) * stO (L 12) (S 1 194) p 7 a (b + 1) 0 ∧ L 12 (4 * u + 2) * stO (L 12) (S 1 194) p 7 a (b + 1) 0 < 9223372036854775808; omega, ?_⟩
    refine zwX9_setOf_8_67 ⟨by decide, fun c => absurd c (by decide), fun _ => ⟨by omega, by decide, fun _ => ⟨by decide, fun c => absurd rfl c, fun _ => ?_⟩, fun c => absurd c (by decide)⟩⟩
    refine ⟨hp, Or.inr rfl, ha, by omega, hG, by omega, by omega, hwy, ?_⟩
    rw [show ((4 : Int) * u + 2 * (0 + 1) + (0 + 1)).toNat = 4 * u + 3 by omega]
    refine ⟨by show 0 ≤ L 12 (4 * u + 3) * stO (L 12) (S 1 194) p 7 a (b + 1) 1 ∧ L 12 (4 * u + 3) * stO (L 12) (S 1 194) p 7 a (b + 1) 1 < 9223372036854775808; omega, ?_⟩
    refine zwX9_setOf_8_67 ⟨by decide, fun _ => ?_, fun c => absurd c (by decide)⟩
    refine zwX9_setOf_8_58 ⟨by decide, fun _ => ?_, fun c => absurd c (by decide)⟩
    have ez : ∀ x y z w : Int, 0 + x + y + z + w = x + y + z + w := fun x y z w => by omega
    rw [ez]
    exact hq
  refine zwX9_setOf_8_0 ⟨by omega, by omega, fun c => t24 (Or.inl c), fun c => ⟨by omega, by omega, fun d => t52 (by omega), fun d => t24 (Or.inr (by omega))⟩⟩
def zX9_setOf_9 : zz_Sp := fun as M Q X => match as with
  | [.inr (.inr (some h_)), .inl p, .inl a, .inl b, .inl s] => bif Nat.beq h_ 0 && Nat.beq M.1.1 1 then ((p = 0 ∨ p = 1) ∧ (s = 0 ∨ s = 1) ∧ (0 ≤ a ∧ a ≤ 6) ∧ (0 ≤ b ∧ b ≤ 6) ∧ (1 ≤ M.2.1 1 194 ∧ M.2.1 1 194 ≤ 6) ∧ (a ≤ M.2.1 1 194 ∧ b ≤ M.2.1 1 194) ∧ M.2.1 1 194 - a + (M.2.1 1 194 - b) ≤ 9 ∧ wyG (M.2.2.1 12) ∧ Q (some (vl (stO (M.2.2.1 12) (M.2.1 1 194) p 9 a b s.toNat))) (zm M.2.1 M.2.2.1)) else False
  | _ => False

def zpX9_setOf_9 : zz_P := [(0, zo_ild 1 2), (1, zo_ald 2 0), (2, zo_get 5 8 2 1), (5, zo_c 8 (vi 194)), (8, zo_ialc 9 194), (9, zo_cge false false 12 24), (12, zo_ild 13 3), (13, zo_ald 14 0), (14, zo_get 17 8 2 1), (17, zo_c 20 (vi 194)), (20, zo_ialc 21 194), (21, zo_clt false false 24 52), (24, zo_ild 25 1), (25, zo_ifne false 28 32), (28, zo_ild 29 2), (29, zo_goto 33), (32, zo_ild 33 3), (33, zo_ald 34 0), (34, zo_get 37 8 2 1), (37, zo_c 40 (vi 194)), (40, zo_ialc 41 194), (41, zo_clt false false 44 50), (44, zo_c 47 (vl 1000000000)), (47, zo_goto 51), (50, zo_c 51 (vl 0)), (51, zo_lret), (52, zo_c 53 (vl 0)), (53, zo_lst 55 5), (55, zo_c 56 (vi 0)), (56, zo_ist 58 7), (58, zo_ild 60 7), (60, zo_c 61 (vi 2)), (61, zo_cge false true 64 144), (64, zo_c 65 (vi 0)), (65, zo_ist 67 8), (67, zo_ild 69 8), (69, zo_c 70 (vi 2)), (70, zo_cge false true 73 138), (73, zo_lld 75 5), (75, zo_ald 76 0), (76, zo_get 79 8 2 24), (79, zo_c 80 (vi 4)), (80, zo_ild 82 4), (82, zo_imul 83), (83, zo_c 84 (vi 2)), (84, zo_ild 86 7), (86, zo_imul 87), (87, zo_iadd 88), (88, zo_ild 90 8), (90, zo_iadd 91), (91, zo_lald 92), (92, zo_ald 93 0), (93, zo_ild 94 1), (94, zo_ild 96 7), (96, zo_ifne false 99 105), (99, zo_ild 100 2), (100, zo_c 101 (vi 1)), (101, zo_iadd 102), (102, zo_goto 106), (105, zo_ild 106 2), (106, zo_ild 108 7), (108, zo_c 109 (vi 1)), (109, zo_cne false true 112 118), (112, zo_ild 113 3), (113, zo_c 114 (vi 1)), (114, zo_iadd 115), (115, zo_goto 119), (118, zo_ild 119 3), (119, zo_ild 121 8), (121, zo_callv 124 5 8 zX9_setOf_8), (124, zo_lmul 125), (125, zo_c 128 (vl 1000000000)), (128, zo_ldiv 129), (129, zo_ladd 130), (130, zo_lst 132 5), (132, zo_inc 135 8 1), (135, zo_goto 67), (138, zo_inc 141 7 1), (141, zo_goto 58), (144, zo_lld 146 5), (146, zo_lret)]
theorem ztX9_setOf_9 {C : mm_C} (G : mm_G C RX9 cX9_setOf (some .long) 9 (mm_rm 10 0 0)) (hnh : mm_nh C) : zz_OKs C zpX9_setOf_9 :=
  ⟨zz_of (ok_iload_n G dX9_setOf_0 rfl rfl) (z_ild _ _),
   zz_of (ok_aload_n G dX9_setOf_1 rfl rfl) (z_ald _ _),
   zz_of (ok_get G (nx := 5) (ci := 8) (kd := 2) (k := 1) (RX9, TX9, 32) rfl (by decide) rfl q1806 dX9_setOf_2 rfl) (z_get _ _ _ _),
   zz_of (ok_sipush G (v := 194) dX9_setOf_5 (by decide) rfl) (z_cn 8 194),
   zz_of (ok_iald G dX9_setOf_8 rfl) (z_ialc _ _),
   zz_of (ok_cge G dX9_setOf_9 rfl rfl) (z_cge _ _ _ _),
   zz_of (ok_iload_n G dX9_setOf_12 rfl rfl) (z_ild _ _),
   zz_of (ok_aload_n G dX9_setOf_13 rfl rfl) (z_ald _ _),
   zz_of (ok_get G (nx := 17) (ci := 8) (kd := 2) (k := 1) (RX9, TX9, 32) rfl (by decide) rfl q1806 dX9_setOf_14 rfl) (z_get _ _ _ _),
   zz_of (ok_sipush G (v := 194) dX9_setOf_17 (by decide) rfl) (z_cn 20 194),
   zz_of (ok_iald G dX9_setOf_20 rfl) (z_ialc _ _),
   zz_of (ok_clt G dX9_setOf_21 rfl rfl) (z_clt _ _ _ _),
   zz_of (ok_iload_n G dX9_setOf_24 rfl rfl) (z_ild _ _),
   zz_of (ok_ifne G dX9_setOf_25 rfl rfl) (z_ifne _ _ _),
   zz_of (ok_iload_n G dX9_setOf_28 rfl rfl) (z_ild _ _),
   zz_of (ok_goto G dX9_setOf_29 rfl) (z_goto _),
   zz_of (ok_iload_n G dX9_setOf_32 rfl rfl) (z_ild _ _),
   zz_of (ok_aload_n G dX9_setOf_33 rfl rfl) (z_ald _ _),
   zz_of (ok_get G (nx := 37) (ci := 8) (kd := 2) (k := 1) (RX9, TX9, 32) rfl (by decide) rfl q1806 dX9_setOf_34 rfl) (z_get _ _ _ _),
   zz_of (ok_sipush G (v := 194) dX9_setOf_37 (by decide) rfl) (z_cn 40 194),
   zz_of (ok_iald G dX9_setOf_40 rfl) (z_ialc _ _),
   zz_of (ok_clt G dX9_setOf_41 rfl rfl) (z_clt _ _ _ _),
   zz_of (ok_ldc2 G (v := 1000000000) q2137 dX9_setOf_44 rfl) (z_cl 47 1000000000),
   zz_of (ok_goto G dX9_setOf_47 rfl) (z_goto _),
   zz_of (ok_lconst G (v := 0) dX9_setOf_50 (by decide) rfl) (z_cl 51 0),
   zz_of (ok_lret G dX9_setOf_51) (z_lret),
   zz_of (ok_lconst G (v := 0) dX9_setOf_52 (by decide) rfl) (z_cl 53 0),
   zz_of (ok_lstore G dX9_setOf_53 rfl (by decide)) (z_lst _ _),
   zz_of (ok_iconst G (v := 0) dX9_setOf_55 (by decide) rfl) (z_cn 56 0),
   zz_of (ok_istore G dX9_setOf_56 rfl (by decide)) (z_ist _ _),
   zz_of (ok_iload G dX9_setOf_58 rfl) (z_ild _ _),
   zz_of (ok_iconst G (v := 2) dX9_setOf_60 (by decide) rfl) (z_cn 61 2),
   zz_of (ok_cge G dX9_setOf_61 rfl rfl) (z_cge _ _ _ _),
   zz_of (ok_iconst G (v := 0) dX9_setOf_64 (by decide) rfl) (z_cn 65 0),
   zz_of (ok_istore G dX9_setOf_65 rfl (by decide)) (z_ist _ _),
   zz_of (ok_iload G dX9_setOf_67 rfl) (z_ild _ _),
   zz_of (ok_iconst G (v := 2) dX9_setOf_69 (by decide) rfl) (z_cn 70 2),
   zz_of (ok_cge G dX9_setOf_70 rfl rfl) (z_cge _ _ _ _),
   zz_of (ok_lload G dX9_setOf_73 rfl) (z_lld _ _),
   zz_of (ok_aload_n G dX9_setOf_75 rfl rfl) (z_ald _ _),
   zz_of (ok_get G (nx := 79) (ci := 8) (kd := 2) (k := 24) (RX9, TX9, 32) rfl (by decide) rfl q1829 dX9_setOf_76 rfl) (z_get _ _ _ _),
   zz_of (ok_iconst G (v := 4) dX9_setOf_79 (by decide) rfl) (z_cn 80 4),
   zz_of (ok_iload G dX9_setOf_80 rfl) (z_ild _ _),
   zz_of (ok_imul G dX9_setOf_82 rfl) (z_imul _),
   zz_of (ok_iconst G (v := 2) dX9_setOf_83 (by decide) rfl) (z_cn 84 2),
   zz_of (ok_iload G dX9_setOf_84 rfl) (z_ild _ _),
   zz_of (ok_imul G dX9_setOf_86 rfl) (z_imul _),
   zz_of (ok_iadd G dX9_setOf_87 rfl) (z_iadd _),
   zz_of (ok_iload G dX9_setOf_88 rfl) (z_ild _ _),
   zz_of (ok_iadd G dX9_setOf_90 rfl) (z_iadd _),
   zz_of (ok_lald G dX9_setOf_91 rfl) (z_lald _),
   zz_of (ok_aload_n G dX9_setOf_92 rfl rfl) (z_ald _ _),
   zz_of (ok_iload_n G dX9_setOf_93 rfl rfl) (z_ild _ _),
   zz_of (ok_iload G dX9_setOf_94 rfl) (z_ild _ _),
   zz_of (ok_ifne G dX9_setOf_96 rfl rfl) (z_ifne _ _ _),
   zz_of (ok_iload_n G dX9_setOf_99 rfl rfl) (z_ild _ _),
   zz_of (ok_iconst G (v := 1) dX9_setOf_100 (by decide) rfl) (z_cn 101 1),
   zz_of (ok_iadd G dX9_setOf_101 rfl) (z_iadd _),
   zz_of (ok_goto G dX9_setOf_102 rfl) (z_goto _),
   zz_of (ok_iload_n G dX9_setOf_105 rfl rfl) (z_ild _ _),
   zz_of (ok_iload G dX9_setOf_106 rfl) (z_ild _ _),
   zz_of (ok_iconst G (v := 1) dX9_setOf_108 (by decide) rfl) (z_cn 109 1),
   zz_of (ok_cne G dX9_setOf_109 rfl rfl) (z_cne _ _ _ _),
   zz_of (ok_iload_n G dX9_setOf_112 rfl rfl) (z_ild _ _),
   zz_of (ok_iconst G (v := 1) dX9_setOf_113 (by decide) rfl) (z_cn 114 1),
   zz_of (ok_iadd G dX9_setOf_114 rfl) (z_iadd _),
   zz_of (ok_goto G dX9_setOf_115 rfl) (z_goto _),
   zz_of (ok_iload_n G dX9_setOf_118 rfl rfl) (z_ild _ _),
   zz_of (ok_iload G dX9_setOf_119 rfl) (z_ild _ _),
   zz_of (ok_callv G hnh (zmX9_setOf_8 _ G.hst) rfl rfl (RX9, TX9, 32) rfl q2165 q2167 qs75 q93 q2168 (by decide +kernel) ⟨by decide, by decide⟩ dX9_setOf_121 rfl) (z_callv _ _ _ _),
   zz_of (ok_lmul G dX9_setOf_124 rfl) (z_lmul _),
   zz_of (ok_ldc2 G (v := 1000000000) q2137 dX9_setOf_125 rfl) (z_cl 128 1000000000),
   zz_of (ok_ldiv G dX9_setOf_128 rfl) (z_ldiv _),
   zz_of (ok_ladd G dX9_setOf_129 rfl) (z_ladd _),
   zz_of (ok_lstore G dX9_setOf_130 rfl (by decide)) (z_lst _ _),
   zz_of (ok_iinc G (v := 1) dX9_setOf_132 (by decide) rfl (by decide)) (z_incn 135 8 1),
   zz_of (ok_goto G dX9_setOf_135 rfl) (z_goto _),
   zz_of (ok_iinc G (v := 1) dX9_setOf_138 (by decide) rfl (by decide)) (z_incn 141 7 1),
   zz_of (ok_goto G dX9_setOf_141 rfl) (z_goto _),
   zz_of (ok_lload G dX9_setOf_144 rfl) (z_lld _ _),
   zz_of (ok_lret G dX9_setOf_146) (z_lret), trivial⟩

theorem zwX9_setOf_9_0 {Q : Option zv → zz_M → Prop} {X : Nat → zz_M → Prop} {S L : Nat → Nat → Int} {p : Int} {a : Int} {b : Int} {s : Int} (h : R32 a ∧ (R32 (S 1 194) ∧ (((S 1 194) ≤ a → zz_J zpX9_setOf_9 (zz_ret Q X 0 0) 24 [some (vr 0), some (vi p), some (vi a), some (vi b), none, none, none, none, none] [] (zm S L) (0, 0)) ∧ (¬ (S 1 194) ≤ a → R32 b ∧ (R32 (S 1 194) ∧ ((b < (S 1 194) → zz_J zpX9_setOf_9 (zz_ret Q X 0 0) 52 [some (vr 0), some (vi p), some (vi a), some (vi b), some (vi s), none, none, none, none] [] (zm S L) (0, 0)) ∧ (¬ b < (S 1 194) → zz_J zpX9_setOf_9 (zz_ret Q X 0 0) 24 [some (vr 0), some (vi p), some (vi a), some (vi b), none, none, none, none, none] [] (zm S L) (0, 0)))))))) : zz_J zpX9_setOf_9 (zz_ret Q X 0 0) 0 [some (vr 0), some (vi p), some (vi a), some (vi b), some (vi s), none, none, none, none] [] (zm S L) (0, 0) := zz_J.go [(24, [4, 5, 6, 7, 8]), (33, [1, 2, 3, 4, 5, 6, 7, 8]), (52, [5, 6, 7, 8]), (58, [6, 8]), (67, [6])] 400 h
theorem zwX9_setOf_9_24 {Q : Option zv → zz_M → Prop} {X : Nat → zz_M → Prop} {S L : Nat → Nat → Int} {x1 : Int} {x2 : Int} {x3 : Int} (h : R32 x1 ∧ ((¬ x1 = 0 → zz_J zpX9_setOf_9 (zz_ret Q X 0 0) 33 [some (vr 0), none, none, none, none, none, none, none, none] [vi x3] (zm S L) (0, 0)) ∧ (x1 = 0 → zz_J zpX9_setOf_9 (zz_ret Q X 0 0) 33 [some (vr 0), none, none, none, none, none, none, none, none] [vi x2] (zm S L) (0, 0)))) : zz_J zpX9_setOf_9 (zz_ret Q X 0 0) 24 [some (vr 0), some (vi x1), some (vi x2), some (vi x3), none, none, none, none, none] [] (zm S L) (0, 0) := zz_J.go [(24, [4, 5, 6, 7, 8]), (33, [1, 2, 3, 4, 5, 6, 7, 8]), (52, [5, 6, 7, 8]), (58, [6, 8]), (67, [6])] 400 h
theorem zwX9_setOf_9_33 {Q : Option zv → zz_M → Prop} {X : Nat → zz_M → Prop} {S L : Nat → Nat → Int} {t0 : Int} (h : R32 t0 ∧ (R32 (S 1 194) ∧ ((t0 < (S 1 194) → Q (some (vl 0)) (zm S L)) ∧ (¬ t0 < (S 1 194) → Q (some (vl 1000000000)) (zm S L))))) : zz_J zpX9_setOf_9 (zz_ret Q X 0 0) 33 [some (vr 0), none, none, none, none, none, none, none, none] [vi t0] (zm S L) (0, 0) := zz_J.go [(24, [4, 5, 6, 7, 8]), (33, [1, 2, 3, 4, 5, 6, 7, 8]), (52, [5, 6, 7, 8]), (58, [6, 8]), (67, [6])] 400 h
theorem zwX9_setOf_9_52 {Q : Option zv → zz_M → Prop} {X : Nat → zz_M → Prop} {S L : Nat → Nat → Int} {x1 : Int} {x2 : Int} {x3 : Int} {x4 : Int} (h : zz_J zpX9_setOf_9 (zz_ret Q X 0 0) 58 [some (vr 0), some (vi x1), some (vi x2), some (vi x3), some (vi x4), some (vl 0), none, some (vi 0), none] [] (zm S L) (0, 0)) : zz_J zpX9_setOf_9 (zz_ret Q X 0 0) 52 [some (vr 0), some (vi x1), some (vi x2), some (vi x3), some (vi x4), none, none, none, none] [] (zm S L) (0, 0) := zz_J.go [(24, [4, 5, 6, 7, 8]), (33, [1, 2, 3, 4, 5, 6, 7, 8]), (52, [5, 6, 7, 8]), (58, [6, 8]), (67, [6])] 400 h
theorem zwX9_setOf_9_58 {Q : Option zv → zz_M → Prop} {X : Nat → zz_M → Prop} {S L : Nat → Nat → Int} {x1 : Int} {x2 : Int} {x3 : Int} {x4 : Int} {x5 : Int} {x7 : Int} (h : R32 x7 ∧ ((2 ≤ x7 → Q (some (vl x5)) (zm S L)) ∧ (¬ 2 ≤ x7 → zz_J zpX9_setOf_9 (zz_ret Q X 0 0) 67 [some (vr 0), some (vi x1), some (vi x2), some (vi x3), some (vi x4), some (vl x5), none, some (vi x7), some (vi 0)] [] (zm S L) (0, 0)))) : zz_J zpX9_setOf_9 (zz_ret Q X 0 0) 58 [some (vr 0), some (vi x1), some (vi x2), some (vi x3), some (vi x4), some (vl x5), none, some (vi x7), none] [] (zm S L) (0, 0) := zz_J.go [(24, [4, 5, 6, 7, 8]), (33, [1, 2, 3, 4, 5, 6, 7, 8]), (52, [5, 6, 7, 8]), (58, [6, 8]), (67, [6])] 400 h
theorem zwX9_setOf_9_67 {Q : Option zv → zz_M → Prop} {X : Nat → zz_M → Prop} {S L : Nat → Nat → Int} {x1 : Int} {x2 : Int} {x3 : Int} {x4 : Int} {x5 : Int} {x7 : Int} {x8 : Int} (h : R32 x8 ∧ ((2 ≤ x8 → zz_J zpX9_setOf_9 (zz_ret Q X 0 0) 58 [some (vr 0), some (vi x1), some (vi x2), some (vi x3), some (vi x4), some (vl x5), none, some (vi (x7 + 1)), none] [] (zm S L) (0, 0)) ∧ (¬ 2 ≤ x8 → (0 ≤ (((4 * x4) + (2 * x7)) + x8) ∧ (((4 * x4) + (2 * x7)) + x8) < 8) ∧ (R32 x7 ∧ ((¬ x7 = 0 → R32 x7 ∧ ((¬ x7 = 1 → ((x1 = 0 ∨ x1 = 1) ∧ (x8 = 0 ∨ x8 = 1) ∧ (0 ≤ x2 ∧ x2 ≤ 6) ∧ (0 ≤ x3 ∧ x3 ≤ 6) ∧ (1 ≤ S 1 194 ∧ S 1 194 ≤ 6) ∧ (x2 ≤ S 1 194 ∧ x3 ≤ S 1 194) ∧ S 1 194 - x2 + (S 1 194 - x3) ≤ 8 ∧ wyG (L 12) ∧ ((0 ≤ ((L 12 ((((4 * x4) + (2 * x7)) + x8).toNat)) * (stO (L 12) (S 1 194) x1 8 x2 x3 x8.toNat)) ∧ ((L 12 ((((4 * x4) + (2 * x7)) + x8).toNat)) * (stO (L 12) (S 1 194) x1 8 x2 x3 x8.toNat)) < 9223372036854775808) ∧ (zz_J zpX9_setOf_9 (zz_ret Q X 0 0) 67 [some (vr 0), some (vi x1), some (vi x2), some (vi x3), some (vi x4), some (vl (x5 + (((L 12 ((((4 * x4) + (2 * x7)) + x8).toNat)) * (stO (L 12) (S 1 194) x1 8 x2 x3 x8.toNat)) / 1000000000))), none, some (vi x7), some (vi (x8 + 1))] [] (zm S L) (0, 0))))) ∧ (x7 = 1 → ((x1 = 0 ∨ x1 = 1) ∧ (x8 = 0 ∨ x8 = 1) ∧ (0 ≤ x2 ∧ x2 ≤ 6) ∧ (0 ≤ (x3 + 1) ∧ (x3 + 1) ≤ 6) ∧ (1 ≤ S 1 194 ∧ S 1 194 ≤ 6) ∧ (x2 ≤ S 1 194 ∧ (x3 + 1) ≤ S 1 194) ∧ S 1 194 - x2 + (S 1 194 - (x3 + 1)) ≤ 8 ∧ wyG (L 12) ∧ ((0 ≤ ((L 12 ((((4 * x4) + (2 * x7)) + x8).toNat)) * (stO (L 12) (S 1 194) x1 8 x2 (x3 + 1) x8.toNat)) ∧ ((L 12 ((((4 * x4) + (2 * x7)) + x8).toNat)) * (stO (L 12) (S 1 194) x1 8 x2 (x3 + 1) x8.toNat)) < 9223372036854775808) ∧ (zz_J zpX9_setOf_9 (zz_ret Q X 0 0) 67 [some (vr 0), some (vi x1), some (vi x2), some (vi x3), some (vi x4), some (vl (x5 + (((L 12 ((((4 * x4) + (2 * x7)) + x8).toNat)) * (stO (L 12) (S 1 194) x1 8 x2 (x3 + 1) x8.toNat)) / 1000000000))), none, some (vi x7), some (vi (x8 + 1))] [] (zm S L) (0, 0))))))) ∧ (x7 = 0 → R32 x7 ∧ ((¬ x7 = 1 → ((x1 = 0 ∨ x1 = 1) ∧ (x8 = 0 ∨ x8 = 1) ∧ (0 ≤ (x2 + 1) ∧ (x2 + 1) ≤ 6) ∧ (0 ≤ x3 ∧ x3 ≤ 6) ∧ (1 ≤ S 1 194 ∧ S 1 194 ≤ 6) ∧ ((x2 + 1) ≤ S 1 194 ∧ x3 ≤ S 1 194) ∧ S 1 194 - (x2 + 1) + (S 1 194 - x3) ≤ 8 ∧ wyG (L 12) ∧ ((0 ≤ ((L 12 ((((4 * x4) + (2 * x7)) + x8).toNat)) * (stO (L 12) (S 1 194) x1 8 (x2 + 1) x3 x8.toNat)) ∧ ((L 12 ((((4 * x4) + (2 * x7)) + x8).toNat)) * (stO (L 12) (S 1 194) x1 8 (x2 + 1) x3 x8.toNat)) < 9223372036854775808) ∧ (zz_J zpX9_setOf_9 (zz_ret Q X 0 0) 67 [some (vr 0), some (vi x1), some (vi x2), some (vi x3), some (vi x4), some (vl (x5 + (((L 12 ((((4 * x4) + (2 * x7)) + x8).toNat)) * (stO (L 12) (S 1 194) x1 8 (x2 + 1) x3 x8.toNat)) / 1000000000))), none, some (vi x7), some (vi (x8 + 1))] [] (zm S L) (0, 0))))) ∧ (x7 = 1 → ((x1 = 0 ∨ x1 = 1) ∧ (x8 = 0 ∨ x8 = 1) ∧ (0 ≤ (x2 + 1) ∧ (x2 + 1) ≤ 6) ∧ (0 ≤ (x3 + 1) ∧ (x3 + 1) ≤ 6) ∧ (1 ≤ S 1 194 ∧ S 1 194 ≤ 6) ∧ ((x2 + 1) ≤ S 1 194 ∧ (x3 + 1) ≤ S 1 194) ∧ S 1 194 - (x2 + 1) + (S 1 194 - (x3 + 1)) ≤ 8 ∧ wyG (L 12) ∧ ((0 ≤ ((L 12 ((((4 * x4) + (2 * x7)) + x8).toNat)) * (stO (L 12) (S 1 194) x1 8 (x2 + 1) (x3 + 1) x8.toNat)) ∧ ((L 12 ((((4 * x4) + (2 * x7)) + x8).toNat)) * (stO (L 12) (S 1 194) x1 8 (x2 + 1) (x3 + 1) x8.toNat)) < 9223372036854775808) ∧ (zz_J zpX9_setOf_9 (zz_ret Q X 0 0) 67 [some (vr 0), some (vi x1), some (vi x2), some (vi x3), some (vi x4), some (vl (x5 + (((L 12 ((((4 * x4) + (2 * x7)) + x8).toNat)) * (stO (L 12) (S 1 194) x1 8 (x2 + 1) (x3 + 1) x8.toNat)) / 1000000000))), none, some (vi x7), some (vi (x8 + 1))] [] (zm S L) (0, 0)))))))))))) : zz_J zpX9_setOf_9 (zz_ret Q X 0 0) 67 [some (vr 0), some (vi x1), some (vi x2), some (vi x3), some (vi x4), some (vl x5), none, some (vi x7), some (vi x8)] [] (zm S L) (0, 0) := zz_J.go [(24, [4, 5, 6, 7, 8]), (33, [1, 2, 3, 4, 5, 6, 7, 8]), (52, [5, 6, 7, 8]), (58, [6, 8]), (67, [6])] 400 h

theorem zmX9_setOf_9 (l : Launch) (hl : l.stackTraces = false) : mm_Spec l yX9_setOf (ws_ yX9_setOf cX9_setOf 9 (some .long)) (mm_rm 10 0 0) (zE zX9_setOf_9) := by
  refine zz_Met.J hl (by decide) (fun C G hnh => ztX9_setOf_9 G hnh) ?_
  rintro as ⟨⟨t_, f⟩, S, L, P⟩ Q X h
  unfold zX9_setOf_9 at h
  split at h
  rotate_left
  · exact h.elim
  rename_i h_ p a b s
  obtain ⟨e1_, e2_, h⟩ := mm_and2 h (fun q => q)
  cases mm_beq e1_
  cases mm_beq e2_
  try dsimp only at h
  refine ⟨rfl, ?_⟩
  refine zz_Jev (M' := zm S L) rfl rfl rfl ?_
  obtain ⟨hp, hs, ha, hb, hG, hab, hr, hwy, hq⟩ := h
  have t24 : (S 1 194 ≤ a ∨ S 1 194 ≤ b) → zz_J zpX9_setOf_9 (zz_ret Q X 0 0) 24 [some (vr 0), some (vi p), some (vi a), some (vi b), none, none, none, none, none] [] (zm S L) (0, 0) := by
    intro h
    rw [stO_o h] at hq
    refine zwX9_setOf_9_24 ⟨by omega, fun c => ?_, fun c => ?_⟩
    · rw [if_neg c] at hq
      refine zwX9_setOf_9_33 ⟨by omega, by omega, fun d => ?_, fun d => ?_⟩
      · rw [if_neg (by omega)] at hq; exact hq
      · rw [if_pos (by omega)] at hq; exact hq
    · rw [if_pos c] at hq
      refine zwX9_setOf_9_33 ⟨by omega, by omega, fun d => ?_, fun d => ?_⟩
      · rw [if_neg (by omega)] at hq; exact hq
      · rw [if_pos (by omega)] at hq; exact hq
  obtain ⟨u, hu, rfl⟩ : ∃ u : Nat, u < 2 ∧ s = u := ⟨s.toNat, by omega, by omega⟩
  rw [Int.toNat_natCast] at hq
  have t52 : ¬ (S 1 194 ≤ a ∨ S 1 194 ≤ b) → zz_J zpX9_setOf_9 (zz_ret Q X 0 0) 52 [some (vr 0), some (vi p), some (vi a), some (vi b), some (vi u), none, none, none, none] [] (zm S L) (0, 0) := by
    intro h
    rw [show stO (L 12) (S 1 194) p 9 a b u = _ from stO_s h 8] at hq
    have i0 := stO_in (G := S 1 194) (p := p) hwy 8 (a + 1) b 0 (by decide)
    have i1 := stO_in (G := S 1 194) (p := p) hwy 8 (a + 1) b 1 (by decide)
    have i2 := stO_in (G := S 1 194) (p := p) hwy 8 a (b + 1) 0 (by decide)
    have i3 := stO_in (G := S 1 194) (p := p) hwy 8 a (b + 1) 1 (by decide)
    have w0 := hwy.1 (4 * u) (by omega)
    have w1 := hwy.1 (4 * u + 1) (by omega)
    have w2 := hwy.1 (4 * u + 2) (by omega)
    have w3 := hwy.1 (4 * u + 3) (by omega)
    have m0 := mul_sure w0.1 i0.1 i0.2
    have m1 := mul_sure w1.1 i1.1 i1.2
    have m2 := mul_sure w2.1 i2.1 i2.2
    have m3 := mul_sure w3.1 i3.1 i3.2
    have e0 : ((4 : Int) * u + 2 * 0 + 0).toNat = 4 * u := by omega
    have e1 : ((4 : Int) * u + 2 * 0 + 1).toNat = 4 * u + 1 := by omega
    have e2 : ((4 : Int) * u + 2 * 1 + 0).toNat = 4 * u + 2 := by omega
    have e3 : ((4 : Int) * u + 2 * 1 + 1).toNat = 4 * u + 3 := by omega
    refine zwX9_setOf_9_52 (zwX9_setOf_9_58 ⟨by decide, fun c => absurd c (by decide), fun _ => ?_⟩)
    refine zwX9_setOf_9_67 ⟨by decide, fun c => absurd c (by decide), fun _ => ⟨by omega, by decide, fun c => absurd rfl c, fun _ => ⟨by decide, fun _ => ?_, fun c => absurd c (by decide)⟩⟩⟩
    refine ⟨hp, Or.inl rfl, by omega, hb, hG, by omega, by omega, hwy, ?_⟩
    rw [e0]
    refine ⟨by show 0 ≤ L 12 (4 * u) * stO (L 12) (S 1 194) p 8 (a + 1) b 0 ∧ L 12 (4 * u) * stO (L 12) (S 1 194) p 8 (a + 1) b 0 < 9223372036854775808; omega, ?_⟩
    refine zwX9_setOf_9_67 ⟨by decide, fun c => absurd c (by decide), fun _ => ⟨by omega, by decide, fun c => absurd rfl c, fun _ => ⟨by decide, fun _ => ?_, fun c => absurd c (by decide)⟩⟩⟩
    refine ⟨hp, Or.inr rfl, by omega, hb, hG, by omega, by omega, hwy, ?_⟩
    rw [show ((4 : Int) * u + 2 * 0 + (0 + 1)).toNat = 4 * u + 1 by omega]
    refine ⟨by show 0 ≤ L 12 (4 * u + 1) * stO (L 12) (S 1 194) p 8 (a + 1) b 1 ∧ L 12 (4 * u + 1) * stO (L 12) (S 1 194) p 8 (a + 1) b 1 < 9223372036854775808; omega, ?_⟩
    refine zwX9_setOf_9_67 ⟨by decide, fun _ => ?_, fun c => absurd c (by decide)⟩
    refine zwX9_setOf_9_58 ⟨by decide, fun c => absurd c (by decide), fun _ => ?_⟩
    refine zwX9_setOf_9_67 ⟨by decide, fun c => absurd c (by decide), fun _ => ⟨by omega, by decide, fun _ => ⟨by decide, fun c => absurd rfl c, fun _ => ?_⟩, fun c => absurd c (by decide)⟩⟩
    refine ⟨hp, Or.inl rfl, ha, by omega, hG, by omega, by omega, hwy, ?_⟩
    rw [show ((4 : Int) * u + 2 * (0 + 1) + 0).toNat = 4 * u + 2 by omega]
    refine ⟨by show 0 ≤ L 12 (4 * u + 2) * stO (L 12) (S 1 194) p 8 a (b + 1) 0 ∧ L 12 (4 * u + 2) * stO (L 12) (S 1 194) p 8 a (b + 1) 0 < 9223372036854775808; omega, ?_⟩
    refine zwX9_setOf_9_67 ⟨by decide, fun c => absurd c (by decide), fun _ => ⟨by omega, by decide, fun _ => ⟨by decide, fun c => absurd rfl c, fun _ => ?_⟩, fun c => absurd c (by decide)⟩⟩
    refine ⟨hp, Or.inr rfl, ha, by omega, hG, by omega, by omega, hwy, ?_⟩
    rw [show ((4 : Int) * u + 2 * (0 + 1) + (0 + 1)).toNat = 4 * u + 3 by omega]
    refine ⟨by show 0 ≤ L 12 (4 * u + 3) * stO (L 12) (S 1 194) p 8 a (b + 1) 1 ∧ L 12 (4 * u + 3) * stO (L 12) (S 1 194) p 8 a (b + 1) 1 < 9223372036854775808; omega, ?_⟩
    refine zwX9_setOf_9_67 ⟨by decide, fun _ => ?_, fun c => absurd c (by decide)⟩
    refine zwX9_setOf_9_58 ⟨by decide, fun _ => ?_, fun c => absurd c (by decide)⟩
    have ez : ∀ x y z w : Int, 0 + x + y + z + w = x + y + z + w := fun x y z w => by omega
    rw [ez]
    exact hq
  refine zwX9_setOf_9_0 ⟨by omega, by omega, fun c => t24 (Or.inl c), fun c => ⟨by omega, by omega, fun d => t52 (by omega), fun d => t24 (Or.inr (by omega))⟩⟩
def zX9_setOf_10 : zz_Sp := fun as M Q X => match as with
  | [.inr (.inr (some h_)), .inl p, .inl a, .inl b, .inl s] => bif Nat.beq h_ 0 && Nat.beq M.1.1 1 then ((p = 0 ∨ p = 1) ∧ (s = 0 ∨ s = 1) ∧ (0 ≤ a ∧ a ≤ 6) ∧ (0 ≤ b ∧ b ≤ 6) ∧ (1 ≤ M.2.1 1 194 ∧ M.2.1 1 194 ≤ 6) ∧ (a ≤ M.2.1 1 194 ∧ b ≤ M.2.1 1 194) ∧ M.2.1 1 194 - a + (M.2.1 1 194 - b) ≤ 10 ∧ wyG (M.2.2.1 12) ∧ Q (some (vl (stO (M.2.2.1 12) (M.2.1 1 194) p 10 a b s.toNat))) (zm M.2.1 M.2.2.1)) else False
  | _ => False

def zpX9_setOf_10 : zz_P := [(0, zo_ild 1 2), (1, zo_ald 2 0), (2, zo_get 5 8 2 1), (5, zo_c 8 (vi 194)), (8, zo_ialc 9 194), (9, zo_cge false false 12 24), (12, zo_ild 13 3), (13, zo_ald 14 0), (14, zo_get 17 8 2 1), (17, zo_c 20 (vi 194)), (20, zo_ialc 21 194), (21, zo_clt false false 24 52), (24, zo_ild 25 1), (25, zo_ifne false 28 32), (28, zo_ild 29 2), (29, zo_goto 33), (32, zo_ild 33 3), (33, zo_ald 34 0), (34, zo_get 37 8 2 1), (37, zo_c 40 (vi 194)), (40, zo_ialc 41 194), (41, zo_clt false false 44 50), (44, zo_c 47 (vl 1000000000)), (47, zo_goto 51), (50, zo_c 51 (vl 0)), (51, zo_lret), (52, zo_c 53 (vl 0)), (53, zo_lst 55 5), (55, zo_c 56 (vi 0)), (56, zo_ist 58 7), (58, zo_ild 60 7), (60, zo_c 61 (vi 2)), (61, zo_cge false true 64 144), (64, zo_c 65 (vi 0)), (65, zo_ist 67 8), (67, zo_ild 69 8), (69, zo_c 70 (vi 2)), (70, zo_cge false true 73 138), (73, zo_lld 75 5), (75, zo_ald 76 0), (76, zo_get 79 8 2 24), (79, zo_c 80 (vi 4)), (80, zo_ild 82 4), (82, zo_imul 83), (83, zo_c 84 (vi 2)), (84, zo_ild 86 7), (86, zo_imul 87), (87, zo_iadd 88), (88, zo_ild 90 8), (90, zo_iadd 91), (91, zo_lald 92), (92, zo_ald 93 0), (93, zo_ild 94 1), (94, zo_ild 96 7), (96, zo_ifne false 99 105), (99, zo_ild 100 2), (100, zo_c 101 (vi 1)), (101, zo_iadd 102), (102, zo_goto 106), (105, zo_ild 106 2), (106, zo_ild 108 7), (108, zo_c 109 (vi 1)), (109, zo_cne false true 112 118), (112, zo_ild 113 3), (113, zo_c 114 (vi 1)), (114, zo_iadd 115), (115, zo_goto 119), (118, zo_ild 119 3), (119, zo_ild 121 8), (121, zo_callv 124 5 8 zX9_setOf_9), (124, zo_lmul 125), (125, zo_c 128 (vl 1000000000)), (128, zo_ldiv 129), (129, zo_ladd 130), (130, zo_lst 132 5), (132, zo_inc 135 8 1), (135, zo_goto 67), (138, zo_inc 141 7 1), (141, zo_goto 58), (144, zo_lld 146 5), (146, zo_lret)]
theorem ztX9_setOf_10 {C : mm_C} (G : mm_G C RX9 cX9_setOf (some .long) 9 (mm_rm 11 0 0)) (hnh : mm_nh C) : zz_OKs C zpX9_setOf_10 :=
  ⟨zz_of (ok_iload_n G dX9_setOf_0 rfl rfl) (z_ild _ _),
   zz_of (ok_aload_n G dX9_setOf_1 rfl rfl) (z_ald _ _),
   zz_of (ok_get G (nx := 5) (ci := 8) (kd := 2) (k := 1) (RX9, TX9, 32) rfl (by decide) rfl q1806 dX9_setOf_2 rfl) (z_get _ _ _ _),
   zz_of (ok_sipush G (v := 194) dX9_setOf_5 (by decide) rfl) (z_cn 8 194),
   zz_of (ok_iald G dX9_setOf_8 rfl) (z_ialc _ _),
   zz_of (ok_cge G dX9_setOf_9 rfl rfl) (z_cge _ _ _ _),
   zz_of (ok_iload_n G dX9_setOf_12 rfl rfl) (z_ild _ _),
   zz_of (ok_aload_n G dX9_setOf_13 rfl rfl) (z_ald _ _),
   zz_of (ok_get G (nx := 17) (ci := 8) (kd := 2) (k := 1) (RX9, TX9, 32) rfl (by decide) rfl q1806 dX9_setOf_14 rfl) (z_get _ _ _ _),
   zz_of (ok_sipush G (v := 194) dX9_setOf_17 (by decide) rfl) (z_cn 20 194),
   zz_of (ok_iald G dX9_setOf_20 rfl) (z_ialc _ _),
   zz_of (ok_clt G dX9_setOf_21 rfl rfl) (z_clt _ _ _ _),
   zz_of (ok_iload_n G dX9_setOf_24 rfl rfl) (z_ild _ _),
   zz_of (ok_ifne G dX9_setOf_25 rfl rfl) (z_ifne _ _ _),
   zz_of (ok_iload_n G dX9_setOf_28 rfl rfl) (z_ild _ _),
   zz_of (ok_goto G dX9_setOf_29 rfl) (z_goto _),
   zz_of (ok_iload_n G dX9_setOf_32 rfl rfl) (z_ild _ _),
   zz_of (ok_aload_n G dX9_setOf_33 rfl rfl) (z_ald _ _),
   zz_of (ok_get G (nx := 37) (ci := 8) (kd := 2) (k := 1) (RX9, TX9, 32) rfl (by decide) rfl q1806 dX9_setOf_34 rfl) (z_get _ _ _ _),
   zz_of (ok_sipush G (v := 194) dX9_setOf_37 (by decide) rfl) (z_cn 40 194),
   zz_of (ok_iald G dX9_setOf_40 rfl) (z_ialc _ _),
   zz_of (ok_clt G dX9_setOf_41 rfl rfl) (z_clt _ _ _ _),
   zz_of (ok_ldc2 G (v := 1000000000) q2137 dX9_setOf_44 rfl) (z_cl 47 1000000000),
   zz_of (ok_goto G dX9_setOf_47 rfl) (z_goto _),
   zz_of (ok_lconst G (v := 0) dX9_setOf_50 (by decide) rfl) (z_cl 51 0),
   zz_of (ok_lret G dX9_setOf_51) (z_lret),
   zz_of (ok_lconst G (v := 0) dX9_setOf_52 (by decide) rfl) (z_cl 53 0),
   zz_of (ok_lstore G dX9_setOf_53 rfl (by decide)) (z_lst _ _),
   zz_of (ok_iconst G (v := 0) dX9_setOf_55 (by decide) rfl) (z_cn 56 0),
   zz_of (ok_istore G dX9_setOf_56 rfl (by decide)) (z_ist _ _),
   zz_of (ok_iload G dX9_setOf_58 rfl) (z_ild _ _),
   zz_of (ok_iconst G (v := 2) dX9_setOf_60 (by decide) rfl) (z_cn 61 2),
   zz_of (ok_cge G dX9_setOf_61 rfl rfl) (z_cge _ _ _ _),
   zz_of (ok_iconst G (v := 0) dX9_setOf_64 (by decide) rfl) (z_cn 65 0),
   zz_of (ok_istore G dX9_setOf_65 rfl (by decide)) (z_ist _ _),
   zz_of (ok_iload G dX9_setOf_67 rfl) (z_ild _ _),
   zz_of (ok_iconst G (v := 2) dX9_setOf_69 (by decide) rfl) (z_cn 70 2),
   zz_of (ok_cge G dX9_setOf_70 rfl rfl) (z_cge _ _ _ _),
   zz_of (ok_lload G dX9_setOf_73 rfl) (z_lld _ _),
   zz_of (ok_aload_n G dX9_setOf_75 rfl rfl) (z_ald _ _),
   zz_of (ok_get G (nx := 79) (ci := 8) (kd := 2) (k := 24) (RX9, TX9, 32) rfl (by decide) rfl q1829 dX9_setOf_76 rfl) (z_get _ _ _ _),
   zz_of (ok_iconst G (v := 4) dX9_setOf_79 (by decide) rfl) (z_cn 80 4),
   zz_of (ok_iload G dX9_setOf_80 rfl) (z_ild _ _),
   zz_of (ok_imul G dX9_setOf_82 rfl) (z_imul _),
   zz_of (ok_iconst G (v := 2) dX9_setOf_83 (by decide) rfl) (z_cn 84 2),
   zz_of (ok_iload G dX9_setOf_84 rfl) (z_ild _ _),
   zz_of (ok_imul G dX9_setOf_86 rfl) (z_imul _),
   zz_of (ok_iadd G dX9_setOf_87 rfl) (z_iadd _),
   zz_of (ok_iload G dX9_setOf_88 rfl) (z_ild _ _),
   zz_of (ok_iadd G dX9_setOf_90 rfl) (z_iadd _),
   zz_of (ok_lald G dX9_setOf_91 rfl) (z_lald _),
   zz_of (ok_aload_n G dX9_setOf_92 rfl rfl) (z_ald _ _),
   zz_of (ok_iload_n G dX9_setOf_93 rfl rfl) (z_ild _ _),
   zz_of (ok_iload G dX9_setOf_94 rfl) (z_ild _ _),
   zz_of (ok_ifne G dX9_setOf_96 rfl rfl) (z_ifne _ _ _),
   zz_of (ok_iload_n G dX9_setOf_99 rfl rfl) (z_ild _ _),
   zz_of (ok_iconst G (v := 1) dX9_setOf_100 (by decide) rfl) (z_cn 101 1),
   zz_of (ok_iadd G dX9_setOf_101 rfl) (z_iadd _),
   zz_of (ok_goto G dX9_setOf_102 rfl) (z_goto _),
   zz_of (ok_iload_n G dX9_setOf_105 rfl rfl) (z_ild _ _),
   zz_of (ok_iload G dX9_setOf_106 rfl) (z_ild _ _),
   zz_of (ok_iconst G (v := 1) dX9_setOf_108 (by decide) rfl) (z_cn 109 1),
   zz_of (ok_cne G dX9_setOf_109 rfl rfl) (z_cne _ _ _ _),
   zz_of (ok_iload_n G dX9_setOf_112 rfl rfl) (z_ild _ _),
   zz_of (ok_iconst G (v := 1) dX9_setOf_113 (by decide) rfl) (z_cn 114 1),
   zz_of (ok_iadd G dX9_setOf_114 rfl) (z_iadd _),
   zz_of (ok_goto G dX9_setOf_115 rfl) (z_goto _),
   zz_of (ok_iload_n G dX9_setOf_118 rfl rfl) (z_ild _ _),
   zz_of (ok_iload G dX9_setOf_119 rfl) (z_ild _ _),
   zz_of (ok_callv G hnh (zmX9_setOf_9 _ G.hst) rfl rfl (RX9, TX9, 32) rfl q2165 q2167 qs75 q93 q2168 (by decide +kernel) ⟨by decide, by decide⟩ dX9_setOf_121 rfl) (z_callv _ _ _ _),
   zz_of (ok_lmul G dX9_setOf_124 rfl) (z_lmul _),
   zz_of (ok_ldc2 G (v := 1000000000) q2137 dX9_setOf_125 rfl) (z_cl 128 1000000000),
   zz_of (ok_ldiv G dX9_setOf_128 rfl) (z_ldiv _),
   zz_of (ok_ladd G dX9_setOf_129 rfl) (z_ladd _),
   zz_of (ok_lstore G dX9_setOf_130 rfl (by decide)) (z_lst _ _),
   zz_of (ok_iinc G (v := 1) dX9_setOf_132 (by decide) rfl (by decide)) (z_incn 135 8 1),
   zz_of (ok_goto G dX9_setOf_135 rfl) (z_goto _),
   zz_of (ok_iinc G (v := 1) dX9_setOf_138 (by decide) rfl (by decide)) (z_incn 141 7 1),
   zz_of (ok_goto G dX9_setOf_141 rfl) (z_goto _),
   zz_of (ok_lload G dX9_setOf_144 rfl) (z_lld _ _),
   zz_of (ok_lret G dX9_setOf_146) (z_lret), trivial⟩

theorem zwX9_setOf_10_0 {Q : Option zv → zz_M → Prop} {X : Nat → zz_M → Prop} {S L : Nat → Nat → Int} {p : Int} {a : Int} {b : Int} {s : Int} (h : R32 a ∧ (R32 (S 1 194) ∧ (((S 1 194) ≤ a → zz_J zpX9_setOf_10 (zz_ret Q X 0 0) 24 [some (vr 0), some (vi p), some (vi a), some (vi b), none, none, none, none, none] [] (zm S L) (0, 0)) ∧ (¬ (S 1 194) ≤ a → R32 b ∧ (R32 (S 1 194) ∧ ((b < (S 1 194) → zz_J zpX9_setOf_10 (zz_ret Q X 0 0) 52 [some (vr 0), some (vi p), some (vi a), some (vi b), some (vi s), none, none, none, none] [] (zm S L) (0, 0)) ∧ (¬ b < (S 1 194) → zz_J zpX9_setOf_10 (zz_ret Q X 0 0) 24 [some (vr 0), some (vi p), some (vi a), some (vi b), none, none, none, none, none] [] (zm S L) (0, 0)))))))) : zz_J zpX9_setOf_10 (zz_ret Q X 0 0) 0 [some (vr 0), some (vi p), some (vi a), some (vi b), some (vi s), none, none, none, none] [] (zm S L) (0, 0) := zz_J.go [(24, [4, 5, 6, 7, 8]), (33, [1, 2, 3, 4, 5, 6, 7, 8]), (52, [5, 6, 7, 8]), (58, [6, 8]), (67, [6])] 400 h
theorem zwX9_setOf_10_24 {Q : Option zv → zz_M → Prop} {X : Nat → zz_M → Prop} {S L : Nat → Nat → Int} {x1 : Int} {x2 : Int} {x3 : Int} (h : R32 x1 ∧ ((¬ x1 = 0 → zz_J zpX9_setOf_10 (zz_ret Q X 0 0) 33 [some (vr 0), none, none, none, none, none, none, none, none] [vi x3] (zm S L) (0, 0)) ∧ (x1 = 0 → zz_J zpX9_setOf_10 (zz_ret Q X 0 0) 33 [some (vr 0), none, none, none, none, none, none, none, none] [vi x2] (zm S L) (0, 0)))) : zz_J zpX9_setOf_10 (zz_ret Q X 0 0) 24 [some (vr 0), some (vi x1), some (vi x2), some (vi x3), none, none, none, none, none] [] (zm S L) (0, 0) := zz_J.go [(24, [4, 5, 6, 7, 8]), (33, [1, 2, 3, 4, 5, 6, 7, 8]), (52, [5, 6, 7, 8]), (58, [6, 8]), (67, [6])] 400 h
theorem zwX9_setOf_10_33 {Q : Option zv → zz_M → Prop} {X : Nat → zz_M → Prop} {S L : Nat → Nat → Int} {t0 : Int} (h : R32 t0 ∧ (R32 (S 1 194) ∧ ((t0 < (S 1 194) → Q (some (vl 0)) (zm S L)) ∧ (¬ t0 < (S 1 194) → Q (some (vl 1000000000)) (zm S L))))) : zz_J zpX9_setOf_10 (zz_ret Q X 0 0) 33 [some (vr 0), none, none, none, none, none, none, none, none] [vi t0] (zm S L) (0, 0) := zz_J.go [(24, [4, 5, 6, 7, 8]), (33, [1, 2, 3, 4, 5, 6, 7, 8]), (52, [5, 6, 7, 8]), (58, [6, 8]), (67, [6])] 400 h
theorem zwX9_setOf_10_52 {Q : Option zv → zz_M → Prop} {X : Nat → zz_M → Prop} {S L : Nat → Nat → Int} {x1 : Int} {x2 : Int} {x3 : Int} {x4 : Int} (h : zz_J zpX9_setOf_10 (zz_ret Q X 0 0) 58 [some (vr 0), some (vi x1), some (vi x2), some (vi x3), some (vi x4), some (vl 0), none, some (vi 0), none] [] (zm S L) (0, 0)) : zz_J zpX9_setOf_10 (zz_ret Q X 0 0) 52 [some (vr 0), some (vi x1), some (vi x2), some (vi x3), some (vi x4), none, none, none, none] [] (zm S L) (0, 0) := zz_J.go [(24, [4, 5, 6, 7, 8]), (33, [1, 2, 3, 4, 5, 6, 7, 8]), (52, [5, 6, 7, 8]), (58, [6, 8]), (67, [6])] 400 h
theorem zwX9_setOf_10_58 {Q : Option zv → zz_M → Prop} {X : Nat → zz_M → Prop} {S L : Nat → Nat → Int} {x1 : Int} {x2 : Int} {x3 : Int} {x4 : Int} {x5 : Int} {x7 : Int} (h : R32 x7 ∧ ((2 ≤ x7 → Q (some (vl x5)) (zm S L)) ∧ (¬ 2 ≤ x7 → zz_J zpX9_setOf_10 (zz_ret Q X 0 0) 67 [some (vr 0), some (vi x1), some (vi x2), some (vi x3), some (vi x4), some (vl x5), none, some (vi x7), some (vi 0)] [] (zm S L) (0, 0)))) : zz_J zpX9_setOf_10 (zz_ret Q X 0 0) 58 [some (vr 0), some (vi x1), some (vi x2), some (vi x3), some (vi x4), some (vl x5), none, some (vi x7), none] [] (zm S L) (0, 0) := zz_J.go [(24, [4, 5, 6, 7, 8]), (33, [1, 2, 3, 4, 5, 6, 7, 8]), (52, [5, 6, 7, 8]), (58, [6, 8]), (67, [6])] 400 h
theorem zwX9_setOf_10_67 {Q : Option zv → zz_M → Prop} {X : Nat → zz_M → Prop} {S L : Nat → Nat → Int} {x1 : Int} {x2 : Int} {x3 : Int} {x4 : Int} {x5 : Int} {x7 : Int} {x8 : Int} (h : R32 x8 ∧ ((2 ≤ x8 → zz_J zpX9_setOf_10 (zz_ret Q X 0 0) 58 [some (vr 0), some (vi x1), some (vi x2), some (vi x3), some (vi x4), some (vl x5), none, some (vi (x7 + 1)), none] [] (zm S L) (0, 0)) ∧ (¬ 2 ≤ x8 → (0 ≤ (((4 * x4) + (2 * x7)) + x8) ∧ (((4 * x4) + (2 * x7)) + x8) < 8) ∧ (R32 x7 ∧ ((¬ x7 = 0 → R32 x7 ∧ ((¬ x7 = 1 → ((x1 = 0 ∨ x1 = 1) ∧ (x8 = 0 ∨ x8 = 1) ∧ (0 ≤ x2 ∧ x2 ≤ 6) ∧ (0 ≤ x3 ∧ x3 ≤ 6) ∧ (1 ≤ S 1 194 ∧ S 1 194 ≤ 6) ∧ (x2 ≤ S 1 194 ∧ x3 ≤ S 1 194) ∧ S 1 194 - x2 + (S 1 194 - x3) ≤ 9 ∧ wyG (L 12) ∧ ((0 ≤ ((L 12 ((((4 * x4) + (2 * x7)) + x8).toNat)) * (stO (L 12) (S 1 194) x1 9 x2 x3 x8.toNat)) ∧ ((L 12 ((((4 * x4) + (2 * x7)) + x8).toNat)) * (stO (L 12) (S 1 194) x1 9 x2 x3 x8.toNat)) < 9223372036854775808) ∧ (zz_J zpX9_setOf_10 (zz_ret Q X 0 0) 67 [some (vr 0), some (vi x1), some (vi x2), some (vi x3), some (vi x4), some (vl (x5 + (((L 12 ((((4 * x4) + (2 * x7)) + x8).toNat)) * (stO (L 12) (S 1 194) x1 9 x2 x3 x8.toNat)) / 1000000000))), none, some (vi x7), some (vi (x8 + 1))] [] (zm S L) (0, 0))))) ∧ (x7 = 1 → ((x1 = 0 ∨ x1 = 1) ∧ (x8 = 0 ∨ x8 = 1) ∧ (0 ≤ x2 ∧ x2 ≤ 6) ∧ (0 ≤ (x3 + 1) ∧ (x3 + 1) ≤ 6) ∧ (1 ≤ S 1 194 ∧ S 1 194 ≤ 6) ∧ (x2 ≤ S 1 194 ∧ (x3 + 1) ≤ S 1 194) ∧ S 1 194 - x2 + (S 1 194 - (x3 + 1)) ≤ 9 ∧ wyG (L 12) ∧ ((0 ≤ ((L 12 ((((4 * x4) + (2 * x7)) + x8).toNat)) * (stO (L 12) (S 1 194) x1 9 x2 (x3 + 1) x8.toNat)) ∧ ((L 12 ((((4 * x4) + (2 * x7)) + x8).toNat)) * (stO (L 12) (S 1 194) x1 9 x2 (x3 + 1) x8.toNat)) < 9223372036854775808) ∧ (zz_J zpX9_setOf_10 (zz_ret Q X 0 0) 67 [some (vr 0), some (vi x1), some (vi x2), some (vi x3), some (vi x4), some (vl (x5 + (((L 12 ((((4 * x4) + (2 * x7)) + x8).toNat)) * (stO (L 12) (S 1 194) x1 9 x2 (x3 + 1) x8.toNat)) / 1000000000))), none, some (vi x7), some (vi (x8 + 1))] [] (zm S L) (0, 0))))))) ∧ (x7 = 0 → R32 x7 ∧ ((¬ x7 = 1 → ((x1 = 0 ∨ x1 = 1) ∧ (x8 = 0 ∨ x8 = 1) ∧ (0 ≤ (x2 + 1) ∧ (x2 + 1) ≤ 6) ∧ (0 ≤ x3 ∧ x3 ≤ 6) ∧ (1 ≤ S 1 194 ∧ S 1 194 ≤ 6) ∧ ((x2 + 1) ≤ S 1 194 ∧ x3 ≤ S 1 194) ∧ S 1 194 - (x2 + 1) + (S 1 194 - x3) ≤ 9 ∧ wyG (L 12) ∧ ((0 ≤ ((L 12 ((((4 * x4) + (2 * x7)) + x8).toNat)) * (stO (L 12) (S 1 194) x1 9 (x2 + 1) x3 x8.toNat)) ∧ ((L 12 ((((4 * x4) + (2 * x7)) + x8).toNat)) * (stO (L 12) (S 1 194) x1 9 (x2 + 1) x3 x8.toNat)) < 9223372036854775808) ∧ (zz_J zpX9_setOf_10 (zz_ret Q X 0 0) 67 [some (vr 0), some (vi x1), some (vi x2), some (vi x3), some (vi x4), some (vl (x5 + (((L 12 ((((4 * x4) + (2 * x7)) + x8).toNat)) * (stO (L 12) (S 1 194) x1 9 (x2 + 1) x3 x8.toNat)) / 1000000000))), none, some (vi x7), some (vi (x8 + 1))] [] (zm S L) (0, 0))))) ∧ (x7 = 1 → ((x1 = 0 ∨ x1 = 1) ∧ (x8 = 0 ∨ x8 = 1) ∧ (0 ≤ (x2 + 1) ∧ (x2 + 1) ≤ 6) ∧ (0 ≤ (x3 + 1) ∧ (x3 + 1) ≤ 6) ∧ (1 ≤ S 1 194 ∧ S 1 194 ≤ 6) ∧ ((x2 + 1) ≤ S 1 194 ∧ (x3 + 1) ≤ S 1 194) ∧ S 1 194 - (x2 + 1) + (S 1 194 - (x3 + 1)) ≤ 9 ∧ wyG (L 12) ∧ ((0 ≤ ((L 12 ((((4 * x4) + (2 * x7)) + x8).toNat)) * (stO (L 12) (S 1 194) x1 9 (x2 + 1) (x3 + 1) x8.toNat)) ∧ ((L 12 ((((4 * x4) + (2 * x7)) + x8).toNat)) * (stO (L 12) (S 1 194) x1 9 (x2 + 1) (x3 + 1) x8.toNat)) < 9223372036854775808) ∧ (zz_J zpX9_setOf_10 (zz_ret Q X 0 0) 67 [some (vr 0), some (vi x1), some (vi x2), some (vi x3), some (vi x4), some (vl (x5 + (((L 12 ((((4 * x4) + (2 * x7)) + x8).toNat)) * (stO (L 12) (S 1 194) x1 9 (x2 + 1) (x3 + 1) x8.toNat)) / 1000000000))), none, some (vi x7), some (vi (x8 + 1))] [] (zm S L) (0, 0)))))))))))) : zz_J zpX9_setOf_10 (zz_ret Q X 0 0) 67 [some (vr 0), some (vi x1), some (vi x2), some (vi x3), some (vi x4), some (vl x5), none, some (vi x7), some (vi x8)] [] (zm S L) (0, 0) := zz_J.go [(24, [4, 5, 6, 7, 8]), (33, [1, 2, 3, 4, 5, 6, 7, 8]), (52, [5, 6, 7, 8]), (58, [6, 8]), (67, [6])] 400 h

theorem zmX9_setOf_10 (l : Launch) (hl : l.stackTraces = false) : mm_Spec l yX9_setOf (ws_ yX9_setOf cX9_setOf 9 (some .long)) (mm_rm 11 0 0) (zE zX9_setOf_10) := by
  refine zz_Met.J hl (by decide) (fun C G hnh => ztX9_setOf_10 G hnh) ?_
  rintro as ⟨⟨t_, f⟩, S, L, P⟩ Q X h
  unfold zX9_setOf_10 at h
  split at h
  rotate_left
  · exact h.elim
  rename_i h_ p a b s
  obtain ⟨e1_, e2_, h⟩ := mm_and2 h (fun q => q)
  cases mm_beq e1_
  cases mm_beq e2_
  try dsimp only at h
  refine ⟨rfl, ?_⟩
  refine zz_Jev (M' := zm S L) rfl rfl rfl ?_
  obtain ⟨hp, hs, ha, hb, hG, hab, hr, hwy, hq⟩ := h
  have t24 : (S 1 194 ≤ a ∨ S 1 194 ≤ b) → zz_J zpX9_setOf_10 (zz_ret Q X 0 0) 24 [some (vr 0), some (vi p), some (vi a), some (vi b), none, none, none, none, none] [] (zm S L) (0, 0) := by
    intro h
    rw [stO_o h] at hq
    refine zwX9_setOf_10_24 ⟨by omega, fun c => ?_, fun c => ?_⟩
    · rw [if_neg c] at hq
      refine zwX9_setOf_10_33 ⟨by omega, by omega, fun d => ?_, fun d => ?_⟩
      · rw [if_neg (by omega)] at hq; exact hq
      · rw [if_pos (by omega)] at hq; exact hq
    · rw [if_pos c] at hq
      refine zwX9_setOf_10_33 ⟨by omega, by omega, fun d => ?_, fun d => ?_⟩
      · rw [if_neg (by omega)] at hq; exact hq
      · rw [if_pos (by omega)] at hq; exact hq
  obtain ⟨u, hu, rfl⟩ : ∃ u : Nat, u < 2 ∧ s = u := ⟨s.toNat, by omega, by omega⟩
  rw [Int.toNat_natCast] at hq
  have t52 : ¬ (S 1 194 ≤ a ∨ S 1 194 ≤ b) → zz_J zpX9_setOf_10 (zz_ret Q X 0 0) 52 [some (vr 0), some (vi p), some (vi a), some (vi b), some (vi u), none, none, none, none] [] (zm S L) (0, 0) := by
    intro h
    rw [show stO (L 12) (S 1 194) p 10 a b u = _ from stO_s h 9] at hq
    have i0 := stO_in (G := S 1 194) (p := p) hwy 9 (a + 1) b 0 (by decide)
    have i1 := stO_in (G := S 1 194) (p := p) hwy 9 (a + 1) b 1 (by decide)
    have i2 := stO_in (G := S 1 194) (p := p) hwy 9 a (b + 1) 0 (by decide)
    have i3 := stO_in (G := S 1 194) (p := p) hwy 9 a (b + 1) 1 (by decide)
    have w0 := hwy.1 (4 * u) (by omega)
    have w1 := hwy.1 (4 * u + 1) (by omega)
    have w2 := hwy.1 (4 * u + 2) (by omega)
    have w3 := hwy.1 (4 * u + 3) (by omega)
    have m0 := mul_sure w0.1 i0.1 i0.2
    have m1 := mul_sure w1.1 i1.1 i1.2
    have m2 := mul_sure w2.1 i2.1 i2.2
    have m3 := mul_sure w3.1 i3.1 i3.2
    have e0 : ((4 : Int) * u + 2 * 0 + 0).toNat = 4 * u := by omega
    have e1 : ((4 : Int) * u + 2 * 0 + 1).toNat = 4 * u + 1 := by omega
    have e2 : ((4 : Int) * u + 2 * 1 + 0).toNat = 4 * u + 2 := by omega
    have e3 : ((4 : Int) * u + 2 * 1 + 1).toNat = 4 * u + 3 := by omega
    refine zwX9_setOf_10_52 (zwX9_setOf_10_58 ⟨by decide, fun c => absurd c (by decide), fun _ => ?_⟩)
    refine zwX9_setOf_10_67 ⟨by decide, fun c => absurd c (by decide), fun _ => ⟨by omega, by decide, fun c => absurd rfl c, fun _ => ⟨by decide, fun _ => ?_, fun c => absurd c (by decide)⟩⟩⟩
    refine ⟨hp, Or.inl rfl, by omega, hb, hG, by omega, by omega, hwy, ?_⟩
    rw [e0]
    refine ⟨by show 0 ≤ L 12 (4 * u) * stO (L 12) (S 1 194) p 9 (a + 1) b 0 ∧ L 12 (4 * u) * stO (L 12) (S 1 194) p 9 (a + 1) b 0 < 9223372036854775808; omega, ?_⟩
    refine zwX9_setOf_10_67 ⟨by decide, fun c => absurd c (by decide), fun _ => ⟨by omega, by decide, fun c => absurd rfl c, fun _ => ⟨by decide, fun _ => ?_, fun c => absurd c (by decide)⟩⟩⟩
    refine ⟨hp, Or.inr rfl, by omega, hb, hG, by omega, by omega, hwy, ?_⟩
    rw [show ((4 : Int) * u + 2 * 0 + (0 + 1)).toNat = 4 * u + 1 by omega]
    refine ⟨by show 0 ≤ L 12 (4 * u + 1) * stO (L 12) (S 1 194) p 9 (a + 1) b 1 ∧ L 12 (4 * u + 1) * stO (L 12) (S 1 194) p 9 (a + 1) b 1 < 9223372036854775808; omega, ?_⟩
    refine zwX9_setOf_10_67 ⟨by decide, fun _ => ?_, fun c => absurd c (by decide)⟩
    refine zwX9_setOf_10_58 ⟨by decide, fun c => absurd c (by decide), fun _ => ?_⟩
    refine zwX9_setOf_10_67 ⟨by decide, fun c => absurd c (by decide), fun _ => ⟨by omega, by decide, fun _ => ⟨by decide, fun c => absurd rfl c, fun _ => ?_⟩, fun c => absurd c (by decide)⟩⟩
    refine ⟨hp, Or.inl rfl, ha, by omega, hG, by omega, by omega, hwy, ?_⟩
    rw [show ((4 : Int) * u + 2 * (0 + 1) + 0).toNat = 4 * u + 2 by omega]
    refine ⟨by show 0 ≤ L 12 (4 * u + 2) * stO (L 12) (S 1 194) p 9 a (b + 1) 0 ∧ L 12 (4 * u + 2) * stO (L 12) (S 1 194) p 9 a (b + 1) 0 < 9223372036854775808; omega, ?_⟩
    refine zwX9_setOf_10_67 ⟨by decide, fun c => absurd c (by decide), fun _ => ⟨by omega, by decide, fun _ => ⟨by decide, fun c => absurd rfl c, fun _ => ?_⟩, fun c => absurd c (by decide)⟩⟩
    refine ⟨hp, Or.inr rfl, ha, by omega, hG, by omega, by omega, hwy, ?_⟩
    rw [show ((4 : Int) * u + 2 * (0 + 1) + (0 + 1)).toNat = 4 * u + 3 by omega]
    refine ⟨by show 0 ≤ L 12 (4 * u + 3) * stO (L 12) (S 1 194) p 9 a (b + 1) 1 ∧ L 12 (4 * u + 3) * stO (L 12) (S 1 194) p 9 a (b + 1) 1 < 9223372036854775808; omega, ?_⟩
    refine zwX9_setOf_10_67 ⟨by decide, fun _ => ?_, fun c => absurd c (by decide)⟩
    refine zwX9_setOf_10_58 ⟨by decide, fun _ => ?_, fun c => absurd c (by decide)⟩
    have ez : ∀ x y z w : Int, 0 + x + y + z + w = x + y + z + w := fun x y z w => by omega
    rw [ez]
    exact hq
  refine zwX9_setOf_10_0 ⟨by omega, by omega, fun c => t24 (Or.inl c), fun c => ⟨by omega, by omega, fun d => t52 (by omega), fun d => t24 (Or.inr (by omega))⟩⟩
def zX9_setOf_11 : zz_Sp := fun as M Q X => match as with
  | [.inr (.inr (some h_)), .inl p, .inl a, .inl b, .inl s] => bif Nat.beq h_ 0 && Nat.beq M.1.1 1 then ((p = 0 ∨ p = 1) ∧ (s = 0 ∨ s = 1) ∧ (0 ≤ a ∧ a ≤ 6) ∧ (0 ≤ b ∧ b ≤ 6) ∧ (1 ≤ M.2.1 1 194 ∧ M.2.1 1 194 ≤ 6) ∧ (a ≤ M.2.1 1 194 ∧ b ≤ M.2.1 1 194) ∧ M.2.1 1 194 - a + (M.2.1 1 194 - b) ≤ 11 ∧ wyG (M.2.2.1 12) ∧ Q (some (vl (stO (M.2.2.1 12) (M.2.1 1 194) p 11 a b s.toNat))) (zm M.2.1 M.2.2.1)) else False
  | _ => False

def zpX9_setOf_11 : zz_P := [(0, zo_ild 1 2), (1, zo_ald 2 0), (2, zo_get 5 8 2 1), (5, zo_c 8 (vi 194)), (8, zo_ialc 9 194), (9, zo_cge false false 12 24), (12, zo_ild 13 3), (13, zo_ald 14 0), (14, zo_get 17 8 2 1), (17, zo_c 20 (vi 194)), (20, zo_ialc 21 194), (21, zo_clt false false 24 52), (24, zo_ild 25 1), (25, zo_ifne false 28 32), (28, zo_ild 29 2), (29, zo_goto 33), (32, zo_ild 33 3), (33, zo_ald 34 0), (34, zo_get 37 8 2 1), (37, zo_c 40 (vi 194)), (40, zo_ialc 41 194), (41, zo_clt false false 44 50), (44, zo_c 47 (vl 1000000000)), (47, zo_goto 51), (50, zo_c 51 (vl 0)), (51, zo_lret), (52, zo_c 53 (vl 0)), (53, zo_lst 55 5), (55, zo_c 56 (vi 0)), (56, zo_ist 58 7), (58, zo_ild 60 7), (60, zo_c 61 (vi 2)), (61, zo_cge false true 64 144), (64, zo_c 65 (vi 0)), (65, zo_ist 67 8), (67, zo_ild 69 8), (69, zo_c 70 (vi 2)), (70, zo_cge false true 73 138), (73, zo_lld 75 5), (75, zo_ald 76 0), (76, zo_get 79 8 2 24), (79, zo_c 80 (vi 4)), (80, zo_ild 82 4), (82, zo_imul 83), (83, zo_c 84 (vi 2)), (84, zo_ild 86 7), (86, zo_imul 87), (87, zo_iadd 88), (88, zo_ild 90 8), (90, zo_iadd 91), (91, zo_lald 92), (92, zo_ald 93 0), (93, zo_ild 94 1), (94, zo_ild 96 7), (96, zo_ifne false 99 105), (99, zo_ild 100 2), (100, zo_c 101 (vi 1)), (101, zo_iadd 102), (102, zo_goto 106), (105, zo_ild 106 2), (106, zo_ild 108 7), (108, zo_c 109 (vi 1)), (109, zo_cne false true 112 118), (112, zo_ild 113 3), (113, zo_c 114 (vi 1)), (114, zo_iadd 115), (115, zo_goto 119), (118, zo_ild 119 3), (119, zo_ild 121 8), (121, zo_callv 124 5 8 zX9_setOf_10), (124, zo_lmul 125), (125, zo_c 128 (vl 1000000000)), (128, zo_ldiv 129), (129, zo_ladd 130), (130, zo_lst 132 5), (132, zo_inc 135 8 1), (135, zo_goto 67), (138, zo_inc 141 7 1), (141, zo_goto 58), (144, zo_lld 146 5), (146, zo_lret)]
theorem ztX9_setOf_11 {C : mm_C} (G : mm_G C RX9 cX9_setOf (some .long) 9 (mm_rm 12 0 0)) (hnh : mm_nh C) : zz_OKs C zpX9_setOf_11 :=
  ⟨zz_of (ok_iload_n G dX9_setOf_0 rfl rfl) (z_ild _ _),
   zz_of (ok_aload_n G dX9_setOf_1 rfl rfl) (z_ald _ _),
   zz_of (ok_get G (nx := 5) (ci := 8) (kd := 2) (k := 1) (RX9, TX9, 32) rfl (by decide) rfl q1806 dX9_setOf_2 rfl) (z_get _ _ _ _),
   zz_of (ok_sipush G (v := 194) dX9_setOf_5 (by decide) rfl) (z_cn 8 194),
   zz_of (ok_iald G dX9_setOf_8 rfl) (z_ialc _ _),
   zz_of (ok_cge G dX9_setOf_9 rfl rfl) (z_cge _ _ _ _),
   zz_of (ok_iload_n G dX9_setOf_12 rfl rfl) (z_ild _ _),
   zz_of (ok_aload_n G dX9_setOf_13 rfl rfl) (z_ald _ _),
   zz_of (ok_get G (nx := 17) (ci := 8) (kd := 2) (k := 1) (RX9, TX9, 32) rfl (by decide) rfl q1806 dX9_setOf_14 rfl) (z_get _ _ _ _),
   zz_of (ok_sipush G (v := 194) dX9_setOf_17 (by decide) rfl) (z_cn 20 194),
   zz_of (ok_iald G dX9_setOf_20 rfl) (z_ialc _ _),
   zz_of (ok_clt G dX9_setOf_21 rfl rfl) (z_clt _ _ _ _),
   zz_of (ok_iload_n G dX9_setOf_24 rfl rfl) (z_ild _ _),
   zz_of (ok_ifne G dX9_setOf_25 rfl rfl) (z_ifne _ _ _),
   zz_of (ok_iload_n G dX9_setOf_28 rfl rfl) (z_ild _ _),
   zz_of (ok_goto G dX9_setOf_29 rfl) (z_goto _),
   zz_of (ok_iload_n G dX9_setOf_32 rfl rfl) (z_ild _ _),
   zz_of (ok_aload_n G dX9_setOf_33 rfl rfl) (z_ald _ _),
   zz_of (ok_get G (nx := 37) (ci := 8) (kd := 2) (k := 1) (RX9, TX9, 32) rfl (by decide) rfl q1806 dX9_setOf_34 rfl) (z_get _ _ _ _),
   zz_of (ok_sipush G (v := 194) dX9_setOf_37 (by decide) rfl) (z_cn 40 194),
   zz_of (ok_iald G dX9_setOf_40 rfl) (z_ialc _ _),
   zz_of (ok_clt G dX9_setOf_41 rfl rfl) (z_clt _ _ _ _),
   zz_of (ok_ldc2 G (v := 1000000000) q2137 dX9_setOf_44 rfl) (z_cl 47 1000000000),
   zz_of (ok_goto G dX9_setOf_47 rfl) (z_goto _),
   zz_of (ok_lconst G (v := 0) dX9_setOf_50 (by decide) rfl) (z_cl 51 0),
   zz_of (ok_lret G dX9_setOf_51) (z_lret),
   zz_of (ok_lconst G (v := 0) dX9_setOf_52 (by decide) rfl) (z_cl 53 0),
   zz_of (ok_lstore G dX9_setOf_53 rfl (by decide)) (z_lst _ _),
   zz_of (ok_iconst G (v := 0) dX9_setOf_55 (by decide) rfl) (z_cn 56 0),
   zz_of (ok_istore G dX9_setOf_56 rfl (by decide)) (z_ist _ _),
   zz_of (ok_iload G dX9_setOf_58 rfl) (z_ild _ _),
   zz_of (ok_iconst G (v := 2) dX9_setOf_60 (by decide) rfl) (z_cn 61 2),
   zz_of (ok_cge G dX9_setOf_61 rfl rfl) (z_cge _ _ _ _),
   zz_of (ok_iconst G (v := 0) dX9_setOf_64 (by decide) rfl) (z_cn 65 0),
   zz_of (ok_istore G dX9_setOf_65 rfl (by decide)) (z_ist _ _),
   zz_of (ok_iload G dX9_setOf_67 rfl) (z_ild _ _),
   zz_of (ok_iconst G (v := 2) dX9_setOf_69 (by decide) rfl) (z_cn 70 2),
   zz_of (ok_cge G dX9_setOf_70 rfl rfl) (z_cge _ _ _ _),
   zz_of (ok_lload G dX9_setOf_73 rfl) (z_lld _ _),
   zz_of (ok_aload_n G dX9_setOf_75 rfl rfl) (z_ald _ _),
   zz_of (ok_get G (nx := 79) (ci := 8) (kd := 2) (k := 24) (RX9, TX9, 32) rfl (by decide) rfl q1829 dX9_setOf_76 rfl) (z_get _ _ _ _),
   zz_of (ok_iconst G (v := 4) dX9_setOf_79 (by decide) rfl) (z_cn 80 4),
   zz_of (ok_iload G dX9_setOf_80 rfl) (z_ild _ _),
   zz_of (ok_imul G dX9_setOf_82 rfl) (z_imul _),
   zz_of (ok_iconst G (v := 2) dX9_setOf_83 (by decide) rfl) (z_cn 84 2),
   zz_of (ok_iload G dX9_setOf_84 rfl) (z_ild _ _),
   zz_of (ok_imul G dX9_setOf_86 rfl) (z_imul _),
   zz_of (ok_iadd G dX9_setOf_87 rfl) (z_iadd _),
   zz_of (ok_iload G dX9_setOf_88 rfl) (z_ild _ _),
   zz_of (ok_iadd G dX9_setOf_90 rfl) (z_iadd _),
   zz_of (ok_lald G dX9_setOf_91 rfl) (z_lald _),
   zz_of (ok_aload_n G dX9_setOf_92 rfl rfl) (z_ald _ _),
   zz_of (ok_iload_n G dX9_setOf_93 rfl rfl) (z_ild _ _),
   zz_of (ok_iload G dX9_setOf_94 rfl) (z_ild _ _),
   zz_of (ok_ifne G dX9_setOf_96 rfl rfl) (z_ifne _ _ _),
   zz_of (ok_iload_n G dX9_setOf_99 rfl rfl) (z_ild _ _),
   zz_of (ok_iconst G (v := 1) dX9_setOf_100 (by decide) rfl) (z_cn 101 1),
   zz_of (ok_iadd G dX9_setOf_101 rfl) (z_iadd _),
   zz_of (ok_goto G dX9_setOf_102 rfl) (z_goto _),
   zz_of (ok_iload_n G dX9_setOf_105 rfl rfl) (z_ild _ _),
   zz_of (ok_iload G dX9_setOf_106 rfl) (z_ild _ _),
   zz_of (ok_iconst G (v := 1) dX9_setOf_108 (by decide) rfl) (z_cn 109 1),
   zz_of (ok_cne G dX9_setOf_109 rfl rfl) (z_cne _ _ _ _),
   zz_of (ok_iload_n G dX9_setOf_112 rfl rfl) (z_ild _ _),
   zz_of (ok_iconst G (v := 1) dX9_setOf_113 (by decide) rfl) (z_cn 114 1),
   zz_of (ok_iadd G dX9_setOf_114 rfl) (z_iadd _),
   zz_of (ok_goto G dX9_setOf_115 rfl) (z_goto _),
   zz_of (ok_iload_n G dX9_setOf_118 rfl rfl) (z_ild _ _),
   zz_of (ok_iload G dX9_setOf_119 rfl) (z_ild _ _),
   zz_of (ok_callv G hnh (zmX9_setOf_10 _ G.hst) rfl rfl (RX9, TX9, 32) rfl q2165 q2167 qs75 q93 q2168 (by decide +kernel) ⟨by decide, by decide⟩ dX9_setOf_121 rfl) (z_callv _ _ _ _),
   zz_of (ok_lmul G dX9_setOf_124 rfl) (z_lmul _),
   zz_of (ok_ldc2 G (v := 1000000000) q2137 dX9_setOf_125 rfl) (z_cl 128 1000000000),
   zz_of (ok_ldiv G dX9_setOf_128 rfl) (z_ldiv _),
   zz_of (ok_ladd G dX9_setOf_129 rfl) (z_ladd _),
   zz_of (ok_lstore G dX9_setOf_130 rfl (by decide)) (z_lst _ _),
   zz_of (ok_iinc G (v := 1) dX9_setOf_132 (by decide) rfl (by decide)) (z_incn 135 8 1),
   zz_of (ok_goto G dX9_setOf_135 rfl) (z_goto _),
   zz_of (ok_iinc G (v := 1) dX9_setOf_138 (by decide) rfl (by decide)) (z_incn 141 7 1),
   zz_of (ok_goto G dX9_setOf_141 rfl) (z_goto _),
   zz_of (ok_lload G dX9_setOf_144 rfl) (z_lld _ _),
   zz_of (ok_lret G dX9_setOf_146) (z_lret), trivial⟩

theorem zwX9_setOf_11_0 {Q : Option zv → zz_M → Prop} {X : Nat → zz_M → Prop} {S L : Nat → Nat → Int} {p : Int} {a : Int} {b : Int} {s : Int} (h : R32 a ∧ (R32 (S 1 194) ∧ (((S 1 194) ≤ a → zz_J zpX9_setOf_11 (zz_ret Q X 0 0) 24 [some (vr 0), some (vi p), some (vi a), some (vi b), none, none, none, none, none] [] (zm S L) (0, 0)) ∧ (¬ (S 1 194) ≤ a → R32 b ∧ (R32 (S 1 194) ∧ ((b < (S 1 194) → zz_J zpX9_setOf_11 (zz_ret Q X 0 0) 52 [some (vr 0), some (vi p), some (vi a), some (vi b), some (vi s), none, none, none, none] [] (zm S L) (0, 0)) ∧ (¬ b < (S 1 194) → zz_J zpX9_setOf_11 (zz_ret Q X 0 0) 24 [some (vr 0), some (vi p), some (vi a), some (vi b), none, none, none, none, none] [] (zm S L) (0, 0)))))))) : zz_J zpX9_setOf_11 (zz_ret Q X 0 0) 0 [some (vr 0), some (vi p), some (vi a), some (vi b), some (vi s), none, none, none, none] [] (zm S L) (0, 0) := zz_J.go [(24, [4, 5, 6, 7, 8]), (33, [1, 2, 3, 4, 5, 6, 7, 8]), (52, [5, 6, 7, 8]), (58, [6, 8]), (67, [6])] 400 h
theorem zwX9_setOf_11_24 {Q : Option zv → zz_M → Prop} {X : Nat → zz_M → Prop} {S L : Nat → Nat → Int} {x1 : Int} {x2 : Int} {x3 : Int} (h : R32 x1 ∧ ((¬ x1 = 0 → zz_J zpX9_setOf_11 (zz_ret Q X 0 0) 33 [some (vr 0), none, none, none, none, none, none, none, none] [vi x3] (zm S L) (0, 0)) ∧ (x1 = 0 → zz_J zpX9_setOf_11 (zz_ret Q X 0 0) 33 [some (vr 0), none, none, none, none, none, none, none, none] [vi x2] (zm S L) (0, 0)))) : zz_J zpX9_setOf_11 (zz_ret Q X 0 0) 24 [some (vr 0), some (vi x1), some (vi x2), some (vi x3), none, none, none, none, none] [] (zm S L) (0, 0) := zz_J.go [(24, [4, 5, 6, 7, 8]), (33, [1, 2, 3, 4, 5, 6, 7, 8]), (52, [5, 6, 7, 8]), (58, [6, 8]), (67, [6])] 400 h
theorem zwX9_setOf_11_33 {Q : Option zv → zz_M → Prop} {X : Nat → zz_M → Prop} {S L : Nat → Nat → Int} {t0 : Int} (h : R32 t0 ∧ (R32 (S 1 194) ∧ ((t0 < (S 1 194) → Q (some (vl 0)) (zm S L)) ∧ (¬ t0 < (S 1 194) → Q (some (vl 1000000000)) (zm S L))))) : zz_J zpX9_setOf_11 (zz_ret Q X 0 0) 33 [some (vr 0), none, none, none, none, none, none, none, none] [vi t0] (zm S L) (0, 0) := zz_J.go [(24, [4, 5, 6, 7, 8]), (33, [1, 2, 3, 4, 5, 6, 7, 8]), (52, [5, 6, 7, 8]), (58, [6, 8]), (67, [6])] 400 h
theorem zwX9_setOf_11_52 {Q : Option zv → zz_M → Prop} {X : Nat → zz_M → Prop} {S L : Nat → Nat → Int} {x1 : Int} {x2 : Int} {x3 : Int} {x4 : Int} (h : zz_J zpX9_setOf_11 (zz_ret Q X 0 0) 58 [some (vr 0), some (vi x1), some (vi x2), some (vi x3), some (vi x4), some (vl 0), none, some (vi 0), none] [] (zm S L) (0, 0)) : zz_J zpX9_setOf_11 (zz_ret Q X 0 0) 52 [some (vr 0), some (vi x1), some (vi x2), some (vi x3), some (vi x4), none, none, none, none] [] (zm S L) (0, 0) := zz_J.go [(24, [4, 5, 6, 7, 8]), (33, [1, 2, 3, 4, 5, 6, 7, 8]), (52, [5, 6, 7, 8]), (58, [6, 8]), (67, [6])] 400 h
theorem zwX9_setOf_11_58 {Q : Option zv → zz_M → Prop} {X : Nat → zz_M → Prop} {S L : Nat → Nat → Int} {x1 : Int} {x2 : Int} {x3 : Int} {x4 : Int} {x5 : Int} {x7 : Int} (h : R32 x7 ∧ ((2 ≤ x7 → Q (some (vl x5)) (zm S L)) ∧ (¬ 2 ≤ x7 → zz_J zpX9_setOf_11 (zz_ret Q X 0 0) 67 [some (vr 0), some (vi x1), some (vi x2), some (vi x3), some (vi x4), some (vl x5), none, some (vi x7), some (vi 0)] [] (zm S L) (0, 0)))) : zz_J zpX9_setOf_11 (zz_ret Q X 0 0) 58 [some (vr 0), some (vi x1), some (vi x2), some (vi x3), some (vi x4), some (vl x5), none, some (vi x7), none] [] (zm S L) (0, 0) := zz_J.go [(24, [4, 5, 6, 7, 8]), (33, [1, 2, 3, 4, 5, 6, 7, 8]), (52, [5, 6, 7, 8]), (58, [6, 8]), (67, [6])] 400 h
theorem zwX9_setOf_11_67 {Q : Option zv → zz_M → Prop} {X : Nat → zz_M → Prop} {S L : Nat → Nat → Int} {x1 : Int} {x2 : Int} {x3 : Int} {x4 : Int} {x5 : Int} {x7 : Int} {x8 : Int} (h : R32 x8 ∧ ((2 ≤ x8 → zz_J zpX9_setOf_11 (zz_ret Q X 0 0) 58 [some (vr 0), some (vi x1), some (vi x2), some (vi x3), some (vi x4), some (vl x5), none, some (vi (x7 + 1)), none] [] (zm S L) (0, 0)) ∧ (¬ 2 ≤ x8 → (0 ≤ (((4 * x4) + (2 * x7)) + x8) ∧ (((4 * x4) + (2 * x7)) + x8) < 8) ∧ (R32 x7 ∧ ((¬ x7 = 0 → R32 x7 ∧ ((¬ x7 = 1 → ((x1 = 0 ∨ x1 = 1) ∧ (x8 = 0 ∨ x8 = 1) ∧ (0 ≤ x2 ∧ x2 ≤ 6) ∧ (0 ≤ x3 ∧ x3 ≤ 6) ∧ (1 ≤ S 1 194 ∧ S 1 194 ≤ 6) ∧ (x2 ≤ S 1 194 ∧ x3 ≤ S 1 194) ∧ S 1 194 - x2 + (S 1 194 - x3) ≤ 10 ∧ wyG (L 12) ∧ ((0 ≤ ((L 12 ((((4 * x4) + (2 * x7)) + x8).toNat)) * (stO (L 12) (S 1 194) x1 10 x2 x3 x8.toNat)) ∧ ((L 12 ((((4 * x4) + (2 * x7)) + x8).toNat)) * (stO (L 12) (S 1 194) x1 10 x2 x3 x8.toNat)) < 9223372036854775808) ∧ (zz_J zpX9_setOf_11 (zz_ret Q X 0 0) 67 [some (vr 0), some (vi x1), some (vi x2), some (vi x3), some (vi x4), some (vl (x5 + (((L 12 ((((4 * x4) + (2 * x7)) + x8).toNat)) * (stO (L 12) (S 1 194) x1 10 x2 x3 x8.toNat)) / 1000000000))), none, some (vi x7), some (vi (x8 + 1))] [] (zm S L) (0, 0))))) ∧ (x7 = 1 → ((x1 = 0 ∨ x1 = 1) ∧ (x8 = 0 ∨ x8 = 1) ∧ (0 ≤ x2 ∧ x2 ≤ 6) ∧ (0 ≤ (x3 + 1) ∧ (x3 + 1) ≤ 6) ∧ (1 ≤ S 1 194 ∧ S 1 194 ≤ 6) ∧ (x2 ≤ S 1 194 ∧ (x3 + 1) ≤ S 1 194) ∧ S 1 194 - x2 + (S 1 194 - (x3 + 1)) ≤ 10 ∧ wyG (L 12) ∧ ((0 ≤ ((L 12 ((((4 * x4) + (2 * x7)) + x8).toNat)) * (stO (L 12) (S 1 194) x1 10 x2 (x3 + 1) x8.toNat)) ∧ ((L 12 ((((4 * x4) + (2 * x7)) + x8).toNat)) * (stO (L 12) (S 1 194) x1 10 x2 (x3 + 1) x8.toNat)) < 9223372036854775808) ∧ (zz_J zpX9_setOf_11 (zz_ret Q X 0 0) 67 [some (vr 0), some (vi x1), some (vi x2), some (vi x3), some (vi x4), some (vl (x5 + (((L 12 ((((4 * x4) + (2 * x7)) + x8).toNat)) * (stO (L 12) (S 1 194) x1 10 x2 (x3 + 1) x8.toNat)) / 1000000000))), none, some (vi x7), some (vi (x8 + 1))] [] (zm S L) (0, 0))))))) ∧ (x7 = 0 → R32 x7 ∧ ((¬ x7 = 1 → ((x1 = 0 ∨ x1 = 1) ∧ (x8 = 0 ∨ x8 = 1) ∧ (0 ≤ (x2 + 1) ∧ (x2 + 1) ≤ 6) ∧ (0 ≤ x3 ∧ x3 ≤ 6) ∧ (1 ≤ S 1 194 ∧ S 1 194 ≤ 6) ∧ ((x2 + 1) ≤ S 1 194 ∧ x3 ≤ S 1 194) ∧ S 1 194 - (x2 + 1) + (S 1 194 - x3) ≤ 10 ∧ wyG (L 12) ∧ ((0 ≤ ((L 12 ((((4 * x4) + (2 * x7)) + x8).toNat)) * (stO (L 12) (S 1 194) x1 10 (x2 + 1) x3 x8.toNat)) ∧ ((L 12 ((((4 * x4) + (2 * x7)) + x8).toNat)) * (stO (L 12) (S 1 194) x1 10 (x2 + 1) x3 x8.toNat)) < 9223372036854775808) ∧ (zz_J zpX9_setOf_11 (zz_ret Q X 0 0) 67 [some (vr 0), some (vi x1), some (vi x2), some (vi x3), some (vi x4), some (vl (x5 + (((L 12 ((((4 * x4) + (2 * x7)) + x8).toNat)) * (stO (L 12) (S 1 194) x1 10 (x2 + 1) x3 x8.toNat)) / 1000000000))), none, some (vi x7), some (vi (x8 + 1))] [] (zm S L) (0, 0))))) ∧ (x7 = 1 → ((x1 = 0 ∨ x1 = 1) ∧ (x8 = 0 ∨ x8 = 1) ∧ (0 ≤ (x2 + 1) ∧ (x2 + 1) ≤ 6) ∧ (0 ≤ (x3 + 1) ∧ (x3 + 1) ≤ 6) ∧ (1 ≤ S 1 194 ∧ S 1 194 ≤ 6) ∧ ((x2 + 1) ≤ S 1 194 ∧ (x3 + 1) ≤ S 1 194) ∧ S 1 194 - (x2 + 1) + (S 1 194 - (x3 + 1)) ≤ 10 ∧ wyG (L 12) ∧ ((0 ≤ ((L 12 ((((4 * x4) + (2 * x7)) + x8).toNat)) * (stO (L 12) (S 1 194) x1 10 (x2 + 1) (x3 + 1) x8.toNat)) ∧ ((L 12 ((((4 * x4) + (2 * x7)) + x8).toNat)) * (stO (L 12) (S 1 194) x1 10 (x2 + 1) (x3 + 1) x8.toNat)) < 9223372036854775808) ∧ (zz_J zpX9_setOf_11 (zz_ret Q X 0 0) 67 [some (vr 0), some (vi x1), some (vi x2), some (vi x3), some (vi x4), some (vl (x5 + (((L 12 ((((4 * x4) + (2 * x7)) + x8).toNat)) * (stO (L 12) (S 1 194) x1 10 (x2 + 1) (x3 + 1) x8.toNat)) / 1000000000))), none, some (vi x7), some (vi (x8 + 1))] [] (zm S L) (0, 0)))))))))))) : zz_J zpX9_setOf_11 (zz_ret Q X 0 0) 67 [some (vr 0), some (vi x1), some (vi x2), some (vi x3), some (vi x4), some (vl x5), none, some (vi x7), some (vi x8)] [] (zm S L) (0, 0) := zz_J.go [(24, [4, 5, 6, 7, 8]), (33, [1, 2, 3, 4, 5, 6, 7, 8]), (52, [5, 6, 7, 8]), (58, [6, 8]), (67, [6])] 400 h

theorem zmX9_setOf_11 (l : Launch) (hl : l.stackTraces = false) : mm_Spec l yX9_setOf (ws_ yX9_setOf cX9_setOf 9 (some .long)) (mm_rm 12 0 0) (zE zX9_setOf_11) := by
  refine zz_Met.J hl (by decide) (fun C G hnh => ztX9_setOf_11 G hnh) ?_
  rintro as ⟨⟨t_, f⟩, S, L, P⟩ Q X h
  unfold zX9_setOf_11 at h
  split at h
  rotate_left
  · exact h.elim
  rename_i h_ p a b s
  obtain ⟨e1_, e2_, h⟩ := mm_and2 h (fun q => q)
  cases mm_beq e1_
  cases mm_beq e2_
  try dsimp only at h
  refine ⟨rfl, ?_⟩
  refine zz_Jev (M' := zm S L) rfl rfl rfl ?_
  obtain ⟨hp, hs, ha, hb, hG, hab, hr, hwy, hq⟩ := h
  have t24 : (S 1 194 ≤ a ∨ S 1 194 ≤ b) → zz_J zpX9_setOf_11 (zz_ret Q X 0 0) 24 [some (vr 0), some (vi p), some (vi a), some (vi b), none, none, none, none, none] [] (zm S L) (0, 0) := by
    intro h
    rw [stO_o h] at hq
    refine zwX9_setOf_11_24 ⟨by omega, fun c => ?_, fun c => ?_⟩
    · rw [if_neg c] at hq
      refine zwX9_setOf_11_33 ⟨by omega, by omega, fun d => ?_, fun d => ?_⟩
      · rw [if_neg (by omega)] at hq; exact hq
      · rw [if_pos (by omega)] at hq; exact hq
    · rw [if_pos c] at hq
      refine zwX9_setOf_11_33 ⟨by omega, by omega, fun d => ?_, fun d => ?_⟩
      · rw [if_neg (by omega)] at hq; exact hq
      · rw [if_pos (by omega)] at hq; exact hq
  obtain ⟨u, hu, rfl⟩ : ∃ u : Nat, u < 2 ∧ s = u := ⟨s.toNat, by omega, by omega⟩
  rw [Int.toNat_natCast] at hq
  have t52 : ¬ (S 1 194 ≤ a ∨ S 1 194 ≤ b) → zz_J zpX9_setOf_11 (zz_ret Q X 0 0) 52 [some (vr 0), some (vi p), some (vi a), some (vi b), some (vi u), none, none, none, none] [] (zm S L) (0, 0) := by
    intro h
    rw [show stO (L 12) (S 1 194) p 11 a b u = _ from stO_s h 10] at hq
    have i0 := stO_in (G := S 1 194) (p := p) hwy 10 (a + 1) b 0 (by decide)
    have i1 := stO_in (G := S 1 194) (p := p) hwy 10 (a + 1) b 1 (by decide)
    have i2 := stO_in (G := S 1 194) (p := p) hwy 10 a (b + 1) 0 (by decide)
    have i3 := stO_in (G := S 1 194) (p := p) hwy 10 a (b + 1) 1 (by decide)
    have w0 := hwy.1 (4 * u) (by omega)
    have w1 := hwy.1 (4 * u + 1) (by omega)
    have w2 := hwy.1 (4 * u + 2) (by omega)
    have w3 := hwy.1 (4 * u + 3) (by omega)
    have m0 := mul_sure w0.1 i0.1 i0.2
    have m1 := mul_sure w1.1 i1.1 i1.2
    have m2 := mul_sure w2.1 i2.1 i2.2
    have m3 := mul_sure w3.1 i3.1 i3.2
    have e0 : ((4 : Int) * u + 2 * 0 + 0).toNat = 4 * u := by omega
    have e1 : ((4 : Int) * u + 2 * 0 + 1).toNat = 4 * u + 1 := by omega
    have e2 : ((4 : Int) * u + 2 * 1 + 0).toNat = 4 * u + 2 := by omega
    have e3 : ((4 : Int) * u + 2 * 1 + 1).toNat = 4 * u + 3 := by omega
    refine zwX9_setOf_11_52 (zwX9_setOf_11_58 ⟨by decide, fun c => absurd c (by decide), fun _ => ?_⟩)
    refine zwX9_setOf_11_67 ⟨by decide, fun c => absurd c (by decide), fun _ => ⟨by omega, by decide, fun c => absurd rfl c, fun _ => ⟨by decide, fun _ => ?_, fun c => absurd c (by decide)⟩⟩⟩
    refine ⟨hp, Or.inl rfl, by omega, hb, hG, by omega, by omega, hwy, ?_⟩
    rw [e0]
    refine ⟨by show 0 ≤ L 12 (4 * u) * stO (L 12) (S 1 194) p 10 (a + 1) b 0 ∧ L 12 (4 * u) * stO (L 12) (S 1 194) p 10 (a + 1) b 0 < 9223372036854775808; omega, ?_⟩
    refine zwX9_setOf_11_67 ⟨by decide, fun c => absurd c (by decide), fun _ => ⟨by omega, by decide, fun c => absurd rfl c, fun _ => ⟨by decide, fun _ => ?_, fun c => absurd c (by decide)⟩⟩⟩
    refine ⟨hp, Or.inr rfl, by omega, hb, hG, by omega, by omega, hwy, ?_⟩
    rw [show ((4 : Int) * u + 2 * 0 + (0 + 1)).toNat = 4 * u + 1 by omega]
    refine ⟨by show 0 ≤ L 12 (4 * u + 1) * stO (L 12) (S 1 194) p 10 (a + 1) b 1 ∧ L 12 (4 * u + 1) * stO (L 12) (S 1 194) p 10 (a + 1) b 1 < 9223372036854775808; omega, ?_⟩
    refine zwX9_setOf_11_67 ⟨by decide, fun _ => ?_, fun c => absurd c (by decide)⟩
    refine zwX9_setOf_11_58 ⟨by decide, fun c => absurd c (by decide), fun _ => ?_⟩
    refine zwX9_setOf_11_67 ⟨by decide, fun c => absurd c (by decide), fun _ => ⟨by omega, by decide, fun _ => ⟨by decide, fun c => absurd rfl c, fun _ => ?_⟩, fun c => absurd c (by decide)⟩⟩
    refine ⟨hp, Or.inl rfl, ha, by omega, hG, by omega, by omega, hwy, ?_⟩
    rw [show ((4 : Int) * u + 2 * (0 + 1) + 0).toNat = 4 * u + 2 by omega]
    refine ⟨by show 0 ≤ L 12 (4 * u + 2) * stO (L 12) (S 1 194) p 10 a (b + 1) 0 ∧ L 12 (4 * u + 2) * stO (L 12) (S 1 194) p 10 a (b + 1) 0 < 9223372036854775808; omega, ?_⟩
    refine zwX9_setOf_11_67 ⟨by decide, fun c => absurd c (by decide), fun _ => ⟨by omega, by decide, fun _ => ⟨by decide, fun c => absurd rfl c, fun _ => ?_⟩, fun c => absurd c (by decide)⟩⟩
    refine ⟨hp, Or.inr rfl, ha, by omega, hG, by omega, by omega, hwy, ?_⟩
    rw [show ((4 : Int) * u + 2 * (0 + 1) + (0 + 1)).toNat = 4 * u + 3 by omega]
    refine ⟨by show 0 ≤ L 12 (4 * u + 3) * stO (L 12) (S 1 194) p 10 a (b + 1) 1 ∧ L 12 (4 * u + 3) * stO (L 12) (S 1 194) p 10 a (b + 1) 1 < 9223372036854775808; omega, ?_⟩
    refine zwX9_setOf_11_67 ⟨by decide, fun _ => ?_, fun c => absurd c (by decide)⟩
    refine zwX9_setOf_11_58 ⟨by decide, fun _ => ?_, fun c => absurd c (by decide)⟩
    have ez : ∀ x y z w : Int, 0 + x + y + z + w = x + y + z + w := fun x y z w => by omega
    rw [ez]
    exact hq
  refine zwX9_setOf_11_0 ⟨by omega, by omega, fun c => t24 (Or.inl c), fun c => ⟨by omega, by omega, fun d => t52 (by omega), fun d => t24 (Or.inr (by omega))⟩⟩
