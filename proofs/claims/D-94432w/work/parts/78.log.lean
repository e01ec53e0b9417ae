/-! ===== the component's logs ===== -/
set_option maxRecDepth 100000
/-- how a rally of a log is told -/
def hwD (t : Nat → Int) (k : Nat) : Int := if t (2 * k) = 119 then 0 else if t (2 * k) = 108 then 1 else 2
/-- the log's rows and the tape's places may be written -/
def lgF (S S' : Nat → Nat → Int) : Prop := (∀ h k, h ≠ 132 → h ≠ 133 → ¬ (h = 101 ∧ (k = 1 ∨ k = 2 ∨ k = 3 ∨ k = 6)) → S' h k = S h k) ∧ S' 101 1 = 0
def zX1_logged : zz_Sp := fun as M Q X => match as with
  | [.inr (.inr (some h_))] => bif Nat.beq h_ 100 && Nat.beq M.1.1 2 then (∃ (t_ : Nat → Int) (n_ : Nat), n_ ≤ 400 ∧ M.2.1 101 1 = (n_ : Int) ∧ (∀ k, k < n_ → (0 ≤ t_ k ∧ t_ k ≤ 255) ∧ M.2.1 102 k = cby (t_ k)) ∧ (∀ S_ : Nat → Nat → Int, lgF M.2.1 S_ → lgB t_ n_ = true → (∀ k, k < n_ / 2 → S_ 132 k = hwD t_ k ∧ S_ 133 k = t_ (2 * k + 1) - 48) → Q (some (vi ((n_ / 2 : Nat) : Int))) ((2, M.1.2), S_, M.2.2.1, M.2.2.2)) ∧ (∀ S_ : Nat → Nat → Int, lgF M.2.1 S_ → lgB t_ n_ = false → Q (some (vi (-1))) ((2, M.1.2), S_, M.2.2.1, M.2.2.2))) else False
  | _ => False

def zpX1_logged : zz_P := [(0, zo_ald 1 0), (1, zo_get 4 0 2 2), (4, zo_ast 5 1), (5, zo_ald 6 1), (6, zo_callv 9 1 3 zX4_begins), (9, zo_ald 10 1), (10, zo_get 13 3 0 2), (13, zo_c 14 (vi 2)), (14, zo_irem 15), (15, zo_c 16 (vi 1)), (16, zo_ceq false true 19 28), (19, zo_ald 20 1), (20, zo_get 23 3 0 2), (23, zo_c 25 (vi 60)), (25, zo_cle false true 28 30), (28, zo_c 29 (vi (-1))), (29, zo_iret), (30, zo_c 31 (vi 0)), (31, zo_ist 32 2), (32, zo_ild 33 2), (33, zo_ald 34 1), (34, zo_get 37 3 0 2), (37, zo_c 38 (vi 2)), (38, zo_idiv 39), (39, zo_cge false false 42 154), (42, zo_ald 43 1), (43, zo_get 46 3 2 0), (46, zo_c 47 (vi 2)), (47, zo_ild 48 2), (48, zo_imul 49), (49, zo_bald 50), (50, zo_ist 51 3), (51, zo_ald 52 0), (52, zo_get 55 0 2 16), (55, zo_ild 56 2), (56, zo_ild 57 3), (57, zo_c 59 (vi 119)), (59, zo_cne false true 62 66), (62, zo_c 63 (vi 0)), (63, zo_goto 87), (66, zo_ild 67 3), (67, zo_c 69 (vi 108)), (69, zo_cne false true 72 76), (72, zo_c 73 (vi 1)), (73, zo_goto 87), (76, zo_ild 77 3), (77, zo_c 79 (vi 100)), (79, zo_cne false true 82 86), (82, zo_c 83 (vi 2)), (83, zo_goto 87), (86, zo_c 87 (vi (-1))), (87, zo_iasd 88), (88, zo_ald 89 0), (89, zo_get 92 0 2 17), (92, zo_ild 93 2), (93, zo_ald 94 1), (94, zo_get 97 3 2 0), (97, zo_c 98 (vi 2)), (98, zo_ild 99 2), (99, zo_imul 100), (100, zo_c 101 (vi 1)), (101, zo_iadd 102), (102, zo_bald 103), (103, zo_c 105 (vi 48)), (105, zo_isub 106), (106, zo_iasd 107), (107, zo_ald 108 0), (108, zo_get 111 0 2 16), (111, zo_ild 112 2), (112, zo_iald 113), (113, zo_c 114 (vi (-1))), (114, zo_ceq false true 117 146), (117, zo_ald 118 0), (118, zo_get 121 0 2 17), (121, zo_ild 122 2), (122, zo_iald 123), (123, zo_c 124 (vi 0)), (124, zo_ald 125 0), (125, zo_get 128 0 2 16), (128, zo_ild 129 2), (129, zo_iald 130), (130, zo_c 131 (vi 2)), (131, zo_cne false true 134 139), (134, zo_c 136 (vi 9)), (136, zo_goto 140), (139, zo_c 140 (vi 0)), (140, zo_calls 143 3 zX1_in), (143, zo_zifne 146 148), (146, zo_c 147 (vi (-1))), (147, zo_iret), (148, zo_inc 151 2 1), (151, zo_goto 32), (154, zo_ald 155 1), (155, zo_get 158 3 0 2), (158, zo_c 159 (vi 2)), (159, zo_idiv 160), (160, zo_iret)]
theorem ztX1_logged {C : mm_C} (G : mm_G C RX1 cX1_logged (some .int) 4 (mm_rm 2 0 0)) (hnh : mm_nh C) : zz_OKs C zpX1_logged :=
  ⟨zz_of (ok_aload_n G dX1_logged_0 rfl rfl) (z_ald _ _),
   zz_of (ok_get G (nx := 4) (ci := 0) (kd := 2) (k := 2) (RX1, TX1, 19) rfl (by decide) rfl q404 dX1_logged_1 rfl) (z_get _ _ _ _),
   zz_of (ok_astore_n G dX1_logged_4 rfl rfl (by decide)) (z_ast _ _),
   zz_of (ok_aload_n G dX1_logged_5 rfl rfl) (z_ald _ _),
   zz_of (ok_callv G hnh (zmX4_begins _ G.hst) rfl rfl (RX4, TX4, 7) rfl q605 q606 q607 q88 q608 (by decide +kernel) ⟨by decide, by decide⟩ dX1_logged_6 rfl) (z_callv _ _ _ _),
   zz_of (ok_aload_n G dX1_logged_9 rfl rfl) (z_ald _ _),
   zz_of (ok_getN G (nx := 13) (ci := 3) (kd := 0) (k := 2) (RX4, TX4, 7) rfl (by decide) rfl q275 dX1_logged_10 rfl) (z_get _ _ _ _),
   zz_of (ok_iconst G (v := 2) dX1_logged_13 (by decide) rfl) (z_cn 14 2),
   zz_of (ok_irem G dX1_logged_14 rfl) (z_irem _),
   zz_of (ok_iconst G (v := 1) dX1_logged_15 (by decide) rfl) (z_cn 16 1),
   zz_of (ok_ceq G dX1_logged_16 rfl rfl) (z_ceq _ _ _ _),
   zz_of (ok_aload_n G dX1_logged_19 rfl rfl) (z_ald _ _),
   zz_of (ok_getN G (nx := 23) (ci := 3) (kd := 0) (k := 2) (RX4, TX4, 7) rfl (by decide) rfl q275 dX1_logged_20 rfl) (z_get _ _ _ _),
   zz_of (ok_bipush G (v := 60) dX1_logged_23 (by decide) rfl) (z_cn 25 60),
   zz_of (ok_cle G dX1_logged_25 rfl rfl) (z_cle _ _ _ _),
   zz_of (ok_iconst G (v := (zI (-1))) dX1_logged_28 (by decide) rfl) (z_cz 29 (-1)),
   zz_of (ok_iret G dX1_logged_29) (z_iret),
   zz_of (ok_iconst G (v := 0) dX1_logged_30 (by decide) rfl) (z_cn 31 0),
   zz_of (ok_istore_n G dX1_logged_31 rfl rfl (by decide)) (z_ist _ _),
   zz_of (ok_iload_n G dX1_logged_32 rfl rfl) (z_ild _ _),
   zz_of (ok_aload_n G dX1_logged_33 rfl rfl) (z_ald _ _),
   zz_of (ok_getN G (nx := 37) (ci := 3) (kd := 0) (k := 2) (RX4, TX4, 7) rfl (by decide) rfl q275 dX1_logged_34 rfl) (z_get _ _ _ _),
   zz_of (ok_iconst G (v := 2) dX1_logged_37 (by decide) rfl) (z_cn 38 2),
   zz_of (ok_idiv G dX1_logged_38 rfl) (z_idiv _),
   zz_of (ok_cge G dX1_logged_39 rfl rfl) (z_cge _ _ _ _),
   zz_of (ok_aload_n G dX1_logged_42 rfl rfl) (z_ald _ _),
   zz_of (ok_getN G (nx := 46) (ci := 3) (kd := 2) (k := 0) (RX4, TX4, 7) rfl (by decide) rfl q272 dX1_logged_43 rfl) (z_get _ _ _ _),
   zz_of (ok_iconst G (v := 2) dX1_logged_46 (by decide) rfl) (z_cn 47 2),
   zz_of (ok_iload_n G dX1_logged_47 rfl rfl) (z_ild _ _),
   zz_of (ok_imul G dX1_logged_48 rfl) (z_imul _),
   zz_of (ok_bald G dX1_logged_49 rfl) (z_bald _),
   zz_of (ok_istore_n G dX1_logged_50 rfl rfl (by decide)) (z_ist _ _),
   zz_of (ok_aload_n G dX1_logged_51 rfl rfl) (z_ald _ _),
   zz_of (ok_get G (nx := 55) (ci := 0) (kd := 2) (k := 16) (RX1, TX1, 19) rfl (by decide) rfl q427 dX1_logged_52 rfl) (z_get _ _ _ _),
   zz_of (ok_iload_n G dX1_logged_55 rfl rfl) (z_ild _ _),
   zz_of (ok_iload_n G dX1_logged_56 rfl rfl) (z_ild _ _),
   zz_of (ok_bipush G (v := 119) dX1_logged_57 (by decide) rfl) (z_cn 59 119),
   zz_of (ok_cne G dX1_logged_59 rfl rfl) (z_cne _ _ _ _),
   zz_of (ok_iconst G (v := 0) dX1_logged_62 (by decide) rfl) (z_cn 63 0),
   zz_of (ok_goto G dX1_logged_63 rfl) (z_goto _),
   zz_of (ok_iload_n G dX1_logged_66 rfl rfl) (z_ild _ _),
   zz_of (ok_bipush G (v := 108) dX1_logged_67 (by decide) rfl) (z_cn 69 108),
   zz_of (ok_cne G dX1_logged_69 rfl rfl) (z_cne _ _ _ _),
   zz_of (ok_iconst G (v := 1) dX1_logged_72 (by decide) rfl) (z_cn 73 1),
   zz_of (ok_goto G dX1_logged_73 rfl) (z_goto _),
   zz_of (ok_iload_n G dX1_logged_76 rfl rfl) (z_ild _ _),
   zz_of (ok_bipush G (v := 100) dX1_logged_77 (by decide) rfl) (z_cn 79 100),
   zz_of (ok_cne G dX1_logged_79 rfl rfl) (z_cne _ _ _ _),
   zz_of (ok_iconst G (v := 2) dX1_logged_82 (by decide) rfl) (z_cn 83 2),
   zz_of (ok_goto G dX1_logged_83 rfl) (z_goto _),
   zz_of (ok_iconst G (v := (zI (-1))) dX1_logged_86 (by decide) rfl) (z_cz 87 (-1)),
   zz_of (ok_iast G dX1_logged_87 rfl) (z_iasd _),
   zz_of (ok_aload_n G dX1_logged_88 rfl rfl) (z_ald _ _),
   zz_of (ok_get G (nx := 92) (ci := 0) (kd := 2) (k := 17) (RX1, TX1, 19) rfl (by decide) rfl q428 dX1_logged_89 rfl) (z_get _ _ _ _),
   zz_of (ok_iload_n G dX1_logged_92 rfl rfl) (z_ild _ _),
   zz_of (ok_aload_n G dX1_logged_93 rfl rfl) (z_ald _ _),
   zz_of (ok_getN G (nx := 97) (ci := 3) (kd := 2) (k := 0) (RX4, TX4, 7) rfl (by decide) rfl q272 dX1_logged_94 rfl) (z_get _ _ _ _),
   zz_of (ok_iconst G (v := 2) dX1_logged_97 (by decide) rfl) (z_cn 98 2),
   zz_of (ok_iload_n G dX1_logged_98 rfl rfl) (z_ild _ _),
   zz_of (ok_imul G dX1_logged_99 rfl) (z_imul _),
   zz_of (ok_iconst G (v := 1) dX1_logged_100 (by decide) rfl) (z_cn 101 1),
   zz_of (ok_iadd G dX1_logged_101 rfl) (z_iadd _),
   zz_of (ok_bald G dX1_logged_102 rfl) (z_bald _),
   zz_of (ok_bipush G (v := 48) dX1_logged_103 (by decide) rfl) (z_cn 105 48),
   zz_of (ok_isub G dX1_logged_105 rfl) (z_isub _),
   zz_of (ok_iast G dX1_logged_106 rfl) (z_iasd _),
   zz_of (ok_aload_n G dX1_logged_107 rfl rfl) (z_ald _ _),
   zz_of (ok_get G (nx := 111) (ci := 0) (kd := 2) (k := 16) (RX1, TX1, 19) rfl (by decide) rfl q427 dX1_logged_108 rfl) (z_get _ _ _ _),
   zz_of (ok_iload_n G dX1_logged_111 rfl rfl) (z_ild _ _),
   zz_of (ok_iald G dX1_logged_112 rfl) (z_iald _),
   zz_of (ok_iconst G (v := (zI (-1))) dX1_logged_113 (by decide) rfl) (z_cz 114 (-1)),
   zz_of (ok_ceq G dX1_logged_114 rfl rfl) (z_ceq _ _ _ _),
   zz_of (ok_aload_n G dX1_logged_117 rfl rfl) (z_ald _ _),
   zz_of (ok_get G (nx := 121) (ci := 0) (kd := 2) (k := 17) (RX1, TX1, 19) rfl (by decide) rfl q428 dX1_logged_118 rfl) (z_get _ _ _ _),
   zz_of (ok_iload_n G dX1_logged_121 rfl rfl) (z_ild _ _),
   zz_of (ok_iald G dX1_logged_122 rfl) (z_iald _),
   zz_of (ok_iconst G (v := 0) dX1_logged_123 (by decide) rfl) (z_cn 124 0),
   zz_of (ok_aload_n G dX1_logged_124 rfl rfl) (z_ald _ _),
   zz_of (ok_get G (nx := 128) (ci := 0) (kd := 2) (k := 16) (RX1, TX1, 19) rfl (by decide) rfl q427 dX1_logged_125 rfl) (z_get _ _ _ _),
   zz_of (ok_iload_n G dX1_logged_128 rfl rfl) (z_ild _ _),
   zz_of (ok_iald G dX1_logged_129 rfl) (z_iald _),
   zz_of (ok_iconst G (v := 2) dX1_logged_130 (by decide) rfl) (z_cn 131 2),
   zz_of (ok_cne G dX1_logged_131 rfl rfl) (z_cne _ _ _ _),
   zz_of (ok_bipush G (v := 9) dX1_logged_134 (by decide) rfl) (z_cn 136 9),
   zz_of (ok_goto G dX1_logged_136 rfl) (z_goto _),
   zz_of (ok_iconst G (v := 0) dX1_logged_139 (by decide) rfl) (z_cn 140 0),
   zz_of (ok_calls G hnh (zmX1_in _ G.hst) rfl rfl q1326 q634 q82 q635 (by decide +kernel) ⟨by decide, by decide⟩ dX1_logged_140 rfl) (z_calls _ _ _),
   zz_of (ok_ifne G dX1_logged_143 rfl rfl) (z_zifne _ _),
   zz_of (ok_iconst G (v := (zI (-1))) dX1_logged_146 (by decide) rfl) (z_cz 147 (-1)),
   zz_of (ok_iret G dX1_logged_147) (z_iret),
   zz_of (ok_iinc G (v := 1) dX1_logged_148 (by decide) rfl (by decide)) (z_incn 151 2 1),
   zz_of (ok_goto G dX1_logged_151 rfl) (z_goto _),
   zz_of (ok_aload_n G dX1_logged_154 rfl rfl) (z_ald _ _),
   zz_of (ok_getN G (nx := 158) (ci := 3) (kd := 0) (k := 2) (RX4, TX4, 7) rfl (by decide) rfl q275 dX1_logged_155 rfl) (z_get _ _ _ _),
   zz_of (ok_iconst G (v := 2) dX1_logged_158 (by decide) rfl) (z_cn 159 2),
   zz_of (ok_idiv G dX1_logged_159 rfl) (z_idiv _),
   zz_of (ok_iret G dX1_logged_160) (z_iret), trivial⟩

theorem zwX1_logged_0 {Q : Option zv → zz_M → Prop} {X : Nat → zz_M → Prop} {f : Nat → Nat × Nat} {S L : Nat → Nat → Int} {P : Nat → Nat → Option Nat}  (h : (((0 ≤ (S 101 1) ∧ (S 101 1) < 2147483648) ∧ (R32 ((S 101 1) % 2) ∧ ((((S 101 1) % 2) = 1 → Q (some (vi (-1))) ((2, f), mm_up (mm_up (mm_up (mm_up S 101 2 (S 101 1)) 101 1 0) 101 3 0) 101 6 0, L, P)) ∧ (¬ ((S 101 1) % 2) = 1 → R32 (S 101 1) ∧ (((S 101 1) ≤ 60 → zz_J zpX1_logged (zz_ret Q X 0 0) 32 [some (vr 100), some (vr 101), some (vi 0), none] [] ((2, f), mm_up (mm_up (mm_up (mm_up S 101 2 (S 101 1)) 101 1 0) 101 3 0) 101 6 0, L, P) (0, 0)) ∧ (¬ (S 101 1) ≤ 60 → Q (some (vi (-1))) ((2, f), mm_up (mm_up (mm_up (mm_up S 101 2 (S 101 1)) 101 1 0) 101 3 0) 101 6 0, L, P))))))))) : zz_J zpX1_logged (zz_ret Q X 0 0) 0 [some (vr 100), none, none, none] [] ((2, f), S, L, P) (0, 0) := zz_J.go [(32, [3]), (107, [3])] 400 h
theorem zwX1_logged_32 {Q : Option zv → zz_M → Prop} {X : Nat → zz_M → Prop} {f : Nat → Nat × Nat} {S L : Nat → Nat → Int} {P : Nat → Nat → Option Nat} {x2 : Int} (h : (0 ≤ (S 101 2) ∧ (S 101 2) < 2147483648) ∧ (R32 x2 ∧ (R32 ((S 101 2) / 2) ∧ ((((S 101 2) / 2) ≤ x2 → (0 ≤ (S 101 2) ∧ (S 101 2) < 2147483648) ∧ (Q (some (vi ((S 101 2) / 2))) ((2, f), S, L, P))) ∧ (¬ ((S 101 2) / 2) ≤ x2 → (0 ≤ (2 * x2) ∧ (2 * x2) < 400) ∧ (R32 (S 102 ((2 * x2).toNat)) ∧ ((¬ (S 102 ((2 * x2).toNat)) = 119 → R32 (S 102 ((2 * x2).toNat)) ∧ ((¬ (S 102 ((2 * x2).toNat)) = 108 → R32 (S 102 ((2 * x2).toNat)) ∧ ((¬ (S 102 ((2 * x2).toNat)) = 100 → (0 ≤ x2 ∧ x2 < 30) ∧ ((0 ≤ ((2 * x2) + 1) ∧ ((2 * x2) + 1) < 400) ∧ ((0 ≤ x2 ∧ x2 < 30) ∧ (zz_J zpX1_logged (zz_ret Q X 0 0) 107 [some (vr 100), some (vr 101), some (vi x2), none] [] ((2, f), mm_up (mm_up S 132 x2.toNat (-1)) 133 x2.toNat ((S 102 (((2 * x2) + 1).toNat)) - 48), L, P) (0, 0))))) ∧ ((S 102 ((2 * x2).toNat)) = 100 → (0 ≤ x2 ∧ x2 < 30) ∧ ((0 ≤ ((2 * x2) + 1) ∧ ((2 * x2) + 1) < 400) ∧ ((0 ≤ x2 ∧ x2 < 30) ∧ (zz_J zpX1_logged (zz_ret Q X 0 0) 107 [some (vr 100), some (vr 101), some (vi x2), none] [] ((2, f), mm_up (mm_up S 132 x2.toNat 2) 133 x2.toNat ((S 102 (((2 * x2) + 1).toNat)) - 48), L, P) (0, 0))))))) ∧ ((S 102 ((2 * x2).toNat)) = 108 → (0 ≤ x2 ∧ x2 < 30) ∧ ((0 ≤ ((2 * x2) + 1) ∧ ((2 * x2) + 1) < 400) ∧ ((0 ≤ x2 ∧ x2 < 30) ∧ (zz_J zpX1_logged (zz_ret Q X 0 0) 107 [some (vr 100), some (vr 101), some (vi x2), none] [] ((2, f), mm_up (mm_up S 132 x2.toNat 1) 133 x2.toNat ((S 102 (((2 * x2) + 1).toNat)) - 48), L, P) (0, 0))))))) ∧ ((S 102 ((2 * x2).toNat)) = 119 → (0 ≤ x2 ∧ x2 < 30) ∧ ((0 ≤ ((2 * x2) + 1) ∧ ((2 * x2) + 1) < 400) ∧ ((0 ≤ x2 ∧ x2 < 30) ∧ (zz_J zpX1_logged (zz_ret Q X 0 0) 107 [some (vr 100), some (vr 101), some (vi x2), none] [] ((2, f), mm_up (mm_up S 132 x2.toNat 0) 133 x2.toNat ((S 102 (((2 * x2) + 1).toNat)) - 48), L, P) (0, 0)))))))))))) : zz_J zpX1_logged (zz_ret Q X 0 0) 32 [some (vr 100), some (vr 101), some (vi x2), none] [] ((2, f), S, L, P) (0, 0) := zz_J.go [(32, [3]), (107, [3])] 400 h
theorem zwX1_logged_107 {Q : Option zv → zz_M → Prop} {X : Nat → zz_M → Prop} {f : Nat → Nat × Nat} {S L : Nat → Nat → Int} {P : Nat → Nat → Option Nat} {x2 : Int} (h : (0 ≤ x2 ∧ x2 < 30) ∧ (R32 (S 132 x2.toNat) ∧ (((S 132 x2.toNat) = (-1) → Q (some (vi (-1))) ((2, f), S, L, P)) ∧ (¬ (S 132 x2.toNat) = (-1) → (0 ≤ x2 ∧ x2 < 30) ∧ ((0 ≤ x2 ∧ x2 < 30) ∧ (R32 (S 132 x2.toNat) ∧ ((¬ (S 132 x2.toNat) = 2 → (R32 (S 133 x2.toNat) ∧ R32 (0 : Int) ∧ R32 (0 : Int) ∧ (((0 : Int) ≤ (S 133 x2.toNat) ∧ (S 133 x2.toNat) ≤ (0 : Int)) → (zz_J zpX1_logged (zz_ret Q X 0 0) 32 [some (vr 100), some (vr 101), some (vi (x2 + 1)), none] [] ((2, f), S, L, P) (0, 0))) ∧ (¬ ((0 : Int) ≤ (S 133 x2.toNat) ∧ (S 133 x2.toNat) ≤ (0 : Int)) → (Q (some (vi (-1))) ((2, f), S, L, P))))) ∧ ((S 132 x2.toNat) = 2 → (R32 (S 133 x2.toNat) ∧ R32 (0 : Int) ∧ R32 (9 : Int) ∧ (((0 : Int) ≤ (S 133 x2.toNat) ∧ (S 133 x2.toNat) ≤ (9 : Int)) → (zz_J zpX1_logged (zz_ret Q X 0 0) 32 [some (vr 100), some (vr 101), some (vi (x2 + 1)), none] [] ((2, f), S, L, P) (0, 0))) ∧ (¬ ((0 : Int) ≤ (S 133 x2.toNat) ∧ (S 133 x2.toNat) ≤ (9 : Int)) → (Q (some (vi (-1))) ((2, f), S, L, P)))))))))))) : zz_J zpX1_logged (zz_ret Q X 0 0) 107 [some (vr 100), some (vr 101), some (vi x2), none] [] ((2, f), S, L, P) (0, 0) := zz_J.go [(32, [3]), (107, [3])] 400 h

theorem zmX1_logged (l : Launch) (hl : l.stackTraces = false) : mm_Spec l yX1_logged (ws_ yX1_logged cX1_logged 4 (some .int)) (mm_rm 2 0 0) (zE zX1_logged) := by
  refine zz_Met.J hl (by decide) (fun C G hnh => ztX1_logged G hnh) ?_
  rintro as ⟨⟨t_, f⟩, S, L, P⟩ Q X h
  unfold zX1_logged at h
  split at h
  rotate_left
  · exact h.elim
  rename_i h_
  obtain ⟨e1_, e2_, h⟩ := mm_and2 h (fun q => q)
  cases mm_beq e1_
  cases mm_beq e2_
  try dsimp only at h
  refine ⟨rfl, ?_⟩
  obtain ⟨t, n, hn, hl, ht, q1, q2⟩ := h
  have bad : ∀ k, k < n / 2 → lgO t k = false → lgB t n = false := by
    intro k hk h
    unfold lgB lgA
    rw [Bool.and_eq_false_iff]
    right
    rw [List.all_eq_false]
    exact ⟨k, List.mem_range.mpr hk, by rw [h]; decide⟩
  have good : n % 2 = 0 → n ≤ 60 → (∀ k, k < n / 2 → lgO t k = true) → lgB t n = true := by
    intro h1 h2 h3
    unfold lgB lgA
    rw [Bool.and_eq_true, Bool.and_eq_true, List.all_eq_true]
    exact ⟨⟨decide_eq_true h1, decide_eq_true h2⟩, fun k hk => h3 k (List.mem_range.mp hk)⟩
  have t32 : n % 2 = 0 → n ≤ 60 → ∀ (m k : Nat) (T : Nat → Nat → Int), k + m = n / 2 → lgF S T → T 101 2 = n → (∀ k', k' < k → lgO t k' = true ∧ T 132 k' = hwD t k' ∧ T 133 k' = t (2 * k' + 1) - 48) → zz_J zpX1_logged (zz_ret Q X 0 0) 32 [some (vr 100), some (vr 101), some (vi (k : Int)), none] [] ((2, f), T, L, P) (0, 0) := by
    intro h2 h60 m
    induction m with
    | zero =>
      intro k T hk hF hT hp
      refine zwX1_logged_32 ?_
      rw [hT]
      have e : (n : Int) / 2 = ((n / 2 : Nat) : Int) := by omega
      refine ⟨by omega, by omega, by omega, fun _ => ⟨by omega, ?_⟩, fun c => absurd c (by omega)⟩
      rw [e]
      exact q1 T hF (good h2 h60 (fun k' hk' => (hp k' (by omega)).1)) (fun k' hk' => (hp k' (by omega)).2)
    | succ m ih =>
      intro k T hk hF hT hp
      have b0 := ht (2 * k) (by omega)
      have b1 := ht (2 * k + 1) (by omega)
      have c0 := cby_b b0.1
      have c1 := cby_b b1.1
      have e102 : T 102 = S 102 := by
        funext j
        exact hF.1 102 j (by decide) (by decide) (fun q => by omega)
      have ea : (2 * (k : Int)).toNat = 2 * k := by omega
      have eb : (2 * (k : Int) + 1).toNat = 2 * k + 1 := by omega
      have t107 : ∀ v : Int, (v = 2 ∧ t (2 * k) = 100) ∨ (v = 1 ∧ t (2 * k) = 108) ∨ (v = 0 ∧ t (2 * k) = 119) ∨ (v = -1 ∧ t (2 * k) ≠ 100 ∧ t (2 * k) ≠ 108 ∧ t (2 * k) ≠ 119) → zz_J zpX1_logged (zz_ret Q X 0 0) 107 [some (vr 100), some (vr 101), some (vi (k : Int)), none] [] ((2, f), mm_up (mm_up T 132 k v) 133 k (cby (t (2 * k + 1)) - 48), L, P) (0, 0) := by
        intro v hv
        have r2 : mm_up (mm_up T 132 k v) 133 k (cby (t (2 * k + 1)) - 48) 132 k = v := by rw [up_eq, if_neg (by omega), up_eq, if_pos ⟨rfl, rfl⟩]
        have r3 : mm_up (mm_up T 132 k v) 133 k (cby (t (2 * k + 1)) - 48) 133 k = cby (t (2 * k + 1)) - 48 := by rw [up_eq, if_pos ⟨rfl, rfl⟩]
        have hF2 : lgF S (mm_up (mm_up T 132 k v) 133 k (cby (t (2 * k + 1)) - 48)) := ⟨fun h' k' n1 n2 n3 => by rw [up_eq, if_neg (fun q => n2 q.1), up_eq, if_neg (fun q => n1 q.1)]; exact hF.1 h' k' n1 n2 n3, hF.2⟩
        have no : lgO t k = false → Q (some (vi (-1))) ((2, f), mm_up (mm_up T 132 k v) 133 k (cby (t (2 * k + 1)) - 48), L, P) := fun h => q2 _ hF2 (bad k (by omega) h)
        have yes : lgO t k = true → v = hwD t k → cby (t (2 * k + 1)) = t (2 * k + 1) → zz_J zpX1_logged (zz_ret Q X 0 0) 32 [some (vr 100), some (vr 101), some (vi ((k : Int) + 1)), none] [] ((2, f), mm_up (mm_up T 132 k v) 133 k (cby (t (2 * k + 1)) - 48), L, P) (0, 0) := by
          intro h hv2 hc2
          refine ih (k + 1) _ (by omega) hF2 hT (fun k' hk' => ?_)
          by_cases e : k' = k
          · subst e
            exact ⟨h, by rw [r2]; exact hv2, by rw [r3, hc2]⟩
          · obtain ⟨g1, g2, g3⟩ := hp k' (by omega)
            exact ⟨g1, by rw [up_eq, if_neg (by omega), up_eq, if_neg (by omega)]; exact g2, by rw [up_eq, if_neg (by omega), up_eq, if_neg (by omega)]; exact g3⟩
        have i9 := cby_i (lo := 48) (hi := 57) b1.1 (by decide) (by decide)
        have e8 := cby_e (c := 48) b1.1 (by decide)
        refine zwX1_logged_107 ⟨by omega, ?_⟩
        rw [Int.toNat_natCast, r2, r3]
        refine ⟨by omega, fun d => no ?_, fun d => ⟨by omega, by omega, by omega, fun d2 => ⟨by omega, by decide, by decide, fun d3 => ?_, fun d3 => no ?_⟩, fun d2 => ⟨by omega, by decide, by decide, fun d3 => ?_, fun d3 => no ?_⟩⟩⟩
        · unfold lgO
          have h9 : t (2 * k) ≠ 100 ∧ t (2 * k) ≠ 108 ∧ t (2 * k) ≠ 119 := by omega
          simp [h9.1, h9.2.1, h9.2.2]
        · have h48 : t (2 * k + 1) = 48 := by omega
          refine yes ?_ ?_ (cby_d (by omega))
          · unfold lgO
            have h9 : t (2 * k) = 119 ∨ t (2 * k) = 108 := by omega
            rcases h9 with h9 | h9 <;> simp [h9, h48]
          · unfold hwD
            rcases hv with ⟨a, b⟩ | ⟨a, b⟩ | ⟨a, b⟩ | ⟨a, b⟩
            · omega
            · rw [a, b]; rfl
            · rw [a, b]; rfl
            · omega
        · have h48 : t (2 * k + 1) ≠ 48 := by omega
          have h100 : t (2 * k) ≠ 100 := by omega
          unfold lgO
          simp [h48, h100]
        · have h9 : 48 ≤ t (2 * k + 1) ∧ t (2 * k + 1) ≤ 57 := by omega
          have h100 : t (2 * k) = 100 := by omega
          refine yes ?_ ?_ (cby_d (by omega))
          · unfold lgO
            simp [h9.1, h9.2, h100]
          · unfold hwD
            rw [h100, d2]
            rfl
        · have h9 : ¬ (48 ≤ t (2 * k + 1) ∧ t (2 * k + 1) ≤ 57) := by omega
          have h100 : t (2 * k) = 100 := by omega
          unfold lgO
          rw [h100]
          simp
          omega
      have k119 := cby_e (c := 119) b0.1 (by decide)
      have k108 := cby_e (c := 108) b0.1 (by decide)
      have k100 := cby_e (c := 100) b0.1 (by decide)
      refine zwX1_logged_32 ?_
      rw [hT, ea, eb, e102, b0.2, b1.2, Int.toNat_natCast]
      exact ⟨by omega, by omega, by omega, fun c => absurd c (by omega), fun _ => ⟨by omega, by omega, fun d1 => ⟨by omega, fun d2 => ⟨by omega, fun d3 => ⟨by omega, by omega, by omega, t107 _ (by omega)⟩, fun d3 => ⟨by omega, by omega, by omega, t107 _ (by omega)⟩⟩, fun d2 => ⟨by omega, by omega, by omega, t107 _ (by omega)⟩⟩, fun d1 => ⟨by omega, by omega, by omega, t107 _ (by omega)⟩⟩⟩
  have hF0 : lgF S (mm_up (mm_up (mm_up (mm_up S 101 2 (n : Int)) 101 1 0) 101 3 0) 101 6 0) := by
    refine ⟨fun h' k' n1 n2 n3 => ?_, rfl⟩
    rw [up_eq, if_neg (by omega), up_eq, if_neg (by omega), up_eq, if_neg (by omega), up_eq, if_neg (by omega)]
  refine zwX1_logged_0 ?_
  rw [hl]
  refine ⟨by omega, by omega, fun c => q2 _ hF0 ?_, fun c => ⟨by omega, fun d => ?_, fun d => q2 _ hF0 ?_⟩⟩
  · unfold lgB
    have : ¬ n % 2 = 0 := by omega
    simp [this]
  · exact t32 (by omega) (by omega) (n / 2) 0 _ (by omega) hF0 rfl (fun k' hk' => absurd hk' (by omega))
  · unfold lgB
    have : ¬ n ≤ 60 := by omega
    simp [this]
