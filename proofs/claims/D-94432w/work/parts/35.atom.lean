/-! ===== the model's conditions: atom, every, some, by the depth that is left ===== -/
set_option maxRecDepth 100000
theorem bool_qq {Q : Option zv → zz_M → Prop} {M : zz_M} {x : Int} (hx : x = 0 ∨ x = 1) (h : Q (some (vi 1)) M ∧ Q (some (vi 0)) M) : Q (some (vi x)) M := by
  rcases hx with e | e <;> rw [e]
  · exact h.2
  · exact h.1
theorem seqP_f {α : Type} {tx : Nat → Int} {n j a w : Nat} {cb : α → α → α} {p : Nat → Pr α} (h : p a = .inl w) : seqP tx n j cb p a = .inl w := by
  unfold seqP
  rw [h]
theorem seqP_s {α : Type} {tx : Nat → Int} {n j a : Nat} {cb : α → α → α} {p : Nat → Pr α} {c : Nat × α} (h : p a = .inr c) : seqP tx n j cb p a = lpP n (rn (qB tx) n) (spW tx n j) p cb c.1 c.2 := by
  unfold seqP
  rw [h]
def zX9_atom_0 : zz_Sp := fun as M Q X => match as with
  | [.inr (.inr (some h_))] => bif Nat.beq h_ 0 && Nat.beq M.1.1 1 then (∃ (tx_ : Nat → Int) (n_ a_ : Nat), mT M.2.1 tx_ n_ ∧ M.2.1 0 9 = a_ ∧ M.2.1 0 10 = -1 ∧ M.2.1 0 11 = 6 ∧ a_ ≤ n_ ∧ bF (fcS M.2.1) ∧ (M.2.1 0 13 = 0 ∨ M.2.1 0 13 = 1) ∧ (M.2.1 0 14 = 0 ∨ M.2.1 0 14 = 1) ∧ (∀ w_ : Nat, atP tx_ n_ 0 a_ = .inl w_ → ∀ (z_ : Nat) (d_ : Int), z_ ≤ n_ + 0 → Q (some (vi 1)) (zm (pS M.2.1 z_ w_ d_) M.2.2.1) ∧ Q (some (vi 0)) (zm (pS M.2.1 z_ w_ d_) M.2.2.1)) ∧ (∀ c_ : Nat × (Fc → Bool), atP tx_ n_ 0 a_ = .inr c_ → (c_.2 (fcS M.2.1) = true → Q (some (vi 1)) (zm (pS M.2.1 c_.1 (-1) (M.2.1 0 11)) M.2.2.1)) ∧ (c_.2 (fcS M.2.1) = false → Q (some (vi 0)) (zm (pS M.2.1 c_.1 (-1) (M.2.1 0 11)) M.2.2.1)))) else False
  | _ => False

def zpX9_atom_0 : zz_P := [(0, zo_ald 1 0), (1, zo_get 4 8 0 10), (4, zo_c 5 (vi (-1))), (5, zo_ceq false true 8 10), (8, zo_c 9 (vi 0)), (9, zo_zret true), (10, zo_ald 11 0), (11, zo_callv 14 1 8 zX9_skip), (14, zo_ald 15 0), (15, zo_get 18 8 0 9), (18, zo_ist 19 1), (19, zo_ald 20 0), (20, zo_c 22 (vr 1009)), (22, zo_callv 25 2 8 zX9_has), (25, zo_ist 26 2), (26, zo_ild 27 2), (27, zo_ifne false 30 44), (30, zo_ald 31 0), (31, zo_c 33 (vi 40)), (33, zo_callv 36 2 8 zX9_isSign), (36, zo_zifne 39 44), (39, zo_ald 40 0), (40, zo_callv 43 1 8 zX9_plainCond), (43, zo_zret true), (44, zo_ald 45 0), (45, zo_get 48 8 0 11), (48, zo_c 50 (vi 6)), (50, zo_cne false true 53 60), (53, zo_ald 54 0), (54, zo_ild 55 1), (55, zo_callv 58 2 8 zX9_wrong), (58, zo_c 59 (vi 0)), (59, zo_zret true), (60, zo_ald 61 0), (61, zo_dup 62), (62, zo_get 65 8 0 11), (65, zo_c 66 (vi 1)), (66, zo_iadd 67), (67, zo_puti 70 8 11), (70, zo_c 71 (vi 0)), (71, zo_ist 72 3), (72, zo_ild 73 2), (73, zo_ifeq false 76 92), (76, zo_ald 77 0), (77, zo_bad), (80, zo_ifne false 83 87), (83, zo_c 84 (vi 1)), (84, zo_goto 88), (87, zo_c 88 (vi 0)), (88, zo_ist 89 3), (89, zo_goto 142), (92, zo_ald 93 0), (93, zo_dup 94), (94, zo_get 97 8 0 9), (97, zo_c 98 (vi 1)), (98, zo_iadd 99), (99, zo_puti 102 8 9), (102, zo_ald 103 0), (103, zo_bad), (106, zo_ist 107 3), (107, zo_ald 108 0), (108, zo_get 111 8 0 10), (111, zo_c 112 (vi (-1))), (112, zo_cne false true 115 132), (115, zo_ald 116 0), (116, zo_c 118 (vi 41)), (118, zo_callv 121 2 8 zX9_isSign), (121, zo_zifne 124 132), (124, zo_ald 125 0), (125, zo_ald 126 0), (126, zo_get 129 8 0 9), (129, zo_callv 132 2 8 zX9_wrong), (132, zo_ald 133 0), (133, zo_dup 134), (134, zo_get 137 8 0 9), (137, zo_c 138 (vi 1)), (138, zo_iadd 139), (139, zo_puti 142 8 9), (142, zo_ald 143 0), (143, zo_dup 144), (144, zo_get 147 8 0 11), (147, zo_c 148 (vi 1)), (148, zo_isub 149), (149, zo_puti 152 8 11), (152, zo_ild 153 3), (153, zo_zret false)]
theorem ztX9_atom_0 {C : mm_C} (G : mm_G C RX9 cX9_atom (some .boolean) 4 (mm_rm 9 0 0)) (hnh : mm_nh C) : zz_OKs C zpX9_atom_0 :=
  ⟨zz_of (ok_aload_n G dX9_atom_0 rfl rfl) (z_ald _ _),
   zz_of (ok_get G (nx := 4) (ci := 8) (kd := 0) (k := 10) (RX9, TX9, 32) rfl (by decide) rfl q1815 dX9_atom_1 rfl) (z_get _ _ _ _),
   zz_of (ok_iconst G (v := (zI (-1))) dX9_atom_4 (by decide) rfl) (z_cz 5 (-1)),
   zz_of (ok_ceq G dX9_atom_5 rfl rfl) (z_ceq _ _ _ _),
   zz_of (ok_iconst G (v := 0) dX9_atom_8 (by decide) rfl) (z_cn 9 0),
   zz_of (ok_zret G dX9_atom_9) (z_zret _),
   zz_of (ok_aload_n G dX9_atom_10 rfl rfl) (z_ald _ _),
   zz_of (ok_callv G hnh (zmX9_skip _ G.hst) rfl rfl (RX9, TX9, 32) rfl q1925 q1927 qs41 q93 q1928 (by decide +kernel) ⟨by decide, by decide⟩ dX9_atom_11 rfl) (z_callv _ _ _ _),
   zz_of (ok_aload_n G dX9_atom_14 rfl rfl) (z_ald _ _),
   zz_of (ok_get G (nx := 18) (ci := 8) (kd := 0) (k := 9) (RX9, TX9, 32) rfl (by decide) rfl q1814 dX9_atom_15 rfl) (z_get _ _ _ _),
   zz_of (ok_istore_n G dX9_atom_18 rfl rfl (by decide)) (z_ist _ _),
   zz_of (ok_aload_n G dX9_atom_19 rfl rfl) (z_ald _ _),
   zz_of (ok_lds G (tx := "not") (by decide +kernel) dX9_atom_20 rfl) (z_cr 22 1009),
   zz_of (ok_callv G hnh (zmX9_has _ G.hst) rfl rfl (RX9, TX9, 32) rfl q1942 q1944 qs45 q93 q1945 (by decide +kernel) ⟨by decide, by decide⟩ dX9_atom_22 rfl) (z_callv _ _ _ _),
   zz_of (ok_istore_n G dX9_atom_25 rfl rfl (by decide)) (z_ist _ _),
   zz_of (ok_iload_n G dX9_atom_26 rfl rfl) (z_ild _ _),
   zz_of (ok_ifne G dX9_atom_27 rfl rfl) (z_ifne _ _ _),
   zz_of (ok_aload_n G dX9_atom_30 rfl rfl) (z_ald _ _),
   zz_of (ok_bipush G (v := 40) dX9_atom_31 (by decide) rfl) (z_cn 33 40),
   zz_of (ok_callv G hnh (zmX9_isSign _ G.hst) rfl rfl (RX9, TX9, 32) rfl q1976 q1978 qs50 q93 q1979 (by decide +kernel) ⟨by decide, by decide⟩ dX9_atom_33 rfl) (z_callv _ _ _ _),
   zz_of (ok_ifne G dX9_atom_36 rfl rfl) (z_zifne _ _),
   zz_of (ok_aload_n G dX9_atom_39 rfl rfl) (z_ald _ _),
   zz_of (ok_callv G hnh (zmX9_plainCond _ G.hst) rfl rfl (RX9, TX9, 32) rfl q1980 q1982 qs51 q93 q1983 (by decide +kernel) ⟨by decide, by decide⟩ dX9_atom_40 rfl) (z_callv _ _ _ _),
   zz_of (ok_zret G dX9_atom_43) (z_zret _),
   zz_of (ok_aload_n G dX9_atom_44 rfl rfl) (z_ald _ _),
   zz_of (ok_get G (nx := 48) (ci := 8) (kd := 0) (k := 11) (RX9, TX9, 32) rfl (by decide) rfl q1816 dX9_atom_45 rfl) (z_get _ _ _ _),
   zz_of (ok_bipush G (v := 6) dX9_atom_48 (by decide) rfl) (z_cn 50 6),
   zz_of (ok_cne G dX9_atom_50 rfl rfl) (z_cne _ _ _ _),
   zz_of (ok_aload_n G dX9_atom_53 rfl rfl) (z_ald _ _),
   zz_of (ok_iload_n G dX9_atom_54 rfl rfl) (z_ild _ _),
   zz_of (ok_callv G hnh (zmX9_wrong _ G.hst) rfl rfl (RX9, TX9, 32) rfl q1933 q1935 qs43 q93 q1936 (by decide +kernel) ⟨by decide, by decide⟩ dX9_atom_55 rfl) (z_callv _ _ _ _),
   zz_of (ok_iconst G (v := 0) dX9_atom_58 (by decide) rfl) (z_cn 59 0),
   zz_of (ok_zret G dX9_atom_59) (z_zret _),
   zz_of (ok_aload_n G dX9_atom_60 rfl rfl) (z_ald _ _),
   zz_of (ok_dup G dX9_atom_61 rfl) (z_dup _),
   zz_of (ok_get G (nx := 65) (ci := 8) (kd := 0) (k := 11) (RX9, TX9, 32) rfl (by decide) rfl q1816 dX9_atom_62 rfl) (z_get _ _ _ _),
   zz_of (ok_iconst G (v := 1) dX9_atom_65 (by decide) rfl) (z_cn 66 1),
   zz_of (ok_iadd G dX9_atom_66 rfl) (z_iadd _),
   zz_of (ok_puti G (nx := 70) (idx := 129) (ci := 8) (k := 11) (RX9, TX9, 32) rfl (by decide) rfl (mm_pw G (ci := 8) (k := 11) (RX9, TX9, 32) rfl (by decide) rfl q1816 dX9_atom_67) rfl) (z_puti _ _ _),
   zz_of (ok_iconst G (v := 0) dX9_atom_70 (by decide) rfl) (z_cn 71 0),
   zz_of (ok_istore_n G dX9_atom_71 rfl rfl (by decide)) (z_ist _ _),
   zz_of (ok_iload_n G dX9_atom_72 rfl rfl) (z_ild _ _),
   zz_of (ok_ifeq G dX9_atom_73 rfl rfl) (z_ifeq _ _ _),
   zz_of (ok_aload_n G dX9_atom_76 rfl rfl) (z_ald _ _),
   zz_of (ok_bad) (z_bad),
   zz_of (ok_ifne G dX9_atom_80 rfl rfl) (z_ifne _ _ _),
   zz_of (ok_iconst G (v := 1) dX9_atom_83 (by decide) rfl) (z_cn 84 1),
   zz_of (ok_goto G dX9_atom_84 rfl) (z_goto _),
   zz_of (ok_iconst G (v := 0) dX9_atom_87 (by decide) rfl) (z_cn 88 0),
   zz_of (ok_istore_n G dX9_atom_88 rfl rfl (by decide)) (z_ist _ _),
   zz_of (ok_goto G dX9_atom_89 rfl) (z_goto _),
   zz_of (ok_aload_n G dX9_atom_92 rfl rfl) (z_ald _ _),
   zz_of (ok_dup G dX9_atom_93 rfl) (z_dup _),
   zz_of (ok_get G (nx := 97) (ci := 8) (kd := 0) (k := 9) (RX9, TX9, 32) rfl (by decide) rfl q1814 dX9_atom_94 rfl) (z_get _ _ _ _),
   zz_of (ok_iconst G (v := 1) dX9_atom_97 (by decide) rfl) (z_cn 98 1),
   zz_of (ok_iadd G dX9_atom_98 rfl) (z_iadd _),
   zz_of (ok_puti G (nx := 102) (idx := 80) (ci := 8) (k := 9) (RX9, TX9, 32) rfl (by decide) rfl (mm_pw G (ci := 8) (k := 9) (RX9, TX9, 32) rfl (by decide) rfl q1814 dX9_atom_99) rfl) (z_puti _ _ _),
   zz_of (ok_aload_n G dX9_atom_102 rfl rfl) (z_ald _ _),
   zz_of (ok_bad) (z_bad),
   zz_of (ok_istore_n G dX9_atom_106 rfl rfl (by decide)) (z_ist _ _),
   zz_of (ok_aload_n G dX9_atom_107 rfl rfl) (z_ald _ _),
   zz_of (ok_get G (nx := 111) (ci := 8) (kd := 0) (k := 10) (RX9, TX9, 32) rfl (by decide) rfl q1815 dX9_atom_108 rfl) (z_get _ _ _ _),
   zz_of (ok_iconst G (v := (zI (-1))) dX9_atom_111 (by decide) rfl) (z_cz 112 (-1)),
   zz_of (ok_cne G dX9_atom_112 rfl rfl) (z_cne _ _ _ _),
   zz_of (ok_aload_n G dX9_atom_115 rfl rfl) (z_ald _ _),
   zz_of (ok_bipush G (v := 41) dX9_atom_116 (by decide) rfl) (z_cn 118 41),
   zz_of (ok_callv G hnh (zmX9_isSign _ G.hst) rfl rfl (RX9, TX9, 32) rfl q1976 q1978 qs50 q93 q1979 (by decide +kernel) ⟨by decide, by decide⟩ dX9_atom_118 rfl) (z_callv _ _ _ _),
   zz_of (ok_ifne G dX9_atom_121 rfl rfl) (z_zifne _ _),
   zz_of (ok_aload_n G dX9_atom_124 rfl rfl) (z_ald _ _),
   zz_of (ok_aload_n G dX9_atom_125 rfl rfl) (z_ald _ _),
   zz_of (ok_get G (nx := 129) (ci := 8) (kd := 0) (k := 9) (RX9, TX9, 32) rfl (by decide) rfl q1814 dX9_atom_126 rfl) (z_get _ _ _ _),
   zz_of (ok_callv G hnh (zmX9_wrong _ G.hst) rfl rfl (RX9, TX9, 32) rfl q1933 q1935 qs43 q93 q1936 (by decide +kernel) ⟨by decide, by decide⟩ dX9_atom_129 rfl) (z_callv _ _ _ _),
   zz_of (ok_aload_n G dX9_atom_132 rfl rfl) (z_ald _ _),
   zz_of (ok_dup G dX9_atom_133 rfl) (z_dup _),
   zz_of (ok_get G (nx := 137) (ci := 8) (kd := 0) (k := 9) (RX9, TX9, 32) rfl (by decide) rfl q1814 dX9_atom_134 rfl) (z_get _ _ _ _),
   zz_of (ok_iconst G (v := 1) dX9_atom_137 (by decide) rfl) (z_cn 138 1),
   zz_of (ok_iadd G dX9_atom_138 rfl) (z_iadd _),
   zz_of (ok_puti G (nx := 142) (idx := 80) (ci := 8) (k := 9) (RX9, TX9, 32) rfl (by decide) rfl (mm_pw G (ci := 8) (k := 9) (RX9, TX9, 32) rfl (by decide) rfl q1814 dX9_atom_139) rfl) (z_puti _ _ _),
   zz_of (ok_aload_n G dX9_atom_142 rfl rfl) (z_ald _ _),
   zz_of (ok_dup G dX9_atom_143 rfl) (z_dup _),
   zz_of (ok_get G (nx := 147) (ci := 8) (kd := 0) (k := 11) (RX9, TX9, 32) rfl (by decide) rfl q1816 dX9_atom_144 rfl) (z_get _ _ _ _),
   zz_of (ok_iconst G (v := 1) dX9_atom_147 (by decide) rfl) (z_cn 148 1),
   zz_of (ok_isub G dX9_atom_148 rfl) (z_isub _),
   zz_of (ok_puti G (nx := 152) (idx := 129) (ci := 8) (k := 11) (RX9, TX9, 32) rfl (by decide) rfl (mm_pw G (ci := 8) (k := 11) (RX9, TX9, 32) rfl (by decide) rfl q1816 dX9_atom_149) rfl) (z_puti _ _ _),
   zz_of (ok_iload_n G dX9_atom_152 rfl rfl) (z_ild _ _),
   zz_of (ok_zret G dX9_atom_153) (z_zret _), trivial⟩

theorem zwX9_atom_0_0 {Q : Option zv → zz_M → Prop} {X : Nat → zz_M → Prop} {S L : Nat → Nat → Int}  (h : R32 (S 0 10) ∧ (((S 0 10) = (-1) → (∃ (tx_1 : Nat → Int) (n_1 a_1 : Nat), mT S tx_1 n_1 ∧ S 0 9 = a_1 ∧ a_1 ≤ n_1 + 1000 ∧ ((∃ (tx_2 : Nat → Int) (n_2 a_2 j_2 : Nat), 1009 = 1000 + j_2 ∧ j_2 < 18 ∧ mT (mm_up S 0 9 ((rn (qB tx_1) n_1 a_1 : Nat) : Int)) tx_2 n_2 ∧ (mm_up S 0 9 ((rn (qB tx_1) n_1 a_1 : Nat) : Int)) 0 9 = a_2 ∧ a_2 ≤ n_2 ∧ (hsW tx_2 n_2 (rn (qB tx_2) n_2 a_2) (wo j_2) = true → (zz_J zpX9_atom_0 (zz_ret Q X 0 0) 26 [some (vr 0), some (vi ((rn (qB tx_1) n_1 a_1 : Nat) : Int)), some (vi 1), none] [] (zm (mm_up (mm_up S 0 9 ((rn (qB tx_1) n_1 a_1 : Nat) : Int)) 0 9 ((rn (qB tx_2) n_2 a_2 + (wo j_2).length : Nat) : Int)) L) (0, 0))) ∧ (hsW tx_2 n_2 (rn (qB tx_2) n_2 a_2) (wo j_2) = false → (zz_J zpX9_atom_0 (zz_ret Q X 0 0) 26 [some (vr 0), some (vi ((rn (qB tx_1) n_1 a_1 : Nat) : Int)), some (vi 0), none] [] (zm (mm_up (mm_up S 0 9 ((rn (qB tx_1) n_1 a_1 : Nat) : Int)) 0 9 ((rn (qB tx_2) n_2 a_2 : Nat) : Int)) L) (0, 0))))))) ∧ (¬ (S 0 10) = (-1) → Q (some (vi 0)) (zm S L)))) : zz_J zpX9_atom_0 (zz_ret Q X 0 0) 0 [some (vr 0), none, none, none] [] (zm S L) (0, 0) := zz_J.go [(26, [3]), (44, [3]), (107, [1, 2]), (132, [1, 2]), (142, [1, 2])] 400 h
theorem zwX9_atom_0_26 {Q : Option zv → zz_M → Prop} {X : Nat → zz_M → Prop} {S L : Nat → Nat → Int} {x1 : Int} {x2 : Int} (h : R32 x2 ∧ ((¬ x2 = 0 → zz_J zpX9_atom_0 (zz_ret Q X 0 0) 44 [some (vr 0), some (vi x1), some (vi x2), none] [] (zm S L) (0, 0)) ∧ (x2 = 0 → (∃ (tx_1 : Nat → Int) (n_1 a_1 : Nat), R32 (40 : Int) ∧ mT S tx_1 n_1 ∧ S 0 9 = a_1 ∧ a_1 ≤ n_1 ∧ (isSg tx_1 n_1 (rn (qB tx_1) n_1 a_1) (40 : Int) = true → (zz_J zpX9_atom_0 (zz_ret Q X 0 0) 44 [some (vr 0), some (vi x1), some (vi x2), none] [] (zm (mm_up S 0 9 ((rn (qB tx_1) n_1 a_1 : Nat) : Int)) L) (0, 0))) ∧ (isSg tx_1 n_1 (rn (qB tx_1) n_1 a_1) (40 : Int) = false → ((∃ (tx_2 : Nat → Int) (n_2 a_2 : Nat), mT (mm_up S 0 9 ((rn (qB tx_1) n_1 a_1 : Nat) : Int)) tx_2 n_2 ∧ (mm_up S 0 9 ((rn (qB tx_1) n_1 a_1 : Nat) : Int)) 0 9 = a_2 ∧ (mm_up S 0 9 ((rn (qB tx_1) n_1 a_1 : Nat) : Int)) 0 10 = -1 ∧ a_2 ≤ n_2 ∧ bF (fcS (mm_up S 0 9 ((rn (qB tx_1) n_1 a_1 : Nat) : Int))) ∧ ((mm_up S 0 9 ((rn (qB tx_1) n_1 a_1 : Nat) : Int)) 0 13 = 0 ∨ (mm_up S 0 9 ((rn (qB tx_1) n_1 a_1 : Nat) : Int)) 0 13 = 1) ∧ ((mm_up S 0 9 ((rn (qB tx_1) n_1 a_1 : Nat) : Int)) 0 14 = 0 ∨ (mm_up S 0 9 ((rn (qB tx_1) n_1 a_1 : Nat) : Int)) 0 14 = 1) ∧ (∀ w_2 : Nat, plP tx_2 n_2 a_2 = .inl w_2 → ∀ (z_2 : Nat) (d_2 : Int), z_2 ≤ n_2 → (Q (some (vi 1)) (zm (pS (mm_up S 0 9 ((rn (qB tx_1) n_1 a_1 : Nat) : Int)) z_2 w_2 d_2) L)) ∧ (Q (some (vi 0)) (zm (pS (mm_up S 0 9 ((rn (qB tx_1) n_1 a_1 : Nat) : Int)) z_2 w_2 d_2) L))) ∧ (∀ c_2 : Nat × (Fc → Bool), plP tx_2 n_2 a_2 = .inr c_2 → (c_2.2 (fcS (mm_up S 0 9 ((rn (qB tx_1) n_1 a_1 : Nat) : Int))) = true → (Q (some (vi 1)) (zm (pS (mm_up S 0 9 ((rn (qB tx_1) n_1 a_1 : Nat) : Int)) c_2.1 (-1) ((mm_up S 0 9 ((rn (qB tx_1) n_1 a_1 : Nat) : Int)) 0 11)) L))) ∧ (c_2.2 (fcS (mm_up S 0 9 ((rn (qB tx_1) n_1 a_1 : Nat) : Int))) = false → (Q (some (vi 0)) (zm (pS (mm_up S 0 9 ((rn (qB tx_1) n_1 a_1 : Nat) : Int)) c_2.1 (-1) ((mm_up S 0 9 ((rn (qB tx_1) n_1 a_1 : Nat) : Int)) 0 11)) L))))))))))) : zz_J zpX9_atom_0 (zz_ret Q X 0 0) 26 [some (vr 0), some (vi x1), some (vi x2), none] [] (zm S L) (0, 0) := zz_J.go [(26, [3]), (44, [3]), (107, [1, 2]), (132, [1, 2]), (142, [1, 2])] 400 h
theorem zwX9_atom_0_44 {Q : Option zv → zz_M → Prop} {X : Nat → zz_M → Prop} {S L : Nat → Nat → Int} {x1 : Int} {x2 : Int} (h : R32 (S 0 11) ∧ ((¬ (S 0 11) = 6 → R32 x2 ∧ ((x2 = 0 → False) ∧ (¬ x2 = 0 → False))) ∧ ((S 0 11) = 6 → (R32 (S 0 10) ∧ (Q (some (vi 0)) (zm (mm_up S 0 10 (wrF (S 0 10) x1)) L)))))) : zz_J zpX9_atom_0 (zz_ret Q X 0 0) 44 [some (vr 0), some (vi x1), some (vi x2), none] [] (zm S L) (0, 0) := zz_J.go [(26, [3]), (44, [3]), (107, [1, 2]), (132, [1, 2]), (142, [1, 2])] 400 h
theorem zwX9_atom_0_107 {Q : Option zv → zz_M → Prop} {X : Nat → zz_M → Prop} {S L : Nat → Nat → Int} {x3 : Int} (h : R32 (S 0 10) ∧ ((¬ (S 0 10) = (-1) → zz_J zpX9_atom_0 (zz_ret Q X 0 0) 132 [some (vr 0), none, none, some (vi x3)] [] (zm S L) (0, 0)) ∧ ((S 0 10) = (-1) → (∃ (tx_1 : Nat → Int) (n_1 a_1 : Nat), R32 (41 : Int) ∧ mT S tx_1 n_1 ∧ S 0 9 = a_1 ∧ a_1 ≤ n_1 ∧ (isSg tx_1 n_1 (rn (qB tx_1) n_1 a_1) (41 : Int) = true → (zz_J zpX9_atom_0 (zz_ret Q X 0 0) 132 [some (vr 0), none, none, some (vi x3)] [] (zm (mm_up S 0 9 ((rn (qB tx_1) n_1 a_1 : Nat) : Int)) L) (0, 0))) ∧ (isSg tx_1 n_1 (rn (qB tx_1) n_1 a_1) (41 : Int) = false → ((R32 ((mm_up S 0 9 ((rn (qB tx_1) n_1 a_1 : Nat) : Int)) 0 10) ∧ (zz_J zpX9_atom_0 (zz_ret Q X 0 0) 132 [some (vr 0), none, none, some (vi x3)] [] (zm (mm_up (mm_up S 0 9 ((rn (qB tx_1) n_1 a_1 : Nat) : Int)) 0 10 (wrF ((mm_up S 0 9 ((rn (qB tx_1) n_1 a_1 : Nat) : Int)) 0 10) ((rn (qB tx_1) n_1 a_1 : Nat) : Int))) L) (0, 0))))))))) : zz_J zpX9_atom_0 (zz_ret Q X 0 0) 107 [some (vr 0), none, none, some (vi x3)] [] (zm S L) (0, 0) := zz_J.go [(26, [3]), (44, [3]), (107, [1, 2]), (132, [1, 2]), (142, [1, 2])] 400 h
theorem zwX9_atom_0_132 {Q : Option zv → zz_M → Prop} {X : Nat → zz_M → Prop} {S L : Nat → Nat → Int} {x3 : Int} (h : zz_J zpX9_atom_0 (zz_ret Q X 0 0) 142 [some (vr 0), none, none, some (vi x3)] [] (zm (mm_up S 0 9 ((S 0 9) + 1)) L) (0, 0)) : zz_J zpX9_atom_0 (zz_ret Q X 0 0) 132 [some (vr 0), none, none, some (vi x3)] [] (zm S L) (0, 0) := zz_J.go [(26, [3]), (44, [3]), (107, [1, 2]), (132, [1, 2]), (142, [1, 2])] 400 h
theorem zwX9_atom_0_142 {Q : Option zv → zz_M → Prop} {X : Nat → zz_M → Prop} {S L : Nat → Nat → Int} {x3 : Int} (h : (x3 = 0 ∨ x3 = 1) ∧ (Q (some (vi x3)) (zm (mm_up S 0 11 ((S 0 11) - 1)) L))) : zz_J zpX9_atom_0 (zz_ret Q X 0 0) 142 [some (vr 0), none, none, some (vi x3)] [] (zm S L) (0, 0) := zz_J.go [(26, [3]), (44, [3]), (107, [1, 2]), (132, [1, 2]), (142, [1, 2])] 400 h

theorem zmX9_atom_0 (l : Launch) (hl : l.stackTraces = false) : mm_Spec l yX9_atom (ws_ yX9_atom cX9_atom 4 (some .boolean)) (mm_rm 9 0 0) (zE zX9_atom_0) := by
  refine zz_Met.J hl (by decide) (fun C G hnh => ztX9_atom_0 G hnh) ?_
  rintro as ⟨⟨t_, f⟩, S, L, P⟩ Q X h
  unfold zX9_atom_0 at h
  split at h
  rotate_left
  · exact h.elim
  rename_i h_
  obtain ⟨e1_, e2_, h⟩ := mm_and2 h (fun q => q)
  cases mm_beq e1_
  cases mm_beq e2_
  try dsimp only at h
  refine ⟨rfl, ?_⟩
  refine zz_Jev (M' := zm S L) rfl rfl rfl ?_
  obtain ⟨tx, n, a, hT, h9, h10, h11, ha, hF, h13, h14, hq1, hq2⟩ := h
  have hn := hT.1
  have hpw : ∀ a w, a ≤ n → ptP tx n a = .inl w → w ≤ n := fun a w h e => ptP_w h e
  generalize hd : S 0 11 = d at h11 hq2
  have hS : S = pS S a (-1) d := by rw [← hd]; exact pS_of h9 h10
  rw [hS]
  have hb := rn_le (q := qB tx) ha
  have hbb := rn_rn (q := qB tx) ha
  have t44 : ∀ (k : Nat) (x2 : Int), k ≤ n → atP tx n 0 a = .inl (rn (qB tx) n a) → zz_J zpX9_atom_0 (zz_ret Q X 0 0) 44 [some (vr 0), some (vi (rn (qB tx) n a : Nat)), some (vi x2), none] [] (zm (pS S k (-1) d) L) (0, 0) := by
    intro k x2 hk e
    refine zwX9_atom_0_44 ?_
    simp only [pS_r10, pS_r11, pS_10, wrF, if_true]
    exact ⟨by omega, fun h => absurd h11 h, fun _ => ⟨by omega, (hq1 _ e k d (by omega)).2⟩⟩
  have ats : plP tx n (rn (qB tx) n a) = plP tx n a := by unfold plP; rw [hbb]
  refine zwX9_atom_0_0 ?_
  simp only [pS_r10, pS_r9, pS_r11, pS_9, mT_pS, pS_pS, fcS_pS]
  refine ⟨by omega, fun _ => ⟨tx, n, a, hT, rfl, by omega, tx, n, rn (qB tx) n a, 9, rfl, by decide, hT, rfl, hb, ?_⟩, fun h => absurd trivial h⟩
  rw [hbb]
  refine ⟨fun c => ?_, fun c => ?_⟩
  · refine zwX9_atom_0_26 ⟨by omega, fun _ => ?_, fun h => by omega⟩
    have h3 : rn (qB tx) n a + 3 ≤ n := hsW_le hb c
    exact t44 _ 1 h3 (by unfold atP; rw [if_pos (Or.inl c)])
  · refine zwX9_atom_0_26 ?_
    simp only [pS_r10, pS_r9, pS_r11, pS_9, mT_pS, pS_pS, fcS_pS]
    refine ⟨by omega, fun h => absurd trivial h, fun _ => ⟨tx, n, rn (qB tx) n a, by omega, hT, rfl, hb, ?_⟩⟩
    rw [hbb]
    refine ⟨fun c2 => t44 _ 0 hb (by unfold atP; rw [if_pos (Or.inr c2)]), fun c2 => ⟨tx, n, rn (qB tx) n a, hT, rfl, trivial, hb, hF, h13, h14, fun w ew z d' hz => ?_, fun c3 ec => ?_⟩⟩
    · rw [ats] at ew
      exact hq1 w (by unfold atP; rw [if_neg (by rw [c, c2]; decide)]; exact ew) z d' (by omega)
    · rw [ats] at ec
      exact hq2 c3 (by unfold atP; rw [if_neg (by rw [c, c2]; decide)]; exact ec)
def zX9_every_0 : zz_Sp := fun as M Q X => match as with
  | [.inr (.inr (some h_))] => bif Nat.beq h_ 0 && Nat.beq M.1.1 1 then (∃ (tx_ : Nat → Int) (n_ a_ : Nat), mT M.2.1 tx_ n_ ∧ M.2.1 0 9 = a_ ∧ M.2.1 0 10 = -1 ∧ M.2.1 0 11 = 6 ∧ a_ ≤ n_ ∧ bF (fcS M.2.1) ∧ (M.2.1 0 13 = 0 ∨ M.2.1 0 13 = 1) ∧ (M.2.1 0 14 = 0 ∨ M.2.1 0 14 = 1) ∧ (∀ w_ : Nat, evP tx_ n_ (atP tx_ n_ 0) a_ = .inl w_ → ∀ (z_ : Nat) (d_ : Int), z_ ≤ n_ + 0 → Q (some (vi 1)) (zm (pS M.2.1 z_ w_ d_) M.2.2.1) ∧ Q (some (vi 0)) (zm (pS M.2.1 z_ w_ d_) M.2.2.1)) ∧ (∀ c_ : Nat × (Fc → Bool), evP tx_ n_ (atP tx_ n_ 0) a_ = .inr c_ → (c_.2 (fcS M.2.1) = true → Q (some (vi 1)) (zm (pS M.2.1 c_.1 (-1) (M.2.1 0 11)) M.2.2.1)) ∧ (c_.2 (fcS M.2.1) = false → Q (some (vi 0)) (zm (pS M.2.1 c_.1 (-1) (M.2.1 0 11)) M.2.2.1)))) else False
  | _ => False

def zpX9_every_0 : zz_P := [(0, zo_ald 1 0), (1, zo_callv 4 1 8 zX9_atom_0), (4, zo_ist 5 1), (5, zo_ald 6 0), (6, zo_get 9 8 0 10), (9, zo_c 10 (vi (-1))), (10, zo_cne false true 13 44), (13, zo_ald 14 0), (14, zo_c 16 (vr 1012)), (16, zo_callv 19 2 8 zX9_has), (19, zo_zifeq 22 44), (22, zo_ald 23 0), (23, zo_callv 26 1 8 zX9_atom_0), (26, zo_ist 27 2), (27, zo_ild 28 1), (28, zo_ifeq false 31 39), (31, zo_ild 32 2), (32, zo_zifeq 35 39), (35, zo_c 36 (vi 1)), (36, zo_goto 40), (39, zo_c 40 (vi 0)), (40, zo_ist 41 1), (41, zo_goto 5), (44, zo_ild 45 1), (45, zo_zret false)]
theorem ztX9_every_0 {C : mm_C} (G : mm_G C RX9 cX9_every (some .boolean) 3 (mm_rm 10 0 0)) (hnh : mm_nh C) : zz_OKs C zpX9_every_0 :=
  ⟨zz_of (ok_aload_n G dX9_every_0 rfl rfl) (z_ald _ _),
   zz_of (ok_callv G hnh (zmX9_atom_0 _ G.hst) rfl rfl (RX9, TX9, 32) rfl q1971 q1973 qs49 q93 q1974 (by decide +kernel) ⟨by decide, by decide⟩ dX9_every_1 rfl) (z_callv _ _ _ _),
   zz_of (ok_istore_n G dX9_every_4 rfl rfl (by decide)) (z_ist _ _),
   zz_of (ok_aload_n G dX9_every_5 rfl rfl) (z_ald _ _),
   zz_of (ok_get G (nx := 9) (ci := 8) (kd := 0) (k := 10) (RX9, TX9, 32) rfl (by decide) rfl q1815 dX9_every_6 rfl) (z_get _ _ _ _),
   zz_of (ok_iconst G (v := (zI (-1))) dX9_every_9 (by decide) rfl) (z_cz 10 (-1)),
   zz_of (ok_cne G dX9_every_10 rfl rfl) (z_cne _ _ _ _),
   zz_of (ok_aload_n G dX9_every_13 rfl rfl) (z_ald _ _),
   zz_of (ok_lds G (tx := "and") (by decide +kernel) dX9_every_14 rfl) (z_cr 16 1012),
   zz_of (ok_callv G hnh (zmX9_has _ G.hst) rfl rfl (RX9, TX9, 32) rfl q1942 q1944 qs45 q93 q1945 (by decide +kernel) ⟨by decide, by decide⟩ dX9_every_16 rfl) (z_callv _ _ _ _),
   zz_of (ok_ifeq G dX9_every_19 rfl rfl) (z_zifeq _ _),
   zz_of (ok_aload_n G dX9_every_22 rfl rfl) (z_ald _ _),
   zz_of (ok_callv G hnh (zmX9_atom_0 _ G.hst) rfl rfl (RX9, TX9, 32) rfl q1971 q1973 qs49 q93 q1974 (by decide +kernel) ⟨by decide, by decide⟩ dX9_every_23 rfl) (z_callv _ _ _ _),
   zz_of (ok_istore_n G dX9_every_26 rfl rfl (by decide)) (z_ist _ _),
   zz_of (ok_iload_n G dX9_every_27 rfl rfl) (z_ild _ _),
   zz_of (ok_ifeq G dX9_every_28 rfl rfl) (z_ifeq _ _ _),
   zz_of (ok_iload_n G dX9_every_31 rfl rfl) (z_ild _ _),
   zz_of (ok_ifeq G dX9_every_32 rfl rfl) (z_zifeq _ _),
   zz_of (ok_iconst G (v := 1) dX9_every_35 (by decide) rfl) (z_cn 36 1),
   zz_of (ok_goto G dX9_every_36 rfl) (z_goto _),
   zz_of (ok_iconst G (v := 0) dX9_every_39 (by decide) rfl) (z_cn 40 0),
   zz_of (ok_istore_n G dX9_every_40 rfl rfl (by decide)) (z_ist _ _),
   zz_of (ok_goto G dX9_every_41 rfl) (z_goto _),
   zz_of (ok_iload_n G dX9_every_44 rfl rfl) (z_ild _ _),
   zz_of (ok_zret G dX9_every_45) (z_zret _), trivial⟩

theorem zwX9_every_0_0 {Q : Option zv → zz_M → Prop} {X : Nat → zz_M → Prop} {S L : Nat → Nat → Int}  (h : (∃ (tx_1 : Nat → Int) (n_1 a_1 : Nat), mT S tx_1 n_1 ∧ S 0 9 = a_1 ∧ S 0 10 = -1 ∧ S 0 11 = 6 ∧ a_1 ≤ n_1 ∧ bF (fcS S) ∧ (S 0 13 = 0 ∨ S 0 13 = 1) ∧ (S 0 14 = 0 ∨ S 0 14 = 1) ∧ (∀ w_1 : Nat, atP tx_1 n_1 0 a_1 = .inl w_1 → ∀ (z_1 : Nat) (d_1 : Int), z_1 ≤ n_1 + 0 → (zz_J zpX9_every_0 (zz_ret Q X 0 0) 5 [some (vr 0), some (vi 1), none] [] (zm (pS S z_1 w_1 d_1) L) (0, 0)) ∧ (zz_J zpX9_every_0 (zz_ret Q X 0 0) 5 [some (vr 0), some (vi 0), none] [] (zm (pS S z_1 w_1 d_1) L) (0, 0))) ∧ (∀ c_1 : Nat × (Fc → Bool), atP tx_1 n_1 0 a_1 = .inr c_1 → (c_1.2 (fcS S) = true → (zz_J zpX9_every_0 (zz_ret Q X 0 0) 5 [some (vr 0), some (vi 1), none] [] (zm (pS S c_1.1 (-1) (S 0 11)) L) (0, 0))) ∧ (c_1.2 (fcS S) = false → (zz_J zpX9_every_0 (zz_ret Q X 0 0) 5 [some (vr 0), some (vi 0), none] [] (zm (pS S c_1.1 (-1) (S 0 11)) L) (0, 0)))))) : zz_J zpX9_every_0 (zz_ret Q X 0 0) 0 [some (vr 0), none, none] [] (zm S L) (0, 0) := zz_J.go [(5, [2])] 400 h
theorem zwX9_every_0_5 {Q : Option zv → zz_M → Prop} {X : Nat → zz_M → Prop} {S L : Nat → Nat → Int} {x1 : Int} (h : R32 (S 0 10) ∧ ((¬ (S 0 10) = (-1) → (x1 = 0 ∨ x1 = 1) ∧ (Q (some (vi x1)) (zm S L))) ∧ ((S 0 10) = (-1) → (∃ (tx_1 : Nat → Int) (n_1 a_1 j_1 : Nat), 1012 = 1000 + j_1 ∧ j_1 < 18 ∧ mT S tx_1 n_1 ∧ S 0 9 = a_1 ∧ a_1 ≤ n_1 ∧ (hsW tx_1 n_1 (rn (qB tx_1) n_1 a_1) (wo j_1) = true → ((∃ (tx_2 : Nat → Int) (n_2 a_2 : Nat), mT (mm_up S 0 9 ((rn (qB tx_1) n_1 a_1 + (wo j_1).length : Nat) : Int)) tx_2 n_2 ∧ (mm_up S 0 9 ((rn (qB tx_1) n_1 a_1 + (wo j_1).length : Nat) : Int)) 0 9 = a_2 ∧ (mm_up S 0 9 ((rn (qB tx_1) n_1 a_1 + (wo j_1).length : Nat) : Int)) 0 10 = -1 ∧ (mm_up S 0 9 ((rn (qB tx_1) n_1 a_1 + (wo j_1).length : Nat) : Int)) 0 11 = 6 ∧ a_2 ≤ n_2 ∧ bF (fcS (mm_up S 0 9 ((rn (qB tx_1) n_1 a_1 + (wo j_1).length : Nat) : Int))) ∧ ((mm_up S 0 9 ((rn (qB tx_1) n_1 a_1 + (wo j_1).length : Nat) : Int)) 0 13 = 0 ∨ (mm_up S 0 9 ((rn (qB tx_1) n_1 a_1 + (wo j_1).length : Nat) : Int)) 0 13 = 1) ∧ ((mm_up S 0 9 ((rn (qB tx_1) n_1 a_1 + (wo j_1).length : Nat) : Int)) 0 14 = 0 ∨ (mm_up S 0 9 ((rn (qB tx_1) n_1 a_1 + (wo j_1).length : Nat) : Int)) 0 14 = 1) ∧ (∀ w_2 : Nat, atP tx_2 n_2 0 a_2 = .inl w_2 → ∀ (z_2 : Nat) (d_2 : Int), z_2 ≤ n_2 + 0 → (R32 x1 ∧ ((x1 = 0 → zz_J zpX9_every_0 (zz_ret Q X 0 0) 5 [some (vr 0), some (vi 0), none] [] (zm (pS (mm_up S 0 9 ((rn (qB tx_1) n_1 a_1 + (wo j_1).length : Nat) : Int)) z_2 w_2 d_2) L) (0, 0)) ∧ (¬ x1 = 0 → zz_J zpX9_every_0 (zz_ret Q X 0 0) 5 [some (vr 0), some (vi 1), none] [] (zm (pS (mm_up S 0 9 ((rn (qB tx_1) n_1 a_1 + (wo j_1).length : Nat) : Int)) z_2 w_2 d_2) L) (0, 0)))) ∧ (R32 x1 ∧ ((x1 = 0 → zz_J zpX9_every_0 (zz_ret Q X 0 0) 5 [some (vr 0), some (vi 0), none] [] (zm (pS (mm_up S 0 9 ((rn (qB tx_1) n_1 a_1 + (wo j_1).length : Nat) : Int)) z_2 w_2 d_2) L) (0, 0)) ∧ (¬ x1 = 0 → zz_J zpX9_every_0 (zz_ret Q X 0 0) 5 [some (vr 0), some (vi 0), none] [] (zm (pS (mm_up S 0 9 ((rn (qB tx_1) n_1 a_1 + (wo j_1).length : Nat) : Int)) z_2 w_2 d_2) L) (0, 0))))) ∧ (∀ c_2 : Nat × (Fc → Bool), atP tx_2 n_2 0 a_2 = .inr c_2 → (c_2.2 (fcS (mm_up S 0 9 ((rn (qB tx_1) n_1 a_1 + (wo j_1).length : Nat) : Int))) = true → (R32 x1 ∧ ((x1 = 0 → zz_J zpX9_every_0 (zz_ret Q X 0 0) 5 [some (vr 0), some (vi 0), none] [] (zm (pS (mm_up S 0 9 ((rn (qB tx_1) n_1 a_1 + (wo j_1).length : Nat) : Int)) c_2.1 (-1) ((mm_up S 0 9 ((rn (qB tx_1) n_1 a_1 + (wo j_1).length : Nat) : Int)) 0 11)) L) (0, 0)) ∧ (¬ x1 = 0 → zz_J zpX9_every_0 (zz_ret Q X 0 0) 5 [some (vr 0), some (vi 1), none] [] (zm (pS (mm_up S 0 9 ((rn (qB tx_1) n_1 a_1 + (wo j_1).length : Nat) : Int)) c_2.1 (-1) ((mm_up S 0 9 ((rn (qB tx_1) n_1 a_1 + (wo j_1).length : Nat) : Int)) 0 11)) L) (0, 0))))) ∧ (c_2.2 (fcS (mm_up S 0 9 ((rn (qB tx_1) n_1 a_1 + (wo j_1).length : Nat) : Int))) = false → (R32 x1 ∧ ((x1 = 0 → zz_J zpX9_every_0 (zz_ret Q X 0 0) 5 [some (vr 0), some (vi 0), none] [] (zm (pS (mm_up S 0 9 ((rn (qB tx_1) n_1 a_1 + (wo j_1).length : Nat) : Int)) c_2.1 (-1) ((mm_up S 0 9 ((rn (qB tx_1) n_1 a_1 + (wo j_1).length : Nat) : Int)) 0 11)) L) (0, 0)) ∧ (¬ x1 = 0 → zz_J zpX9_every_0 (zz_ret Q X 0 0) 5 [some (vr 0), some (vi 0), none] [] (zm (pS (mm_up S 0 9 ((rn (qB tx_1) n_1 a_1 + (wo j_1).length : Nat) : Int)) c_2.1 (-1) ((mm_up S 0 9 ((rn (qB tx_1) n_1 a_1 + (wo j_1).length : Nat) : Int)) 0 11)) L) (0, 0))))))))) ∧ (hsW tx_1 n_1 (rn (qB tx_1) n_1 a_1) (wo j_1) = false → ((x1 = 0 ∨ x1 = 1) ∧ (Q (some (vi x1)) (zm (mm_up S 0 9 ((rn (qB tx_1) n_1 a_1 : Nat) : Int)) L)))))))) : zz_J zpX9_every_0 (zz_ret Q X 0 0) 5 [some (vr 0), some (vi x1), none] [] (zm S L) (0, 0) := zz_J.go [(5, [2])] 400 h

theorem zmX9_every_0 (l : Launch) (hl : l.stackTraces = false) : mm_Spec l yX9_every (ws_ yX9_every cX9_every 3 (some .boolean)) (mm_rm 10 0 0) (zE zX9_every_0) := by
  refine zz_Met.J hl (by decide) (fun C G hnh => ztX9_every_0 G hnh) ?_
  rintro as ⟨⟨t_, f⟩, S, L, P⟩ Q X h
  unfold zX9_every_0 at h
  split at h
  rotate_left
  · exact h.elim
  rename_i h_
  obtain ⟨e1_, e2_, h⟩ := mm_and2 h (fun q => q)
  cases mm_beq e1_
  cases mm_beq e2_
  try dsimp only at h
  refine ⟨rfl, ?_⟩
  refine zz_Jev (M' := zm S L) rfl rfl rfl ?_
  obtain ⟨tx, n, a, hT, h9, h10, h11, ha, hF, h13, h14, hq1, hq2⟩ := h
  have hn := hT.1
  have hat := atP_ok hT.2.2.1 (fun a w h e => ptP_w h e) 0
  generalize hd : S 0 11 = d at h11 hq2
  have tw : ∀ (w z : Nat) (x d' : Int), w ≤ n → z ≤ n + 0 → (x = 0 ∨ x = 1) → evP tx n (atP tx n 0) a = .inl w → zz_J zpX9_every_0 (zz_ret Q X 0 0) 5 [some (vr 0), some (vi x), none] [] (zm (pS S z w d') L) (0, 0) := by
    intro w z x d' hw hz hx e
    refine zwX9_every_0_5 ?_
    simp only [pS_r10]
    exact ⟨by omega, fun _ => ⟨hx, bool_qq hx (hq1 w e z d' hz)⟩, fun h => by omega⟩
  have lp : ∀ (k a' : Nat) (g : Fc → Bool) (x : Int), n - a' = k → a' ≤ n → x = (bif g (fcS S) then 1 else 0) → evP tx n (atP tx n 0) a = lpP n (rn (qB tx) n) (spW tx n 12) (atP tx n 0) (fun g h F => g F && h F) a' g → zz_J zpX9_every_0 (zz_ret Q X 0 0) 5 [some (vr 0), some (vi x), none] [] (zm (pS S a' (-1) d) L) (0, 0) := by
    intro k
    induction k using Nat.strongRecOn with
    | ind k ih =>
      intro a' g x hk ha' hx e
      have hb := rn_le (q := qB tx) ha'
      have hx01 : x = 0 ∨ x = 1 := by rw [hx]; cases g (fcS S) <;> simp
      refine zwX9_every_0_5 ?_
      simp only [pS_r10, pS_r9, pS_r11, pS_9, mT_pS, pS_pS, fcS_pS]
      refine ⟨by omega, fun h => absurd trivial h, fun _ => ⟨tx, n, a', 12, rfl, by decide, hT, rfl, ha', fun c => ?_, fun c => ⟨hx01, ?_⟩⟩⟩
      · have hs : spW tx n 12 a' = some (rn (qB tx) n a' + 3) := by unfold spW; rw [if_pos c]; rfl
        have h1 := spW_in (by decide) _ _ ha' hs
        refine ⟨tx, n, rn (qB tx) n a' + 3, hT, rfl, trivial, h11, h1.2, hF, h13, h14, fun w ew z d' hz => ?_, fun c2 ec => ?_⟩
        · rw [lpP_l ha' hs ew] at e
          have hw := (hat _ h1.2).2 w ew
          refine ⟨⟨by omega, fun _ => tw w z 0 d' hw hz (Or.inl rfl) e, fun _ => tw w z 1 d' hw hz (Or.inr rfl) e⟩, ⟨by omega, fun _ => tw w z 0 d' hw hz (Or.inl rfl) e, fun _ => tw w z 0 d' hw hz (Or.inl rfl) e⟩⟩
        · have h2 := (hat _ h1.2).1 c2 ec
          rw [lpP_r (fun a b h1 h2 => spW_in (by decide) a b h1 h2) (fun a c h1 h2 => (hat a h1).1 c h2) ha' hs ec] at e
          refine ⟨fun t => ⟨by omega, fun x0 => ?_, fun x1 => ?_⟩, fun t => ⟨by omega, fun x0 => ?_, fun x1 => ?_⟩⟩
          · refine ih (n - c2.1) (by omega) c2.1 _ 0 rfl h2.2 ?_ e
            rw [t]; revert hx; cases g (fcS S) <;> simp; omega
          · refine ih (n - c2.1) (by omega) c2.1 _ 1 rfl h2.2 ?_ e
            rw [t]; revert hx; cases g (fcS S) <;> simp; omega
          · refine ih (n - c2.1) (by omega) c2.1 _ 0 rfl h2.2 ?_ e
            rw [t]; simp
          · refine ih (n - c2.1) (by omega) c2.1 _ 0 rfl h2.2 ?_ e
            rw [t]; simp
      · have hs : spW tx n 12 a' = none := by unfold spW; rw [if_neg (by rw [c]; decide)]
        rw [lpP_n ha' hs] at e
        have hq := hq2 _ e
        rw [hx]
        revert hq
        show (g (fcS S) = true → _) ∧ (g (fcS S) = false → _) → _
        cases g (fcS S) with
        | true => exact fun hq => hq.1 rfl
        | false => exact fun hq => hq.2 rfl
  refine zwX9_every_0_0 ⟨tx, n, a, hT, h9, h10, by rw [hd]; exact h11, ha, hF, h13, h14, fun w e z d' hz => ?_, fun c e => ?_⟩
  · have hw := (hat a ha).2 w e
    have e2 : evP tx n (atP tx n 0) a = .inl w := seqP_f e
    exact ⟨tw w z 1 d' hw hz (Or.inr rfl) e2, tw w z 0 d' hw hz (Or.inl rfl) e2⟩
  · have hc := (hat a ha).1 c e
    rw [hd]
    exact ⟨fun t => lp _ c.1 c.2 1 rfl hc.2 (by rw [t]; rfl) (seqP_s e), fun t => lp _ c.1 c.2 0 rfl hc.2 (by rw [t]; rfl) (seqP_s e)⟩
def zX9_some_0 : zz_Sp := fun as M Q X => match as with
  | [.inr (.inr (some h_))] => bif Nat.beq h_ 0 && Nat.beq M.1.1 1 then (∃ (tx_ : Nat → Int) (n_ a_ : Nat), mT M.2.1 tx_ n_ ∧ M.2.1 0 9 = a_ ∧ M.2.1 0 10 = -1 ∧ M.2.1 0 11 = 6 ∧ a_ ≤ n_ ∧ bF (fcS M.2.1) ∧ (M.2.1 0 13 = 0 ∨ M.2.1 0 13 = 1) ∧ (M.2.1 0 14 = 0 ∨ M.2.1 0 14 = 1) ∧ (∀ w_ : Nat, soP tx_ n_ (atP tx_ n_ 0) a_ = .inl w_ → ∀ (z_ : Nat) (d_ : Int), z_ ≤ n_ + 0 → Q (some (vi 1)) (zm (pS M.2.1 z_ w_ d_) M.2.2.1) ∧ Q (some (vi 0)) (zm (pS M.2.1 z_ w_ d_) M.2.2.1)) ∧ (∀ c_ : Nat × (Fc → Bool), soP tx_ n_ (atP tx_ n_ 0) a_ = .inr c_ → (c_.2 (fcS M.2.1) = true → Q (some (vi 1)) (zm (pS M.2.1 c_.1 (-1) (M.2.1 0 11)) M.2.2.1)) ∧ (c_.2 (fcS M.2.1) = false → Q (some (vi 0)) (zm (pS M.2.1 c_.1 (-1) (M.2.1 0 11)) M.2.2.1)))) else False
  | _ => False

def zpX9_some_0 : zz_P := [(0, zo_ald 1 0), (1, zo_callv 4 1 8 zX9_every_0), (4, zo_ist 5 1), (5, zo_ald 6 0), (6, zo_get 9 8 0 10), (9, zo_c 10 (vi (-1))), (10, zo_cne false true 13 44), (13, zo_ald 14 0), (14, zo_c 16 (vr 1013)), (16, zo_callv 19 2 8 zX9_has), (19, zo_zifeq 22 44), (22, zo_ald 23 0), (23, zo_callv 26 1 8 zX9_every_0), (26, zo_ist 27 2), (27, zo_ild 28 1), (28, zo_ifne false 31 35), (31, zo_ild 32 2), (32, zo_zifeq 35 39), (35, zo_c 36 (vi 1)), (36, zo_goto 40), (39, zo_c 40 (vi 0)), (40, zo_ist 41 1), (41, zo_goto 5), (44, zo_ild 45 1), (45, zo_zret false)]
theorem ztX9_some_0 {C : mm_C} (G : mm_G C RX9 cX9_some (some .boolean) 3 (mm_rm 11 0 0)) (hnh : mm_nh C) : zz_OKs C zpX9_some_0 :=
  ⟨zz_of (ok_aload_n G dX9_some_0 rfl rfl) (z_ald _ _),
   zz_of (ok_callv G hnh (zmX9_every_0 _ G.hst) rfl rfl (RX9, TX9, 32) rfl q1967 q1969 qs48 q93 q1970 (by decide +kernel) ⟨by decide, by decide⟩ dX9_some_1 rfl) (z_callv _ _ _ _),
   zz_of (ok_istore_n G dX9_some_4 rfl rfl (by decide)) (z_ist _ _),
   zz_of (ok_aload_n G dX9_some_5 rfl rfl) (z_ald _ _),
   zz_of (ok_get G (nx := 9) (ci := 8) (kd := 0) (k := 10) (RX9, TX9, 32) rfl (by decide) rfl q1815 dX9_some_6 rfl) (z_get _ _ _ _),
   zz_of (ok_iconst G (v := (zI (-1))) dX9_some_9 (by decide) rfl) (z_cz 10 (-1)),
   zz_of (ok_cne G dX9_some_10 rfl rfl) (z_cne _ _ _ _),
   zz_of (ok_aload_n G dX9_some_13 rfl rfl) (z_ald _ _),
   zz_of (ok_lds G (tx := "or") (by decide +kernel) dX9_some_14 rfl) (z_cr 16 1013),
   zz_of (ok_callv G hnh (zmX9_has _ G.hst) rfl rfl (RX9, TX9, 32) rfl q1942 q1944 qs45 q93 q1945 (by decide +kernel) ⟨by decide, by decide⟩ dX9_some_16 rfl) (z_callv _ _ _ _),
   zz_of (ok_ifeq G dX9_some_19 rfl rfl) (z_zifeq _ _),
   zz_of (ok_aload_n G dX9_some_22 rfl rfl) (z_ald _ _),
   zz_of (ok_callv G hnh (zmX9_every_0 _ G.hst) rfl rfl (RX9, TX9, 32) rfl q1967 q1969 qs48 q93 q1970 (by decide +kernel) ⟨by decide, by decide⟩ dX9_some_23 rfl) (z_callv _ _ _ _),
   zz_of (ok_istore_n G dX9_some_26 rfl rfl (by decide)) (z_ist _ _),
   zz_of (ok_iload_n G dX9_some_27 rfl rfl) (z_ild _ _),
   zz_of (ok_ifne G dX9_some_28 rfl rfl) (z_ifne _ _ _),
   zz_of (ok_iload_n G dX9_some_31 rfl rfl) (z_ild _ _),
   zz_of (ok_ifeq G dX9_some_32 rfl rfl) (z_zifeq _ _),
   zz_of (ok_iconst G (v := 1) dX9_some_35 (by decide) rfl) (z_cn 36 1),
   zz_of (ok_goto G dX9_some_36 rfl) (z_goto _),
   zz_of (ok_iconst G (v := 0) dX9_some_39 (by decide) rfl) (z_cn 40 0),
   zz_of (ok_istore_n G dX9_some_40 rfl rfl (by decide)) (z_ist _ _),
   zz_of (ok_goto G dX9_some_41 rfl) (z_goto _),
   zz_of (ok_iload_n G dX9_some_44 rfl rfl) (z_ild _ _),
   zz_of (ok_zret G dX9_some_45) (z_zret _), trivial⟩

theorem zwX9_some_0_0 {Q : Option zv → zz_M → Prop} {X : Nat → zz_M → Prop} {S L : Nat → Nat → Int}  (h : (∃ (tx_1 : Nat → Int) (n_1 a_1 : Nat), mT S tx_1 n_1 ∧ S 0 9 = a_1 ∧ S 0 10 = -1 ∧ S 0 11 = 6 ∧ a_1 ≤ n_1 ∧ bF (fcS S) ∧ (S 0 13 = 0 ∨ S 0 13 = 1) ∧ (S 0 14 = 0 ∨ S 0 14 = 1) ∧ (∀ w_1 : Nat, evP tx_1 n_1 (atP tx_1 n_1 0) a_1 = .inl w_1 → ∀ (z_1 : Nat) (d_1 : Int), z_1 ≤ n_1 + 0 → (zz_J zpX9_some_0 (zz_ret Q X 0 0) 5 [some (vr 0), some (vi 1), none] [] (zm (pS S z_1 w_1 d_1) L) (0, 0)) ∧ (zz_J zpX9_some_0 (zz_ret Q X 0 0) 5 [some (vr 0), some (vi 0), none] [] (zm (pS S z_1 w_1 d_1) L) (0, 0))) ∧ (∀ c_1 : Nat × (Fc → Bool), evP tx_1 n_1 (atP tx_1 n_1 0) a_1 = .inr c_1 → (c_1.2 (fcS S) = true → (zz_J zpX9_some_0 (zz_ret Q X 0 0) 5 [some (vr 0), some (vi 1), none] [] (zm (pS S c_1.1 (-1) (S 0 11)) L) (0, 0))) ∧ (c_1.2 (fcS S) = false → (zz_J zpX9_some_0 (zz_ret Q X 0 0) 5 [some (vr 0), some (vi 0), none] [] (zm (pS S c_1.1 (-1) (S 0 11)) L) (0, 0)))))) : zz_J zpX9_some_0 (zz_ret Q X 0 0) 0 [some (vr 0), none, none] [] (zm S L) (0, 0) := zz_J.go [(5, [2])] 400 h
theorem zwX9_some_0_5 {Q : Option zv → zz_M → Prop} {X : Nat → zz_M → Prop} {S L : Nat → Nat → Int} {x1 : Int} (h : R32 (S 0 10) ∧ ((¬ (S 0 10) = (-1) → (x1 = 0 ∨ x1 = 1) ∧ (Q (some (vi x1)) (zm S L))) ∧ ((S 0 10) = (-1) → (∃ (tx_1 : Nat → Int) (n_1 a_1 j_1 : Nat), 1013 = 1000 + j_1 ∧ j_1 < 18 ∧ mT S tx_1 n_1 ∧ S 0 9 = a_1 ∧ a_1 ≤ n_1 ∧ (hsW tx_1 n_1 (rn (qB tx_1) n_1 a_1) (wo j_1) = true → ((∃ (tx_2 : Nat → Int) (n_2 a_2 : Nat), mT (mm_up S 0 9 ((rn (qB tx_1) n_1 a_1 + (wo j_1).length : Nat) : Int)) tx_2 n_2 ∧ (mm_up S 0 9 ((rn (qB tx_1) n_1 a_1 + (wo j_1).length : Nat) : Int)) 0 9 = a_2 ∧ (mm_up S 0 9 ((rn (qB tx_1) n_1 a_1 + (wo j_1).length : Nat) : Int)) 0 10 = -1 ∧ (mm_up S 0 9 ((rn (qB tx_1) n_1 a_1 + (wo j_1).length : Nat) : Int)) 0 11 = 6 ∧ a_2 ≤ n_2 ∧ bF (fcS (mm_up S 0 9 ((rn (qB tx_1) n_1 a_1 + (wo j_1).length : Nat) : Int))) ∧ ((mm_up S 0 9 ((rn (qB tx_1) n_1 a_1 + (wo j_1).length : Nat) : Int)) 0 13 = 0 ∨ (mm_up S 0 9 ((rn (qB tx_1) n_1 a_1 + (wo j_1).length : Nat) : Int)) 0 13 = 1) ∧ ((mm_up S 0 9 ((rn (qB tx_1) n_1 a_1 + (wo j_1).length : Nat) : Int)) 0 14 = 0 ∨ (mm_up S 0 9 ((rn (qB tx_1) n_1 a_1 + (wo j_1).length : Nat) : Int)) 0 14 = 1) ∧ (∀ w_2 : Nat, evP tx_2 n_2 (atP tx_2 n_2 0) a_2 = .inl w_2 → ∀ (z_2 : Nat) (d_2 : Int), z_2 ≤ n_2 + 0 → (R32 x1 ∧ ((¬ x1 = 0 → zz_J zpX9_some_0 (zz_ret Q X 0 0) 5 [some (vr 0), some (vi 1), none] [] (zm (pS (mm_up S 0 9 ((rn (qB tx_1) n_1 a_1 + (wo j_1).length : Nat) : Int)) z_2 w_2 d_2) L) (0, 0)) ∧ (x1 = 0 → zz_J zpX9_some_0 (zz_ret Q X 0 0) 5 [some (vr 0), some (vi 1), none] [] (zm (pS (mm_up S 0 9 ((rn (qB tx_1) n_1 a_1 + (wo j_1).length : Nat) : Int)) z_2 w_2 d_2) L) (0, 0)))) ∧ (R32 x1 ∧ ((¬ x1 = 0 → zz_J zpX9_some_0 (zz_ret Q X 0 0) 5 [some (vr 0), some (vi 1), none] [] (zm (pS (mm_up S 0 9 ((rn (qB tx_1) n_1 a_1 + (wo j_1).length : Nat) : Int)) z_2 w_2 d_2) L) (0, 0)) ∧ (x1 = 0 → zz_J zpX9_some_0 (zz_ret Q X 0 0) 5 [some (vr 0), some (vi 0), none] [] (zm (pS (mm_up S 0 9 ((rn (qB tx_1) n_1 a_1 + (wo j_1).length : Nat) : Int)) z_2 w_2 d_2) L) (0, 0))))) ∧ (∀ c_2 : Nat × (Fc → Bool), evP tx_2 n_2 (atP tx_2 n_2 0) a_2 = .inr c_2 → (c_2.2 (fcS (mm_up S 0 9 ((rn (qB tx_1) n_1 a_1 + (wo j_1).length : Nat) : Int))) = true → (R32 x1 ∧ ((¬ x1 = 0 → zz_J zpX9_some_0 (zz_ret Q X 0 0) 5 [some (vr 0), some (vi 1), none] [] (zm (pS (mm_up S 0 9 ((rn (qB tx_1) n_1 a_1 + (wo j_1).length : Nat) : Int)) c_2.1 (-1) ((mm_up S 0 9 ((rn (qB tx_1) n_1 a_1 + (wo j_1).length : Nat) : Int)) 0 11)) L) (0, 0)) ∧ (x1 = 0 → zz_J zpX9_some_0 (zz_ret Q X 0 0) 5 [some (vr 0), some (vi 1), none] [] (zm (pS (mm_up S 0 9 ((rn (qB tx_1) n_1 a_1 + (wo j_1).length : Nat) : Int)) c_2.1 (-1) ((mm_up S 0 9 ((rn (qB tx_1) n_1 a_1 + (wo j_1).length : Nat) : Int)) 0 11)) L) (0, 0))))) ∧ (c_2.2 (fcS (mm_up S 0 9 ((rn (qB tx_1) n_1 a_1 + (wo j_1).length : Nat) : Int))) = false → (R32 x1 ∧ ((¬ x1 = 0 → zz_J zpX9_some_0 (zz_ret Q X 0 0) 5 [some (vr 0), some (vi 1), none] [] (zm (pS (mm_up S 0 9 ((rn (qB tx_1) n_1 a_1 + (wo j_1).length : Nat) : Int)) c_2.1 (-1) ((mm_up S 0 9 ((rn (qB tx_1) n_1 a_1 + (wo j_1).length : Nat) : Int)) 0 11)) L) (0, 0)) ∧ (x1 = 0 → zz_J zpX9_some_0 (zz_ret Q X 0 0) 5 [some (vr 0), some (vi 0), none] [] (zm (pS (mm_up S 0 9 ((rn (qB tx_1) n_1 a_1 + (wo j_1).length : Nat) : Int)) c_2.1 (-1) ((mm_up S 0 9 ((rn (qB tx_1) n_1 a_1 + (wo j_1).length : Nat) : Int)) 0 11)) L) (0, 0))))))))) ∧ (hsW tx_1 n_1 (rn (qB tx_1) n_1 a_1) (wo j_1) = false → ((x1 = 0 ∨ x1 = 1) ∧ (Q (some (vi x1)) (zm (mm_up S 0 9 ((rn (qB tx_1) n_1 a_1 : Nat) : Int)) L)))))))) : zz_J zpX9_some_0 (zz_ret Q X 0 0) 5 [some (vr 0), some (vi x1), none] [] (zm S L) (0, 0) := zz_J.go [(5, [2])] 400 h

theorem zmX9_some_0 (l : Launch) (hl : l.stackTraces = false) : mm_Spec l yX9_some (ws_ yX9_some cX9_some 3 (some .boolean)) (mm_rm 11 0 0) (zE zX9_some_0) := by
  refine zz_Met.J hl (by decide) (fun C G hnh => ztX9_some_0 G hnh) ?_
  rintro as ⟨⟨t_, f⟩, S, L, P⟩ Q X h
  unfold zX9_some_0 at h
  split at h
  rotate_left
  · exact h.elim
  rename_i h_
  obtain ⟨e1_, e2_, h⟩ := mm_and2 h (fun q => q)
  cases mm_beq e1_
  cases mm_beq e2_
  try dsimp only at h
  refine ⟨rfl, ?_⟩
  refine zz_Jev (M' := zm S L) rfl rfl rfl ?_
  obtain ⟨tx, n, a, hT, h9, h10, h11, ha, hF, h13, h14, hq1, hq2⟩ := h
  have hn := hT.1
  have hat : pOK n (evP tx n (atP tx n 0)) := evP_ok (atP_ok hT.2.2.1 (fun a w h e => ptP_w h e) 0)
  generalize hd : S 0 11 = d at h11 hq2
  have tw : ∀ (w z : Nat) (x d' : Int), w ≤ n → z ≤ n + 0 → (x = 0 ∨ x = 1) → soP tx n (atP tx n 0) a = .inl w → zz_J zpX9_some_0 (zz_ret Q X 0 0) 5 [some (vr 0), some (vi x), none] [] (zm (pS S z w d') L) (0, 0) := by
    intro w z x d' hw hz hx e
    refine zwX9_some_0_5 ?_
    simp only [pS_r10]
    exact ⟨by omega, fun _ => ⟨hx, bool_qq hx (hq1 w e z d' hz)⟩, fun h => by omega⟩
  have lp : ∀ (k a' : Nat) (g : Fc → Bool) (x : Int), n - a' = k → a' ≤ n → x = (bif g (fcS S) then 1 else 0) → soP tx n (atP tx n 0) a = lpP n (rn (qB tx) n) (spW tx n 13) (evP tx n (atP tx n 0)) (fun g h F => g F || h F) a' g → zz_J zpX9_some_0 (zz_ret Q X 0 0) 5 [some (vr 0), some (vi x), none] [] (zm (pS S a' (-1) d) L) (0, 0) := by
    intro k
    induction k using Nat.strongRecOn with
    | ind k ih =>
      intro a' g x hk ha' hx e
      have hb := rn_le (q := qB tx) ha'
      have hx01 : x = 0 ∨ x = 1 := by rw [hx]; cases g (fcS S) <;> simp
      refine zwX9_some_0_5 ?_
      simp only [pS_r10, pS_r9, pS_r11, pS_9, mT_pS, pS_pS, fcS_pS]
      refine ⟨by omega, fun h => absurd trivial h, fun _ => ⟨tx, n, a', 13, rfl, by decide, hT, rfl, ha', fun c => ?_, fun c => ⟨hx01, ?_⟩⟩⟩
      · have hs : spW tx n 13 a' = some (rn (qB tx) n a' + 2) := by unfold spW; rw [if_pos c]; rfl
        have h1 := spW_in (by decide) _ _ ha' hs
        refine ⟨tx, n, rn (qB tx) n a' + 2, hT, rfl, trivial, h11, h1.2, hF, h13, h14, fun w ew z d' hz => ?_, fun c2 ec => ?_⟩
        · rw [lpP_l ha' hs ew] at e
          have hw := (hat _ h1.2).2 w ew
          refine ⟨⟨by omega, fun _ => tw w z 1 d' hw hz (Or.inr rfl) e, fun _ => tw w z 1 d' hw hz (Or.inr rfl) e⟩, ⟨by omega, fun _ => tw w z 1 d' hw hz (Or.inr rfl) e, fun _ => tw w z 0 d' hw hz (Or.inl rfl) e⟩⟩
        · have h2 := (hat _ h1.2).1 c2 ec
          rw [lpP_r (fun a b h1 h2 => spW_in (by decide) a b h1 h2) (fun a c h1 h2 => (hat a h1).1 c h2) ha' hs ec] at e
          refine ⟨fun t => ⟨by omega, fun x0 => ?_, fun x1 => ?_⟩, fun t => ⟨by omega, fun x0 => ?_, fun x1 => ?_⟩⟩
          · refine ih (n - c2.1) (by omega) c2.1 _ 1 rfl h2.2 ?_ e
            rw [t]; simp
          · refine ih (n - c2.1) (by omega) c2.1 _ 1 rfl h2.2 ?_ e
            rw [t]; simp
          · refine ih (n - c2.1) (by omega) c2.1 _ 1 rfl h2.2 ?_ e
            rw [t]; revert hx; cases g (fcS S) <;> simp; omega
          · refine ih (n - c2.1) (by omega) c2.1 _ 0 rfl h2.2 ?_ e
            rw [t]; revert hx; cases g (fcS S) <;> simp; omega
      · have hs : spW tx n 13 a' = none := by unfold spW; rw [if_neg (by rw [c]; decide)]
        rw [lpP_n ha' hs] at e
        have hq := hq2 _ e
        rw [hx]
        revert hq
        show (g (fcS S) = true → _) ∧ (g (fcS S) = false → _) → _
        cases g (fcS S) with
        | true => exact fun hq => hq.1 rfl
        | false => exact fun hq => hq.2 rfl
  refine zwX9_some_0_0 ⟨tx, n, a, hT, h9, h10, by rw [hd]; exact h11, ha, hF, h13, h14, fun w e z d' hz => ?_, fun c e => ?_⟩
  · have hw := (hat a ha).2 w e
    have e2 : soP tx n (atP tx n 0) a = .inl w := seqP_f e
    exact ⟨tw w z 1 d' hw hz (Or.inr rfl) e2, tw w z 0 d' hw hz (Or.inl rfl) e2⟩
  · have hc := (hat a ha).1 c e
    rw [hd]
    exact ⟨fun t => lp _ c.1 c.2 1 rfl hc.2 (by rw [t]; rfl) (seqP_s e), fun t => lp _ c.1 c.2 0 rfl hc.2 (by rw [t]; rfl) (seqP_s e)⟩
def zX9_atom_1 : zz_Sp := fun as M Q X => match as with
  | [.inr (.inr (some h_))] => bif Nat.beq h_ 0 && Nat.beq M.1.1 1 then (∃ (tx_ : Nat → Int) (n_ a_ : Nat), mT M.2.1 tx_ n_ ∧ M.2.1 0 9 = a_ ∧ M.2.1 0 10 = -1 ∧ M.2.1 0 11 = 5 ∧ a_ ≤ n_ ∧ bF (fcS M.2.1) ∧ (M.2.1 0 13 = 0 ∨ M.2.1 0 13 = 1) ∧ (M.2.1 0 14 = 0 ∨ M.2.1 0 14 = 1) ∧ (∀ w_ : Nat, atP tx_ n_ 1 a_ = .inl w_ → ∀ (z_ : Nat) (d_ : Int), z_ ≤ n_ + 1 → Q (some (vi 1)) (zm (pS M.2.1 z_ w_ d_) M.2.2.1) ∧ Q (some (vi 0)) (zm (pS M.2.1 z_ w_ d_) M.2.2.1)) ∧ (∀ c_ : Nat × (Fc → Bool), atP tx_ n_ 1 a_ = .inr c_ → (c_.2 (fcS M.2.1) = true → Q (some (vi 1)) (zm (pS M.2.1 c_.1 (-1) (M.2.1 0 11)) M.2.2.1)) ∧ (c_.2 (fcS M.2.1) = false → Q (some (vi 0)) (zm (pS M.2.1 c_.1 (-1) (M.2.1 0 11)) M.2.2.1)))) else False
  | _ => False

def zpX9_atom_1 : zz_P := [(0, zo_ald 1 0), (1, zo_get 4 8 0 10), (4, zo_c 5 (vi (-1))), (5, zo_ceq false true 8 10), (8, zo_c 9 (vi 0)), (9, zo_zret true), (10, zo_ald 11 0), (11, zo_callv 14 1 8 zX9_skip), (14, zo_ald 15 0), (15, zo_get 18 8 0 9), (18, zo_ist 19 1), (19, zo_ald 20 0), (20, zo_c 22 (vr 1009)), (22, zo_callv 25 2 8 zX9_has), (25, zo_ist 26 2), (26, zo_ild 27 2), (27, zo_ifne false 30 44), (30, zo_ald 31 0), (31, zo_c 33 (vi 40)), (33, zo_callv 36 2 8 zX9_isSign), (36, zo_zifne 39 44), (39, zo_ald 40 0), (40, zo_callv 43 1 8 zX9_plainCond), (43, zo_zret true), (44, zo_ald 45 0), (45, zo_get 48 8 0 11), (48, zo_c 50 (vi 6)), (50, zo_cne false true 53 60), (53, zo_ald 54 0), (54, zo_ild 55 1), (55, zo_callv 58 2 8 zX9_wrong), (58, zo_c 59 (vi 0)), (59, zo_zret true), (60, zo_ald 61 0), (61, zo_dup 62), (62, zo_get 65 8 0 11), (65, zo_c 66 (vi 1)), (66, zo_iadd 67), (67, zo_puti 70 8 11), (70, zo_c 71 (vi 0)), (71, zo_ist 72 3), (72, zo_ild 73 2), (73, zo_ifeq false 76 92), (76, zo_ald 77 0), (77, zo_callv 80 1 8 zX9_atom_0), (80, zo_zifne 83 87), (83, zo_c 84 (vi 1)), (84, zo_goto 88), (87, zo_c 88 (vi 0)), (88, zo_ist 89 3), (89, zo_goto 142), (92, zo_ald 93 0), (93, zo_dup 94), (94, zo_get 97 8 0 9), (97, zo_c 98 (vi 1)), (98, zo_iadd 99), (99, zo_puti 102 8 9), (102, zo_ald 103 0), (103, zo_callv 106 1 8 zX9_some_0), (106, zo_ist 107 3), (107, zo_ald 108 0), (108, zo_get 111 8 0 10), (111, zo_c 112 (vi (-1))), (112, zo_cne false true 115 132), (115, zo_ald 116 0), (116, zo_c 118 (vi 41)), (118, zo_callv 121 2 8 zX9_isSign), (121, zo_zifne 124 132), (124, zo_ald 125 0), (125, zo_ald 126 0), (126, zo_get 129 8 0 9), (129, zo_callv 132 2 8 zX9_wrong), (132, zo_ald 133 0), (133, zo_dup 134), (134, zo_get 137 8 0 9), (137, zo_c 138 (vi 1)), (138, zo_iadd 139), (139, zo_puti 142 8 9), (142, zo_ald 143 0), (143, zo_dup 144), (144, zo_get 147 8 0 11), (147, zo_c 148 (vi 1)), (148, zo_isub 149), (149, zo_puti 152 8 11), (152, zo_ild 153 3), (153, zo_zret false)]
theorem ztX9_atom_1 {C : mm_C} (G : mm_G C RX9 cX9_atom (some .boolean) 4 (mm_rm 12 0 0)) (hnh : mm_nh C) : zz_OKs C zpX9_atom_1 :=
  ⟨zz_of (ok_aload_n G dX9_atom_0 rfl rfl) (z_ald _ _),
   zz_of (ok_get G (nx := 4) (ci := 8) (kd := 0) (k := 10) (RX9, TX9, 32) rfl (by decide) rfl q1815 dX9_atom_1 rfl) (z_get _ _ _ _),
   zz_of (ok_iconst G (v := (zI (-1))) dX9_atom_4 (by decide) rfl) (z_cz 5 (-1)),
   zz_of (ok_ceq G dX9_atom_5 rfl rfl) (z_ceq _ _ _ _),
   zz_of (ok_iconst G (v := 0) dX9_atom_8 (by decide) rfl) (z_cn 9 0),
   zz_of (ok_zret G dX9_atom_9) (z_zret _),
   zz_of (ok_aload_n G dX9_atom_10 rfl rfl) (z_ald _ _),
   zz_of (ok_callv G hnh (zmX9_skip _ G.hst) rfl rfl (RX9, TX9, 32) rfl q1925 q1927 qs41 q93 q1928 (by decide +kernel) ⟨by decide, by decide⟩ dX9_atom_11 rfl) (z_callv _ _ _ _),
   zz_of (ok_aload_n G dX9_atom_14 rfl rfl) (z_ald _ _),
   zz_of (ok_get G (nx := 18) (ci := 8) (kd := 0) (k := 9) (RX9, TX9, 32) rfl (by decide) rfl q1814 dX9_atom_15 rfl) (z_get _ _ _ _),
   zz_of (ok_istore_n G dX9_atom_18 rfl rfl (by decide)) (z_ist _ _),
   zz_of (ok_aload_n G dX9_atom_19 rfl rfl) (z_ald _ _),
   zz_of (ok_lds G (tx := "not") (by decide +kernel) dX9_atom_20 rfl) (z_cr 22 1009),
   zz_of (ok_callv G hnh (zmX9_has _ G.hst) rfl rfl (RX9, TX9, 32) rfl q1942 q1944 qs45 q93 q1945 (by decide +kernel) ⟨by decide, by decide⟩ dX9_atom_22 rfl) (z_callv _ _ _ _),
   zz_of (ok_istore_n G dX9_atom_25 rfl rfl (by decide)) (z_ist _ _),
   zz_of (ok_iload_n G dX9_atom_26 rfl rfl) (z_ild _ _),
   zz_of (ok_ifne G dX9_atom_27 rfl rfl) (z_ifne _ _ _),
   zz_of (ok_aload_n G dX9_atom_30 rfl rfl) (z_ald _ _),
   zz_of (ok_bipush G (v := 40) dX9_atom_31 (by decide) rfl) (z_cn 33 40),
   zz_of (ok_callv G hnh (zmX9_isSign _ G.hst) rfl rfl (RX9, TX9, 32) rfl q1976 q1978 qs50 q93 q1979 (by decide +kernel) ⟨by decide, by decide⟩ dX9_atom_33 rfl) (z_callv _ _ _ _),
   zz_of (ok_ifne G dX9_atom_36 rfl rfl) (z_zifne _ _),
   zz_of (ok_aload_n G dX9_atom_39 rfl rfl) (z_ald _ _),
   zz_of (ok_callv G hnh (zmX9_plainCond _ G.hst) rfl rfl (RX9, TX9, 32) rfl q1980 q1982 qs51 q93 q1983 (by decide +kernel) ⟨by decide, by decide⟩ dX9_atom_40 rfl) (z_callv _ _ _ _),
   zz_of (ok_zret G dX9_atom_43) (z_zret _),
   zz_of (ok_aload_n G dX9_atom_44 rfl rfl) (z_ald _ _),
   zz_of (ok_get G (nx := 48) (ci := 8) (kd := 0) (k := 11) (RX9, TX9, 32) rfl (by decide) rfl q1816 dX9_atom_45 rfl) (z_get _ _ _ _),
   zz_of (ok_bipush G (v := 6) dX9_atom_48 (by decide) rfl) (z_cn 50 6),
   zz_of (ok_cne G dX9_atom_50 rfl rfl) (z_cne _ _ _ _),
   zz_of (ok_aload_n G dX9_atom_53 rfl rfl) (z_ald _ _),
   zz_of (ok_iload_n G dX9_atom_54 rfl rfl) (z_ild _ _),
   zz_of (ok_callv G hnh (zmX9_wrong _ G.hst) rfl rfl (RX9, TX9, 32) rfl q1933 q1935 qs43 q93 q1936 (by decide +kernel) ⟨by decide, by decide⟩ dX9_atom_55 rfl) (z_callv _ _ _ _),
   zz_of (ok_iconst G (v := 0) dX9_atom_58 (by decide) rfl) (z_cn 59 0),
   zz_of (ok_zret G dX9_atom_59) (z_zret _),
   zz_of (ok_aload_n G dX9_atom_60 rfl rfl) (z_ald _ _),
   zz_of (ok_dup G dX9_atom_61 rfl) (z_dup _),
   zz_of (ok_get G (nx := 65) (ci := 8) (kd := 0) (k := 11) (RX9, TX9, 32) rfl (by decide) rfl q1816 dX9_atom_62 rfl) (z_get _ _ _ _),
   zz_of (ok_iconst G (v := 1) dX9_atom_65 (by decide) rfl) (z_cn 66 1),
   zz_of (ok_iadd G dX9_atom_66 rfl) (z_iadd _),
   zz_of (ok_puti G (nx := 70) (idx := 129) (ci := 8) (k := 11) (RX9, TX9, 32) rfl (by decide) rfl (mm_pw G (ci := 8) (k := 11) (RX9, TX9, 32) rfl (by decide) rfl q1816 dX9_atom_67) rfl) (z_puti _ _ _),
   zz_of (ok_iconst G (v := 0) dX9_atom_70 (by decide) rfl) (z_cn 71 0),
   zz_of (ok_istore_n G dX9_atom_71 rfl rfl (by decide)) (z_ist _ _),
   zz_of (ok_iload_n G dX9_atom_72 rfl rfl) (z_ild _ _),
   zz_of (ok_ifeq G dX9_atom_73 rfl rfl) (z_ifeq _ _ _),
   zz_of (ok_aload_n G dX9_atom_76 rfl rfl) (z_ald _ _),
   zz_of (ok_callv G hnh (zmX9_atom_0 _ G.hst) rfl rfl (RX9, TX9, 32) rfl q1971 q1973 qs49 q93 q1974 (by decide +kernel) ⟨by decide, by decide⟩ dX9_atom_77 rfl) (z_callv _ _ _ _),
   zz_of (ok_ifne G dX9_atom_80 rfl rfl) (z_zifne _ _),
   zz_of (ok_iconst G (v := 1) dX9_atom_83 (by decide) rfl) (z_cn 84 1),
   zz_of (ok_goto G dX9_atom_84 rfl) (z_goto _),
   zz_of (ok_iconst G (v := 0) dX9_atom_87 (by decide) rfl) (z_cn 88 0),
   zz_of (ok_istore_n G dX9_atom_88 rfl rfl (by decide)) (z_ist _ _),
   zz_of (ok_goto G dX9_atom_89 rfl) (z_goto _),
   zz_of (ok_aload_n G dX9_atom_92 rfl rfl) (z_ald _ _),
   zz_of (ok_dup G dX9_atom_93 rfl) (z_dup _),
   zz_of (ok_get G (nx := 97) (ci := 8) (kd := 0) (k := 9) (RX9, TX9, 32) rfl (by decide) rfl q1814 dX9_atom_94 rfl) (z_get _ _ _ _),
   zz_of (ok_iconst G (v := 1) dX9_atom_97 (by decide) rfl) (z_cn 98 1),
   zz_of (ok_iadd G dX9_atom_98 rfl) (z_iadd _),
   zz_of (ok_puti G (nx := 102) (idx := 80) (ci := 8) (k := 9) (RX9, TX9, 32) rfl (by decide) rfl (mm_pw G (ci := 8) (k := 9) (RX9, TX9, 32) rfl (by decide) rfl q1814 dX9_atom_99) rfl) (z_puti _ _ _),
   zz_of (ok_aload_n G dX9_atom_102 rfl rfl) (z_ald _ _),
   zz_of (ok_callv G hnh (zmX9_some_0 _ G.hst) rfl rfl (RX9, TX9, 32) rfl q1963 q1965 qs47 q93 q1966 (by decide +kernel) ⟨by decide, by decide⟩ dX9_atom_103 rfl) (z_callv _ _ _ _),
   zz_of (ok_istore_n G dX9_atom_106 rfl rfl (by decide)) (z_ist _ _),
   zz_of (ok_aload_n G dX9_atom_107 rfl rfl) (z_ald _ _),
   zz_of (ok_get G (nx := 111) (ci := 8) (kd := 0) (k := 10) (RX9, TX9, 32) rfl (by decide) rfl q1815 dX9_atom_108 rfl) (z_get _ _ _ _),
   zz_of (ok_iconst G (v := (zI (-1))) dX9_atom_111 (by decide) rfl) (z_cz 112 (-1)),
   zz_of (ok_cne G dX9_atom_112 rfl rfl) (z_cne _ _ _ _),
   zz_of (ok_aload_n G dX9_atom_115 rfl rfl) (z_ald _ _),
   zz_of (ok_bipush G (v := 41) dX9_atom_116 (by decide) rfl) (z_cn 118 41),
   zz_of (ok_callv G hnh (zmX9_isSign _ G.hst) rfl rfl (RX9, TX9, 32) rfl q1976 q1978 qs50 q93 q1979 (by decide +kernel) ⟨by decide, by decide⟩ dX9_atom_118 rfl) (z_callv _ _ _ _),
   zz_of (ok_ifne G dX9_atom_121 rfl rfl) (z_zifne _ _),
   zz_of (ok_aload_n G dX9_atom_124 rfl rfl) (z_ald _ _),
   zz_of (ok_aload_n G dX9_atom_125 rfl rfl) (z_ald _ _),
   zz_of (ok_get G (nx := 129) (ci := 8) (kd := 0) (k := 9) (RX9, TX9, 32) rfl (by decide) rfl q1814 dX9_atom_126 rfl) (z_get _ _ _ _),
   zz_of (ok_callv G hnh (zmX9_wrong _ G.hst) rfl rfl (RX9, TX9, 32) rfl q1933 q1935 qs43 q93 q1936 (by decide +kernel) ⟨by decide, by decide⟩ dX9_atom_129 rfl) (z_callv _ _ _ _),
   zz_of (ok_aload_n G dX9_atom_132 rfl rfl) (z_ald _ _),
   zz_of (ok_dup G dX9_atom_133 rfl) (z_dup _),
   zz_of (ok_get G (nx := 137) (ci := 8) (kd := 0) (k := 9) (RX9, TX9, 32) rfl (by decide) rfl q1814 dX9_atom_134 rfl) (z_get _ _ _ _),
   zz_of (ok_iconst G (v := 1) dX9_atom_137 (by decide) rfl) (z_cn 138 1),
   zz_of (ok_iadd G dX9_atom_138 rfl) (z_iadd _),
   zz_of (ok_puti G (nx := 142) (idx := 80) (ci := 8) (k := 9) (RX9, TX9, 32) rfl (by decide) rfl (mm_pw G (ci := 8) (k := 9) (RX9, TX9, 32) rfl (by decide) rfl q1814 dX9_atom_139) rfl) (z_puti _ _ _),
   zz_of (ok_aload_n G dX9_atom_142 rfl rfl) (z_ald _ _),
   zz_of (ok_dup G dX9_atom_143 rfl) (z_dup _),
   zz_of (ok_get G (nx := 147) (ci := 8) (kd := 0) (k := 11) (RX9, TX9, 32) rfl (by decide) rfl q1816 dX9_atom_144 rfl) (z_get _ _ _ _),
   zz_of (ok_iconst G (v := 1) dX9_atom_147 (by decide) rfl) (z_cn 148 1),
   zz_of (ok_isub G dX9_atom_148 rfl) (z_isub _),
   zz_of (ok_puti G (nx := 152) (idx := 129) (ci := 8) (k := 11) (RX9, TX9, 32) rfl (by decide) rfl (mm_pw G (ci := 8) (k := 11) (RX9, TX9, 32) rfl (by decide) rfl q1816 dX9_atom_149) rfl) (z_puti _ _ _),
   zz_of (ok_iload_n G dX9_atom_152 rfl rfl) (z_ild _ _),
   zz_of (ok_zret G dX9_atom_153) (z_zret _), trivial⟩

theorem zwX9_atom_1_0 {Q : Option zv → zz_M → Prop} {X : Nat → zz_M → Prop} {S L : Nat → Nat → Int}  (h : R32 (S 0 10) ∧ (((S 0 10) = (-1) → (∃ (tx_1 : Nat → Int) (n_1 a_1 : Nat), mT S tx_1 n_1 ∧ S 0 9 = a_1 ∧ a_1 ≤ n_1 + 1000 ∧ ((∃ (tx_2 : Nat → Int) (n_2 a_2 j_2 : Nat), 1009 = 1000 + j_2 ∧ j_2 < 18 ∧ mT (mm_up S 0 9 ((rn (qB tx_1) n_1 a_1 : Nat) : Int)) tx_2 n_2 ∧ (mm_up S 0 9 ((rn (qB tx_1) n_1 a_1 : Nat) : Int)) 0 9 = a_2 ∧ a_2 ≤ n_2 ∧ (hsW tx_2 n_2 (rn (qB tx_2) n_2 a_2) (wo j_2) = true → (zz_J zpX9_atom_1 (zz_ret Q X 0 0) 26 [some (vr 0), some (vi ((rn (qB tx_1) n_1 a_1 : Nat) : Int)), some (vi 1), none] [] (zm (mm_up (mm_up S 0 9 ((rn (qB tx_1) n_1 a_1 : Nat) : Int)) 0 9 ((rn (qB tx_2) n_2 a_2 + (wo j_2).length : Nat) : Int)) L) (0, 0))) ∧ (hsW tx_2 n_2 (rn (qB tx_2) n_2 a_2) (wo j_2) = false → (zz_J zpX9_atom_1 (zz_ret Q X 0 0) 26 [some (vr 0), some (vi ((rn (qB tx_1) n_1 a_1 : Nat) : Int)), some (vi 0), none] [] (zm (mm_up (mm_up S 0 9 ((rn (qB tx_1) n_1 a_1 : Nat) : Int)) 0 9 ((rn (qB tx_2) n_2 a_2 : Nat) : Int)) L) (0, 0))))))) ∧ (¬ (S 0 10) = (-1) → Q (some (vi 0)) (zm S L)))) : zz_J zpX9_atom_1 (zz_ret Q X 0 0) 0 [some (vr 0), none, none, none] [] (zm S L) (0, 0) := zz_J.go [(26, [3]), (44, [3]), (107, [1, 2]), (132, [1, 2]), (142, [1, 2])] 400 h
theorem zwX9_atom_1_26 {Q : Option zv → zz_M → Prop} {X : Nat → zz_M → Prop} {S L : Nat → Nat → Int} {x1 : Int} {x2 : Int} (h : R32 x2 ∧ ((¬ x2 = 0 → zz_J zpX9_atom_1 (zz_ret Q X 0 0) 44 [some (vr 0), some (vi x1), some (vi x2), none] [] (zm S L) (0, 0)) ∧ (x2 = 0 → (∃ (tx_1 : Nat → Int) (n_1 a_1 : Nat), R32 (40 : Int) ∧ mT S tx_1 n_1 ∧ S 0 9 = a_1 ∧ a_1 ≤ n_1 ∧ (isSg tx_1 n_1 (rn (qB tx_1) n_1 a_1) (40 : Int) = true → (zz_J zpX9_atom_1 (zz_ret Q X 0 0) 44 [some (vr 0), some (vi x1), some (vi x2), none] [] (zm (mm_up S 0 9 ((rn (qB tx_1) n_1 a_1 : Nat) : Int)) L) (0, 0))) ∧ (isSg tx_1 n_1 (rn (qB tx_1) n_1 a_1) (40 : Int) = false → ((∃ (tx_2 : Nat → Int) (n_2 a_2 : Nat), mT (mm_up S 0 9 ((rn (qB tx_1) n_1 a_1 : Nat) : Int)) tx_2 n_2 ∧ (mm_up S 0 9 ((rn (qB tx_1) n_1 a_1 : Nat) : Int)) 0 9 = a_2 ∧ (mm_up S 0 9 ((rn (qB tx_1) n_1 a_1 : Nat) : Int)) 0 10 = -1 ∧ a_2 ≤ n_2 ∧ bF (fcS (mm_up S 0 9 ((rn (qB tx_1) n_1 a_1 : Nat) : Int))) ∧ ((mm_up S 0 9 ((rn (qB tx_1) n_1 a_1 : Nat) : Int)) 0 13 = 0 ∨ (mm_up S 0 9 ((rn (qB tx_1) n_1 a_1 : Nat) : Int)) 0 13 = 1) ∧ ((mm_up S 0 9 ((rn (qB tx_1) n_1 a_1 : Nat) : Int)) 0 14 = 0 ∨ (mm_up S 0 9 ((rn (qB tx_1) n_1 a_1 : Nat) : Int)) 0 14 = 1) ∧ (∀ w_2 : Nat, plP tx_2 n_2 a_2 = .inl w_2 → ∀ (z_2 : Nat) (d_2 : Int), z_2 ≤ n_2 → (Q (some (vi 1)) (zm (pS (mm_up S 0 9 ((rn (qB tx_1) n_1 a_1 : Nat) : Int)) z_2 w_2 d_2) L)) ∧ (Q (some (vi 0)) (zm (pS (mm_up S 0 9 ((rn (qB tx_1) n_1 a_1 : Nat) : Int)) z_2 w_2 d_2) L))) ∧ (∀ c_2 : Nat × (Fc → Bool), plP tx_2 n_2 a_2 = .inr c_2 → (c_2.2 (fcS (mm_up S 0 9 ((rn (qB tx_1) n_1 a_1 : Nat) : Int))) = true → (Q (some (vi 1)) (zm (pS (mm_up S 0 9 ((rn (qB tx_1) n_1 a_1 : Nat) : Int)) c_2.1 (-1) ((mm_up S 0 9 ((rn (qB tx_1) n_1 a_1 : Nat) : Int)) 0 11)) L))) ∧ (c_2.2 (fcS (mm_up S 0 9 ((rn (qB tx_1) n_1 a_1 : Nat) : Int))) = false → (Q (some (vi 0)) (zm (pS (mm_up S 0 9 ((rn (qB tx_1) n_1 a_1 : Nat) : Int)) c_2.1 (-1) ((mm_up S 0 9 ((rn (qB tx_1) n_1 a_1 : Nat) : Int)) 0 11)) L))))))))))) : zz_J zpX9_atom_1 (zz_ret Q X 0 0) 26 [some (vr 0), some (vi x1), some (vi x2), none] [] (zm S L) (0, 0) := zz_J.go [(26, [3]), (44, [3]), (107, [1, 2]), (132, [1, 2]), (142, [1, 2])] 400 h
theorem zwX9_atom_1_44 {Q : Option zv → zz_M → Prop} {X : Nat → zz_M → Prop} {S L : Nat → Nat → Int} {x1 : Int} {x2 : Int} (h : R32 (S 0 11) ∧ ((¬ (S 0 11) = 6 → R32 x2 ∧ ((x2 = 0 → (∃ (tx_1 : Nat → Int) (n_1 a_1 : Nat), mT (mm_up (mm_up S 0 11 ((S 0 11) + 1)) 0 9 ((S 0 9) + 1)) tx_1 n_1 ∧ (mm_up (mm_up S 0 11 ((S 0 11) + 1)) 0 9 ((S 0 9) + 1)) 0 9 = a_1 ∧ (mm_up (mm_up S 0 11 ((S 0 11) + 1)) 0 9 ((S 0 9) + 1)) 0 10 = -1 ∧ (mm_up (mm_up S 0 11 ((S 0 11) + 1)) 0 9 ((S 0 9) + 1)) 0 11 = 6 ∧ a_1 ≤ n_1 ∧ bF (fcS (mm_up (mm_up S 0 11 ((S 0 11) + 1)) 0 9 ((S 0 9) + 1))) ∧ ((mm_up (mm_up S 0 11 ((S 0 11) + 1)) 0 9 ((S 0 9) + 1)) 0 13 = 0 ∨ (mm_up (mm_up S 0 11 ((S 0 11) + 1)) 0 9 ((S 0 9) + 1)) 0 13 = 1) ∧ ((mm_up (mm_up S 0 11 ((S 0 11) + 1)) 0 9 ((S 0 9) + 1)) 0 14 = 0 ∨ (mm_up (mm_up S 0 11 ((S 0 11) + 1)) 0 9 ((S 0 9) + 1)) 0 14 = 1) ∧ (∀ w_1 : Nat, soP tx_1 n_1 (atP tx_1 n_1 0) a_1 = .inl w_1 → ∀ (z_1 : Nat) (d_1 : Int), z_1 ≤ n_1 + 0 → (zz_J zpX9_atom_1 (zz_ret Q X 0 0) 107 [some (vr 0), none, none, some (vi 1)] [] (zm (pS (mm_up (mm_up S 0 11 ((S 0 11) + 1)) 0 9 ((S 0 9) + 1)) z_1 w_1 d_1) L) (0, 0)) ∧ (zz_J zpX9_atom_1 (zz_ret Q X 0 0) 107 [some (vr 0), none, none, some (vi 0)] [] (zm (pS (mm_up (mm_up S 0 11 ((S 0 11) + 1)) 0 9 ((S 0 9) + 1)) z_1 w_1 d_1) L) (0, 0))) ∧ (∀ c_1 : Nat × (Fc → Bool), soP tx_1 n_1 (atP tx_1 n_1 0) a_1 = .inr c_1 → (c_1.2 (fcS (mm_up (mm_up S 0 11 ((S 0 11) + 1)) 0 9 ((S 0 9) + 1))) = true → (zz_J zpX9_atom_1 (zz_ret Q X 0 0) 107 [some (vr 0), none, none, some (vi 1)] [] (zm (pS (mm_up (mm_up S 0 11 ((S 0 11) + 1)) 0 9 ((S 0 9) + 1)) c_1.1 (-1) ((mm_up (mm_up S 0 11 ((S 0 11) + 1)) 0 9 ((S 0 9) + 1)) 0 11)) L) (0, 0))) ∧ (c_1.2 (fcS (mm_up (mm_up S 0 11 ((S 0 11) + 1)) 0 9 ((S 0 9) + 1))) = false → (zz_J zpX9_atom_1 (zz_ret Q X 0 0) 107 [some (vr 0), none, none, some (vi 0)] [] (zm (pS (mm_up (mm_up S 0 11 ((S 0 11) + 1)) 0 9 ((S 0 9) + 1)) c_1.1 (-1) ((mm_up (mm_up S 0 11 ((S 0 11) + 1)) 0 9 ((S 0 9) + 1)) 0 11)) L) (0, 0)))))) ∧ (¬ x2 = 0 → (∃ (tx_2 : Nat → Int) (n_2 a_2 : Nat), mT (mm_up S 0 11 ((S 0 11) + 1)) tx_2 n_2 ∧ (mm_up S 0 11 ((S 0 11) + 1)) 0 9 = a_2 ∧ (mm_up S 0 11 ((S 0 11) + 1)) 0 10 = -1 ∧ (mm_up S 0 11 ((S 0 11) + 1)) 0 11 = 6 ∧ a_2 ≤ n_2 ∧ bF (fcS (mm_up S 0 11 ((S 0 11) + 1))) ∧ ((mm_up S 0 11 ((S 0 11) + 1)) 0 13 = 0 ∨ (mm_up S 0 11 ((S 0 11) + 1)) 0 13 = 1) ∧ ((mm_up S 0 11 ((S 0 11) + 1)) 0 14 = 0 ∨ (mm_up S 0 11 ((S 0 11) + 1)) 0 14 = 1) ∧ (∀ w_2 : Nat, atP tx_2 n_2 0 a_2 = .inl w_2 → ∀ (z_2 : Nat) (d_2 : Int), z_2 ≤ n_2 + 0 → (zz_J zpX9_atom_1 (zz_ret Q X 0 0) 142 [some (vr 0), none, none, some (vi 0)] [] (zm (pS (mm_up S 0 11 ((S 0 11) + 1)) z_2 w_2 d_2) L) (0, 0)) ∧ (zz_J zpX9_atom_1 (zz_ret Q X 0 0) 142 [some (vr 0), none, none, some (vi 1)] [] (zm (pS (mm_up S 0 11 ((S 0 11) + 1)) z_2 w_2 d_2) L) (0, 0))) ∧ (∀ c_2 : Nat × (Fc → Bool), atP tx_2 n_2 0 a_2 = .inr c_2 → (c_2.2 (fcS (mm_up S 0 11 ((S 0 11) + 1))) = true → (zz_J zpX9_atom_1 (zz_ret Q X 0 0) 142 [some (vr 0), none, none, some (vi 0)] [] (zm (pS (mm_up S 0 11 ((S 0 11) + 1)) c_2.1 (-1) ((mm_up S 0 11 ((S 0 11) + 1)) 0 11)) L) (0, 0))) ∧ (c_2.2 (fcS (mm_up S 0 11 ((S 0 11) + 1))) = false → (zz_J zpX9_atom_1 (zz_ret Q X 0 0) 142 [some (vr 0), none, none, some (vi 1)] [] (zm (pS (mm_up S 0 11 ((S 0 11) + 1)) c_2.1 (-1) ((mm_up S 0 11 ((S 0 11) + 1)) 0 11)) L) (0, 0)))))))) ∧ ((S 0 11) = 6 → (R32 (S 0 10) ∧ (Q (some (vi 0)) (zm (mm_up S 0 10 (wrF (S 0 10) x1)) L)))))) : zz_J zpX9_atom_1 (zz_ret Q X 0 0) 44 [some (vr 0), some (vi x1), some (vi x2), none] [] (zm S L) (0, 0) := zz_J.go [(26, [3]), (44, [3]), (107, [1, 2]), (132, [1, 2]), (142, [1, 2])] 400 h
theorem zwX9_atom_1_107 {Q : Option zv → zz_M → Prop} {X : Nat → zz_M → Prop} {S L : Nat → Nat → Int} {x3 : Int} (h : R32 (S 0 10) ∧ ((¬ (S 0 10) = (-1) → zz_J zpX9_atom_1 (zz_ret Q X 0 0) 132 [some (vr 0), none, none, some (vi x3)] [] (zm S L) (0, 0)) ∧ ((S 0 10) = (-1) → (∃ (tx_1 : Nat → Int) (n_1 a_1 : Nat), R32 (41 : Int) ∧ mT S tx_1 n_1 ∧ S 0 9 = a_1 ∧ a_1 ≤ n_1 ∧ (isSg tx_1 n_1 (rn (qB tx_1) n_1 a_1) (41 : Int) = true → (zz_J zpX9_atom_1 (zz_ret Q X 0 0) 132 [some (vr 0), none, none, some (vi x3)] [] (zm (mm_up S 0 9 ((rn (qB tx_1) n_1 a_1 : Nat) : Int)) L) (0, 0))) ∧ (isSg tx_1 n_1 (rn (qB tx_1) n_1 a_1) (41 : Int) = false → ((R32 ((mm_up S 0 9 ((rn (qB tx_1) n_1 a_1 : Nat) : Int)) 0 10) ∧ (zz_J zpX9_atom_1 (zz_ret Q X 0 0) 132 [some (vr 0), none, none, some (vi x3)] [] (zm (mm_up (mm_up S 0 9 ((rn (qB tx_1) n_1 a_1 : Nat) : Int)) 0 10 (wrF ((mm_up S 0 9 ((rn (qB tx_1) n_1 a_1 : Nat) : Int)) 0 10) ((rn (qB tx_1) n_1 a_1 : Nat) : Int))) L) (0, 0))))))))) : zz_J zpX9_atom_1 (zz_ret Q X 0 0) 107 [some (vr 0), none, none, some (vi x3)] [] (zm S L) (0, 0) := zz_J.go [(26, [3]), (44, [3]), (107, [1, 2]), (132, [1, 2]), (142, [1, 2])] 400 h
theorem zwX9_atom_1_132 {Q : Option zv → zz_M → Prop} {X : Nat → zz_M → Prop} {S L : Nat → Nat → Int} {x3 : Int} (h : zz_J zpX9_atom_1 (zz_ret Q X 0 0) 142 [some (vr 0), none, none, some (vi x3)] [] (zm (mm_up S 0 9 ((S 0 9) + 1)) L) (0, 0)) : zz_J zpX9_atom_1 (zz_ret Q X 0 0) 132 [some (vr 0), none, none, some (vi x3)] [] (zm S L) (0, 0) := zz_J.go [(26, [3]), (44, [3]), (107, [1, 2]), (132, [1, 2]), (142, [1, 2])] 400 h
theorem zwX9_atom_1_142 {Q : Option zv → zz_M → Prop} {X : Nat → zz_M → Prop} {S L : Nat → Nat → Int} {x3 : Int} (h : (x3 = 0 ∨ x3 = 1) ∧ (Q (some (vi x3)) (zm (mm_up S 0 11 ((S 0 11) - 1)) L))) : zz_J zpX9_atom_1 (zz_ret Q X 0 0) 142 [some (vr 0), none, none, some (vi x3)] [] (zm S L) (0, 0) := zz_J.go [(26, [3]), (44, [3]), (107, [1, 2]), (132, [1, 2]), (142, [1, 2])] 400 h

theorem zmX9_atom_1 (l : Launch) (hl : l.stackTraces = false) : mm_Spec l yX9_atom (ws_ yX9_atom cX9_atom 4 (some .boolean)) (mm_rm 12 0 0) (zE zX9_atom_1) := by
  refine zz_Met.J hl (by decide) (fun C G hnh => ztX9_atom_1 G hnh) ?_
  rintro as ⟨⟨t_, f⟩, S, L, P⟩ Q X h
  unfold zX9_atom_1 at h
  split at h
  rotate_left
  · exact h.elim
  rename_i h_
  obtain ⟨e1_, e2_, h⟩ := mm_and2 h (fun q => q)
  cases mm_beq e1_
  cases mm_beq e2_
  try dsimp only at h
  refine ⟨rfl, ?_⟩
  refine zz_Jev (M' := zm S L) rfl rfl rfl ?_
  obtain ⟨tx, n, a, hT, h9, h10, h11, ha, hF, h13, h14, hq1, hq2⟩ := h
  have hn := hT.1
  have hpw : ∀ a w, a ≤ n → ptP tx n a = .inl w → w ≤ n := fun a w h e => ptP_w h e
  generalize hd : S 0 11 = d at h11 hq2
  have hS : S = pS S a (-1) d := by rw [← hd]; exact pS_of h9 h10
  rw [hS]
  have hb := rn_le (q := qB tx) ha
  have hbb := rn_rn (q := qB tx) ha
  have hat := atP_ok hT.2.2.1 hpw 0
  have hso := soP_ok (tx := tx) hat
  have t142 : ∀ (z : Nat) (w d' x : Int), (x = 0 ∨ x = 1) → Q (some (vi x)) (zm (pS S z w (d' - 1)) L) → zz_J zpX9_atom_1 (zz_ret Q X 0 0) 142 [some (vr 0), none, none, some (vi x)] [] (zm (pS S z w d') L) (0, 0) := by
    intro z w d' x hx hq
    refine zwX9_atom_1_142 ?_
    simp only [pS_r11, pS_11]
    exact ⟨hx, hq⟩
  have t132 : ∀ (z : Nat) (w d' x : Int), (x = 0 ∨ x = 1) → Q (some (vi x)) (zm (pS S (z + 1 : Nat) w (d' - 1)) L) → zz_J zpX9_atom_1 (zz_ret Q X 0 0) 132 [some (vr 0), none, none, some (vi x)] [] (zm (pS S z w d') L) (0, 0) := by
    intro z w d' x hx hq
    refine zwX9_atom_1_132 ?_
    simp only [pS_r9, pS_9]
    exact t142 (z + 1) w d' x hx hq
  -- not
  have t44n : hsW tx n (rn (qB tx) n a) (wo 9) = true → zz_J zpX9_atom_1 (zz_ret Q X 0 0) 44 [some (vr 0), some (vi (rn (qB tx) n a : Nat)), some (vi 1), none] [] (zm (pS S (rn (qB tx) n a + 3 : Nat) (-1) d) L) (0, 0) := by
    intro c
    have h3 : rn (qB tx) n a + 3 ≤ n := hsW_le hb c
    refine zwX9_atom_1_44 ?_
    simp only [pS_r10, pS_r9, pS_r11, pS_11, mT_pS, pS_pS, fcS_pS]
    refine ⟨by omega, fun _ => ⟨by omega, fun h => absurd h (by decide), fun _ => ⟨tx, n, rn (qB tx) n a + 3, hT, rfl, trivial, by omega, h3, hF, h13, h14, fun w ew z d' hz => ?_, fun c2 ec => ?_⟩⟩, fun h => by omega⟩
    · have e : atP tx n 1 a = .inl w := by unfold atP; rw [if_pos c, ew]
      have hq := hq1 w e z (d' - 1) (by omega)
      exact ⟨t142 z w d' 0 (Or.inl rfl) hq.2, t142 z w d' 1 (Or.inr rfl) hq.1⟩
    · have e : atP tx n 1 a = .inr (c2.1, fun F => !c2.2 F) := by unfold atP; rw [if_pos c, ec]
      have hq := hq2 _ e
      have ed : d + 1 - 1 = d := by omega
      refine ⟨fun t => t142 _ _ _ 0 (Or.inl rfl) ?_, fun t => t142 _ _ _ 1 (Or.inr rfl) ?_⟩
      · rw [ed]; exact hq.2 (by show (!c2.2 (fcS S)) = false; rw [t]; rfl)
      · rw [ed]; exact hq.1 (by show (!c2.2 (fcS S)) = true; rw [t]; rfl)
  -- a bracket
  have t44b : hsW tx n (rn (qB tx) n a) (wo 9) = false → isSg tx n (rn (qB tx) n a) 40 = true → zz_J zpX9_atom_1 (zz_ret Q X 0 0) 44 [some (vr 0), some (vi (rn (qB tx) n a : Nat)), some (vi 0), none] [] (zm (pS S (rn (qB tx) n a : Nat) (-1) d) L) (0, 0) := by
    intro c c1
    have h3 := (isSg_t.mp c1).1
    have eat : ∀ q, soP tx n (atP tx n 0) (rn (qB tx) n a + 1) = q → atP tx n 1 a = (match q with
      | .inl w => .inl w
      | .inr c => if isSg tx n (rn (qB tx) n c.1) 41 = true then .inr (rn (qB tx) n c.1 + 1, c.2) else .inl (rn (qB tx) n c.1)) := by
      intro q hq
      unfold atP
      rw [if_neg (by rw [c]; decide), if_pos c1, hq]
      cases q <;> rfl
    refine zwX9_atom_1_44 ?_
    simp only [pS_r10, pS_r9, pS_r11, pS_11, pS_9, mT_pS, pS_pS, fcS_pS]
    refine ⟨by omega, fun _ => ⟨by omega, fun _ => ⟨tx, n, rn (qB tx) n a + 1, hT, rfl, trivial, by omega, by omega, hF, h13, h14, fun w ew z d' hz => ?_, fun c2 ec => ?_⟩, fun h => absurd trivial h⟩, fun h => by omega⟩
    · have e := eat _ ew
      have hw := (hso _ (by omega)).2 w ew
      have hq := hq1 w e (z + 1) (d' - 1) (by omega)
      have f107 : ∀ x : Int, (x = 0 ∨ x = 1) → Q (some (vi x)) (zm (pS S (z + 1 : Nat) w (d' - 1)) L) → zz_J zpX9_atom_1 (zz_ret Q X 0 0) 107 [some (vr 0), none, none, some (vi x)] [] (zm (pS S z w d') L) (0, 0) := by
        intro x hx hqx
        refine zwX9_atom_1_107 ?_
        simp only [pS_r10]
        exact ⟨by omega, fun _ => t132 z w d' x hx hqx, fun h => by omega⟩
      exact ⟨f107 1 (Or.inr rfl) hq.1, f107 0 (Or.inl rfl) hq.2⟩
    · have e := eat _ ec
      have hc := (hso _ (by omega)).1 c2 ec
      have g2 := rn_le (q := qB tx) hc.2
      have f107 : ∀ x : Int, (x = 0 ∨ x = 1) → (x = 1 → c2.2 (fcS S) = true) → (x = 0 → c2.2 (fcS S) = false) → zz_J zpX9_atom_1 (zz_ret Q X 0 0) 107 [some (vr 0), none, none, some (vi x)] [] (zm (pS S c2.1 (-1) (d + 1)) L) (0, 0) := by
        intro x hx x1 x0
        have ed : d + 1 - 1 = d := by omega
        refine zwX9_atom_1_107 ?_
        simp only [pS_r10, pS_r9, pS_r11, pS_11, pS_9, pS_10, mT_pS, pS_pS, fcS_pS, wrF, if_true]
        refine ⟨by omega, fun h => absurd trivial h, fun _ => ⟨tx, n, c2.1, by omega, hT, rfl, hc.2, fun s => ?_, fun s => ⟨by omega, ?_⟩⟩⟩
        · have e2 : atP tx n 1 a = .inr (rn (qB tx) n c2.1 + 1, c2.2) := by rw [e]; exact if_pos s
          have hq := hq2 _ e2
          refine t132 _ _ _ x hx ?_
          rw [ed]
          rcases hx with h | h
          · rw [h]; exact hq.2 (x0 h)
          · rw [h]; exact hq.1 (x1 h)
        · have e2 : atP tx n 1 a = .inl (rn (qB tx) n c2.1) := by rw [e]; exact if_neg (by rw [s]; decide)
          refine t132 _ _ _ x hx ?_
          rw [ed]
          exact bool_qq hx (hq1 _ e2 (rn (qB tx) n c2.1 + 1) d (by omega))
      exact ⟨fun t => f107 1 (Or.inr rfl) (fun _ => t) (fun h => absurd h (by decide)), fun t => f107 0 (Or.inl rfl) (fun h => absurd h (by decide)) (fun _ => t)⟩
  have ats : plP tx n (rn (qB tx) n a) = plP tx n a := by unfold plP; rw [hbb]
  refine zwX9_atom_1_0 ?_
  simp only [pS_r10, pS_r9, pS_r11, pS_9, mT_pS, pS_pS, fcS_pS]
  refine ⟨by omega, fun _ => ⟨tx, n, a, hT, rfl, by omega, tx, n, rn (qB tx) n a, 9, rfl, by decide, hT, rfl, hb, ?_⟩, fun h => absurd trivial h⟩
  rw [hbb]
  refine ⟨fun c => ?_, fun c => ?_⟩
  · exact zwX9_atom_1_26 ⟨by omega, fun _ => t44n c, fun h => by omega⟩
  · refine zwX9_atom_1_26 ?_
    simp only [pS_r10, pS_r9, pS_r11, pS_9, mT_pS, pS_pS, fcS_pS]
    refine ⟨by omega, fun h => absurd trivial h, fun _ => ⟨tx, n, rn (qB tx) n a, by omega, hT, rfl, hb, ?_⟩⟩
    rw [hbb]
    refine ⟨fun c2 => t44b c c2, fun c2 => ⟨tx, n, rn (qB tx) n a, hT, rfl, trivial, hb, hF, h13, h14, fun w ew z d' hz => ?_, fun c3 ec => ?_⟩⟩
    · rw [ats] at ew
      exact hq1 w (by unfold atP; rw [if_neg (by rw [c]; decide), if_neg (by rw [c2]; decide)]; exact ew) z d' (by omega)
    · rw [ats] at ec
      exact hq2 c3 (by unfold atP; rw [if_neg (by rw [c]; decide), if_neg (by rw [c2]; decide)]; exact ec)
def zX9_every_1 : zz_Sp := fun as M Q X => match as with
  | [.inr (.inr (some h_))] => bif Nat.beq h_ 0 && Nat.beq M.1.1 1 then (∃ (tx_ : Nat → Int) (n_ a_ : Nat), mT M.2.1 tx_ n_ ∧ M.2.1 0 9 = a_ ∧ M.2.1 0 10 = -1 ∧ M.2.1 0 11 = 5 ∧ a_ ≤ n_ ∧ bF (fcS M.2.1) ∧ (M.2.1 0 13 = 0 ∨ M.2.1 0 13 = 1) ∧ (M.2.1 0 14 = 0 ∨ M.2.1 0 14 = 1) ∧ (∀ w_ : Nat, evP tx_ n_ (atP tx_ n_ 1) a_ = .inl w_ → ∀ (z_ : Nat) (d_ : Int), z_ ≤ n_ + 1 → Q (some (vi 1)) (zm (pS M.2.1 z_ w_ d_) M.2.2.1) ∧ Q (some (vi 0)) (zm (pS M.2.1 z_ w_ d_) M.2.2.1)) ∧ (∀ c_ : Nat × (Fc → Bool), evP tx_ n_ (atP tx_ n_ 1) a_ = .inr c_ → (c_.2 (fcS M.2.1) = true → Q (some (vi 1)) (zm (pS M.2.1 c_.1 (-1) (M.2.1 0 11)) M.2.2.1)) ∧ (c_.2 (fcS M.2.1) = false → Q (some (vi 0)) (zm (pS M.2.1 c_.1 (-1) (M.2.1 0 11)) M.2.2.1)))) else False
  | _ => False

def zpX9_every_1 : zz_P := [(0, zo_ald 1 0), (1, zo_callv 4 1 8 zX9_atom_1), (4, zo_ist 5 1), (5, zo_ald 6 0), (6, zo_get 9 8 0 10), (9, zo_c 10 (vi (-1))), (10, zo_cne false true 13 44), (13, zo_ald 14 0), (14, zo_c 16 (vr 1012)), (16, zo_callv 19 2 8 zX9_has), (19, zo_zifeq 22 44), (22, zo_ald 23 0), (23, zo_callv 26 1 8 zX9_atom_1), (26, zo_ist 27 2), (27, zo_ild 28 1), (28, zo_ifeq false 31 39), (31, zo_ild 32 2), (32, zo_zifeq 35 39), (35, zo_c 36 (vi 1)), (36, zo_goto 40), (39, zo_c 40 (vi 0)), (40, zo_ist 41 1), (41, zo_goto 5), (44, zo_ild 45 1), (45, zo_zret false)]
theorem ztX9_every_1 {C : mm_C} (G : mm_G C RX9 cX9_every (some .boolean) 3 (mm_rm 13 0 0)) (hnh : mm_nh C) : zz_OKs C zpX9_every_1 :=
  ⟨zz_of (ok_aload_n G dX9_every_0 rfl rfl) (z_ald _ _),
   zz_of (ok_callv G hnh (zmX9_atom_1 _ G.hst) rfl rfl (RX9, TX9, 32) rfl q1971 q1973 qs49 q93 q1974 (by decide +kernel) ⟨by decide, by decide⟩ dX9_every_1 rfl) (z_callv _ _ _ _),
   zz_of (ok_istore_n G dX9_every_4 rfl rfl (by decide)) (z_ist _ _),
   zz_of (ok_aload_n G dX9_every_5 rfl rfl) (z_ald _ _),
   zz_of (ok_get G (nx := 9) (ci := 8) (kd := 0) (k := 10) (RX9, TX9, 32) rfl (by decide) rfl q1815 dX9_every_6 rfl) (z_get _ _ _ _),
   zz_of (ok_iconst G (v := (zI (-1))) dX9_every_9 (by decide) rfl) (z_cz 10 (-1)),
   zz_of (ok_cne G dX9_every_10 rfl rfl) (z_cne _ _ _ _),
   zz_of (ok_aload_n G dX9_every_13 rfl rfl) (z_ald _ _),
   zz_of (ok_lds G (tx := "and") (by decide +kernel) dX9_every_14 rfl) (z_cr 16 1012),
   zz_of (ok_callv G hnh (zmX9_has _ G.hst) rfl rfl (RX9, TX9, 32) rfl q1942 q1944 qs45 q93 q1945 (by decide +kernel) ⟨by decide, by decide⟩ dX9_every_16 rfl) (z_callv _ _ _ _),
   zz_of (ok_ifeq G dX9_every_19 rfl rfl) (z_zifeq _ _),
   zz_of (ok_aload_n G dX9_every_22 rfl rfl) (z_ald _ _),
   zz_of (ok_callv G hnh (zmX9_atom_1 _ G.hst) rfl rfl (RX9, TX9, 32) rfl q1971 q1973 qs49 q93 q1974 (by decide +kernel) ⟨by decide, by decide⟩ dX9_every_23 rfl) (z_callv _ _ _ _),
   zz_of (ok_istore_n G dX9_every_26 rfl rfl (by decide)) (z_ist _ _),
   zz_of (ok_iload_n G dX9_every_27 rfl rfl) (z_ild _ _),
   zz_of (ok_ifeq G dX9_every_28 rfl rfl) (z_ifeq _ _ _),
   zz_of (ok_iload_n G dX9_every_31 rfl rfl) (z_ild _ _),
   zz_of (ok_ifeq G dX9_every_32 rfl rfl) (z_zifeq _ _),
   zz_of (ok_iconst G (v := 1) dX9_every_35 (by decide) rfl) (z_cn 36 1),
   zz_of (ok_goto G dX9_every_36 rfl) (z_goto _),
   zz_of (ok_iconst G (v := 0) dX9_every_39 (by decide) rfl) (z_cn 40 0),
   zz_of (ok_istore_n G dX9_every_40 rfl rfl (by decide)) (z_ist _ _),
   zz_of (ok_goto G dX9_every_41 rfl) (z_goto _),
   zz_of (ok_iload_n G dX9_every_44 rfl rfl) (z_ild _ _),
   zz_of (ok_zret G dX9_every_45) (z_zret _), trivial⟩

theorem zwX9_every_1_0 {Q : Option zv → zz_M → Prop} {X : Nat → zz_M → Prop} {S L : Nat → Nat → Int}  (h : (∃ (tx_1 : Nat → Int) (n_1 a_1 : Nat), mT S tx_1 n_1 ∧ S 0 9 = a_1 ∧ S 0 10 = -1 ∧ S 0 11 = 5 ∧ a_1 ≤ n_1 ∧ bF (fcS S) ∧ (S 0 13 = 0 ∨ S 0 13 = 1) ∧ (S 0 14 = 0 ∨ S 0 14 = 1) ∧ (∀ w_1 : Nat, atP tx_1 n_1 1 a_1 = .inl w_1 → ∀ (z_1 : Nat) (d_1 : Int), z_1 ≤ n_1 + 1 → (zz_J zpX9_every_1 (zz_ret Q X 0 0) 5 [some (vr 0), some (vi 1), none] [] (zm (pS S z_1 w_1 d_1) L) (0, 0)) ∧ (zz_J zpX9_every_1 (zz_ret Q X 0 0) 5 [some (vr 0), some (vi 0), none] [] (zm (pS S z_1 w_1 d_1) L) (0, 0))) ∧ (∀ c_1 : Nat × (Fc → Bool), atP tx_1 n_1 1 a_1 = .inr c_1 → (c_1.2 (fcS S) = true → (zz_J zpX9_every_1 (zz_ret Q X 0 0) 5 [some (vr 0), some (vi 1), none] [] (zm (pS S c_1.1 (-1) (S 0 11)) L) (0, 0))) ∧ (c_1.2 (fcS S) = false → (zz_J zpX9_every_1 (zz_ret Q X 0 0) 5 [some (vr 0), some (vi 0), none] [] (zm (pS S c_1.1 (-1) (S 0 11)) L) (0, 0)))))) : zz_J zpX9_every_1 (zz_ret Q X 0 0) 0 [some (vr 0), none, none] [] (zm S L) (0, 0) := zz_J.go [(5, [2])] 400 h
theorem zwX9_every_1_5 {Q : Option zv → zz_M → Prop} {X : Nat → zz_M → Prop} {S L : Nat → Nat → Int} {x1 : Int} (h : R32 (S 0 10) ∧ ((¬ (S 0 10) = (-1) → (x1 = 0 ∨ x1 = 1) ∧ (Q (some (vi x1)) (zm S L))) ∧ ((S 0 10) = (-1) → (∃ (tx_1 : Nat → Int) (n_1 a_1 j_1 : Nat), 1012 = 1000 + j_1 ∧ j_1 < 18 ∧ mT S tx_1 n_1 ∧ S 0 9 = a_1 ∧ a_1 ≤ n_1 ∧ (hsW tx_1 n_1 (rn (qB tx_1) n_1 a_1) (wo j_1) = true → ((∃ (tx_2 : Nat → Int) (n_2 a_2 : Nat), mT (mm_up S 0 9 ((rn (qB tx_1) n_1 a_1 + (wo j_1).length : Nat) : Int)) tx_2 n_2 ∧ (mm_up S 0 9 ((rn (qB tx_1) n_1 a_1 + (wo j_1).length : Nat) : Int)) 0 9 = a_2 ∧ (mm_up S 0 9 ((rn (qB tx_1) n_1 a_1 + (wo j_1).length : Nat) : Int)) 0 10 = -1 ∧ (mm_up S 0 9 ((rn (qB tx_1) n_1 a_1 + (wo j_1).length : Nat) : Int)) 0 11 = 5 ∧ a_2 ≤ n_2 ∧ bF (fcS (mm_up S 0 9 ((rn (qB tx_1) n_1 a_1 + (wo j_1).length : Nat) : Int))) ∧ ((mm_up S 0 9 ((rn (qB tx_1) n_1 a_1 + (wo j_1).length : Nat) : Int)) 0 13 = 0 ∨ (mm_up S 0 9 ((rn (qB tx_1) n_1 a_1 + (wo j_1).length : Nat) : Int)) 0 13 = 1) ∧ ((mm_up S 0 9 ((rn (qB tx_1) n_1 a_1 + (wo j_1).length : Nat) : Int)) 0 14 = 0 ∨ (mm_up S 0 9 ((rn (qB tx_1) n_1 a_1 + (wo j_1).length : Nat) : Int)) 0 14 = 1) ∧ (∀ w_2 : Nat, atP tx_2 n_2 1 a_2 = .inl w_2 → ∀ (z_2 : Nat) (d_2 : Int), z_2 ≤ n_2 + 1 → (R32 x1 ∧ ((x1 = 0 → zz_J zpX9_every_1 (zz_ret Q X 0 0) 5 [some (vr 0), some (vi 0), none] [] (zm (pS (mm_up S 0 9 ((rn (qB tx_1) n_1 a_1 + (wo j_1).length : Nat) : Int)) z_2 w_2 d_2) L) (0, 0)) ∧ (¬ x1 = 0 → zz_J zpX9_every_1 (zz_ret Q X 0 0) 5 [some (vr 0), some (vi 1), none] [] (zm (pS (mm_up S 0 9 ((rn (qB tx_1) n_1 a_1 + (wo j_1).length : Nat) : Int)) z_2 w_2 d_2) L) (0, 0)))) ∧ (R32 x1 ∧ ((x1 = 0 → zz_J zpX9_every_1 (zz_ret Q X 0 0) 5 [some (vr 0), some (vi 0), none] [] (zm (pS (mm_up S 0 9 ((rn (qB tx_1) n_1 a_1 + (wo j_1).length : Nat) : Int)) z_2 w_2 d_2) L) (0, 0)) ∧ (¬ x1 = 0 → zz_J zpX9_every_1 (zz_ret Q X 0 0) 5 [some (vr 0), some (vi 0), none] [] (zm (pS (mm_up S 0 9 ((rn (qB tx_1) n_1 a_1 + (wo j_1).length : Nat) : Int)) z_2 w_2 d_2) L) (0, 0))))) ∧ (∀ c_2 : Nat × (Fc → Bool), atP tx_2 n_2 1 a_2 = .inr c_2 → (c_2.2 (fcS (mm_up S 0 9 ((rn (qB tx_1) n_1 a_1 + (wo j_1).length : Nat) : Int))) = true → (R32 x1 ∧ ((x1 = 0 → zz_J zpX9_every_1 (zz_ret Q X 0 0) 5 [some (vr 0), some (vi 0), none] [] (zm (pS (mm_up S 0 9 ((rn (qB tx_1) n_1 a_1 + (wo j_1).length : Nat) : Int)) c_2.1 (-1) ((mm_up S 0 9 ((rn (qB tx_1) n_1 a_1 + (wo j_1).length : Nat) : Int)) 0 11)) L) (0, 0)) ∧ (¬ x1 = 0 → zz_J zpX9_every_1 (zz_ret Q X 0 0) 5 [some (vr 0), some (vi 1), none] [] (zm (pS (mm_up S 0 9 ((rn (qB tx_1) n_1 a_1 + (wo j_1).length : Nat) : Int)) c_2.1 (-1) ((mm_up S 0 9 ((rn (qB tx_1) n_1 a_1 + (wo j_1).length : Nat) : Int)) 0 11)) L) (0, 0))))) ∧ (c_2.2 (fcS (mm_up S 0 9 ((rn (qB tx_1) n_1 a_1 + (wo j_1).length : Nat) : Int))) = false → (R32 x1 ∧ ((x1 = 0 → zz_J zpX9_every_1 (zz_ret Q X 0 0) 5 [some (vr 0), some (vi 0), none] [] (zm (pS (mm_up S 0 9 ((rn (qB tx_1) n_1 a_1 + (wo j_1).length : Nat) : Int)) c_2.1 (-1) ((mm_up S 0 9 ((rn (qB tx_1) n_1 a_1 + (wo j_1).length : Nat) : Int)) 0 11)) L) (0, 0)) ∧ (¬ x1 = 0 → zz_J zpX9_every_1 (zz_ret Q X 0 0) 5 [some (vr 0), some (vi 0), none] [] (zm (pS (mm_up S 0 9 ((rn (qB tx_1) n_1 a_1 + (wo j_1).length : Nat) : Int)) c_2.1 (-1) ((mm_up S 0 9 ((rn (qB tx_1) n_1 a_1 + (wo j_1).length : Nat) : Int)) 0 11)) L) (0, 0))))))))) ∧ (hsW tx_1 n_1 (rn (qB tx_1) n_1 a_1) (wo j_1) = false → ((x1 = 0 ∨ x1 = 1) ∧ (Q (some (vi x1)) (zm (mm_up S 0 9 ((rn (qB tx_1) n_1 a_1 : Nat) : Int)) L)))))))) : zz_J zpX9_every_1 (zz_ret Q X 0 0) 5 [some (vr 0), some (vi x1), none] [] (zm S L) (0, 0) := zz_J.go [(5, [2])] 400 h

theorem zmX9_every_1 (l : Launch) (hl : l.stackTraces = false) : mm_Spec l yX9_every (ws_ yX9_every cX9_every 3 (some .boolean)) (mm_rm 13 0 0) (zE zX9_every_1) := by
  refine zz_Met.J hl (by decide) (fun C G hnh => ztX9_every_1 G hnh) ?_
  rintro as ⟨⟨t_, f⟩, S, L, P⟩ Q X h
  unfold zX9_every_1 at h
  split at h
  rotate_left
  · exact h.elim
  rename_i h_
  obtain ⟨e1_, e2_, h⟩ := mm_and2 h (fun q => q)
  cases mm_beq e1_
  cases mm_beq e2_
  try dsimp only at h
  refine ⟨rfl, ?_⟩
  refine zz_Jev (M' := zm S L) rfl rfl rfl ?_
  obtain ⟨tx, n, a, hT, h9, h10, h11, ha, hF, h13, h14, hq1, hq2⟩ := h
  have hn := hT.1
  have hat := atP_ok hT.2.2.1 (fun a w h e => ptP_w h e) 1
  generalize hd : S 0 11 = d at h11 hq2
  have tw : ∀ (w z : Nat) (x d' : Int), w ≤ n → z ≤ n + 1 → (x = 0 ∨ x = 1) → evP tx n (atP tx n 1) a = .inl w → zz_J zpX9_every_1 (zz_ret Q X 0 0) 5 [some (vr 0), some (vi x), none] [] (zm (pS S z w d') L) (0, 0) := by
    intro w z x d' hw hz hx e
    refine zwX9_every_1_5 ?_
    simp only [pS_r10]
    exact ⟨by omega, fun _ => ⟨hx, bool_qq hx (hq1 w e z d' hz)⟩, fun h => by omega⟩
  have lp : ∀ (k a' : Nat) (g : Fc → Bool) (x : Int), n - a' = k → a' ≤ n → x = (bif g (fcS S) then 1 else 0) → evP tx n (atP tx n 1) a = lpP n (rn (qB tx) n) (spW tx n 12) (atP tx n 1) (fun g h F => g F && h F) a' g → zz_J zpX9_every_1 (zz_ret Q X 0 0) 5 [some (vr 0), some (vi x), none] [] (zm (pS S a' (-1) d) L) (0, 0) := by
    intro k
    induction k using Nat.strongRecOn with
    | ind k ih =>
      intro a' g x hk ha' hx e
      have hb := rn_le (q := qB tx) ha'
      have hx01 : x = 0 ∨ x = 1 := by rw [hx]; cases g (fcS S) <;> simp
      refine zwX9_every_1_5 ?_
      simp only [pS_r10, pS_r9, pS_r11, pS_9, mT_pS, pS_pS, fcS_pS]
      refine ⟨by omega, fun h => absurd trivial h, fun _ => ⟨tx, n, a', 12, rfl, by decide, hT, rfl, ha', fun c => ?_, fun c => ⟨hx01, ?_⟩⟩⟩
      · have hs : spW tx n 12 a' = some (rn (qB tx) n a' + 3) := by unfold spW; rw [if_pos c]; rfl
        have h1 := spW_in (by decide) _ _ ha' hs
        refine ⟨tx, n, rn (qB tx) n a' + 3, hT, rfl, trivial, h11, h1.2, hF, h13, h14, fun w ew z d' hz => ?_, fun c2 ec => ?_⟩
        · rw [lpP_l ha' hs ew] at e
          have hw := (hat _ h1.2).2 w ew
          refine ⟨⟨by omega, fun _ => tw w z 0 d' hw hz (Or.inl rfl) e, fun _ => tw w z 1 d' hw hz (Or.inr rfl) e⟩, ⟨by omega, fun _ => tw w z 0 d' hw hz (Or.inl rfl) e, fun _ => tw w z 0 d' hw hz (Or.inl rfl) e⟩⟩
        · have h2 := (hat _ h1.2).1 c2 ec
          rw [lpP_r (fun a b h1 h2 => spW_in (by decide) a b h1 h2) (fun a c h1 h2 => (hat a h1).1 c h2) ha' hs ec] at e
          refine ⟨fun t => ⟨by omega, fun x0 => ?_, fun x1 => ?_⟩, fun t => ⟨by omega, fun x0 => ?_, fun x1 => ?_⟩⟩
          · refine ih (n - c2.1) (by omega) c2.1 _ 0 rfl h2.2 ?_ e
            rw [t]; revert hx; cases g (fcS S) <;> simp; omega
          · refine ih (n - c2.1) (by omega) c2.1 _ 1 rfl h2.2 ?_ e
            rw [t]; revert hx; cases g (fcS S) <;> simp; omega
          · refine ih (n - c2.1) (by omega) c2.1 _ 0 rfl h2.2 ?_ e
            rw [t]; simp
          · refine ih (n - c2.1) (by omega) c2.1 _ 0 rfl h2.2 ?_ e
            rw [t]; simp
      · have hs : spW tx n 12 a' = none := by unfold spW; rw [if_neg (by rw [c]; decide)]
        rw [lpP_n ha' hs] at e
        have hq := hq2 _ e
        rw [hx]
        revert hq
        show (g (fcS S) = true → _) ∧ (g (fcS S) = false → _) → _
        cases g (fcS S) with
        | true => exact fun hq => hq.1 rfl
        | false => exact fun hq => hq.2 rfl
  refine zwX9_every_1_0 ⟨tx, n, a, hT, h9, h10, by rw [hd]; exact h11, ha, hF, h13, h14, fun w e z d' hz => ?_, fun c e => ?_⟩
  · have hw := (hat a ha).2 w e
    have e2 : evP tx n (atP tx n 1) a = .inl w := seqP_f e
    exact ⟨tw w z 1 d' hw hz (Or.inr rfl) e2, tw w z 0 d' hw hz (Or.inl rfl) e2⟩
  · have hc := (hat a ha).1 c e
    rw [hd]
    exact ⟨fun t => lp _ c.1 c.2 1 rfl hc.2 (by rw [t]; rfl) (seqP_s e), fun t => lp _ c.1 c.2 0 rfl hc.2 (by rw [t]; rfl) (seqP_s e)⟩
def zX9_some_1 : zz_Sp := fun as M Q X => match as with
  | [.inr (.inr (some h_))] => bif Nat.beq h_ 0 && Nat.beq M.1.1 1 then (∃ (tx_ : Nat → Int) (n_ a_ : Nat), mT M.2.1 tx_ n_ ∧ M.2.1 0 9 = a_ ∧ M.2.1 0 10 = -1 ∧ M.2.1 0 11 = 5 ∧ a_ ≤ n_ ∧ bF (fcS M.2.1) ∧ (M.2.1 0 13 = 0 ∨ M.2.1 0 13 = 1) ∧ (M.2.1 0 14 = 0 ∨ M.2.1 0 14 = 1) ∧ (∀ w_ : Nat, soP tx_ n_ (atP tx_ n_ 1) a_ = .inl w_ → ∀ (z_ : Nat) (d_ : Int), z_ ≤ n_ + 1 → Q (some (vi 1)) (zm (pS M.2.1 z_ w_ d_) M.2.2.1) ∧ Q (some (vi 0)) (zm (pS M.2.1 z_ w_ d_) M.2.2.1)) ∧ (∀ c_ : Nat × (Fc → Bool), soP tx_ n_ (atP tx_ n_ 1) a_ = .inr c_ → (c_.2 (fcS M.2.1) = true → Q (some (vi 1)) (zm (pS M.2.1 c_.1 (-1) (M.2.1 0 11)) M.2.2.1)) ∧ (c_.2 (fcS M.2.1) = false → Q (some (vi 0)) (zm (pS M.2.1 c_.1 (-1) (M.2.1 0 11)) M.2.2.1)))) else False
  | _ => False

def zpX9_some_1 : zz_P := [(0, zo_ald 1 0), (1, zo_callv 4 1 8 zX9_every_1), (4, zo_ist 5 1), (5, zo_ald 6 0), (6, zo_get 9 8 0 10), (9, zo_c 10 (vi (-1))), (10, zo_cne false true 13 44), (13, zo_ald 14 0), (14, zo_c 16 (vr 1013)), (16, zo_callv 19 2 8 zX9_has), (19, zo_zifeq 22 44), (22, zo_ald 23 0), (23, zo_callv 26 1 8 zX9_every_1), (26, zo_ist 27 2), (27, zo_ild 28 1), (28, zo_ifne false 31 35), (31, zo_ild 32 2), (32, zo_zifeq 35 39), (35, zo_c 36 (vi 1)), (36, zo_goto 40), (39, zo_c 40 (vi 0)), (40, zo_ist 41 1), (41, zo_goto 5), (44, zo_ild 45 1), (45, zo_zret false)]
theorem ztX9_some_1 {C : mm_C} (G : mm_G C RX9 cX9_some (some .boolean) 3 (mm_rm 14 0 0)) (hnh : mm_nh C) : zz_OKs C zpX9_some_1 :=
  ⟨zz_of (ok_aload_n G dX9_some_0 rfl rfl) (z_ald _ _),
   zz_of (ok_callv G hnh (zmX9_every_1 _ G.hst) rfl rfl (RX9, TX9, 32) rfl q1967 q1969 qs48 q93 q1970 (by decide +kernel) ⟨by decide, by decide⟩ dX9_some_1 rfl) (z_callv _ _ _ _),
   zz_of (ok_istore_n G dX9_some_4 rfl rfl (by decide)) (z_ist _ _),
   zz_of (ok_aload_n G dX9_some_5 rfl rfl) (z_ald _ _),
   zz_of (ok_get G (nx := 9) (ci := 8) (kd := 0) (k := 10) (RX9, TX9, 32) rfl (by decide) rfl q1815 dX9_some_6 rfl) (z_get _ _ _ _),
   zz_of (ok_iconst G (v := (zI (-1))) dX9_some_9 (by decide) rfl) (z_cz 10 (-1)),
   zz_of (ok_cne G dX9_some_10 rfl rfl) (z_cne _ _ _ _),
   zz_of (ok_aload_n G dX9_some_13 rfl rfl) (z_ald _ _),
   zz_of (ok_lds G (tx := "or") (by decide +kernel) dX9_some_14 rfl) (z_cr 16 1013),
   zz_of (ok_callv G hnh (zmX9_has _ G.hst) rfl rfl (RX9, TX9, 32) rfl q1942 q1944 qs45 q93 q1945 (by decide +kernel) ⟨by decide, by decide⟩ dX9_some_16 rfl) (z_callv _ _ _ _),
   zz_of (ok_ifeq G dX9_some_19 rfl rfl) (z_zifeq _ _),
   zz_of (ok_aload_n G dX9_some_22 rfl rfl) (z_ald _ _),
   zz_of (ok_callv G hnh (zmX9_every_1 _ G.hst) rfl rfl (RX9, TX9, 32) rfl q1967 q1969 qs48 q93 q1970 (by decide +kernel) ⟨by decide, by decide⟩ dX9_some_23 rfl) (z_callv _ _ _ _),
   zz_of (ok_istore_n G dX9_some_26 rfl rfl (by decide)) (z_ist _ _),
   zz_of (ok_iload_n G dX9_some_27 rfl rfl) (z_ild _ _),
   zz_of (ok_ifne G dX9_some_28 rfl rfl) (z_ifne _ _ _),
   zz_of (ok_iload_n G dX9_some_31 rfl rfl) (z_ild _ _),
   zz_of (ok_ifeq G dX9_some_32 rfl rfl) (z_zifeq _ _),
   zz_of (ok_iconst G (v := 1) dX9_some_35 (by decide) rfl) (z_cn 36 1),
   zz_of (ok_goto G dX9_some_36 rfl) (z_goto _),
   zz_of (ok_iconst G (v := 0) dX9_some_39 (by decide) rfl) (z_cn 40 0),
   zz_of (ok_istore_n G dX9_some_40 rfl rfl (by decide)) (z_ist _ _),
   zz_of (ok_goto G dX9_some_41 rfl) (z_goto _),
   zz_of (ok_iload_n G dX9_some_44 rfl rfl) (z_ild _ _),
   zz_of (ok_zret G dX9_some_45) (z_zret _), trivial⟩

theorem zwX9_some_1_0 {Q : Option zv → zz_M → Prop} {X : Nat → zz_M → Prop} {S L : Nat → Nat → Int}  (h : (∃ (tx_1 : Nat → Int) (n_1 a_1 : Nat), mT S tx_1 n_1 ∧ S 0 9 = a_1 ∧ S 0 10 = -1 ∧ S 0 11 = 5 ∧ a_1 ≤ n_1 ∧ bF (fcS S) ∧ (S 0 13 = 0 ∨ S 0 13 = 1) ∧ (S 0 14 = 0 ∨ S 0 14 = 1) ∧ (∀ w_1 : Nat, evP tx_1 n_1 (atP tx_1 n_1 1) a_1 = .inl w_1 → ∀ (z_1 : Nat) (d_1 : Int), z_1 ≤ n_1 + 1 → (zz_J zpX9_some_1 (zz_ret Q X 0 0) 5 [some (vr 0), some (vi 1), none] [] (zm (pS S z_1 w_1 d_1) L) (0, 0)) ∧ (zz_J zpX9_some_1 (zz_ret Q X 0 0) 5 [some (vr 0), some (vi 0), none] [] (zm (pS S z_1 w_1 d_1) L) (0, 0))) ∧ (∀ c_1 : Nat × (Fc → Bool), evP tx_1 n_1 (atP tx_1 n_1 1) a_1 = .inr c_1 → (c_1.2 (fcS S) = true → (zz_J zpX9_some_1 (zz_ret Q X 0 0) 5 [some (vr 0), some (vi 1), none] [] (zm (pS S c_1.1 (-1) (S 0 11)) L) (0, 0))) ∧ (c_1.2 (fcS S) = false → (zz_J zpX9_some_1 (zz_ret Q X 0 0) 5 [some (vr 0), some (vi 0), none] [] (zm (pS S c_1.1 (-1) (S 0 11)) L) (0, 0)))))) : zz_J zpX9_some_1 (zz_ret Q X 0 0) 0 [some (vr 0), none, none] [] (zm S L) (0, 0) := zz_J.go [(5, [2])] 400 h
theorem zwX9_some_1_5 {Q : Option zv → zz_M → Prop} {X : Nat → zz_M → Prop} {S L : Nat → Nat → Int} {x1 : Int} (h : R32 (S 0 10) ∧ ((¬ (S 0 10) = (-1) → (x1 = 0 ∨ x1 = 1) ∧ (Q (some (vi x1)) (zm S L))) ∧ ((S 0 10) = (-1) → (∃ (tx_1 : Nat → Int) (n_1 a_1 j_1 : Nat), 1013 = 1000 + j_1 ∧ j_1 < 18 ∧ mT S tx_1 n_1 ∧ S 0 9 = a_1 ∧ a_1 ≤ n_1 ∧ (hsW tx_1 n_1 (rn (qB tx_1) n_1 a_1) (wo j_1) = true → ((∃ (tx_2 : Nat → Int) (n_2 a_2 : Nat), mT (mm_up S 0 9 ((rn (qB tx_1) n_1 a_1 + (wo j_1).length : Nat) : Int)) tx_2 n_2 ∧ (mm_up S 0 9 ((rn (qB tx_1) n_1 a_1 + (wo j_1).length : Nat) : Int)) 0 9 = a_2 ∧ (mm_up S 0 9 ((rn (qB tx_1) n_1 a_1 + (wo j_1).length : Nat) : Int)) 0 10 = -1 ∧ (mm_up S 0 9 ((rn (qB tx_1) n_1 a_1 + (wo j_1).length : Nat) : Int)) 0 11 = 5 ∧ a_2 ≤ n_2 ∧ bF (fcS (mm_up S 0 9 ((rn (qB tx_1) n_1 a_1 + (wo j_1).length : Nat) : Int))) ∧ ((mm_up S 0 9 ((rn (qB tx_1) n_1 a_1 + (wo j_1).length : Nat) : Int)) 0 13 = 0 ∨ (mm_up S 0 9 ((rn (qB tx_1) n_1 a_1 + (wo j_1).length : Nat) : Int)) 0 13 = 1) ∧ ((mm_up S 0 9 ((rn (qB tx_1) n_1 a_1 + (wo j_1).length : Nat) : Int)) 0 14 = 0 ∨ (mm_up S 0 9 ((rn (qB tx_1) n_1 a_1 + (wo j_1).length : Nat) : Int)) 0 14 = 1) ∧ (∀ w_2 : Nat, evP tx_2 n_2 (atP tx_2 n_2 1) a_2 = .inl w_2 → ∀ (z_2 : Nat) (d_2 : Int), z_2 ≤ n_2 + 1 → (R32 x1 ∧ ((¬ x1 = 0 → zz_J zpX9_some_1 (zz_ret Q X 0 0) 5 [some (vr 0), some (vi 1), none] [] (zm (pS (mm_up S 0 9 ((rn (qB tx_1) n_1 a_1 + (wo j_1).length : Nat) : Int)) z_2 w_2 d_2) L) (0, 0)) ∧ (x1 = 0 → zz_J zpX9_some_1 (zz_ret Q X 0 0) 5 [some (vr 0), some (vi 1), none] [] (zm (pS (mm_up S 0 9 ((rn (qB tx_1) n_1 a_1 + (wo j_1).length : Nat) : Int)) z_2 w_2 d_2) L) (0, 0)))) ∧ (R32 x1 ∧ ((¬ x1 = 0 → zz_J zpX9_some_1 (zz_ret Q X 0 0) 5 [some (vr 0), some (vi 1), none] [] (zm (pS (mm_up S 0 9 ((rn (qB tx_1) n_1 a_1 + (wo j_1).length : Nat) : Int)) z_2 w_2 d_2) L) (0, 0)) ∧ (x1 = 0 → zz_J zpX9_some_1 (zz_ret Q X 0 0) 5 [some (vr 0), some (vi 0), none] [] (zm (pS (mm_up S 0 9 ((rn (qB tx_1) n_1 a_1 + (wo j_1).length : Nat) : Int)) z_2 w_2 d_2) L) (0, 0))))) ∧ (∀ c_2 : Nat × (Fc → Bool), evP tx_2 n_2 (atP tx_2 n_2 1) a_2 = .inr c_2 → (c_2.2 (fcS (mm_up S 0 9 ((rn (qB tx_1) n_1 a_1 + (wo j_1).length : Nat) : Int))) = true → (R32 x1 ∧ ((¬ x1 = 0 → zz_J zpX9_some_1 (zz_ret Q X 0 0) 5 [some (vr 0), some (vi 1), none] [] (zm (pS (mm_up S 0 9 ((rn (qB tx_1) n_1 a_1 + (wo j_1).length : Nat) : Int)) c_2.1 (-1) ((mm_up S 0 9 ((rn (qB tx_1) n_1 a_1 + (wo j_1).length : Nat) : Int)) 0 11)) L) (0, 0)) ∧ (x1 = 0 → zz_J zpX9_some_1 (zz_ret Q X 0 0) 5 [some (vr 0), some (vi 1), none] [] (zm (pS (mm_up S 0 9 ((rn (qB tx_1) n_1 a_1 + (wo j_1).length : Nat) : Int)) c_2.1 (-1) ((mm_up S 0 9 ((rn (qB tx_1) n_1 a_1 + (wo j_1).length : Nat) : Int)) 0 11)) L) (0, 0))))) ∧ (c_2.2 (fcS (mm_up S 0 9 ((rn (qB tx_1) n_1 a_1 + (wo j_1).length : Nat) : Int))) = false → (R32 x1 ∧ ((¬ x1 = 0 → zz_J zpX9_some_1 (zz_ret Q X 0 0) 5 [some (vr 0), some (vi 1), none] [] (zm (pS (mm_up S 0 9 ((rn (qB tx_1) n_1 a_1 + (wo j_1).length : Nat) : Int)) c_2.1 (-1) ((mm_up S 0 9 ((rn (qB tx_1) n_1 a_1 + (wo j_1).length : Nat) : Int)) 0 11)) L) (0, 0)) ∧ (x1 = 0 → zz_J zpX9_some_1 (zz_ret Q X 0 0) 5 [some (vr 0), some (vi 0), none] [] (zm (pS (mm_up S 0 9 ((rn (qB tx_1) n_1 a_1 + (wo j_1).length : Nat) : Int)) c_2.1 (-1) ((mm_up S 0 9 ((rn (qB tx_1) n_1 a_1 + (wo j_1).length : Nat) : Int)) 0 11)) L) (0, 0))))))))) ∧ (hsW tx_1 n_1 (rn (qB tx_1) n_1 a_1) (wo j_1) = false → ((x1 = 0 ∨ x1 = 1) ∧ (Q (some (vi x1)) (zm (mm_up S 0 9 ((rn (qB tx_1) n_1 a_1 : Nat) : Int)) L)))))))) : zz_J zpX9_some_1 (zz_ret Q X 0 0) 5 [some (vr 0), some (vi x1), none] [] (zm S L) (0, 0) := zz_J.go [(5, [2])] 400 h

theorem zmX9_some_1 (l : Launch) (hl : l.stackTraces = false) : mm_Spec l yX9_some (ws_ yX9_some cX9_some 3 (some .boolean)) (mm_rm 14 0 0) (zE zX9_some_1) := by
  refine zz_Met.J hl (by decide) (fun C G hnh => ztX9_some_1 G hnh) ?_
  rintro as ⟨⟨t_, f⟩, S, L, P⟩ Q X h
  unfold zX9_some_1 at h
  split at h
  rotate_left
  · exact h.elim
  rename_i h_
  obtain ⟨e1_, e2_, h⟩ := mm_and2 h (fun q => q)
  cases mm_beq e1_
  cases mm_beq e2_
  try dsimp only at h
  refine ⟨rfl, ?_⟩
  refine zz_Jev (M' := zm S L) rfl rfl rfl ?_
  obtain ⟨tx, n, a, hT, h9, h10, h11, ha, hF, h13, h14, hq1, hq2⟩ := h
  have hn := hT.1
  have hat : pOK n (evP tx n (atP tx n 1)) := evP_ok (atP_ok hT.2.2.1 (fun a w h e => ptP_w h e) 1)
  generalize hd : S 0 11 = d at h11 hq2
  have tw : ∀ (w z : Nat) (x d' : Int), w ≤ n → z ≤ n + 1 → (x = 0 ∨ x = 1) → soP tx n (atP tx n 1) a = .inl w → zz_J zpX9_some_1 (zz_ret Q X 0 0) 5 [some (vr 0), some (vi x), none] [] (zm (pS S z w d') L) (0, 0) := by
    intro w z x d' hw hz hx e
    refine zwX9_some_1_5 ?_
    simp only [pS_r10]
    exact ⟨by omega, fun _ => ⟨hx, bool_qq hx (hq1 w e z d' hz)⟩, fun h => by omega⟩
  have lp : ∀ (k a' : Nat) (g : Fc → Bool) (x : Int), n - a' = k → a' ≤ n → x = (bif g (fcS S) then 1 else 0) → soP tx n (atP tx n 1) a = lpP n (rn (qB tx) n) (spW tx n 13) (evP tx n (atP tx n 1)) (fun g h F => g F || h F) a' g → zz_J zpX9_some_1 (zz_ret Q X 0 0) 5 [some (vr 0), some (vi x), none] [] (zm (pS S a' (-1) d) L) (0, 0) := by
    intro k
    induction k using Nat.strongRecOn with
    | ind k ih =>
      intro a' g x hk ha' hx e
      have hb := rn_le (q := qB tx) ha'
      have hx01 : x = 0 ∨ x = 1 := by rw [hx]; cases g (fcS S) <;> simp
      refine zwX9_some_1_5 ?_
      simp only [pS_r10, pS_r9, pS_r11, pS_9, mT_pS, pS_pS, fcS_pS]
      refine ⟨by omega, fun h => absurd trivial h, fun _ => ⟨tx, n, a', 13, rfl, by decide, hT, rfl, ha', fun c => ?_, fun c => ⟨hx01, ?_⟩⟩⟩
      · have hs : spW tx n 13 a' = some (rn (qB tx) n a' + 2) := by unfold spW; rw [if_pos c]; rfl
        have h1 := spW_in (by decide) _ _ ha' hs
        refine ⟨tx, n, rn (qB tx) n a' + 2, hT, rfl, trivial, h11, h1.2, hF, h13, h14, fun w ew z d' hz => ?_, fun c2 ec => ?_⟩
        · rw [lpP_l ha' hs ew] at e
          have hw := (hat _ h1.2).2 w ew
          refine ⟨⟨by omega, fun _ => tw w z 1 d' hw hz (Or.inr rfl) e, fun _ => tw w z 1 d' hw hz (Or.inr rfl) e⟩, ⟨by omega, fun _ => tw w z 1 d' hw hz (Or.inr rfl) e, fun _ => tw w z 0 d' hw hz (Or.inl rfl) e⟩⟩
        · have h2 := (hat _ h1.2).1 c2 ec
          rw [lpP_r (fun a b h1 h2 => spW_in (by decide) a b h1 h2) (fun a c h1 h2 => (hat a h1).1 c h2) ha' hs ec] at e
          refine ⟨fun t => ⟨by omega, fun x0 => ?_, fun x1 => ?_⟩, fun t => ⟨by omega, fun x0 => ?_, fun x1 => ?_⟩⟩
          · refine ih (n - c2.1) (by omega) c2.1 _ 1 rfl h2.2 ?_ e
            rw [t]; simp
          · refine ih (n - c2.1) (by omega) c2.1 _ 1 rfl h2.2 ?_ e
            rw [t]; simp
          · refine ih (n - c2.1) (by omega) c2.1 _ 1 rfl h2.2 ?_ e
            rw [t]; revert hx; cases g (fcS S) <;> simp; omega
          · refine ih (n - c2.1) (by omega) c2.1 _ 0 rfl h2.2 ?_ e
            rw [t]; revert hx; cases g (fcS S) <;> simp; omega
      · have hs : spW tx n 13 a' = none := by unfold spW; rw [if_neg (by rw [c]; decide)]
        rw [lpP_n ha' hs] at e
        have hq := hq2 _ e
        rw [hx]
        revert hq
        show (g (fcS S) = true → _) ∧ (g (fcS S) = false → _) → _
        cases g (fcS S) with
        | true => exact fun hq => hq.1 rfl
        | false => exact fun hq => hq.2 rfl
  refine zwX9_some_1_0 ⟨tx, n, a, hT, h9, h10, by rw [hd]; exact h11, ha, hF, h13, h14, fun w e z d' hz => ?_, fun c e => ?_⟩
  · have hw := (hat a ha).2 w e
    have e2 : soP tx n (atP tx n 1) a = .inl w := seqP_f e
    exact ⟨tw w z 1 d' hw hz (Or.inr rfl) e2, tw w z 0 d' hw hz (Or.inl rfl) e2⟩
  · have hc := (hat a ha).1 c e
    rw [hd]
    exact ⟨fun t => lp _ c.1 c.2 1 rfl hc.2 (by rw [t]; rfl) (seqP_s e), fun t => lp _ c.1 c.2 0 rfl hc.2 (by rw [t]; rfl) (seqP_s e)⟩
def zX9_atom_2 : zz_Sp := fun as M Q X => match as with
  | [.inr (.inr (some h_))] => bif Nat.beq h_ 0 && Nat.beq M.1.1 1 then (∃ (tx_ : Nat → Int) (n_ a_ : Nat), mT M.2.1 tx_ n_ ∧ M.2.1 0 9 = a_ ∧ M.2.1 0 10 = -1 ∧ M.2.1 0 11 = 4 ∧ a_ ≤ n_ ∧ bF (fcS M.2.1) ∧ (M.2.1 0 13 = 0 ∨ M.2.1 0 13 = 1) ∧ (M.2.1 0 14 = 0 ∨ M.2.1 0 14 = 1) ∧ (∀ w_ : Nat, atP tx_ n_ 2 a_ = .inl w_ → ∀ (z_ : Nat) (d_ : Int), z_ ≤ n_ + 2 → Q (some (vi 1)) (zm (pS M.2.1 z_ w_ d_) M.2.2.1) ∧ Q (some (vi 0)) (zm (pS M.2.1 z_ w_ d_) M.2.2.1)) ∧ (∀ c_ : Nat × (Fc → Bool), atP tx_ n_ 2 a_ = .inr c_ → (c_.2 (fcS M.2.1) = true → Q (some (vi 1)) (zm (pS M.2.1 c_.1 (-1) (M.2.1 0 11)) M.2.2.1)) ∧ (c_.2 (fcS M.2.1) = false → Q (some (vi 0)) (zm (pS M.2.1 c_.1 (-1) (M.2.1 0 11)) M.2.2.1)))) else False
  | _ => False

def zpX9_atom_2 : zz_P := [(0, zo_ald 1 0), (1, zo_get 4 8 0 10), (4, zo_c 5 (vi (-1))), (5, zo_ceq false true 8 10), (8, zo_c 9 (vi 0)), (9, zo_zret true), (10, zo_ald 11 0), (11, zo_callv 14 1 8 zX9_skip), (14, zo_ald 15 0), (15, zo_get 18 8 0 9), (18, zo_ist 19 1), (19, zo_ald 20 0), (20, zo_c 22 (vr 1009)), (22, zo_callv 25 2 8 zX9_has), (25, zo_ist 26 2), (26, zo_ild 27 2), (27, zo_ifne false 30 44), (30, zo_ald 31 0), (31, zo_c 33 (vi 40)), (33, zo_callv 36 2 8 zX9_isSign), (36, zo_zifne 39 44), (39, zo_ald 40 0), (40, zo_callv 43 1 8 zX9_plainCond), (43, zo_zret true), (44, zo_ald 45 0), (45, zo_get 48 8 0 11), (48, zo_c 50 (vi 6)), (50, zo_cne false true 53 60), (53, zo_ald 54 0), (54, zo_ild 55 1), (55, zo_callv 58 2 8 zX9_wrong), (58, zo_c 59 (vi 0)), (59, zo_zret true), (60, zo_ald 61 0), (61, zo_dup 62), (62, zo_get 65 8 0 11), (65, zo_c 66 (vi 1)), (66, zo_iadd 67), (67, zo_puti 70 8 11), (70, zo_c 71 (vi 0)), (71, zo_ist 72 3), (72, zo_ild 73 2), (73, zo_ifeq false 76 92), (76, zo_ald 77 0), (77, zo_callv 80 1 8 zX9_atom_1), (80, zo_zifne 83 87), (83, zo_c 84 (vi 1)), (84, zo_goto 88), (87, zo_c 88 (vi 0)), (88, zo_ist 89 3), (89, zo_goto 142), (92, zo_ald 93 0), (93, zo_dup 94), (94, zo_get 97 8 0 9), (97, zo_c 98 (vi 1)), (98, zo_iadd 99), (99, zo_puti 102 8 9), (102, zo_ald 103 0), (103, zo_callv 106 1 8 zX9_some_1), (106, zo_ist 107 3), (107, zo_ald 108 0), (108, zo_get 111 8 0 10), (111, zo_c 112 (vi (-1))), (112, zo_cne false true 115 132), (115, zo_ald 116 0), (116, zo_c 118 (vi 41)), (118, zo_callv 121 2 8 zX9_isSign), (121, zo_zifne 124 132), (124, zo_ald 125 0), (125, zo_ald 126 0), (126, zo_get 129 8 0 9), (129, zo_callv 132 2 8 zX9_wrong), (132, zo_ald 133 0), (133, zo_dup 134), (134, zo_get 137 8 0 9), (137, zo_c 138 (vi 1)), (138, zo_iadd 139), (139, zo_puti 142 8 9), (142, zo_ald 143 0), (143, zo_dup 144), (144, zo_get 147 8 0 11), (147, zo_c 148 (vi 1)), (148, zo_isub 149), (149, zo_puti 152 8 11), (152, zo_ild 153 3), (153, zo_zret false)]
theorem ztX9_atom_2 {C : mm_C} (G : mm_G C RX9 cX9_atom (some .boolean) 4 (mm_rm 15 0 0)) (hnh : mm_nh C) : zz_OKs C zpX9_atom_2 :=
  ⟨zz_of (ok_aload_n G dX9_atom_0 rfl rfl) (z_ald _ _),
   zz_of (ok_get G (nx := 4) (ci := 8) (kd := 0) (k := 10) (RX9, TX9, 32) rfl (by decide) rfl q1815 dX9_atom_1 rfl) (z_get _ _ _ _),
   zz_of (ok_iconst G (v := (zI (-1))) dX9_atom_4 (by decide) rfl) (z_cz 5 (-1)),
   zz_of (ok_ceq G dX9_atom_5 rfl rfl) (z_ceq _ _ _ _),
   zz_of (ok_iconst G (v := 0) dX9_atom_8 (by decide) rfl) (z_cn 9 0),
   zz_of (ok_zret G dX9_atom_9) (z_zret _),
   zz_of (ok_aload_n G dX9_atom_10 rfl rfl) (z_ald _ _),
   zz_of (ok_callv G hnh (zmX9_skip _ G.hst) rfl rfl (RX9, TX9, 32) rfl q1925 q1927 qs41 q93 q1928 (by decide +kernel) ⟨by decide, by decide⟩ dX9_atom_11 rfl) (z_callv _ _ _ _),
   zz_of (ok_aload_n G dX9_atom_14 rfl rfl) (z_ald _ _),
   zz_of (ok_get G (nx := 18) (ci := 8) (kd := 0) (k := 9) (RX9, TX9, 32) rfl (by decide) rfl q1814 dX9_atom_15 rfl) (z_get _ _ _ _),
   zz_of (ok_istore_n G dX9_atom_18 rfl rfl (by decide)) (z_ist _ _),
   zz_of (ok_aload_n G dX9_atom_19 rfl rfl) (z_ald _ _),
   zz_of (ok_lds G (tx := "not") (by decide +kernel) dX9_atom_20 rfl) (z_cr 22 1009),
   zz_of (ok_callv G hnh (zmX9_has _ G.hst) rfl rfl (RX9, TX9, 32) rfl q1942 q1944 qs45 q93 q1945 (by decide +kernel) ⟨by decide, by decide⟩ dX9_atom_22 rfl) (z_callv _ _ _ _),
   zz_of (ok_istore_n G dX9_atom_25 rfl rfl (by decide)) (z_ist _ _),
   zz_of (ok_iload_n G dX9_atom_26 rfl rfl) (z_ild _ _),
   zz_of (ok_ifne G dX9_atom_27 rfl rfl) (z_ifne _ _ _),
   zz_of (ok_aload_n G dX9_atom_30 rfl rfl) (z_ald _ _),
   zz_of (ok_bipush G (v := 40) dX9_atom_31 (by decide) rfl) (z_cn 33 40),
   zz_of (ok_callv G hnh (zmX9_isSign _ G.hst) rfl rfl (RX9, TX9, 32) rfl q1976 q1978 qs50 q93 q1979 (by decide +kernel) ⟨by decide, by decide⟩ dX9_atom_33 rfl) (z_callv _ _ _ _),
   zz_of (ok_ifne G dX9_atom_36 rfl rfl) (z_zifne _ _),
   zz_of (ok_aload_n G dX9_atom_39 rfl rfl) (z_ald _ _),
   zz_of (ok_callv G hnh (zmX9_plainCond _ G.hst) rfl rfl (RX9, TX9, 32) rfl q1980 q1982 qs51 q93 q1983 (by decide +kernel) ⟨by decide, by decide⟩ dX9_atom_40 rfl) (z_callv _ _ _ _),
   zz_of (ok_zret G dX9_atom_43) (z_zret _),
   zz_of (ok_aload_n G dX9_atom_44 rfl rfl) (z_ald _ _),
   zz_of (ok_get G (nx := 48) (ci := 8) (kd := 0) (k := 11) (RX9, TX9, 32) rfl (by decide) rfl q1816 dX9_atom_45 rfl) (z_get _ _ _ _),
   zz_of (ok_bipush G (v := 6) dX9_atom_48 (by decide) rfl) (z_cn 50 6),
   zz_of (ok_cne G dX9_atom_50 rfl rfl) (z_cne _ _ _ _),
   zz_of (ok_aload_n G dX9_atom_53 rfl rfl) (z_ald _ _),
   zz_of (ok_iload_n G dX9_atom_54 rfl rfl) (z_ild _ _),
   zz_of (ok_callv G hnh (zmX9_wrong _ G.hst) rfl rfl (RX9, TX9, 32) rfl q1933 q1935 qs43 q93 q1936 (by decide +kernel) ⟨by decide, by decide⟩ dX9_atom_55 rfl) (z_callv _ _ _ _),
   zz_of (ok_iconst G (v := 0) dX9_atom_58 (by decide) rfl) (z_cn 59 0),
   zz_of (ok_zret G dX9_atom_59) (z_zret _),
   zz_of (ok_aload_n G dX9_atom_60 rfl rfl) (z_ald _ _),
   zz_of (ok_dup G dX9_atom_61 rfl) (z_dup _),
   zz_of (ok_get G (nx := 65) (ci := 8) (kd := 0) (k := 11) (RX9, TX9, 32) rfl (by decide) rfl q1816 dX9_atom_62 rfl) (z_get _ _ _ _),
   zz_of (ok_iconst G (v := 1) dX9_atom_65 (by decide) rfl) (z_cn 66 1),
   zz_of (ok_iadd G dX9_atom_66 rfl) (z_iadd _),
   zz_of (ok_puti G (nx := 70) (idx := 129) (ci := 8) (k := 11) (RX9, TX9, 32) rfl (by decide) rfl (mm_pw G (ci := 8) (k := 11) (RX9, TX9, 32) rfl (by decide) rfl q1816 dX9_atom_67) rfl) (z_puti _ _ _),
   zz_of (ok_iconst G (v := 0) dX9_atom_70 (by decide) rfl) (z_cn 71 0),
   zz_of (ok_istore_n G dX9_atom_71 rfl rfl (by decide)) (z_ist _ _),
   zz_of (ok_iload_n G dX9_atom_72 rfl rfl) (z_ild _ _),
   zz_of (ok_ifeq G dX9_atom_73 rfl rfl) (z_ifeq _ _ _),
   zz_of (ok_aload_n G dX9_atom_76 rfl rfl) (z_ald _ _),
   zz_of (ok_callv G hnh (zmX9_atom_1 _ G.hst) rfl rfl (RX9, TX9, 32) rfl q1971 q1973 qs49 q93 q1974 (by decide +kernel) ⟨by decide, by decide⟩ dX9_atom_77 rfl) (z_callv _ _ _ _),
   zz_of (ok_ifne G dX9_atom_80 rfl rfl) (z_zifne _ _),
   zz_of (ok_iconst G (v := 1) dX9_atom_83 (by decide) rfl) (z_cn 84 1),
   zz_of (ok_goto G dX9_atom_84 rfl) (z_goto _),
   zz_of (ok_iconst G (v := 0) dX9_atom_87 (by decide) rfl) (z_cn 88 0),
   zz_of (ok_istore_n G dX9_atom_88 rfl rfl (by decide)) (z_ist _ _),
   zz_of (ok_goto G dX9_atom_89 rfl) (z_goto _),
   zz_of (ok_aload_n G dX9_atom_92 rfl rfl) (z_ald _ _),
   zz_of (ok_dup G dX9_atom_93 rfl) (z_dup _),
   zz_of (ok_get G (nx := 97) (ci := 8) (kd := 0) (k := 9) (RX9, TX9, 32) rfl (by decide) rfl q1814 dX9_atom_94 rfl) (z_get _ _ _ _),
   zz_of (ok_iconst G (v := 1) dX9_atom_97 (by decide) rfl) (z_cn 98 1),
   zz_of (ok_iadd G dX9_atom_98 rfl) (z_iadd _),
   zz_of (ok_puti G (nx := 102) (idx := 80) (ci := 8) (k := 9) (RX9, TX9, 32) rfl (by decide) rfl (mm_pw G (ci := 8) (k := 9) (RX9, TX9, 32) rfl (by decide) rfl q1814 dX9_atom_99) rfl) (z_puti _ _ _),
   zz_of (ok_aload_n G dX9_atom_102 rfl rfl) (z_ald _ _),
   zz_of (ok_callv G hnh (zmX9_some_1 _ G.hst) rfl rfl (RX9, TX9, 32) rfl q1963 q1965 qs47 q93 q1966 (by decide +kernel) ⟨by decide, by decide⟩ dX9_atom_103 rfl) (z_callv _ _ _ _),
   zz_of (ok_istore_n G dX9_atom_106 rfl rfl (by decide)) (z_ist _ _),
   zz_of (ok_aload_n G dX9_atom_107 rfl rfl) (z_ald _ _),
   zz_of (ok_get G (nx := 111) (ci := 8) (kd := 0) (k := 10) (RX9, TX9, 32) rfl (by decide) rfl q1815 dX9_atom_108 rfl) (z_get _ _ _ _),
   zz_of (ok_iconst G (v := (zI (-1))) dX9_atom_111 (by decide) rfl) (z_cz 112 (-1)),
   zz_of (ok_cne G dX9_atom_112 rfl rfl) (z_cne _ _ _ _),
   zz_of (ok_aload_n G dX9_atom_115 rfl rfl) (z_ald _ _),
   zz_of (ok_bipush G (v := 41) dX9_atom_116 (by decide) rfl) (z_cn 118 41),
   zz_of (ok_callv G hnh (zmX9_isSign _ G.hst) rfl rfl (RX9, TX9, 32) rfl q1976 q1978 qs50 q93 q1979 (by decide +kernel) ⟨by decide, by decide⟩ dX9_atom_118 rfl) (z_callv _ _ _ _),
   zz_of (ok_ifne G dX9_atom_121 rfl rfl) (z_zifne _ _),
   zz_of (ok_aload_n G dX9_atom_124 rfl rfl) (z_ald _ _),
   zz_of (ok_aload_n G dX9_atom_125 rfl rfl) (z_ald _ _),
   zz_of (ok_get G (nx := 129) (ci := 8) (kd := 0) (k := 9) (RX9, TX9, 32) rfl (by decide) rfl q1814 dX9_atom_126 rfl) (z_get _ _ _ _),
   zz_of (ok_callv G hnh (zmX9_wrong _ G.hst) rfl rfl (RX9, TX9, 32) rfl q1933 q1935 qs43 q93 q1936 (by decide +kernel) ⟨by decide, by decide⟩ dX9_atom_129 rfl) (z_callv _ _ _ _),
   zz_of (ok_aload_n G dX9_atom_132 rfl rfl) (z_ald _ _),
   zz_of (ok_dup G dX9_atom_133 rfl) (z_dup _),
   zz_of (ok_get G (nx := 137) (ci := 8) (kd := 0) (k := 9) (RX9, TX9, 32) rfl (by decide) rfl q1814 dX9_atom_134 rfl) (z_get _ _ _ _),
   zz_of (ok_iconst G (v := 1) dX9_atom_137 (by decide) rfl) (z_cn 138 1),
   zz_of (ok_iadd G dX9_atom_138 rfl) (z_iadd _),
   zz_of (ok_puti G (nx := 142) (idx := 80) (ci := 8) (k := 9) (RX9, TX9, 32) rfl (by decide) rfl (mm_pw G (ci := 8) (k := 9) (RX9, TX9, 32) rfl (by decide) rfl q1814 dX9_atom_139) rfl) (z_puti _ _ _),
   zz_of (ok_aload_n G dX9_atom_142 rfl rfl) (z_ald _ _),
   zz_of (ok_dup G dX9_atom_143 rfl) (z_dup _),
   zz_of (ok_get G (nx := 147) (ci := 8) (kd := 0) (k := 11) (RX9, TX9, 32) rfl (by decide) rfl q1816 dX9_atom_144 rfl) (z_get _ _ _ _),
   zz_of (ok_iconst G (v := 1) dX9_atom_147 (by decide) rfl) (z_cn 148 1),
   zz_of (ok_isub G dX9_atom_148 rfl) (z_isub _),
   zz_of (ok_puti G (nx := 152) (idx := 129) (ci := 8) (k := 11) (RX9, TX9, 32) rfl (by decide) rfl (mm_pw G (ci := 8) (k := 11) (RX9, TX9, 32) rfl (by decide) rfl q1816 dX9_atom_149) rfl) (z_puti _ _ _),
   zz_of (ok_iload_n G dX9_atom_152 rfl rfl) (z_ild _ _),
   zz_of (ok_zret G dX9_atom_153) (z_zret _), trivial⟩

theorem zwX9_atom_2_0 {Q : Option zv → zz_M → Prop} {X : Nat → zz_M → Prop} {S L : Nat → Nat → Int}  (h : R32 (S 0 10) ∧ (((S 0 10) = (-1) → (∃ (tx_1 : Nat → Int) (n_1 a_1 : Nat), mT S tx_1 n_1 ∧ S 0 9 = a_1 ∧ a_1 ≤ n_1 + 1000 ∧ ((∃ (tx_2 : Nat → Int) (n_2 a_2 j_2 : Nat), 1009 = 1000 + j_2 ∧ j_2 < 18 ∧ mT (mm_up S 0 9 ((rn (qB tx_1) n_1 a_1 : Nat) : Int)) tx_2 n_2 ∧ (mm_up S 0 9 ((rn (qB tx_1) n_1 a_1 : Nat) : Int)) 0 9 = a_2 ∧ a_2 ≤ n_2 ∧ (hsW tx_2 n_2 (rn (qB tx_2) n_2 a_2) (wo j_2) = true → (zz_J zpX9_atom_2 (zz_ret Q X 0 0) 26 [some (vr 0), some (vi ((rn (qB tx_1) n_1 a_1 : Nat) : Int)), some (vi 1), none] [] (zm (mm_up (mm_up S 0 9 ((rn (qB tx_1) n_1 a_1 : Nat) : Int)) 0 9 ((rn (qB tx_2) n_2 a_2 + (wo j_2).length : Nat) : Int)) L) (0, 0))) ∧ (hsW tx_2 n_2 (rn (qB tx_2) n_2 a_2) (wo j_2) = false → (zz_J zpX9_atom_2 (zz_ret Q X 0 0) 26 [some (vr 0), some (vi ((rn (qB tx_1) n_1 a_1 : Nat) : Int)), some (vi 0), none] [] (zm (mm_up (mm_up S 0 9 ((rn (qB tx_1) n_1 a_1 : Nat) : Int)) 0 9 ((rn (qB tx_2) n_2 a_2 : Nat) : Int)) L) (0, 0))))))) ∧ (¬ (S 0 10) = (-1) → Q (some (vi 0)) (zm S L)))) : zz_J zpX9_atom_2 (zz_ret Q X 0 0) 0 [some (vr 0), none, none, none] [] (zm S L) (0, 0) := zz_J.go [(26, [3]), (44, [3]), (107, [1, 2]), (132, [1, 2]), (142, [1, 2])] 400 h
theorem zwX9_atom_2_26 {Q : Option zv → zz_M → Prop} {X : Nat → zz_M → Prop} {S L : Nat → Nat → Int} {x1 : Int} {x2 : Int} (h : R32 x2 ∧ ((¬ x2 = 0 → zz_J zpX9_atom_2 (zz_ret Q X 0 0) 44 [some (vr 0), some (vi x1), some (vi x2), none] [] (zm S L) (0, 0)) ∧ (x2 = 0 → (∃ (tx_1 : Nat → Int) (n_1 a_1 : Nat), R32 (40 : Int) ∧ mT S tx_1 n_1 ∧ S 0 9 = a_1 ∧ a_1 ≤ n_1 ∧ (isSg tx_1 n_1 (rn (qB tx_1) n_1 a_1) (40 : Int) = true → (zz_J zpX9_atom_2 (zz_ret Q X 0 0) 44 [some (vr 0), some (vi x1), some (vi x2), none] [] (zm (mm_up S 0 9 ((rn (qB tx_1) n_1 a_1 : Nat) : Int)) L) (0, 0))) ∧ (isSg tx_1 n_1 (rn (qB tx_1) n_1 a_1) (40 : Int) = false → ((∃ (tx_2 : Nat → Int) (n_2 a_2 : Nat), mT (mm_up S 0 9 ((rn (qB tx_1) n_1 a_1 : Nat) : Int)) tx_2 n_2 ∧ (mm_up S 0 9 ((rn (qB tx_1) n_1 a_1 : Nat) : Int)) 0 9 = a_2 ∧ (mm_up S 0 9 ((rn (qB tx_1) n_1 a_1 : Nat) : Int)) 0 10 = -1 ∧ a_2 ≤ n_2 ∧ bF (fcS (mm_up S 0 9 ((rn (qB tx_1) n_1 a_1 : Nat) : Int))) ∧ ((mm_up S 0 9 ((rn (qB tx_1) n_1 a_1 : Nat) : Int)) 0 13 = 0 ∨ (mm_up S 0 9 ((rn (qB tx_1) n_1 a_1 : Nat) : Int)) 0 13 = 1) ∧ ((mm_up S 0 9 ((rn (qB tx_1) n_1 a_1 : Nat) : Int)) 0 14 = 0 ∨ (mm_up S 0 9 ((rn (qB tx_1) n_1 a_1 : Nat) : Int)) 0 14 = 1) ∧ (∀ w_2 : Nat, plP tx_2 n_2 a_2 = .inl w_2 → ∀ (z_2 : Nat) (d_2 : Int), z_2 ≤ n_2 → (Q (some (vi 1)) (zm (pS (mm_up S 0 9 ((rn (qB tx_1) n_1 a_1 : Nat) : Int)) z_2 w_2 d_2) L)) ∧ (Q (some (vi 0)) (zm (pS (mm_up S 0 9 ((rn (qB tx_1) n_1 a_1 : Nat) : Int)) z_2 w_2 d_2) L))) ∧ (∀ c_2 : Nat × (Fc → Bool), plP tx_2 n_2 a_2 = .inr c_2 → (c_2.2 (fcS (mm_up S 0 9 ((rn (qB tx_1) n_1 a_1 : Nat) : Int))) = true → (Q (some (vi 1)) (zm (pS (mm_up S 0 9 ((rn (qB tx_1) n_1 a_1 : Nat) : Int)) c_2.1 (-1) ((mm_up S 0 9 ((rn (qB tx_1) n_1 a_1 : Nat) : Int)) 0 11)) L))) ∧ (c_2.2 (fcS (mm_up S 0 9 ((rn (qB tx_1) n_1 a_1 : Nat) : Int))) = false → (Q (some (vi 0)) (zm (pS (mm_up S 0 9 ((rn (qB tx_1) n_1 a_1 : Nat) : Int)) c_2.1 (-1) ((mm_up S 0 9 ((rn (qB tx_1) n_1 a_1 : Nat) : Int)) 0 11)) L))))))))))) : zz_J zpX9_atom_2 (zz_ret Q X 0 0) 26 [some (vr 0), some (vi x1), some (vi x2), none] [] (zm S L) (0, 0) := zz_J.go [(26, [3]), (44, [3]), (107, [1, 2]), (132, [1, 2]), (142, [1, 2])] 400 h
theorem zwX9_atom_2_44 {Q : Option zv → zz_M → Prop} {X : Nat → zz_M → Prop} {S L : Nat → Nat → Int} {x1 : Int} {x2 : Int} (h : R32 (S 0 11) ∧ ((¬ (S 0 11) = 6 → R32 x2 ∧ ((x2 = 0 → (∃ (tx_1 : Nat → Int) (n_1 a_1 : Nat), mT (mm_up (mm_up S 0 11 ((S 0 11) + 1)) 0 9 ((S 0 9) + 1)) tx_1 n_1 ∧ (mm_up (mm_up S 0 11 ((S 0 11) + 1)) 0 9 ((S 0 9) + 1)) 0 9 = a_1 ∧ (mm_up (mm_up S 0 11 ((S 0 11) + 1)) 0 9 ((S 0 9) + 1)) 0 10 = -1 ∧ (mm_up (mm_up S 0 11 ((S 0 11) + 1)) 0 9 ((S 0 9) + 1)) 0 11 = 5 ∧ a_1 ≤ n_1 ∧ bF (fcS (mm_up (mm_up S 0 11 ((S 0 11) + 1)) 0 9 ((S 0 9) + 1))) ∧ ((mm_up (mm_up S 0 11 ((S 0 11) + 1)) 0 9 ((S 0 9) + 1)) 0 13 = 0 ∨ (mm_up (mm_up S 0 11 ((S 0 11) + 1)) 0 9 ((S 0 9) + 1)) 0 13 = 1) ∧ ((mm_up (mm_up S 0 11 ((S 0 11) + 1)) 0 9 ((S 0 9) + 1)) 0 14 = 0 ∨ (mm_up (mm_up S 0 11 ((S 0 11) + 1)) 0 9 ((S 0 9) + 1)) 0 14 = 1) ∧ (∀ w_1 : Nat, soP tx_1 n_1 (atP tx_1 n_1 1) a_1 = .inl w_1 → ∀ (z_1 : Nat) (d_1 : Int), z_1 ≤ n_1 + 1 → (zz_J zpX9_atom_2 (zz_ret Q X 0 0) 107 [some (vr 0), none, none, some (vi 1)] [] (zm (pS (mm_up (mm_up S 0 11 ((S 0 11) + 1)) 0 9 ((S 0 9) + 1)) z_1 w_1 d_1) L) (0, 0)) ∧ (zz_J zpX9_atom_2 (zz_ret Q X 0 0) 107 [some (vr 0), none, none, some (vi 0)] [] (zm (pS (mm_up (mm_up S 0 11 ((S 0 11) + 1)) 0 9 ((S 0 9) + 1)) z_1 w_1 d_1) L) (0, 0))) ∧ (∀ c_1 : Nat × (Fc → Bool), soP tx_1 n_1 (atP tx_1 n_1 1) a_1 = .inr c_1 → (c_1.2 (fcS (mm_up (mm_up S 0 11 ((S 0 11) + 1)) 0 9 ((S 0 9) + 1))) = true → (zz_J zpX9_atom_2 (zz_ret Q X 0 0) 107 [some (vr 0), none, none, some (vi 1)] [] (zm (pS (mm_up (mm_up S 0 11 ((S 0 11) + 1)) 0 9 ((S 0 9) + 1)) c_1.1 (-1) ((mm_up (mm_up S 0 11 ((S 0 11) + 1)) 0 9 ((S 0 9) + 1)) 0 11)) L) (0, 0))) ∧ (c_1.2 (fcS (mm_up (mm_up S 0 11 ((S 0 11) + 1)) 0 9 ((S 0 9) + 1))) = false → (zz_J zpX9_atom_2 (zz_ret Q X 0 0) 107 [some (vr 0), none, none, some (vi 0)] [] (zm (pS (mm_up (mm_up S 0 11 ((S 0 11) + 1)) 0 9 ((S 0 9) + 1)) c_1.1 (-1) ((mm_up (mm_up S 0 11 ((S 0 11) + 1)) 0 9 ((S 0 9) + 1)) 0 11)) L) (0, 0)))))) ∧ (¬ x2 = 0 → (∃ (tx_2 : Nat → Int) (n_2 a_2 : Nat), mT (mm_up S 0 11 ((S 0 11) + 1)) tx_2 n_2 ∧ (mm_up S 0 11 ((S 0 11) + 1)) 0 9 = a_2 ∧ (mm_up S 0 11 ((S 0 11) + 1)) 0 10 = -1 ∧ (mm_up S 0 11 ((S 0 11) + 1)) 0 11 = 5 ∧ a_2 ≤ n_2 ∧ bF (fcS (mm_up S 0 11 ((S 0 11) + 1))) ∧ ((mm_up S 0 11 ((S 0 11) + 1)) 0 13 = 0 ∨ (mm_up S 0 11 ((S 0 11) + 1)) 0 13 = 1) ∧ ((mm_up S 0 11 ((S 0 11) + 1)) 0 14 = 0 ∨ (mm_up S 0 11 ((S 0 11) + 1)) 0 14 = 1) ∧ (∀ w_2 : Nat, atP tx_2 n_2 1 a_2 = .inl w_2 → ∀ (z_2 : Nat) (d_2 : Int), z_2 ≤ n_2 + 1 → (zz_J zpX9_atom_2 (zz_ret Q X 0 0) 142 [some (vr 0), none, none, some (vi 0)] [] (zm (pS (mm_up S 0 11 ((S 0 11) + 1)) z_2 w_2 d_2) L) (0, 0)) ∧ (zz_J zpX9_atom_2 (zz_ret Q X 0 0) 142 [some (vr 0), none, none, some (vi 1)] [] (zm (pS (mm_up S 0 11 ((S 0 11) + 1)) z_2 w_2 d_2) L) (0, 0))) ∧ (∀ c_2 : Nat × (Fc → Bool), atP tx_2 n_2 1 a_2 = .inr c_2 → (c_2.2 (fcS (mm_up S 0 11 ((S 0 11) + 1))) = true → (zz_J zpX9_atom_2 (zz_ret Q X 0 0) 142 [some (vr 0), none, none, some (vi 0)] [] (zm (pS (mm_up S 0 11 ((S 0 11) + 1)) c_2.1 (-1) ((mm_up S 0 11 ((S 0 11) + 1)) 0 11)) L) (0, 0))) ∧ (c_2.2 (fcS (mm_up S 0 11 ((S 0 11) + 1))) = false → (zz_J zpX9_atom_2 (zz_ret Q X 0 0) 142 [some (vr 0), none, none, some (vi 1)] [] (zm (pS (mm_up S 0 11 ((S 0 11) + 1)) c_2.1 (-1) ((mm_up S 0 11 ((S 0 11) + 1)) 0 11)) L) (0, 0)))))))) ∧ ((S 0 11) = 6 → (R32 (S 0 10) ∧ (Q (some (vi 0)) (zm (mm_up S 0 10 (wrF (S 0 10) x1)) L)))))) : zz_J zpX9_atom_2 (zz_ret Q X 0 0) 44 [some (vr 0), some (vi x1), some (vi x2), none] [] (zm S L) (0, 0) := zz_J.go [(26, [3]), (44, [3]), (107, [1, 2]), (132, [1, 2]), (142, [1, 2])] 400 h
theorem zwX9_atom_2_107 {Q : Option zv → zz_M → Prop} {X : Nat → zz_M → Prop} {S L : Nat → Nat → Int} {x3 : Int} (h : R32 (S 0 10) ∧ ((¬ (S 0 10) = (-1) → zz_J zpX9_atom_2 (zz_ret Q X 0 0) 132 [some (vr 0), none, none, some (vi x3)] [] (zm S L) (0, 0)) ∧ ((S 0 10) = (-1) → (∃ (tx_1 : Nat → Int) (n_1 a_1 : Nat), R32 (41 : Int) ∧ mT S tx_1 n_1 ∧ S 0 9 = a_1 ∧ a_1 ≤ n_1 ∧ (isSg tx_1 n_1 (rn (qB tx_1) n_1 a_1) (41 : Int) = true → (zz_J zpX9_atom_2 (zz_ret Q X 0 0) 132 [some (vr 0), none, none, some (vi x3)] [] (zm (mm_up S 0 9 ((rn (qB tx_1) n_1 a_1 : Nat) : Int)) L) (0, 0))) ∧ (isSg tx_1 n_1 (rn (qB tx_1) n_1 a_1) (41 : Int) = false → ((R32 ((mm_up S 0 9 ((rn (qB tx_1) n_1 a_1 : Nat) : Int)) 0 10) ∧ (zz_J zpX9_atom_2 (zz_ret Q X 0 0) 132 [some (vr 0), none, none, some (vi x3)] [] (zm (mm_up (mm_up S 0 9 ((rn (qB tx_1) n_1 a_1 : Nat) : Int)) 0 10 (wrF ((mm_up S 0 9 ((rn (qB tx_1) n_1 a_1 : Nat) : Int)) 0 10) ((rn (qB tx_1) n_1 a_1 : Nat) : Int))) L) (0, 0))))))))) : zz_J zpX9_atom_2 (zz_ret Q X 0 0) 107 [some (vr 0), none, none, some (vi x3)] [] (zm S L) (0, 0) := zz_J.go [(26, [3]), (44, [3]), (107, [1, 2]), (132, [1, 2]), (142, [1, 2])] 400 h
theorem zwX9_atom_2_132 {Q : Option zv → zz_M → Prop} {X : Nat → zz_M → Prop} {S L : Nat → Nat → Int} {x3 : Int} (h : zz_J zpX9_atom_2 (zz_ret Q X 0 0) 142 [some (vr 0), none, none, some (vi x3)] [] (zm (mm_up S 0 9 ((S 0 9) + 1)) L) (0, 0)) : zz_J zpX9_atom_2 (zz_ret Q X 0 0) 132 [some (vr 0), none, none, some (vi x3)] [] (zm S L) (0, 0) := zz_J.go [(26, [3]), (44, [3]), (107, [1, 2]), (132, [1, 2]), (142, [1, 2])] 400 h
theorem zwX9_atom_2_142 {Q : Option zv → zz_M → Prop} {X : Nat → zz_M → Prop} {S L : Nat → Nat → Int} {x3 : Int} (h : (x3 = 0 ∨ x3 = 1) ∧ (Q (some (vi x3)) (zm (mm_up S 0 11 ((S 0 11) - 1)) L))) : zz_J zpX9_atom_2 (zz_ret Q X 0 0) 142 [some (vr 0), none, none, some (vi x3)] [] (zm S L) (0, 0) := zz_J.go [(26, [3]), (44, [3]), (107, [1, 2]), (132, [1, 2]), (142, [1, 2])] 400 h

theorem zmX9_atom_2 (l : Launch) (hl : l.stackTraces = false) : mm_Spec l yX9_atom (ws_ yX9_atom cX9_atom 4 (some .boolean)) (mm_rm 15 0 0) (zE zX9_atom_2) := by
  refine zz_Met.J hl (by decide) (fun C G hnh => ztX9_atom_2 G hnh) ?_
  rintro as ⟨⟨t_, f⟩, S, L, P⟩ Q X h
  unfold zX9_atom_2 at h
  split at h
  rotate_left
  · exact h.elim
  rename_i h_
  obtain ⟨e1_, e2_, h⟩ := mm_and2 h (fun q => q)
  cases mm_beq e1_
  cases mm_beq e2_
  try dsimp only at h
  refine ⟨rfl, ?_⟩
  refine zz_Jev (M' := zm S L) rfl rfl rfl ?_
  obtain ⟨tx, n, a, hT, h9, h10, h11, ha, hF, h13, h14, hq1, hq2⟩ := h
  have hn := hT.1
  have hpw : ∀ a w, a ≤ n → ptP tx n a = .inl w → w ≤ n := fun a w h e => ptP_w h e
  generalize hd : S 0 11 = d at h11 hq2
  have hS : S = pS S a (-1) d := by rw [← hd]; exact pS_of h9 h10
  rw [hS]
  have hb := rn_le (q := qB tx) ha
  have hbb := rn_rn (q := qB tx) ha
  have hat := atP_ok hT.2.2.1 hpw 1
  have hso := soP_ok (tx := tx) hat
  have t142 : ∀ (z : Nat) (w d' x : Int), (x = 0 ∨ x = 1) → Q (some (vi x)) (zm (pS S z w (d' - 1)) L) → zz_J zpX9_atom_2 (zz_ret Q X 0 0) 142 [some (vr 0), none, none, some (vi x)] [] (zm (pS S z w d') L) (0, 0) := by
    intro z w d' x hx hq
    refine zwX9_atom_2_142 ?_
    simp only [pS_r11, pS_11]
    exact ⟨hx, hq⟩
  have t132 : ∀ (z : Nat) (w d' x : Int), (x = 0 ∨ x = 1) → Q (some (vi x)) (zm (pS S (z + 1 : Nat) w (d' - 1)) L) → zz_J zpX9_atom_2 (zz_ret Q X 0 0) 132 [some (vr 0), none, none, some (vi x)] [] (zm (pS S z w d') L) (0, 0) := by
    intro z w d' x hx hq
    refine zwX9_atom_2_132 ?_
    simp only [pS_r9, pS_9]
    exact t142 (z + 1) w d' x hx hq
  -- not
  have t44n : hsW tx n (rn (qB tx) n a) (wo 9) = true → zz_J zpX9_atom_2 (zz_ret Q X 0 0) 44 [some (vr 0), some (vi (rn (qB tx) n a : Nat)), some (vi 1), none] [] (zm (pS S (rn (qB tx) n a + 3 : Nat) (-1) d) L) (0, 0) := by
    intro c
    have h3 : rn (qB tx) n a + 3 ≤ n := hsW_le hb c
    refine zwX9_atom_2_44 ?_
    simp only [pS_r10, pS_r9, pS_r11, pS_11, mT_pS, pS_pS, fcS_pS]
    refine ⟨by omega, fun _ => ⟨by omega, fun h => absurd h (by decide), fun _ => ⟨tx, n, rn (qB tx) n a + 3, hT, rfl, trivial, by omega, h3, hF, h13, h14, fun w ew z d' hz => ?_, fun c2 ec => ?_⟩⟩, fun h => by omega⟩
    · have e : atP tx n 2 a = .inl w := by unfold atP; rw [if_pos c, ew]
      have hq := hq1 w e z (d' - 1) (by omega)
      exact ⟨t142 z w d' 0 (Or.inl rfl) hq.2, t142 z w d' 1 (Or.inr rfl) hq.1⟩
    · have e : atP tx n 2 a = .inr (c2.1, fun F => !c2.2 F) := by unfold atP; rw [if_pos c, ec]
      have hq := hq2 _ e
      have ed : d + 1 - 1 = d := by omega
      refine ⟨fun t => t142 _ _ _ 0 (Or.inl rfl) ?_, fun t => t142 _ _ _ 1 (Or.inr rfl) ?_⟩
      · rw [ed]; exact hq.2 (by show (!c2.2 (fcS S)) = false; rw [t]; rfl)
      · rw [ed]; exact hq.1 (by show (!c2.2 (fcS S)) = true; rw [t]; rfl)
  -- a bracket
  have t44b : hsW tx n (rn (qB tx) n a) (wo 9) = false → isSg tx n (rn (qB tx) n a) 40 = true → zz_J zpX9_atom_2 (zz_ret Q X 0 0) 44 [some (vr 0), some (vi (rn (qB tx) n a : Nat)), some (vi 0), none] [] (zm (pS S (rn (qB tx) n a : Nat) (-1) d) L) (0, 0) := by
    intro c c1
    have h3 := (isSg_t.mp c1).1
    have eat : ∀ q, soP tx n (atP tx n 1) (rn (qB tx) n a + 1) = q → atP tx n 2 a = (match q with
      | .inl w => .inl w
      | .inr c => if isSg tx n (rn (qB tx) n c.1) 41 = true then .inr (rn (qB tx) n c.1 + 1, c.2) else .inl (rn (qB tx) n c.1)) := by
      intro q hq
      unfold atP
      rw [if_neg (by rw [c]; decide), if_pos c1, hq]
      cases q <;> rfl
    refine zwX9_atom_2_44 ?_
    simp only [pS_r10, pS_r9, pS_r11, pS_11, pS_9, mT_pS, pS_pS, fcS_pS]
    refine ⟨by omega, fun _ => ⟨by omega, fun _ => ⟨tx, n, rn (qB tx) n a + 1, hT, rfl, trivial, by omega, by omega, hF, h13, h14, fun w ew z d' hz => ?_, fun c2 ec => ?_⟩, fun h => absurd trivial h⟩, fun h => by omega⟩
    · have e := eat _ ew
      have hw := (hso _ (by omega)).2 w ew
      have hq := hq1 w e (z + 1) (d' - 1) (by omega)
      have f107 : ∀ x : Int, (x = 0 ∨ x = 1) → Q (some (vi x)) (zm (pS S (z + 1 : Nat) w (d' - 1)) L) → zz_J zpX9_atom_2 (zz_ret Q X 0 0) 107 [some (vr 0), none, none, some (vi x)] [] (zm (pS S z w d') L) (0, 0) := by
        intro x hx hqx
        refine zwX9_atom_2_107 ?_
        simp only [pS_r10]
        exact ⟨by omega, fun _ => t132 z w d' x hx hqx, fun h => by omega⟩
      exact ⟨f107 1 (Or.inr rfl) hq.1, f107 0 (Or.inl rfl) hq.2⟩
    · have e := eat _ ec
      have hc := (hso _ (by omega)).1 c2 ec
      have g2 := rn_le (q := qB tx) hc.2
      have f107 : ∀ x : Int, (x = 0 ∨ x = 1) → (x = 1 → c2.2 (fcS S) = true) → (x = 0 → c2.2 (fcS S) = false) → zz_J zpX9_atom_2 (zz_ret Q X 0 0) 107 [some (vr 0), none, none, some (vi x)] [] (zm (pS S c2.1 (-1) (d + 1)) L) (0, 0) := by
        intro x hx x1 x0
        have ed : d + 1 - 1 = d := by omega
        refine zwX9_atom_2_107 ?_
        simp only [pS_r10, pS_r9, pS_r11, pS_11, pS_9, pS_10, mT_pS, pS_pS, fcS_pS, wrF, if_true]
        refine ⟨by omega, fun h => absurd trivial h, fun _ => ⟨tx, n, c2.1, by omega, hT, rfl, hc.2, fun s => ?_, fun s => ⟨by omega, ?_⟩⟩⟩
        · have e2 : atP tx n 2 a = .inr (rn (qB tx) n c2.1 + 1, c2.2) := by rw [e]; exact if_pos s
          have hq := hq2 _ e2
          refine t132 _ _ _ x hx ?_
          rw [ed]
          rcases hx with h | h
          · rw [h]; exact hq.2 (x0 h)
          · rw [h]; exact hq.1 (x1 h)
        · have e2 : atP tx n 2 a = .inl (rn (qB tx) n c2.1) := by rw [e]; exact if_neg (by rw [s]; decide)
          refine t132 _ _ _ x hx ?_
          rw [ed]
          exact bool_qq hx (hq1 _ e2 (rn (qB tx) n c2.1 + 1) d (by omega))
      exact ⟨fun t => f107 1 (Or.inr rfl) (fun _ => t) (fun h => absurd h (by decide)), fun t => f107 0 (Or.inl rfl) (fun h => absurd h (by decide)) (fun _ => t)⟩
  have ats : plP tx n (rn (qB tx) n a) = plP tx n a := by unfold plP; rw [hbb]
  refine zwX9_atom_2_0 ?_
  simp only [pS_r10, pS_r9, pS_r11, pS_9, mT_pS, pS_pS, fcS_pS]
  refine ⟨by omega, fun _ => ⟨tx, n, a, hT, rfl, by omega, tx, n, rn (qB tx) n a, 9, rfl, by decide, hT, rfl, hb, ?_⟩, fun h => absurd trivial h⟩
  rw [hbb]
  refine ⟨fun c => ?_, fun c => ?_⟩
  · exact zwX9_atom_2_26 ⟨by omega, fun _ => t44n c, fun h => by omega⟩
  · refine zwX9_atom_2_26 ?_
    simp only [pS_r10, pS_r9, pS_r11, pS_9, mT_pS, pS_pS, fcS_pS]
    refine ⟨by omega, fun h => absurd trivial h, fun _ => ⟨tx, n, rn (qB tx) n a, by omega, hT, rfl, hb, ?_⟩⟩
    rw [hbb]
    refine ⟨fun c2 => t44b c c2, fun c2 => ⟨tx, n, rn (qB tx) n a, hT, rfl, trivial, hb, hF, h13, h14, fun w ew z d' hz => ?_, fun c3 ec => ?_⟩⟩
    · rw [ats] at ew
      exact hq1 w (by unfold atP; rw [if_neg (by rw [c]; decide), if_neg (by rw [c2]; decide)]; exact ew) z d' (by omega)
    · rw [ats] at ec
      exact hq2 c3 (by unfold atP; rw [if_neg (by rw [c]; decide), if_neg (by rw [c2]; decide)]; exact ec)
def zX9_every_2 : zz_Sp := fun as M Q X => match as with
  | [.inr (.inr (some h_))] => bif Nat.beq h_ 0 && Nat.beq M.1.1 1 then (∃ (tx_ : Nat → Int) (n_ a_ : Nat), mT M.2.1 tx_ n_ ∧ M.2.1 0 9 = a_ ∧ M.2.1 0 10 = -1 ∧ M.2.1 0 11 = 4 ∧ a_ ≤ n_ ∧ bF (fcS M.2.1) ∧ (M.2.1 0 13 = 0 ∨ M.2.1 0 13 = 1) ∧ (M.2.1 0 14 = 0 ∨ M.2.1 0 14 = 1) ∧ (∀ w_ : Nat, evP tx_ n_ (atP tx_ n_ 2) a_ = .inl w_ → ∀ (z_ : Nat) (d_ : Int), z_ ≤ n_ + 2 → Q (some (vi 1)) (zm (pS M.2.1 z_ w_ d_) M.2.2.1) ∧ Q (some (vi 0)) (zm (pS M.2.1 z_ w_ d_) M.2.2.1)) ∧ (∀ c_ : Nat × (Fc → Bool), evP tx_ n_ (atP tx_ n_ 2) a_ = .inr c_ → (c_.2 (fcS M.2.1) = true → Q (some (vi 1)) (zm (pS M.2.1 c_.1 (-1) (M.2.1 0 11)) M.2.2.1)) ∧ (c_.2 (fcS M.2.1) = false → Q (some (vi 0)) (zm (pS M.2.1 c_.1 (-1) (M.2.1 0 11)) M.2.2.1)))) else False
  | _ => False

def zpX9_every_2 : zz_P := [(0, zo_ald 1 0), (1, zo_callv 4 1 8 zX9_atom_2), (4, zo_ist 5 1), (5, zo_ald 6 0), (6, zo_get 9 8 0 10), (9, zo_c 10 (vi (-1))), (10, zo_cne false true 13 44), (13, zo_ald 14 0), (14, zo_c 16 (vr 1012)), (16, zo_callv 19 2 8 zX9_has), (19, zo_zifeq 22 44), (22, zo_ald 23 0), (23, zo_callv 26 1 8 zX9_atom_2), (26, zo_ist 27 2), (27, zo_ild 28 1), (28, zo_ifeq false 31 39), (31, zo_ild 32 2), (32, zo_zifeq 35 39), (35, zo_c 36 (vi 1)), (36, zo_goto 40), (39, zo_c 40 (vi 0)), (40, zo_ist 41 1), (41, zo_goto 5), (44, zo_ild 45 1), (45, zo_zret false)]
theorem ztX9_every_2 {C : mm_C} (G : mm_G C RX9 cX9_every (some .boolean) 3 (mm_rm 16 0 0)) (hnh : mm_nh C) : zz_OKs C zpX9_every_2 :=
  ⟨zz_of (ok_aload_n G dX9_every_0 rfl rfl) (z_ald _ _),
   zz_of (ok_callv G hnh (zmX9_atom_2 _ G.hst) rfl rfl (RX9, TX9, 32) rfl q1971 q1973 qs49 q93 q1974 (by decide +kernel) ⟨by decide, by decide⟩ dX9_every_1 rfl) (z_callv _ _ _ _),
   zz_of (ok_istore_n G dX9_every_4 rfl rfl (by decide)) (z_ist _ _),
   zz_of (ok_aload_n G dX9_every_5 rfl rfl) (z_ald _ _),
   zz_of (ok_get G (nx := 9) (ci := 8) (kd := 0) (k := 10) (RX9, TX9, 32) rfl (by decide) rfl q1815 dX9_every_6 rfl) (z_get _ _ _ _),
   zz_of (ok_iconst G (v := (zI (-1))) dX9_every_9 (by decide) rfl) (z_cz 10 (-1)),
   zz_of (ok_cne G dX9_every_10 rfl rfl) (z_cne _ _ _ _),
   zz_of (ok_aload_n G dX9_every_13 rfl rfl) (z_ald _ _),
   zz_of (ok_lds G (tx := "and") (by decide +kernel) dX9_every_14 rfl) (z_cr 16 1012),
   zz_of (ok_callv G hnh (zmX9_has _ G.hst) rfl rfl (RX9, TX9, 32) rfl q1942 q1944 qs45 q93 q1945 (by decide +kernel) ⟨by decide, by decide⟩ dX9_every_16 rfl) (z_callv _ _ _ _),
   zz_of (ok_ifeq G dX9_every_19 rfl rfl) (z_zifeq _ _),
   zz_of (ok_aload_n G dX9_every_22 rfl rfl) (z_ald _ _),
   zz_of (ok_callv G hnh (zmX9_atom_2 _ G.hst) rfl rfl (RX9, TX9, 32) rfl q1971 q1973 qs49 q93 q1974 (by decide +kernel) ⟨by decide, by decide⟩ dX9_every_23 rfl) (z_callv _ _ _ _),
   zz_of (ok_istore_n G dX9_every_26 rfl rfl (by decide)) (z_ist _ _),
   zz_of (ok_iload_n G dX9_every_27 rfl rfl) (z_ild _ _),
   zz_of (ok_ifeq G dX9_every_28 rfl rfl) (z_ifeq _ _ _),
   zz_of (ok_iload_n G dX9_every_31 rfl rfl) (z_ild _ _),
   zz_of (ok_ifeq G dX9_every_32 rfl rfl) (z_zifeq _ _),
   zz_of (ok_iconst G (v := 1) dX9_every_35 (by decide) rfl) (z_cn 36 1),
   zz_of (ok_goto G dX9_every_36 rfl) (z_goto _),
   zz_of (ok_iconst G (v := 0) dX9_every_39 (by decide) rfl) (z_cn 40 0),
   zz_of (ok_istore_n G dX9_every_40 rfl rfl (by decide)) (z_ist _ _),
   zz_of (ok_goto G dX9_every_41 rfl) (z_goto _),
   zz_of (ok_iload_n G dX9_every_44 rfl rfl) (z_ild _ _),
   zz_of (ok_zret G dX9_every_45) (z_zret _), trivial⟩

theorem zwX9_every_2_0 {Q : Option zv → zz_M → Prop} {X : Nat → zz_M → Prop} {S L : Nat → Nat → Int}  (h : (∃ (tx_1 : Nat → Int) (n_1 a_1 : Nat), mT S tx_1 n_1 ∧ S 0 9 = a_1 ∧ S 0 10 = -1 ∧ S 0 11 = 4 ∧ a_1 ≤ n_1 ∧ bF (fcS S) ∧ (S 0 13 = 0 ∨ S 0 13 = 1) ∧ (S 0 14 = 0 ∨ S 0 14 = 1) ∧ (∀ w_1 : Nat, atP tx_1 n_1 2 a_1 = .inl w_1 → ∀ (z_1 : Nat) (d_1 : Int), z_1 ≤ n_1 + 2 → (zz_J zpX9_every_2 (zz_ret Q X 0 0) 5 [some (vr 0), some (vi 1), none] [] (zm (pS S z_1 w_1 d_1) L) (0, 0)) ∧ (zz_J zpX9_every_2 (zz_ret Q X 0 0) 5 [some (vr 0), some (vi 0), none] [] (zm (pS S z_1 w_1 d_1) L) (0, 0))) ∧ (∀ c_1 : Nat × (Fc → Bool), atP tx_1 n_1 2 a_1 = .inr c_1 → (c_1.2 (fcS S) = true → (zz_J zpX9_every_2 (zz_ret Q X 0 0) 5 [some (vr 0), some (vi 1), none] [] (zm (pS S c_1.1 (-1) (S 0 11)) L) (0, 0))) ∧ (c_1.2 (fcS S) = false → (zz_J zpX9_every_2 (zz_ret Q X 0 0) 5 [some (vr 0), some (vi 0), none] [] (zm (pS S c_1.1 (-1) (S 0 11)) L) (0, 0)))))) : zz_J zpX9_every_2 (zz_ret Q X 0 0) 0 [some (vr 0), none, none] [] (zm S L) (0, 0) := zz_J.go [(5, [2])] 400 h
theorem zwX9_every_2_5 {Q : Option zv → zz_M → Prop} {X : Nat → zz_M → Prop} {S L : Nat → Nat → Int} {x1 : Int} (h : R32 (S 0 10) ∧ ((¬ (S 0 10) = (-1) → (x1 = 0 ∨ x1 = 1) ∧ (Q (some (vi x1)) (zm S L))) ∧ ((S 0 10) = (-1) → (∃ (tx_1 : Nat → Int) (n_1 a_1 j_1 : Nat), 1012 = 1000 + j_1 ∧ j_1 < 18 ∧ mT S tx_1 n_1 ∧ S 0 9 = a_1 ∧ a_1 ≤ n_1 ∧ (hsW tx_1 n_1 (rn (qB tx_1) n_1 a_1) (wo j_1) = true → ((∃ (tx_2 : Nat → Int) (n_2 a_2 : Nat), mT (mm_up S 0 9 ((rn (qB tx_1) n_1 a_1 + (wo j_1).length : Nat) : Int)) tx_2 n_2 ∧ (mm_up S 0 9 ((rn (qB tx_1) n_1 a_1 + (wo j_1).length : Nat) : Int)) 0 9 = a_2 ∧ (mm_up S 0 9 ((rn (qB tx_1) n_1 a_1 + (wo j_1).length : Nat) : Int)) 0 10 = -1 ∧ (mm_up S 0 9 ((rn (qB tx_1) n_1 a_1 + (wo j_1).length : Nat) : Int)) 0 11 = 4 ∧ a_2 ≤ n_2 ∧ bF (fcS (mm_up S 0 9 ((rn (qB tx_1) n_1 a_1 + (wo j_1).length : Nat) : Int))) ∧ ((mm_up S 0 9 ((rn (qB tx_1) n_1 a_1 + (wo j_1).length : Nat) : Int)) 0 13 = 0 ∨ (mm_up S 0 9 ((rn (qB tx_1) n_1 a_1 + (wo j_1).length : Nat) : Int)) 0 13 = 1) ∧ ((mm_up S 0 9 ((rn (qB tx_1) n_1 a_1 + (wo j_1).length : Nat) : Int)) 0 14 = 0 ∨ (mm_up S 0 9 ((rn (qB tx_1) n_1 a_1 + (wo j_1).length : Nat) : Int)) 0 14 = 1) ∧ (∀ w_2 : Nat, atP tx_2 n_2 2 a_2 = .inl w_2 → ∀ (z_2 : Nat) (d_2 : Int), z_2 ≤ n_2 + 2 → (R32 x1 ∧ ((x1 = 0 → zz_J zpX9_every_2 (zz_ret Q X 0 0) 5 [some (vr 0), some (vi 0), none] [] (zm (pS (mm_up S 0 9 ((rn (qB tx_1) n_1 a_1 + (wo j_1).length : Nat) : Int)) z_2 w_2 d_2) L) (0, 0)) ∧ (¬ x1 = 0 → zz_J zpX9_every_2 (zz_ret Q X 0 0) 5 [some (vr 0), some (vi 1), none] [] (zm (pS (mm_up S 0 9 ((rn (qB tx_1) n_1 a_1 + (wo j_1).length : Nat) : Int)) z_2 w_2 d_2) L) (0, 0)))) ∧ (R32 x1 ∧ ((x1 = 0 → zz_J zpX9_every_2 (zz_ret Q X 0 0) 5 [some (vr 0), some (vi 0), none] [] (zm (pS (mm_up S 0 9 ((rn (qB tx_1) n_1 a_1 + (wo j_1).length : Nat) : Int)) z_2 w_2 d_2) L) (0, 0)) ∧ (¬ x1 = 0 → zz_J zpX9_every_2 (zz_ret Q X 0 0) 5 [some (vr 0), some (vi 0), none] [] (zm (pS (mm_up S 0 9 ((rn (qB tx_1) n_1 a_1 + (wo j_1).length : Nat) : Int)) z_2 w_2 d_2) L) (0, 0))))) ∧ (∀ c_2 : Nat × (Fc → Bool), atP tx_2 n_2 2 a_2 = .inr c_2 → (c_2.2 (fcS (mm_up S 0 9 ((rn (qB tx_1) n_1 a_1 + (wo j_1).length : Nat) : Int))) = true → (R32 x1 ∧ ((x1 = 0 → zz_J zpX9_every_2 (zz_ret Q X 0 0) 5 [some (vr 0), some (vi 0), none] [] (zm (pS (mm_up S 0 9 ((rn (qB tx_1) n_1 a_1 + (wo j_1).length : Nat) : Int)) c_2.1 (-1) ((mm_up S 0 9 ((rn (qB tx_1) n_1 a_1 + (wo j_1).length : Nat) : Int)) 0 11)) L) (0, 0)) ∧ (¬ x1 = 0 → zz_J zpX9_every_2 (zz_ret Q X 0 0) 5 [some (vr 0), some (vi 1), none] [] (zm (pS (mm_up S 0 9 ((rn (qB tx_1) n_1 a_1 + (wo j_1).length : Nat) : Int)) c_2.1 (-1) ((mm_up S 0 9 ((rn (qB tx_1) n_1 a_1 + (wo j_1).length : Nat) : Int)) 0 11)) L) (0, 0))))) ∧ (c_2.2 (fcS (mm_up S 0 9 ((rn (qB tx_1) n_1 a_1 + (wo j_1).length : Nat) : Int))) = false → (R32 x1 ∧ ((x1 = 0 → zz_J zpX9_every_2 (zz_ret Q X 0 0) 5 [some (vr 0), some (vi 0), none] [] (zm (pS (mm_up S 0 9 ((rn (qB tx_1) n_1 a_1 + (wo j_1).length : Nat) : Int)) c_2.1 (-1) ((mm_up S 0 9 ((rn (qB tx_1) n_1 a_1 + (wo j_1).length : Nat) : Int)) 0 11)) L) (0, 0)) ∧ (¬ x1 = 0 → zz_J zpX9_every_2 (zz_ret Q X 0 0) 5 [some (vr 0), some (vi 0), none] [] (zm (pS (mm_up S 0 9 ((rn (qB tx_1) n_1 a_1 + (wo j_1).length : Nat) : Int)) c_2.1 (-1) ((mm_up S 0 9 ((rn (qB tx_1) n_1 a_1 + (wo j_1).length : Nat) : Int)) 0 11)) L) (0, 0))))))))) ∧ (hsW tx_1 n_1 (rn (qB tx_1) n_1 a_1) (wo j_1) = false → ((x1 = 0 ∨ x1 = 1) ∧ (Q (some (vi x1)) (zm (mm_up S 0 9 ((rn (qB tx_1) n_1 a_1 : Nat) : Int)) L)))))))) : zz_J zpX9_every_2 (zz_ret Q X 0 0) 5 [some (vr 0), some (vi x1), none] [] (zm S L) (0, 0) := zz_J.go [(5, [2])] 400 h

theorem zmX9_every_2 (l : Launch) (hl : l.stackTraces = false) : mm_Spec l yX9_every (ws_ yX9_every cX9_every 3 (some .boolean)) (mm_rm 16 0 0) (zE zX9_every_2) := by
  refine zz_Met.J hl (by decide) (fun C G hnh => ztX9_every_2 G hnh) ?_
  rintro as ⟨⟨t_, f⟩, S, L, P⟩ Q X h
  unfold zX9_every_2 at h
  split at h
  rotate_left
  · exact h.elim
  rename_i h_
  obtain ⟨e1_, e2_, h⟩ := mm_and2 h (fun q => q)
  cases mm_beq e1_
  cases mm_beq e2_
  try dsimp only at h
  refine ⟨rfl, ?_⟩
  refine zz_Jev (M' := zm S L) rfl rfl rfl ?_
  obtain ⟨tx, n, a, hT, h9, h10, h11, ha, hF, h13, h14, hq1, hq2⟩ := h
  have hn := hT.1
  have hat := atP_ok hT.2.2.1 (fun a w h e => ptP_w h e) 2
  generalize hd : S 0 11 = d at h11 hq2
  have tw : ∀ (w z : Nat) (x d' : Int), w ≤ n → z ≤ n + 2 → (x = 0 ∨ x = 1) → evP tx n (atP tx n 2) a = .inl w → zz_J zpX9_every_2 (zz_ret Q X 0 0) 5 [some (vr 0), some (vi x), none] [] (zm (pS S z w d') L) (0, 0) := by
    intro w z x d' hw hz hx e
    refine zwX9_every_2_5 ?_
    simp only [pS_r10]
    exact ⟨by omega, fun _ => ⟨hx, bool_qq hx (hq1 w e z d' hz)⟩, fun h => by omega⟩
  have lp : ∀ (k a' : Nat) (g : Fc → Bool) (x : Int), n - a' = k → a' ≤ n → x = (bif g (fcS S) then 1 else 0) → evP tx n (atP tx n 2) a = lpP n (rn (qB tx) n) (spW tx n 12) (atP tx n 2) (fun g h F => g F && h F) a' g → zz_J zpX9_every_2 (zz_ret Q X 0 0) 5 [some (vr 0), some (vi x), none] [] (zm (pS S a' (-1) d) L) (0, 0) := by
    intro k
    induction k using Nat.strongRecOn with
    | ind k ih =>
      intro a' g x hk ha' hx e
      have hb := rn_le (q := qB tx) ha'
      have hx01 : x = 0 ∨ x = 1 := by rw [hx]; cases g (fcS S) <;> simp
      refine zwX9_every_2_5 ?_
      simp only [pS_r10, pS_r9, pS_r11, pS_9, mT_pS, pS_pS, fcS_pS]
      refine ⟨by omega, fun h => absurd trivial h, fun _ => ⟨tx, n, a', 12, rfl, by decide, hT, rfl, ha', fun c => ?_, fun c => ⟨hx01, ?_⟩⟩⟩
      · have hs : spW tx n 12 a' = some (rn (qB tx) n a' + 3) := by unfold spW; rw [if_pos c]; rfl
        have h1 := spW_in (by decide) _ _ ha' hs
        refine ⟨tx, n, rn (qB tx) n a' + 3, hT, rfl, trivial, h11, h1.2, hF, h13, h14, fun w ew z d' hz => ?_, fun c2 ec => ?_⟩
        · rw [lpP_l ha' hs ew] at e
          have hw := (hat _ h1.2).2 w ew
          refine ⟨⟨by omega, fun _ => tw w z 0 d' hw hz (Or.inl rfl) e, fun _ => tw w z 1 d' hw hz (Or.inr rfl) e⟩, ⟨by omega, fun _ => tw w z 0 d' hw hz (Or.inl rfl) e, fun _ => tw w z 0 d' hw hz (Or.inl rfl) e⟩⟩
        · have h2 := (hat _ h1.2).1 c2 ec
          rw [lpP_r (fun a b h1 h2 => spW_in (by decide) a b h1 h2) (fun a c h1 h2 => (hat a h1).1 c h2) ha' hs ec] at e
          refine ⟨fun t => ⟨by omega, fun x0 => ?_, fun x1 => ?_⟩, fun t => ⟨by omega, fun x0 => ?_, fun x1 => ?_⟩⟩
          · refine ih (n - c2.1) (by omega) c2.1 _ 0 rfl h2.2 ?_ e
            rw [t]; revert hx; cases g (fcS S) <;> simp; omega
          · refine ih (n - c2.1) (by omega) c2.1 _ 1 rfl h2.2 ?_ e
            rw [t]; revert hx; cases g (fcS S) <;> simp; omega
          · refine ih (n - c2.1) (by omega) c2.1 _ 0 rfl h2.2 ?_ e
            rw [t]; simp
          · refine ih (n - c2.1) (by omega) c2.1 _ 0 rfl h2.2 ?_ e
            rw [t]; simp
      · have hs : spW tx n 12 a' = none := by unfold spW; rw [if_neg (by rw [c]; decide)]
        rw [lpP_n ha' hs] at e
        have hq := hq2 _ e
        rw [hx]
        revert hq
        show (g (fcS S) = true → _) ∧ (g (fcS S) = false → _) → _
        cases g (fcS S) with
        | true => exact fun hq => hq.1 rfl
        | false => exact fun hq => hq.2 rfl
  refine zwX9_every_2_0 ⟨tx, n, a, hT, h9, h10, by rw [hd]; exact h11, ha, hF, h13, h14, fun w e z d' hz => ?_, fun c e => ?_⟩
  · have hw := (hat a ha).2 w e
    have e2 : evP tx n (atP tx n 2) a = .inl w := seqP_f e
    exact ⟨tw w z 1 d' hw hz (Or.inr rfl) e2, tw w z 0 d' hw hz (Or.inl rfl) e2⟩
  · have hc := (hat a ha).1 c e
    rw [hd]
    exact ⟨fun t => lp _ c.1 c.2 1 rfl hc.2 (by rw [t]; rfl) (seqP_s e), fun t => lp _ c.1 c.2 0 rfl hc.2 (by rw [t]; rfl) (seqP_s e)⟩
def zX9_some_2 : zz_Sp := fun as M Q X => match as with
  | [.inr (.inr (some h_))] => bif Nat.beq h_ 0 && Nat.beq M.1.1 1 then (∃ (tx_ : Nat → Int) (n_ a_ : Nat), mT M.2.1 tx_ n_ ∧ M.2.1 0 9 = a_ ∧ M.2.1 0 10 = -1 ∧ M.2.1 0 11 = 4 ∧ a_ ≤ n_ ∧ bF (fcS M.2.1) ∧ (M.2.1 0 13 = 0 ∨ M.2.1 0 13 = 1) ∧ (M.2.1 0 14 = 0 ∨ M.2.1 0 14 = 1) ∧ (∀ w_ : Nat, soP tx_ n_ (atP tx_ n_ 2) a_ = .inl w_ → ∀ (z_ : Nat) (d_ : Int), z_ ≤ n_ + 2 → Q (some (vi 1)) (zm (pS M.2.1 z_ w_ d_) M.2.2.1) ∧ Q (some (vi 0)) (zm (pS M.2.1 z_ w_ d_) M.2.2.1)) ∧ (∀ c_ : Nat × (Fc → Bool), soP tx_ n_ (atP tx_ n_ 2) a_ = .inr c_ → (c_.2 (fcS M.2.1) = true → Q (some (vi 1)) (zm (pS M.2.1 c_.1 (-1) (M.2.1 0 11)) M.2.2.1)) ∧ (c_.2 (fcS M.2.1) = false → Q (some (vi 0)) (zm (pS M.2.1 c_.1 (-1) (M.2.1 0 11)) M.2.2.1)))) else False
  | _ => False

def zpX9_some_2 : zz_P := [(0, zo_ald 1 0), (1, zo_callv 4 1 8 zX9_every_2), (4, zo_ist 5 1), (5, zo_ald 6 0), (6, zo_get 9 8 0 10), (9, zo_c 10 (vi (-1))), (10, zo_cne false true 13 44), (13, zo_ald 14 0), (14, zo_c 16 (vr 1013)), (16, zo_callv 19 2 8 zX9_has), (19, zo_zifeq 22 44), (22, zo_ald 23 0), (23, zo_callv 26 1 8 zX9_every_2), (26, zo_ist 27 2), (27, zo_ild 28 1), (28, zo_ifne false 31 35), (31, zo_ild 32 2), (32, zo_zifeq 35 39), (35, zo_c 36 (vi 1)), (36, zo_goto 40), (39, zo_c 40 (vi 0)), (40, zo_ist 41 1), (41, zo_goto 5), (44, zo_ild 45 1), (45, zo_zret false)]
theorem ztX9_some_2 {C : mm_C} (G : mm_G C RX9 cX9_some (some .boolean) 3 (mm_rm 17 0 0)) (hnh : mm_nh C) : zz_OKs C zpX9_some_2 :=
  ⟨zz_of (ok_aload_n G dX9_some_0 rfl rfl) (z_ald _ _),
   zz_of (ok_callv G hnh (zmX9_every_2 _ G.hst) rfl rfl (RX9, TX9, 32) rfl q1967 q1969 qs48 q93 q1970 (by decide +kernel) ⟨by decide, by decide⟩ dX9_some_1 rfl) (z_callv _ _ _ _),
   zz_of (ok_istore_n G dX9_some_4 rfl rfl (by decide)) (z_ist _ _),
   zz_of (ok_aload_n G dX9_some_5 rfl rfl) (z_ald _ _),
   zz_of (ok_get G (nx := 9) (ci := 8) (kd := 0) (k := 10) (RX9, TX9, 32) rfl (by decide) rfl q1815 dX9_some_6 rfl) (z_get _ _ _ _),
   zz_of (ok_iconst G (v := (zI (-1))) dX9_some_9 (by decide) rfl) (z_cz 10 (-1)),
   zz_of (ok_cne G dX9_some_10 rfl rfl) (z_cne _ _ _ _),
   zz_of (ok_aload_n G dX9_some_13 rfl rfl) (z_ald _ _),
   zz_of (ok_lds G (tx := "or") (by decide +kernel) dX9_some_14 rfl) (z_cr 16 1013),
   zz_of (ok_callv G hnh (zmX9_has _ G.hst) rfl rfl (RX9, TX9, 32) rfl q1942 q1944 qs45 q93 q1945 (by decide +kernel) ⟨by decide, by decide⟩ dX9_some_16 rfl) (z_callv _ _ _ _),
   zz_of (ok_ifeq G dX9_some_19 rfl rfl) (z_zifeq _ _),
   zz_of (ok_aload_n G dX9_some_22 rfl rfl) (z_ald _ _),
   zz_of (ok_callv G hnh (zmX9_every_2 _ G.hst) rfl rfl (RX9, TX9, 32) rfl q1967 q1969 qs48 q93 q1970 (by decide +kernel) ⟨by decide, by decide⟩ dX9_some_23 rfl) (z_callv _ _ _ _),
   zz_of (ok_istore_n G dX9_some_26 rfl rfl (by decide)) (z_ist _ _),
   zz_of (ok_iload_n G dX9_some_27 rfl rfl) (z_ild _ _),
   zz_of (ok_ifne G dX9_some_28 rfl rfl) (z_ifne _ _ _),
   zz_of (ok_iload_n G dX9_some_31 rfl rfl) (z_ild _ _),
   zz_of (ok_ifeq G dX9_some_32 rfl rfl) (z_zifeq _ _),
   zz_of (ok_iconst G (v := 1) dX9_some_35 (by decide) rfl) (z_cn 36 1),
   zz_of (ok_goto G dX9_some_36 rfl) (z_goto _),
   zz_of (ok_iconst G (v := 0) dX9_some_39 (by decide) rfl) (z_cn 40 0),
   zz_of (ok_istore_n G dX9_some_40 rfl rfl (by decide)) (z_ist _ _),
   zz_of (ok_goto G dX9_some_41 rfl) (z_goto _),
   zz_of (ok_iload_n G dX9_some_44 rfl rfl) (z_ild _ _),
   zz_of (ok_zret G dX9_some_45) (z_zret _), trivial⟩

theorem zwX9_some_2_0 {Q : Option zv → zz_M → Prop} {X : Nat → zz_M → Prop} {S L : Nat → Nat → Int}  (h : (∃ (tx_1 : Nat → Int) (n_1 a_1 : Nat), mT S tx_1 n_1 ∧ S 0 9 = a_1 ∧ S 0 10 = -1 ∧ S 0 11 = 4 ∧ a_1 ≤ n_1 ∧ bF (fcS S) ∧ (S 0 13 = 0 ∨ S 0 13 = 1) ∧ (S 0 14 = 0 ∨ S 0 14 = 1) ∧ (∀ w_1 : Nat, evP tx_1 n_1 (atP tx_1 n_1 2) a_1 = .inl w_1 → ∀ (z_1 : Nat) (d_1 : Int), z_1 ≤ n_1 + 2 → (zz_J zpX9_some_2 (zz_ret Q X 0 0) 5 [some (vr 0), some (vi 1), none] [] (zm (pS S z_1 w_1 d_1) L) (0, 0)) ∧ (zz_J zpX9_some_2 (zz_ret Q X 0 0) 5 [some (vr 0), some (vi 0), none] [] (zm (pS S z_1 w_1 d_1) L) (0, 0))) ∧ (∀ c_1 : Nat × (Fc → Bool), evP tx_1 n_1 (atP tx_1 n_1 2) a_1 = .inr c_1 → (c_1.2 (fcS S) = true → (zz_J zpX9_some_2 (zz_ret Q X 0 0) 5 [some (vr 0), some (vi 1), none] [] (zm (pS S c_1.1 (-1) (S 0 11)) L) (0, 0))) ∧ (c_1.2 (fcS S) = false → (zz_J zpX9_some_2 (zz_ret Q X 0 0) 5 [some (vr 0), some (vi 0), none] [] (zm (pS S c_1.1 (-1) (S 0 11)) L) (0, 0)))))) : zz_J zpX9_some_2 (zz_ret Q X 0 0) 0 [some (vr 0), none, none] [] (zm S L) (0, 0) := zz_J.go [(5, [2])] 400 h
theorem zwX9_some_2_5 {Q : Option zv → zz_M → Prop} {X : Nat → zz_M → Prop} {S L : Nat → Nat → Int} {x1 : Int} (h : R32 (S 0 10) ∧ ((¬ (S 0 10) = (-1) → (x1 = 0 ∨ x1 = 1) ∧ (Q (some (vi x1)) (zm S L))) ∧ ((S 0 10) = (-1) → (∃ (tx_1 : Nat → Int) (n_1 a_1 j_1 : Nat), 1013 = 1000 + j_1 ∧ j_1 < 18 ∧ mT S tx_1 n_1 ∧ S 0 9 = a_1 ∧ a_1 ≤ n_1 ∧ (hsW tx_1 n_1 (rn (qB tx_1) n_1 a_1) (wo j_1) = true → ((∃ (tx_2 : Nat → Int) (n_2 a_2 : Nat), mT (mm_up S 0 9 ((rn (qB tx_1) n_1 a_1 + (wo j_1).length : Nat) : Int)) tx_2 n_2 ∧ (mm_up S 0 9 ((rn (qB tx_1) n_1 a_1 + (wo j_1).length : Nat) : Int)) 0 9 = a_2 ∧ (mm_up S 0 9 ((rn (qB tx_1) n_1 a_1 + (wo j_1).length : Nat) : Int)) 0 10 = -1 ∧ (mm_up S 0 9 ((rn (qB tx_1) n_1 a_1 + (wo j_1).length : Nat) : Int)) 0 11 = 4 ∧ a_2 ≤ n_2 ∧ bF (fcS (mm_up S 0 9 ((rn (qB tx_1) n_1 a_1 + (wo j_1).length : Nat) : Int))) ∧ ((mm_up S 0 9 ((rn (qB tx_1) n_1 a_1 + (wo j_1).length : Nat) : Int)) 0 13 = 0 ∨ (mm_up S 0 9 ((rn (qB tx_1) n_1 a_1 + (wo j_1).length : Nat) : Int)) 0 13 = 1) ∧ ((mm_up S 0 9 ((rn (qB tx_1) n_1 a_1 + (wo j_1).length : Nat) : Int)) 0 14 = 0 ∨ (mm_up S 0 9 ((rn (qB tx_1) n_1 a_1 + (wo j_1).length : Nat) : Int)) 0 14 = 1) ∧ (∀ w_2 : Nat, evP tx_2 n_2 (atP tx_2 n_2 2) a_2 = .inl w_2 → ∀ (z_2 : Nat) (d_2 : Int), z_2 ≤ n_2 + 2 → (R32 x1 ∧ ((¬ x1 = 0 → zz_J zpX9_some_2 (zz_ret Q X 0 0) 5 [some (vr 0), some (vi 1), none] [] (zm (pS (mm_up S 0 9 ((rn (qB tx_1) n_1 a_1 + (wo j_1).length : Nat) : Int)) z_2 w_2 d_2) L) (0, 0)) ∧ (x1 = 0 → zz_J zpX9_some_2 (zz_ret Q X 0 0) 5 [some (vr 0), some (vi 1), none] [] (zm (pS (mm_up S 0 9 ((rn (qB tx_1) n_1 a_1 + (wo j_1).length : Nat) : Int)) z_2 w_2 d_2) L) (0, 0)))) ∧ (R32 x1 ∧ ((¬ x1 = 0 → zz_J zpX9_some_2 (zz_ret Q X 0 0) 5 [some (vr 0), some (vi 1), none] [] (zm (pS (mm_up S 0 9 ((rn (qB tx_1) n_1 a_1 + (wo j_1).length : Nat) : Int)) z_2 w_2 d_2) L) (0, 0)) ∧ (x1 = 0 → zz_J zpX9_some_2 (zz_ret Q X 0 0) 5 [some (vr 0), some (vi 0), none] [] (zm (pS (mm_up S 0 9 ((rn (qB tx_1) n_1 a_1 + (wo j_1).length : Nat) : Int)) z_2 w_2 d_2) L) (0, 0))))) ∧ (∀ c_2 : Nat × (Fc → Bool), evP tx_2 n_2 (atP tx_2 n_2 2) a_2 = .inr c_2 → (c_2.2 (fcS (mm_up S 0 9 ((rn (qB tx_1) n_1 a_1 + (wo j_1).length : Nat) : Int))) = true → (R32 x1 ∧ ((¬ x1 = 0 → zz_J zpX9_some_2 (zz_ret Q X 0 0) 5 [some (vr 0), some (vi 1), none] [] (zm (pS (mm_up S 0 9 ((rn (qB tx_1) n_1 a_1 + (wo j_1).length : Nat) : Int)) c_2.1 (-1) ((mm_up S 0 9 ((rn (qB tx_1) n_1 a_1 + (wo j_1).length : Nat) : Int)) 0 11)) L) (0, 0)) ∧ (x1 = 0 → zz_J zpX9_some_2 (zz_ret Q X 0 0) 5 [some (vr 0), some (vi 1), none] [] (zm (pS (mm_up S 0 9 ((rn (qB tx_1) n_1 a_1 + (wo j_1).length : Nat) : Int)) c_2.1 (-1) ((mm_up S 0 9 ((rn (qB tx_1) n_1 a_1 + (wo j_1).length : Nat) : Int)) 0 11)) L) (0, 0))))) ∧ (c_2.2 (fcS (mm_up S 0 9 ((rn (qB tx_1) n_1 a_1 + (wo j_1).length : Nat) : Int))) = false → (R32 x1 ∧ ((¬ x1 = 0 → zz_J zpX9_some_2 (zz_ret Q X 0 0) 5 [some (vr 0), some (vi 1), none] [] (zm (pS (mm_up S 0 9 ((rn (qB tx_1) n_1 a_1 + (wo j_1).length : Nat) : Int)) c_2.1 (-1) ((mm_up S 0 9 ((rn (qB tx_1) n_1 a_1 + (wo j_1).length : Nat) : Int)) 0 11)) L) (0, 0)) ∧ (x1 = 0 → zz_J zpX9_some_2 (zz_ret Q X 0 0) 5 [some (vr 0), some (vi 0), none] [] (zm (pS (mm_up S 0 9 ((rn (qB tx_1) n_1 a_1 + (wo j_1).length : Nat) : Int)) c_2.1 (-1) ((mm_up S 0 9 ((rn (qB tx_1) n_1 a_1 + (wo j_1).length : Nat) : Int)) 0 11)) L) (0, 0))))))))) ∧ (hsW tx_1 n_1 (rn (qB tx_1) n_1 a_1) (wo j_1) = false → ((x1 = 0 ∨ x1 = 1) ∧ (Q (some (vi x1)) (zm (mm_up S 0 9 ((rn (qB tx_1) n_1 a_1 : Nat) : Int)) L)))))))) : zz_J zpX9_some_2 (zz_ret Q X 0 0) 5 [some (vr 0), some (vi x1), none] [] (zm S L) (0, 0) := zz_J.go [(5, [2])] 400 h

theorem zmX9_some_2 (l : Launch) (hl : l.stackTraces = false) : mm_Spec l yX9_some (ws_ yX9_some cX9_some 3 (some .boolean)) (mm_rm 17 0 0) (zE zX9_some_2) := by
  refine zz_Met.J hl (by decide) (fun C G hnh => ztX9_some_2 G hnh) ?_
  rintro as ⟨⟨t_, f⟩, S, L, P⟩ Q X h
  unfold zX9_some_2 at h
  split at h
  rotate_left
  · exact h.elim
  rename_i h_
  obtain ⟨e1_, e2_, h⟩ := mm_and2 h (fun q => q)
  cases mm_beq e1_
  cases mm_beq e2_
  try dsimp only at h
  refine ⟨rfl, ?_⟩
  refine zz_Jev (M' := zm S L) rfl rfl rfl ?_
  obtain ⟨tx, n, a, hT, h9, h10, h11, ha, hF, h13, h14, hq1, hq2⟩ := h
  have hn := hT.1
  have hat : pOK n (evP tx n (atP tx n 2)) := evP_ok (atP_ok hT.2.2.1 (fun a w h e => ptP_w h e) 2)
  generalize hd : S 0 11 = d at h11 hq2
  have tw : ∀ (w z : Nat) (x d' : Int), w ≤ n → z ≤ n + 2 → (x = 0 ∨ x = 1) → soP tx n (atP tx n 2) a = .inl w → zz_J zpX9_some_2 (zz_ret Q X 0 0) 5 [some (vr 0), some (vi x), none] [] (zm (pS S z w d') L) (0, 0) := by
    intro w z x d' hw hz hx e
    refine zwX9_some_2_5 ?_
    simp only [pS_r10]
    exact ⟨by omega, fun _ => ⟨hx, bool_qq hx (hq1 w e z d' hz)⟩, fun h => by omega⟩
  have lp : ∀ (k a' : Nat) (g : Fc → Bool) (x : Int), n - a' = k → a' ≤ n → x = (bif g (fcS S) then 1 else 0) → soP tx n (atP tx n 2) a = lpP n (rn (qB tx) n) (spW tx n 13) (evP tx n (atP tx n 2)) (fun g h F => g F || h F) a' g → zz_J zpX9_some_2 (zz_ret Q X 0 0) 5 [some (vr 0), some (vi x), none] [] (zm (pS S a' (-1) d) L) (0, 0) := by
    intro k
    induction k using Nat.strongRecOn with
    | ind k ih =>
      intro a' g x hk ha' hx e
      have hb := rn_le (q := qB tx) ha'
      have hx01 : x = 0 ∨ x = 1 := by rw [hx]; cases g (fcS S) <;> simp
      refine zwX9_some_2_5 ?_
      simp only [pS_r10, pS_r9, pS_r11, pS_9, mT_pS, pS_pS, fcS_pS]
      refine ⟨by omega, fun h => absurd trivial h, fun _ => ⟨tx, n, a', 13, rfl, by decide, hT, rfl, ha', fun c => ?_, fun c => ⟨hx01, ?_⟩⟩⟩
      · have hs : spW tx n 13 a' = some (rn (qB tx) n a' + 2) := by unfold spW; rw [if_pos c]; rfl
        have h1 := spW_in (by decide) _ _ ha' hs
        refine ⟨tx, n, rn (qB tx) n a' + 2, hT, rfl, trivial, h11, h1.2, hF, h13, h14, fun w ew z d' hz => ?_, fun c2 ec => ?_⟩
        · rw [lpP_l ha' hs ew] at e
          have hw := (hat _ h1.2).2 w ew
          refine ⟨⟨by omega, fun _ => tw w z 1 d' hw hz (Or.inr rfl) e, fun _ => tw w z 1 d' hw hz (Or.inr rfl) e⟩, ⟨by omega, fun _ => tw w z 1 d' hw hz (Or.inr rfl) e, fun _ => tw w z 0 d' hw hz (Or.inl rfl) e⟩⟩
        · have h2 := (hat _ h1.2).1 c2 ec
          rw [lpP_r (fun a b h1 h2 => spW_in (by decide) a b h1 h2) (fun a c h1 h2 => (hat a h1).1 c h2) ha' hs ec] at e
          refine ⟨fun t => ⟨by omega, fun x0 => ?_, fun x1 => ?_⟩, fun t => ⟨by omega, fun x0 => ?_, fun x1 => ?_⟩⟩
          · refine ih (n - c2.1) (by omega) c2.1 _ 1 rfl h2.2 ?_ e
            rw [t]; simp
          · refine ih (n - c2.1) (by omega) c2.1 _ 1 rfl h2.2 ?_ e
            rw [t]; simp
          · refine ih (n - c2.1) (by omega) c2.1 _ 1 rfl h2.2 ?_ e
            rw [t]; revert hx; cases g (fcS S) <;> simp; omega
          · refine ih (n - c2.1) (by omega) c2.1 _ 0 rfl h2.2 ?_ e
            rw [t]; revert hx; cases g (fcS S) <;> simp; omega
      · have hs : spW tx n 13 a' = none := by unfold spW; rw [if_neg (by rw [c]; decide)]
        rw [lpP_n ha' hs] at e
        have hq := hq2 _ e
        rw [hx]
        revert hq
        show (g (fcS S) = true → _) ∧ (g (fcS S) = false → _) → _
        cases g (fcS S) with
        | true => exact fun hq => hq.1 rfl
        | false => exact fun hq => hq.2 rfl
  refine zwX9_some_2_0 ⟨tx, n, a, hT, h9, h10, by rw [hd]; exact h11, ha, hF, h13, h14, fun w e z d' hz => ?_, fun c e => ?_⟩
  · have hw := (hat a ha).2 w e
    have e2 : soP tx n (atP tx n 2) a = .inl w := seqP_f e
    exact ⟨tw w z 1 d' hw hz (Or.inr rfl) e2, tw w z 0 d' hw hz (Or.inl rfl) e2⟩
  · have hc := (hat a ha).1 c e
    rw [hd]
    exact ⟨fun t => lp _ c.1 c.2 1 rfl hc.2 (by rw [t]; rfl) (seqP_s e), fun t => lp _ c.1 c.2 0 rfl hc.2 (by rw [t]; rfl) (seqP_s e)⟩
def zX9_atom_3 : zz_Sp := fun as M Q X => match as with
  | [.inr (.inr (some h_))] => bif Nat.beq h_ 0 && Nat.beq M.1.1 1 then (∃ (tx_ : Nat → Int) (n_ a_ : Nat), mT M.2.1 tx_ n_ ∧ M.2.1 0 9 = a_ ∧ M.2.1 0 10 = -1 ∧ M.2.1 0 11 = 3 ∧ a_ ≤ n_ ∧ bF (fcS M.2.1) ∧ (M.2.1 0 13 = 0 ∨ M.2.1 0 13 = 1) ∧ (M.2.1 0 14 = 0 ∨ M.2.1 0 14 = 1) ∧ (∀ w_ : Nat, atP tx_ n_ 3 a_ = .inl w_ → ∀ (z_ : Nat) (d_ : Int), z_ ≤ n_ + 3 → Q (some (vi 1)) (zm (pS M.2.1 z_ w_ d_) M.2.2.1) ∧ Q (some (vi 0)) (zm (pS M.2.1 z_ w_ d_) M.2.2.1)) ∧ (∀ c_ : Nat × (Fc → Bool), atP tx_ n_ 3 a_ = .inr c_ → (c_.2 (fcS M.2.1) = true → Q (some (vi 1)) (zm (pS M.2.1 c_.1 (-1) (M.2.1 0 11)) M.2.2.1)) ∧ (c_.2 (fcS M.2.1) = false → Q (some (vi 0)) (zm (pS M.2.1 c_.1 (-1) (M.2.1 0 11)) M.2.2.1)))) else False
  | _ => False

def zpX9_atom_3 : zz_P := [(0, zo_ald 1 0), (1, zo_get 4 8 0 10), (4, zo_c 5 (vi (-1))), (5, zo_ceq false true 8 10), (8, zo_c 9 (vi 0)), (9, zo_zret true), (10, zo_ald 11 0), (11, zo_callv 14 1 8 zX9_skip), (14, zo_ald 15 0), (15, zo_get 18 8 0 9), (18, zo_ist 19 1), (19, zo_ald 20 0), (20, zo_c 22 (vr 1009)), (22, zo_callv 25 2 8 zX9_has), (25, zo_ist 26 2), (26, zo_ild 27 2), (27, zo_ifne false 30 44), (30, zo_ald 31 0), (31, zo_c 33 (vi 40)), (33, zo_callv 36 2 8 zX9_isSign), (36, zo_zifne 39 44), (39, zo_ald 40 0), (40, zo_callv 43 1 8 zX9_plainCond), (43, zo_zret true), (44, zo_ald 45 0), (45, zo_get 48 8 0 11), (48, zo_c 50 (vi 6)), (50, zo_cne false true 53 60), (53, zo_ald 54 0), (54, zo_ild 55 1), (55, zo_callv 58 2 8 zX9_wrong), (58, zo_c 59 (vi 0)), (59, zo_zret true), (60, zo_ald 61 0), (61, zo_dup 62), (62, zo_get 65 8 0 11), (65, zo_c 66 (vi 1)), (66, zo_iadd 67), (67, zo_puti 70 8 11), (70, zo_c 71 (vi 0)), (71, zo_ist 72 3), (72, zo_ild 73 2), (73, zo_ifeq false 76 92), (76, zo_ald 77 0), (77, zo_callv 80 1 8 zX9_atom_2), (80, zo_zifne 83 87), (83, zo_c 84 (vi 1)), (84, zo_goto 88), (87, zo_c 88 (vi 0)), (88, zo_ist 89 3), (89, zo_goto 142), (92, zo_ald 93 0), (93, zo_dup 94), (94, zo_get 97 8 0 9), (97, zo_c 98 (vi 1)), (98, zo_iadd 99), (99, zo_puti 102 8 9), (102, zo_ald 103 0), (103, zo_callv 106 1 8 zX9_some_2), (106, zo_ist 107 3), (107, zo_ald 108 0), (108, zo_get 111 8 0 10), (111, zo_c 112 (vi (-1))), (112, zo_cne false true 115 132), (115, zo_ald 116 0), (116, zo_c 118 (vi 41)), (118, zo_callv 121 2 8 zX9_isSign), (121, zo_zifne 124 132), (124, zo_ald 125 0), (125, zo_ald 126 0), (126, zo_get 129 8 0 9), (129, zo_callv 132 2 8 zX9_wrong), (132, zo_ald 133 0), (133, zo_dup 134), (134, zo_get 137 8 0 9), (137, zo_c 138 (vi 1)), (138, zo_iadd 139), (139, zo_puti 142 8 9), (142, zo_ald 143 0), (143, zo_dup 144), (144, zo_get 147 8 0 11), (147, zo_c 148 (vi 1)), (148, zo_isub 149), (149, zo_puti 152 8 11), (152, zo_ild 153 3), (153, zo_zret false)]
theorem ztX9_atom_3 {C : mm_C} (G : mm_G C RX9 cX9_atom (some .boolean) 4 (mm_rm 18 0 0)) (hnh : mm_nh C) : zz_OKs C zpX9_atom_3 :=
  ⟨zz_of (ok_aload_n G dX9_atom_0 rfl rfl) (z_ald _ _),
   zz_of (ok_get G (nx := 4) (ci := 8) (kd := 0) (k := 10) (RX9, TX9, 32) rfl (by decide) rfl q1815 dX9_atom_1 rfl) (z_get _ _ _ _),
   zz_of (ok_iconst G (v := (zI (-1))) dX9_atom_4 (by decide) rfl) (z_cz 5 (-1)),
   zz_of (ok_ceq G dX9_atom_5 rfl rfl) (z_ceq _ _ _ _),
   zz_of (ok_iconst G (v := 0) dX9_atom_8 (by decide) rfl) (z_cn 9 0),
   zz_of (ok_zret G dX9_atom_9) (z_zret _),
   zz_of (ok_aload_n G dX9_atom_10 rfl rfl) (z_ald _ _),
   zz_of (ok_callv G hnh (zmX9_skip _ G.hst) rfl rfl (RX9, TX9, 32) rfl q1925 q1927 qs41 q93 q1928 (by decide +kernel) ⟨by decide, by decide⟩ dX9_atom_11 rfl) (z_callv _ _ _ _),
   zz_of (ok_aload_n G dX9_atom_14 rfl rfl) (z_ald _ _),
   zz_of (ok_get G (nx := 18) (ci := 8) (kd := 0) (k := 9) (RX9, TX9, 32) rfl (by decide) rfl q1814 dX9_atom_15 rfl) (z_get _ _ _ _),
   zz_of (ok_istore_n G dX9_atom_18 rfl rfl (by decide)) (z_ist _ _),
   zz_of (ok_aload_n G dX9_atom_19 rfl rfl) (z_ald _ _),
   zz_of (ok_lds G (tx := "not") (by decide +kernel) dX9_atom_20 rfl) (z_cr 22 1009),
   zz_of (ok_callv G hnh (zmX9_has _ G.hst) rfl rfl (RX9, TX9, 32) rfl q1942 q1944 qs45 q93 q1945 (by decide +kernel) ⟨by decide, by decide⟩ dX9_atom_22 rfl) (z_callv _ _ _ _),
   zz_of (ok_istore_n G dX9_atom_25 rfl rfl (by decide)) (z_ist _ _),
   zz_of (ok_iload_n G dX9_atom_26 rfl rfl) (z_ild _ _),
   zz_of (ok_ifne G dX9_atom_27 rfl rfl) (z_ifne _ _ _),
   zz_of (ok_aload_n G dX9_atom_30 rfl rfl) (z_ald _ _),
   zz_of (ok_bipush G (v := 40) dX9_atom_31 (by decide) rfl) (z_cn 33 40),
   zz_of (ok_callv G hnh (zmX9_isSign _ G.hst) rfl rfl (RX9, TX9, 32) rfl q1976 q1978 qs50 q93 q1979 (by decide +kernel) ⟨by decide, by decide⟩ dX9_atom_33 rfl) (z_callv _ _ _ _),
   zz_of (ok_ifne G dX9_atom_36 rfl rfl) (z_zifne _ _),
   zz_of (ok_aload_n G dX9_atom_39 rfl rfl) (z_ald _ _),
   zz_of (ok_callv G hnh (zmX9_plainCond _ G.hst) rfl rfl (RX9, TX9, 32) rfl q1980 q1982 qs51 q93 q1983 (by decide +kernel) ⟨by decide, by decide⟩ dX9_atom_40 rfl) (z_callv _ _ _ _),
   zz_of (ok_zret G dX9_atom_43) (z_zret _),
   zz_of (ok_aload_n G dX9_atom_44 rfl rfl) (z_ald _ _),
   zz_of (ok_get G (nx := 48) (ci := 8) (kd := 0) (k := 11) (RX9, TX9, 32) rfl (by decide) rfl q1816 dX9_atom_45 rfl) (z_get _ _ _ _),
   zz_of (ok_bipush G (v := 6) dX9_atom_48 (by decide) rfl) (z_cn 50 6),
   zz_of (ok_cne G dX9_atom_50 rfl rfl) (z_cne _ _ _ _),
   zz_of (ok_aload_n G dX9_atom_53 rfl rfl) (z_ald _ _),
   zz_of (ok_iload_n G dX9_atom_54 rfl rfl) (z_ild _ _),
   zz_of (ok_callv G hnh (zmX9_wrong _ G.hst) rfl rfl (RX9, TX9, 32) rfl q1933 q1935 qs43 q93 q1936 (by decide +kernel) ⟨by decide, by decide⟩ dX9_atom_55 rfl) (z_callv _ _ _ _),
   zz_of (ok_iconst G (v := 0) dX9_atom_58 (by decide) rfl) (z_cn 59 0),
   zz_of (ok_zret G dX9_atom_59) (z_zret _),
   zz_of (ok_aload_n G dX9_atom_60 rfl rfl) (z_ald _ _),
   zz_of (ok_dup G dX9_atom_61 rfl) (z_dup _),
   zz_of (ok_get G (nx := 65) (ci := 8) (kd := 0) (k := 11) (RX9, TX9, 32) rfl (by decide) rfl q1816 dX9_atom_62 rfl) (z_get _ _ _ _),
   zz_of (ok_iconst G (v := 1) dX9_atom_65 (by decide) rfl) (z_cn 66 1),
   zz_of (ok_iadd G dX9_atom_66 rfl) (z_iadd _),
   zz_of (ok_puti G (nx := 70) (idx := 129) (ci := 8) (k := 11) (RX9, TX9, 32) rfl (by decide) rfl (mm_pw G (ci := 8) (k := 11) (RX9, TX9, 32) rfl (by decide) rfl q1816 dX9_atom_67) rfl) (z_puti _ _ _),
   zz_of (ok_iconst G (v := 0) dX9_atom_70 (by decide) rfl) (z_cn 71 0),
   zz_of (ok_istore_n G dX9_atom_71 rfl rfl (by decide)) (z_ist _ _),
   zz_of (ok_iload_n G dX9_atom_72 rfl rfl) (z_ild _ _),
   zz_of (ok_ifeq G dX9_atom_73 rfl rfl) (z_ifeq _ _ _),
   zz_of (ok_aload_n G dX9_atom_76 rfl rfl) (z_ald _ _),
   zz_of (ok_callv G hnh (zmX9_atom_2 _ G.hst) rfl rfl (RX9, TX9, 32) rfl q1971 q1973 qs49 q93 q1974 (by decide +kernel) ⟨by decide, by decide⟩ dX9_atom_77 rfl) (z_callv _ _ _ _),
   zz_of (ok_ifne G dX9_atom_80 rfl rfl) (z_zifne _ _),
   zz_of (ok_iconst G (v := 1) dX9_atom_83 (by decide) rfl) (z_cn 84 1),
   zz_of (ok_goto G dX9_atom_84 rfl) (z_goto _),
   zz_of (ok_iconst G (v := 0) dX9_atom_87 (by decide) rfl) (z_cn 88 0),
   zz_of (ok_istore_n G dX9_atom_88 rfl rfl (by decide)) (z_ist _ _),
   zz_of (ok_goto G dX9_atom_89 rfl) (z_goto _),
   zz_of (ok_aload_n G dX9_atom_92 rfl rfl) (z_ald _ _),
   zz_of (ok_dup G dX9_atom_93 rfl) (z_dup _),
   zz_of (ok_get G (nx := 97) (ci := 8) (kd := 0) (k := 9) (RX9, TX9, 32) rfl (by decide) rfl q1814 dX9_atom_94 rfl) (z_get _ _ _ _),
   zz_of (ok_iconst G (v := 1) dX9_atom_97 (by decide) rfl) (z_cn 98 1),
   zz_of (ok_iadd G dX9_atom_98 rfl) (z_iadd _),
   zz_of (ok_puti G (nx := 102) (idx := 80) (ci := 8) (k := 9) (RX9, TX9, 32) rfl (by decide) rfl (mm_pw G (ci := 8) (k := 9) (RX9, TX9, 32) rfl (by decide) rfl q1814 dX9_atom_99) rfl) (z_puti _ _ _),
   zz_of (ok_aload_n G dX9_atom_102 rfl rfl) (z_ald _ _),
   zz_of (ok_callv G hnh (zmX9_some_2 _ G.hst) rfl rfl (RX9, TX9, 32) rfl q1963 q1965 qs47 q93 q1966 (by decide +kernel) ⟨by decide, by decide⟩ dX9_atom_103 rfl) (z_callv _ _ _ _),
   zz_of (ok_istore_n G dX9_atom_106 rfl rfl (by decide)) (z_ist _ _),
   zz_of (ok_aload_n G dX9_atom_107 rfl rfl) (z_ald _ _),
   zz_of (ok_get G (nx := 111) (ci := 8) (kd := 0) (k := 10) (RX9, TX9, 32) rfl (by decide) rfl q1815 dX9_atom_108 rfl) (z_get _ _ _ _),
   zz_of (ok_iconst G (v := (zI (-1))) dX9_atom_111 (by decide) rfl) (z_cz 112 (-1)),
   zz_of (ok_cne G dX9_atom_112 rfl rfl) (z_cne _ _ _ _),
   zz_of (ok_aload_n G dX9_atom_115 rfl rfl) (z_ald _ _),
   zz_of (ok_bipush G (v := 41) dX9_atom_116 (by decide) rfl) (z_cn 118 41),
   zz_of (ok_callv G hnh (zmX9_isSign _ G.hst) rfl rfl (RX9, TX9, 32) rfl q1976 q1978 qs50 q93 q1979 (by decide +kernel) ⟨by decide, by decide⟩ dX9_atom_118 rfl) (z_callv _ _ _ _),
   zz_of (ok_ifne G dX9_atom_121 rfl rfl) (z_zifne _ _),
   zz_of (ok_aload_n G dX9_atom_124 rfl rfl) (z_ald _ _),
   zz_of (ok_aload_n G dX9_atom_125 rfl rfl) (z_ald _ _),
   zz_of (ok_get G (nx := 129) (ci := 8) (kd := 0) (k := 9) (RX9, TX9, 32) rfl (by decide) rfl q1814 dX9_atom_126 rfl) (z_get _ _ _ _),
   zz_of (ok_callv G hnh (zmX9_wrong _ G.hst) rfl rfl (RX9, TX9, 32) rfl q1933 q1935 qs43 q93 q1936 (by decide +kernel) ⟨by decide, by decide⟩ dX9_atom_129 rfl) (z_callv _ _ _ _),
   zz_of (ok_aload_n G dX9_atom_132 rfl rfl) (z_ald _ _),
   zz_of (ok_dup G dX9_atom_133 rfl) (z_dup _),
   zz_of (ok_get G (nx := 137) (ci := 8) (kd := 0) (k := 9) (RX9, TX9, 32) rfl (by decide) rfl q1814 dX9_atom_134 rfl) (z_get _ _ _ _),
   zz_of (ok_iconst G (v := 1) dX9_atom_137 (by decide) rfl) (z_cn 138 1),
   zz_of (ok_iadd G dX9_atom_138 rfl) (z_iadd _),
   zz_of (ok_puti G (nx := 142) (idx := 80) (ci := 8) (k := 9) (RX9, TX9, 32) rfl (by decide) rfl (mm_pw G (ci := 8) (k := 9) (RX9, TX9, 32) rfl (by decide) rfl q1814 dX9_atom_139) rfl) (z_puti _ _ _),
   zz_of (ok_aload_n G dX9_atom_142 rfl rfl) (z_ald _ _),
   zz_of (ok_dup G dX9_atom_143 rfl) (z_dup _),
   zz_of (ok_get G (nx := 147) (ci := 8) (kd := 0) (k := 11) (RX9, TX9, 32) rfl (by decide) rfl q1816 dX9_atom_144 rfl) (z_get _ _ _ _),
   zz_of (ok_iconst G (v := 1) dX9_atom_147 (by decide) rfl) (z_cn 148 1),
   zz_of (ok_isub G dX9_atom_148 rfl) (z_isub _),
   zz_of (ok_puti G (nx := 152) (idx := 129) (ci := 8) (k := 11) (RX9, TX9, 32) rfl (by decide) rfl (mm_pw G (ci := 8) (k := 11) (RX9, TX9, 32) rfl (by decide) rfl q1816 dX9_atom_149) rfl) (z_puti _ _ _),
   zz_of (ok_iload_n G dX9_atom_152 rfl rfl) (z_ild _ _),
   zz_of (ok_zret G dX9_atom_153) (z_zret _), trivial⟩

theorem zwX9_atom_3_0 {Q : Option zv → zz_M → Prop} {X : Nat → zz_M → Prop} {S L : Nat → Nat → Int}  (h : R32 (S 0 10) ∧ (((S 0 10) = (-1) → (∃ (tx_1 : Nat → Int) (n_1 a_1 : Nat), mT S tx_1 n_1 ∧ S 0 9 = a_1 ∧ a_1 ≤ n_1 + 1000 ∧ ((∃ (tx_2 : Nat → Int) (n_2 a_2 j_2 : Nat), 1009 = 1000 + j_2 ∧ j_2 < 18 ∧ mT (mm_up S 0 9 ((rn (qB tx_1) n_1 a_1 : Nat) : Int)) tx_2 n_2 ∧ (mm_up S 0 9 ((rn (qB tx_1) n_1 a_1 : Nat) : Int)) 0 9 = a_2 ∧ a_2 ≤ n_2 ∧ (hsW tx_2 n_2 (rn (qB tx_2) n_2 a_2) (wo j_2) = true → (zz_J zpX9_atom_3 (zz_ret Q X 0 0) 26 [some (vr 0), some (vi ((rn (qB tx_1) n_1 a_1 : Nat) : Int)), some (vi 1), none] [] (zm (mm_up (mm_up S 0 9 ((rn (qB tx_1) n_1 a_1 : Nat) : Int)) 0 9 ((rn (qB tx_2) n_2 a_2 + (wo j_2).length : Nat) : Int)) L) (0, 0))) ∧ (hsW tx_2 n_2 (rn (qB tx_2) n_2 a_2) (wo j_2) = false → (zz_J zpX9_atom_3 (zz_ret Q X 0 0) 26 [some (vr 0), some (vi ((rn (qB tx_1) n_1 a_1 : Nat) : Int)), some (vi 0), none] [] (zm (mm_up (mm_up S 0 9 ((rn (qB tx_1) n_1 a_1 : Nat) : Int)) 0 9 ((rn (qB tx_2) n_2 a_2 : Nat) : Int)) L) (0, 0))))))) ∧ (¬ (S 0 10) = (-1) → Q (some (vi 0)) (zm S L)))) : zz_J zpX9_atom_3 (zz_ret Q X 0 0) 0 [some (vr 0), none, none, none] [] (zm S L) (0, 0) := zz_J.go [(26, [3]), (44, [3]), (107, [1, 2]), (132, [1, 2]), (142, [1, 2])] 400 h
theorem zwX9_atom_3_26 {Q : Option zv → zz_M → Prop} {X : Nat → zz_M → Prop} {S L : Nat → Nat → Int} {x1 : Int} {x2 : Int} (h : R32 x2 ∧ ((¬ x2 = 0 → zz_J zpX9_atom_3 (zz_ret Q X 0 0) 44 [some (vr 0), some (vi x1), some (vi x2), none] [] (zm S L) (0, 0)) ∧ (x2 = 0 → (∃ (tx_1 : Nat → Int) (n_1 a_1 : Nat), R32 (40 : Int) ∧ mT S tx_1 n_1 ∧ S 0 9 = a_1 ∧ a_1 ≤ n_1 ∧ (isSg tx_1 n_1 (rn (qB tx_1) n_1 a_1) (40 : Int) = true → (zz_J zpX9_atom_3 (zz_ret Q X 0 0) 44 [some (vr 0), some (vi x1), some (vi x2), none] [] (zm (mm_up S 0 9 ((rn (qB tx_1) n_1 a_1 : Nat) : Int)) L) (0, 0))) ∧ (isSg tx_1 n_1 (rn (qB tx_1) n_1 a_1) (40 : Int) = false → ((∃ (tx_2 : Nat → Int) (n_2 a_2 : Nat), mT (mm_up S 0 9 ((rn (qB tx_1) n_1 a_1 : Nat) : Int)) tx_2 n_2 ∧ (mm_up S 0 9 ((rn (qB tx_1) n_1 a_1 : Nat) : Int)) 0 9 = a_2 ∧ (mm_up S 0 9 ((rn (qB tx_1) n_1 a_1 : Nat) : Int)) 0 10 = -1 ∧ a_2 ≤ n_2 ∧ bF (fcS (mm_up S 0 9 ((rn (qB tx_1) n_1 a_1 : Nat) : Int))) ∧ ((mm_up S 0 9 ((rn (qB tx_1) n_1 a_1 : Nat) : Int)) 0 13 = 0 ∨ (mm_up S 0 9 ((rn (qB tx_1) n_1 a_1 : Nat) : Int)) 0 13 = 1) ∧ ((mm_up S 0 9 ((rn (qB tx_1) n_1 a_1 : Nat) : Int)) 0 14 = 0 ∨ (mm_up S 0 9 ((rn (qB tx_1) n_1 a_1 : Nat) : Int)) 0 14 = 1) ∧ (∀ w_2 : Nat, plP tx_2 n_2 a_2 = .inl w_2 → ∀ (z_2 : Nat) (d_2 : Int), z_2 ≤ n_2 → (Q (some (vi 1)) (zm (pS (mm_up S 0 9 ((rn (qB tx_1) n_1 a_1 : Nat) : Int)) z_2 w_2 d_2) L)) ∧ (Q (some (vi 0)) (zm (pS (mm_up S 0 9 ((rn (qB tx_1) n_1 a_1 : Nat) : Int)) z_2 w_2 d_2) L))) ∧ (∀ c_2 : Nat × (Fc → Bool), plP tx_2 n_2 a_2 = .inr c_2 → (c_2.2 (fcS (mm_up S 0 9 ((rn (qB tx_1) n_1 a_1 : Nat) : Int))) = true → (Q (some (vi 1)) (zm (pS (mm_up S 0 9 ((rn (qB tx_1) n_1 a_1 : Nat) : Int)) c_2.1 (-1) ((mm_up S 0 9 ((rn (qB tx_1) n_1 a_1 : Nat) : Int)) 0 11)) L))) ∧ (c_2.2 (fcS (mm_up S 0 9 ((rn (qB tx_1) n_1 a_1 : Nat) : Int))) = false → (Q (some (vi 0)) (zm (pS (mm_up S 0 9 ((rn (qB tx_1) n_1 a_1 : Nat) : Int)) c_2.1 (-1) ((mm_up S 0 9 ((rn (qB tx_1) n_1 a_1 : Nat) : Int)) 0 11)) L))))))))))) : zz_J zpX9_atom_3 (zz_ret Q X 0 0) 26 [some (vr 0), some (vi x1), some (vi x2), none] [] (zm S L) (0, 0) := zz_J.go [(26, [3]), (44, [3]), (107, [1, 2]), (132, [1, 2]), (142, [1, 2])] 400 h
theorem zwX9_atom_3_44 {Q : Option zv → zz_M → Prop} {X : Nat → zz_M → Prop} {S L : Nat → Nat → Int} {x1 : Int} {x2 : Int} (h : R32 (S 0 11) ∧ ((¬ (S 0 11) = 6 → R32 x2 ∧ ((x2 = 0 → (∃ (tx_1 : Nat → Int) (n_1 a_1 : Nat), mT (mm_up (mm_up S 0 11 ((S 0 11) + 1)) 0 9 ((S 0 9) + 1)) tx_1 n_1 ∧ (mm_up (mm_up S 0 11 ((S 0 11) + 1)) 0 9 ((S 0 9) + 1)) 0 9 = a_1 ∧ (mm_up (mm_up S 0 11 ((S 0 11) + 1)) 0 9 ((S 0 9) + 1)) 0 10 = -1 ∧ (mm_up (mm_up S 0 11 ((S 0 11) + 1)) 0 9 ((S 0 9) + 1)) 0 11 = 4 ∧ a_1 ≤ n_1 ∧ bF (fcS (mm_up (mm_up S 0 11 ((S 0 11) + 1)) 0 9 ((S 0 9) + 1))) ∧ ((mm_up (mm_up S 0 11 ((S 0 11) + 1)) 0 9 ((S 0 9) + 1)) 0 13 = 0 ∨ (mm_up (mm_up S 0 11 ((S 0 11) + 1)) 0 9 ((S 0 9) + 1)) 0 13 = 1) ∧ ((mm_up (mm_up S 0 11 ((S 0 11) + 1)) 0 9 ((S 0 9) + 1)) 0 14 = 0 ∨ (mm_up (mm_up S 0 11 ((S 0 11) + 1)) 0 9 ((S 0 9) + 1)) 0 14 = 1) ∧ (∀ w_1 : Nat, soP tx_1 n_1 (atP tx_1 n_1 2) a_1 = .inl w_1 → ∀ (z_1 : Nat) (d_1 : Int), z_1 ≤ n_1 + 2 → (zz_J zpX9_atom_3 (zz_ret Q X 0 0) 107 [some (vr 0), none, none, some (vi 1)] [] (zm (pS (mm_up (mm_up S 0 11 ((S 0 11) + 1)) 0 9 ((S 0 9) + 1)) z_1 w_1 d_1) L) (0, 0)) ∧ (zz_J zpX9_atom_3 (zz_ret Q X 0 0) 107 [some (vr 0), none, none, some (vi 0)] [] (zm (pS (mm_up (mm_up S 0 11 ((S 0 11) + 1)) 0 9 ((S 0 9) + 1)) z_1 w_1 d_1) L) (0, 0))) ∧ (∀ c_1 : Nat × (Fc → Bool), soP tx_1 n_1 (atP tx_1 n_1 2) a_1 = .inr c_1 → (c_1.2 (fcS (mm_up (mm_up S 0 11 ((S 0 11) + 1)) 0 9 ((S 0 9) + 1))) = true → (zz_J zpX9_atom_3 (zz_ret Q X 0 0) 107 [some (vr 0), none, none, some (vi 1)] [] (zm (pS (mm_up (mm_up S 0 11 ((S 0 11) + 1)) 0 9 ((S 0 9) + 1)) c_1.1 (-1) ((mm_up (mm_up S 0 11 ((S 0 11) + 1)) 0 9 ((S 0 9) + 1)) 0 11)) L) (0, 0))) ∧ (c_1.2 (fcS (mm_up (mm_up S 0 11 ((S 0 11) + 1)) 0 9 ((S 0 9) + 1))) = false → (zz_J zpX9_atom_3 (zz_ret Q X 0 0) 107 [some (vr 0), none, none, some (vi 0)] [] (zm (pS (mm_up (mm_up S 0 11 ((S 0 11) + 1)) 0 9 ((S 0 9) + 1)) c_1.1 (-1) ((mm_up (mm_up S 0 11 ((S 0 11) + 1)) 0 9 ((S 0 9) + 1)) 0 11)) L) (0, 0)))))) ∧ (¬ x2 = 0 → (∃ (tx_2 : Nat → Int) (n_2 a_2 : Nat), mT (mm_up S 0 11 ((S 0 11) + 1)) tx_2 n_2 ∧ (mm_up S 0 11 ((S 0 11) + 1)) 0 9 = a_2 ∧ (mm_up S 0 11 ((S 0 11) + 1)) 0 10 = -1 ∧ (mm_up S 0 11 ((S 0 11) + 1)) 0 11 = 4 ∧ a_2 ≤ n_2 ∧ bF (fcS (mm_up S 0 11 ((S 0 11) + 1))) ∧ ((mm_up S 0 11 ((S 0 11) + 1)) 0 13 = 0 ∨ (mm_up S 0 11 ((S 0 11) + 1)) 0 13 = 1) ∧ ((mm_up S 0 11 ((S 0 11) + 1)) 0 14 = 0 ∨ (mm_up S 0 11 ((S 0 11) + 1)) 0 14 = 1) ∧ (∀ w_2 : Nat, atP tx_2 n_2 2 a_2 = .inl w_2 → ∀ (z_2 : Nat) (d_2 : Int), z_2 ≤ n_2 + 2 → (zz_J zpX9_atom_3 (zz_ret Q X 0 0) 142 [some (vr 0), none, none, some (vi 0)] [] (zm (pS (mm_up S 0 11 ((S 0 11) + 1)) z_2 w_2 d_2) L) (0, 0)) ∧ (zz_J zpX9_atom_3 (zz_ret Q X 0 0) 142 [some (vr 0), none, none, some (vi 1)] [] (zm (pS (mm_up S 0 11 ((S 0 11) + 1)) z_2 w_2 d_2) L) (0, 0))) ∧ (∀ c_2 : Nat × (Fc → Bool), atP tx_2 n_2 2 a_2 = .inr c_2 → (c_2.2 (fcS (mm_up S 0 11 ((S 0 11) + 1))) = true → (zz_J zpX9_atom_3 (zz_ret Q X 0 0) 142 [some (vr 0), none, none, some (vi 0)] [] (zm (pS (mm_up S 0 11 ((S 0 11) + 1)) c_2.1 (-1) ((mm_up S 0 11 ((S 0 11) + 1)) 0 11)) L) (0, 0))) ∧ (c_2.2 (fcS (mm_up S 0 11 ((S 0 11) + 1))) = false → (zz_J zpX9_atom_3 (zz_ret Q X 0 0) 142 [some (vr 0), none, none, some (vi 1)] [] (zm (pS (mm_up S 0 11 ((S 0 11) + 1)) c_2.1 (-1) ((mm_up S 0 11 ((S 0 11) + 1)) 0 11)) L) (0, 0)))))))) ∧ ((S 0 11) = 6 → (R32 (S 0 10) ∧ (Q (some (vi 0)) (zm (mm_up S 0 10 (wrF (S 0 10) x1)) L)))))) : zz_J zpX9_atom_3 (zz_ret Q X 0 0) 44 [some (vr 0), some (vi x1), some (vi x2), none] [] (zm S L) (0, 0) := zz_J.go [(26, [3]), (44, [3]), (107, [1, 2]), (132, [1, 2]), (142, [1, 2])] 400 h
theorem zwX9_atom_3_107 {Q : Option zv → zz_M → Prop} {X : Nat → zz_M → Prop} {S L : Nat → Nat → Int} {x3 : Int} (h : R32 (S 0 10) ∧ ((¬ (S 0 10) = (-1) → zz_J zpX9_atom_3 (zz_ret Q X 0 0) 132 [some (vr 0), none, none, some (vi x3)] [] (zm S L) (0, 0)) ∧ ((S 0 10) = (-1) → (∃ (tx_1 : Nat → Int) (n_1 a_1 : Nat), R32 (41 : Int) ∧ mT S tx_1 n_1 ∧ S 0 9 = a_1 ∧ a_1 ≤ n_1 ∧ (isSg tx_1 n_1 (rn (qB tx_1) n_1 a_1) (41 : Int) = true → (zz_J zpX9_atom_3 (zz_ret Q X 0 0) 132 [some (vr 0), none, none, some (vi x3)] [] (zm (mm_up S 0 9 ((rn (qB tx_1) n_1 a_1 : Nat) : Int)) L) (0, 0))) ∧ (isSg tx_1 n_1 (rn (qB tx_1) n_1 a_1) (41 : Int) = false → ((R32 ((mm_up S 0 9 ((rn (qB tx_1) n_1 a_1 : Nat) : Int)) 0 10) ∧ (zz_J zpX9_atom_3 (zz_ret Q X 0 0) 132 [some (vr 0), none, none, some (vi x3)] [] (zm (mm_up (mm_up S 0 9 ((rn (qB tx_1) n_1 a_1 : Nat) : Int)) 0 10 (wrF ((mm_up S 0 9 ((rn (qB tx_1) n_1 a_1 : Nat) : Int)) 0 10) ((rn (qB tx_1) n_1 a_1 : Nat) : Int))) L) (0, 0))))))))) : zz_J zpX9_atom_3 (zz_ret Q X 0 0) 107 [some (vr 0), none, none, some (vi x3)] [] (zm S L) (0, 0) := zz_J.go [(26, [3]), (44, [3]), (107, [1, 2]), (132, [1, 2]), (142, [1, 2])] 400 h
theorem zwX9_atom_3_132 {Q : Option zv → zz_M → Prop} {X : Nat → zz_M → Prop} {S L : Nat → Nat → Int} {x3 : Int} (h : zz_J zpX9_atom_3 (zz_ret Q X 0 0) 142 [some (vr 0), none, none, some (vi x3)] [] (zm (mm_up S 0 9 ((S 0 9) + 1)) L) (0, 0)) : zz_J zpX9_atom_3 (zz_ret Q X 0 0) 132 [some (vr 0), none, none, some (vi x3)] [] (zm S L) (0, 0) := zz_J.go [(26, [3]), (44, [3]), (107, [1, 2]), (132, [1, 2]), (142, [1, 2])] 400 h
theorem zwX9_atom_3_142 {Q : Option zv → zz_M → Prop} {X : Nat → zz_M → Prop} {S L : Nat → Nat → Int} {x3 : Int} (h : (x3 = 0 ∨ x3 = 1) ∧ (Q (some (vi x3)) (zm (mm_up S 0 11 ((S 0 11) - 1)) L))) : zz_J zpX9_atom_3 (zz_ret Q X 0 0) 142 [some (vr 0), none, none, some (vi x3)] [] (zm S L) (0, 0) := zz_J.go [(26, [3]), (44, [3]), (107, [1, 2]), (132, [1, 2]), (142, [1, 2])] 400 h

theorem zmX9_atom_3 (l : Launch) (hl : l.stackTraces = false) : mm_Spec l yX9_atom (ws_ yX9_atom cX9_atom 4 (some .boolean)) (mm_rm 18 0 0) (zE zX9_atom_3) := by
  refine zz_Met.J hl (by decide) (fun C G hnh => ztX9_atom_3 G hnh) ?_
  rintro as ⟨⟨t_, f⟩, S, L, P⟩ Q X h
  unfold zX9_atom_3 at h
  split at h
  rotate_left
  · exact h.elim
  rename_i h_
  obtain ⟨e1_, e2_, h⟩ := mm_and2 h (fun q => q)
  cases mm_beq e1_
  cases mm_beq e2_
  try dsimp only at h
  refine ⟨rfl, ?_⟩
  refine zz_Jev (M' := zm S L) rfl rfl rfl ?_
  obtain ⟨tx, n, a, hT, h9, h10, h11, ha, hF, h13, h14, hq1, hq2⟩ := h
  have hn := hT.1
  have hpw : ∀ a w, a ≤ n → ptP tx n a = .inl w → w ≤ n := fun a w h e => ptP_w h e
  generalize hd : S 0 11 = d at h11 hq2
  have hS : S = pS S a (-1) d := by rw [← hd]; exact pS_of h9 h10
  rw [hS]
  have hb := rn_le (q := qB tx) ha
  have hbb := rn_rn (q := qB tx) ha
  have hat := atP_ok hT.2.2.1 hpw 2
  have hso := soP_ok (tx := tx) hat
  have t142 : ∀ (z : Nat) (w d' x : Int), (x = 0 ∨ x = 1) → Q (some (vi x)) (zm (pS S z w (d' - 1)) L) → zz_J zpX9_atom_3 (zz_ret Q X 0 0) 142 [some (vr 0), none, none, some (vi x)] [] (zm (pS S z w d') L) (0, 0) := by
    intro z w d' x hx hq
    refine zwX9_atom_3_142 ?_
    simp only [pS_r11, pS_11]
    exact ⟨hx, hq⟩
  have t132 : ∀ (z : Nat) (w d' x : Int), (x = 0 ∨ x = 1) → Q (some (vi x)) (zm (pS S (z + 1 : Nat) w (d' - 1)) L) → zz_J zpX9_atom_3 (zz_ret Q X 0 0) 132 [some (vr 0), none, none, some (vi x)] [] (zm (pS S z w d') L) (0, 0) := by
    intro z w d' x hx hq
    refine zwX9_atom_3_132 ?_
    simp only [pS_r9, pS_9]
    exact t142 (z + 1) w d' x hx hq
  -- not
  have t44n : hsW tx n (rn (qB tx) n a) (wo 9) = true → zz_J zpX9_atom_3 (zz_ret Q X 0 0) 44 [some (vr 0), some (vi (rn (qB tx) n a : Nat)), some (vi 1), none] [] (zm (pS S (rn (qB tx) n a + 3 : Nat) (-1) d) L) (0, 0) := by
    intro c
    have h3 : rn (qB tx) n a + 3 ≤ n := hsW_le hb c
    refine zwX9_atom_3_44 ?_
    simp only [pS_r10, pS_r9, pS_r11, pS_11, mT_pS, pS_pS, fcS_pS]
    refine ⟨by omega, fun _ => ⟨by omega, fun h => absurd h (by decide), fun _ => ⟨tx, n, rn (qB tx) n a + 3, hT, rfl, trivial, by omega, h3, hF, h13, h14, fun w ew z d' hz => ?_, fun c2 ec => ?_⟩⟩, fun h => by omega⟩
    · have e : atP tx n 3 a = .inl w := by unfold atP; rw [if_pos c, ew]
      have hq := hq1 w e z (d' - 1) (by omega)
      exact ⟨t142 z w d' 0 (Or.inl rfl) hq.2, t142 z w d' 1 (Or.inr rfl) hq.1⟩
    · have e : atP tx n 3 a = .inr (c2.1, fun F => !c2.2 F) := by unfold atP; rw [if_pos c, ec]
      have hq := hq2 _ e
      have ed : d + 1 - 1 = d := by omega
      refine ⟨fun t => t142 _ _ _ 0 (Or.inl rfl) ?_, fun t => t142 _ _ _ 1 (Or.inr rfl) ?_⟩
      · rw [ed]; exact hq.2 (by show (!c2.2 (fcS S)) = false; rw [t]; rfl)
      · rw [ed]; exact hq.1 (by show (!c2.2 (fcS S)) = true; rw [t]; rfl)
  -- a bracket
  have t44b : hsW tx n (rn (qB tx) n a) (wo 9) = false → isSg tx n (rn (qB tx) n a) 40 = true → zz_J zpX9_atom_3 (zz_ret Q X 0 0) 44 [some (vr 0), some (vi (rn (qB tx) n a : Nat)), some (vi 0), none] [] (zm (pS S (rn (qB tx) n a : Nat) (-1) d) L) (0, 0) := by
    intro c c1
    have h3 := (isSg_t.mp c1).1
    have eat : ∀ q, soP tx n (atP tx n 2) (rn (qB tx) n a + 1) = q → atP tx n 3 a = (match q with
      | .inl w => .inl w
      | .inr c => if isSg tx n (rn (qB tx) n c.1) 41 = true then .inr (rn (qB tx) n c.1 + 1, c.2) else .inl (rn (qB tx) n c.1)) := by
      intro q hq
      unfold atP
      rw [if_neg (by rw [c]; decide), if_pos c1, hq]
      cases q <;> rfl
    refine zwX9_atom_3_44 ?_
    simp only [pS_r10, pS_r9, pS_r11, pS_11, pS_9, mT_pS, pS_pS, fcS_pS]
    refine ⟨by omega, fun _ => ⟨by omega, fun _ => ⟨tx, n, rn (qB tx) n a + 1, hT, rfl, trivial, by omega, by omega, hF, h13, h14, fun w ew z d' hz => ?_, fun c2 ec => ?_⟩, fun h => absurd trivial h⟩, fun h => by omega⟩
    · have e := eat _ ew
      have hw := (hso _ (by omega)).2 w ew
      have hq := hq1 w e (z + 1) (d' - 1) (by omega)
      have f107 : ∀ x : Int, (x = 0 ∨ x = 1) → Q (some (vi x)) (zm (pS S (z + 1 : Nat) w (d' - 1)) L) → zz_J zpX9_atom_3 (zz_ret Q X 0 0) 107 [some (vr 0), none, none, some (vi x)] [] (zm (pS S z w d') L) (0, 0) := by
        intro x hx hqx
        refine zwX9_atom_3_107 ?_
        simp only [pS_r10]
        exact ⟨by omega, fun _ => t132 z w d' x hx hqx, fun h => by omega⟩
      exact ⟨f107 1 (Or.inr rfl) hq.1, f107 0 (Or.inl rfl) hq.2⟩
    · have e := eat _ ec
      have hc := (hso _ (by omega)).1 c2 ec
      have g2 := rn_le (q := qB tx) hc.2
      have f107 : ∀ x : Int, (x = 0 ∨ x = 1) → (x = 1 → c2.2 (fcS S) = true) → (x = 0 → c2.2 (fcS S) = false) → zz_J zpX9_atom_3 (zz_ret Q X 0 0) 107 [some (vr 0), none, none, some (vi x)] [] (zm (pS S c2.1 (-1) (d + 1)) L) (0, 0) := by
        intro x hx x1 x0
        have ed : d + 1 - 1 = d := by omega
        refine zwX9_atom_3_107 ?_
        simp only [pS_r10, pS_r9, pS_r11, pS_11, pS_9, pS_10, mT_pS, pS_pS, fcS_pS, wrF, if_true]
        refine ⟨by omega, fun h => absurd trivial h, fun _ => ⟨tx, n, c2.1, by omega, hT, rfl, hc.2, fun s => ?_, fun s => ⟨by omega, ?_⟩⟩⟩
        · have e2 : atP tx n 3 a = .inr (rn (qB tx) n c2.1 + 1, c2.2) := by rw [e]; exact if_pos s
          have hq := hq2 _ e2
          refine t132 _ _ _ x hx ?_
          rw [ed]
          rcases hx with h | h
          · rw [h]; exact hq.2 (x0 h)
          · rw [h]; exact hq.1 (x1 h)
        · have e2 : atP tx n 3 a = .inl (rn (qB tx) n c2.1) := by rw [e]; exact if_neg (by rw [s]; decide)
          refine t132 _ _ _ x hx ?_
          rw [ed]
          exact bool_qq hx (hq1 _ e2 (rn (qB tx) n c2.1 + 1) d (by omega))
      exact ⟨fun t => f107 1 (Or.inr rfl) (fun _ => t) (fun h => absurd h (by decide)), fun t => f107 0 (Or.inl rfl) (fun h => absurd h (by decide)) (fun _ => t)⟩
  have ats : plP tx n (rn (qB tx) n a) = plP tx n a := by unfold plP; rw [hbb]
  refine zwX9_atom_3_0 ?_
  simp only [pS_r10, pS_r9, pS_r11, pS_9, mT_pS, pS_pS, fcS_pS]
  refine ⟨by omega, fun _ => ⟨tx, n, a, hT, rfl, by omega, tx, n, rn (qB tx) n a, 9, rfl, by decide, hT, rfl, hb, ?_⟩, fun h => absurd trivial h⟩
  rw [hbb]
  refine ⟨fun c => ?_, fun c => ?_⟩
  · exact zwX9_atom_3_26 ⟨by omega, fun _ => t44n c, fun h => by omega⟩
  · refine zwX9_atom_3_26 ?_
    simp only [pS_r10, pS_r9, pS_r11, pS_9, mT_pS, pS_pS, fcS_pS]
    refine ⟨by omega, fun h => absurd trivial h, fun _ => ⟨tx, n, rn (qB tx) n a, by omega, hT, rfl, hb, ?_⟩⟩
    rw [hbb]
    refine ⟨fun c2 => t44b c c2, fun c2 => ⟨tx, n, rn (qB tx) n a, hT, rfl, trivial, hb, hF, h13, h14, fun w ew z d' hz => ?_, fun c3 ec => ?_⟩⟩
    · rw [ats] at ew
      exact hq1 w (by unfold atP; rw [if_neg (by rw [c]; decide), if_neg (by rw [c2]; decide)]; exact ew) z d' (by omega)
    · rw [ats] at ec
      exact hq2 c3 (by unfold atP; rw [if_neg (by rw [c]; decide), if_neg (by rw [c2]; decide)]; exact ec)
def zX9_every_3 : zz_Sp := fun as M Q X => match as with
  | [.inr (.inr (some h_))] => bif Nat.beq h_ 0 && Nat.beq M.1.1 1 then (∃ (tx_ : Nat → Int) (n_ a_ : Nat), mT M.2.1 tx_ n_ ∧ M.2.1 0 9 = a_ ∧ M.2.1 0 10 = -1 ∧ M.2.1 0 11 = 3 ∧ a_ ≤ n_ ∧ bF (fcS M.2.1) ∧ (M.2.1 0 13 = 0 ∨ M.2.1 0 13 = 1) ∧ (M.2.1 0 14 = 0 ∨ M.2.1 0 14 = 1) ∧ (∀ w_ : Nat, evP tx_ n_ (atP tx_ n_ 3) a_ = .inl w_ → ∀ (z_ : Nat) (d_ : Int), z_ ≤ n_ + 3 → Q (some (vi 1)) (zm (pS M.2.1 z_ w_ d_) M.2.2.1) ∧ Q (some (vi 0)) (zm (pS M.2.1 z_ w_ d_) M.2.2.1)) ∧ (∀ c_ : Nat × (Fc → Bool), evP tx_ n_ (atP tx_ n_ 3) a_ = .inr c_ → (c_.2 (fcS M.2.1) = true → Q (some (vi 1)) (zm (pS M.2.1 c_.1 (-1) (M.2.1 0 11)) M.2.2.1)) ∧ (c_.2 (fcS M.2.1) = false → Q (some (vi 0)) (zm (pS M.2.1 c_.1 (-1) (M.2.1 0 11)) M.2.2.1)))) else False
  | _ => False

def zpX9_every_3 : zz_P := [(0, zo_ald 1 0), (1, zo_callv 4 1 8 zX9_atom_3), (4, zo_ist 5 1), (5, zo_ald 6 0), (6, zo_get 9 8 0 10), (9, zo_c 10 (vi (-1))), (10, zo_cne false true 13 44), (13, zo_ald 14 0), (14, zo_c 16 (vr 1012)), (16, zo_callv 19 2 8 zX9_has), (19, zo_zifeq 22 44), (22, zo_ald 23 0), (23, zo_callv 26 1 8 zX9_atom_3), (26, zo_ist 27 2), (27, zo_ild 28 1), (28, zo_ifeq false 31 39), (31, zo_ild 32 2), (32, zo_zifeq 35 39), (35, zo_c 36 (vi 1)), (36, zo_goto 40), (39, zo_c 40 (vi 0)), (40, zo_ist 41 1), (41, zo_goto 5), (44, zo_ild 45 1), (45, zo_zret false)]
theorem ztX9_every_3 {C : mm_C} (G : mm_G C RX9 cX9_every (some .boolean) 3 (mm_rm 19 0 0)) (hnh : mm_nh C) : zz_OKs C zpX9_every_3 :=
  ⟨zz_of (ok_aload_n G dX9_every_0 rfl rfl) (z_ald _ _),
   zz_of (ok_callv G hnh (zmX9_atom_3 _ G.hst) rfl rfl (RX9, TX9, 32) rfl q1971 q1973 qs49 q93 q1974 (by decide +kernel) ⟨by decide, by decide⟩ dX9_every_1 rfl) (z_callv _ _ _ _),
   zz_of (ok_istore_n G dX9_every_4 rfl rfl (by decide)) (z_ist _ _),
   zz_of (ok_aload_n G dX9_every_5 rfl rfl) (z_ald _ _),
   zz_of (ok_get G (nx := 9) (ci := 8) (kd := 0) (k := 10) (RX9, TX9, 32) rfl (by decide) rfl q1815 dX9_every_6 rfl) (z_get _ _ _ _),
   zz_of (ok_iconst G (v := (zI (-1))) dX9_every_9 (by decide) rfl) (z_cz 10 (-1)),
   zz_of (ok_cne G dX9_every_10 rfl rfl) (z_cne _ _ _ _),
   zz_of (ok_aload_n G dX9_every_13 rfl rfl) (z_ald _ _),
   zz_of (ok_lds G (tx := "and") (by decide +kernel) dX9_every_14 rfl) (z_cr 16 1012),
   zz_of (ok_callv G hnh (zmX9_has _ G.hst) rfl rfl (RX9, TX9, 32) rfl q1942 q1944 qs45 q93 q1945 (by decide +kernel) ⟨by decide, by decide⟩ dX9_every_16 rfl) (z_callv _ _ _ _),
   zz_of (ok_ifeq G dX9_every_19 rfl rfl) (z_zifeq _ _),
   zz_of (ok_aload_n G dX9_every_22 rfl rfl) (z_ald _ _),
   zz_of (ok_callv G hnh (zmX9_atom_3 _ G.hst) rfl rfl (RX9, TX9, 32) rfl q1971 q1973 qs49 q93 q1974 (by decide +kernel) ⟨by decide, by decide⟩ dX9_every_23 rfl) (z_callv _ _ _ _),
   zz_of (ok_istore_n G dX9_every_26 rfl rfl (by decide)) (z_ist _ _),
   zz_of (ok_iload_n G dX9_every_27 rfl rfl) (z_ild _ _),
   zz_of (ok_ifeq G dX9_every_28 rfl rfl) (z_ifeq _ _ _),
   zz_of (ok_iload_n G dX9_every_31 rfl rfl) (z_ild _ _),
   zz_of (ok_ifeq G dX9_every_32 rfl rfl) (z_zifeq _ _),
   zz_of (ok_iconst G (v := 1) dX9_every_35 (by decide) rfl) (z_cn 36 1),
   zz_of (ok_goto G dX9_every_36 rfl) (z_goto _),
   zz_of (ok_iconst G (v := 0) dX9_every_39 (by decide) rfl) (z_cn 40 0),
   zz_of (ok_istore_n G dX9_every_40 rfl rfl (by decide)) (z_ist _ _),
   zz_of (ok_goto G dX9_every_41 rfl) (z_goto _),
   zz_of (ok_iload_n G dX9_every_44 rfl rfl) (z_ild _ _),
   zz_of (ok_zret G dX9_every_45) (z_zret _), trivial⟩

theorem zwX9_every_3_0 {Q : Option zv → zz_M → Prop} {X : Nat → zz_M → Prop} {S L : Nat → Nat → Int}  (h : (∃ (tx_1 : Nat → Int) (n_1 a_1 : Nat), mT S tx_1 n_1 ∧ S 0 9 = a_1 ∧ S 0 10 = -1 ∧ S 0 11 = 3 ∧ a_1 ≤ n_1 ∧ bF (fcS S) ∧ (S 0 13 = 0 ∨ S 0 13 = 1) ∧ (S 0 14 = 0 ∨ S 0 14 = 1) ∧ (∀ w_1 : Nat, atP tx_1 n_1 3 a_1 = .inl w_1 → ∀ (z_1 : Nat) (d_1 : Int), z_1 ≤ n_1 + 3 → (zz_J zpX9_every_3 (zz_ret Q X 0 0) 5 [some (vr 0), some (vi 1), none] [] (zm (pS S z_1 w_1 d_1) L) (0, 0)) ∧ (zz_J zpX9_every_3 (zz_ret Q X 0 0) 5 [some (vr 0), some (vi 0), none] [] (zm (pS S z_1 w_1 d_1) L) (0, 0))) ∧ (∀ c_1 : Nat × (Fc → Bool), atP tx_1 n_1 3 a_1 = .inr c_1 → (c_1.2 (fcS S) = true → (zz_J zpX9_every_3 (zz_ret Q X 0 0) 5 [some (vr 0), some (vi 1), none] [] (zm (pS S c_1.1 (-1) (S 0 11)) L) (0, 0))) ∧ (c_1.2 (fcS S) = false → (zz_J zpX9_every_3 (zz_ret Q X 0 0) 5 [some (vr 0), some (vi 0), none] [] (zm (pS S c_1.1 (-1) (S 0 11)) L) (0, 0)))))) : zz_J zpX9_every_3 (zz_ret Q X 0 0) 0 [some (vr 0), none, none] [] (zm S L) (0, 0) := zz_J.go [(5, [2])] 400 h
theorem zwX9_every_3_5 {Q : Option zv → zz_M → Prop} {X : Nat → zz_M → Prop} {S L : Nat → Nat → Int} {x1 : Int} (h : R32 (S 0 10) ∧ ((¬ (S 0 10) = (-1) → (x1 = 0 ∨ x1 = 1) ∧ (Q (some (vi x1)) (zm S L))) ∧ ((S 0 10) = (-1) → (∃ (tx_1 : Nat → Int) (n_1 a_1 j_1 : Nat), 1012 = 1000 + j_1 ∧ j_1 < 18 ∧ mT S tx_1 n_1 ∧ S 0 9 = a_1 ∧ a_1 ≤ n_1 ∧ (hsW tx_1 n_1 (rn (qB tx_1) n_1 a_1) (wo j_1) = true → ((∃ (tx_2 : Nat → Int) (n_2 a_2 : Nat), mT (mm_up S 0 9 ((rn (qB tx_1) n_1 a_1 + (wo j_1).length : Nat) : Int)) tx_2 n_2 ∧ (mm_up S 0 9 ((rn (qB tx_1) n_1 a_1 + (wo j_1).length : Nat) : Int)) 0 9 = a_2 ∧ (mm_up S 0 9 ((rn (qB tx_1) n_1 a_1 + (wo j_1).length : Nat) : Int)) 0 10 = -1 ∧ (mm_up S 0 9 ((rn (qB tx_1) n_1 a_1 + (wo j_1).length : Nat) : Int)) 0 11 = 3 ∧ a_2 ≤ n_2 ∧ bF (fcS (mm_up S 0 9 ((rn (qB tx_1) n_1 a_1 + (wo j_1).length : Nat) : Int))) ∧ ((mm_up S 0 9 ((rn (qB tx_1) n_1 a_1 + (wo j_1).length : Nat) : Int)) 0 13 = 0 ∨ (mm_up S 0 9 ((rn (qB tx_1) n_1 a_1 + (wo j_1).length : Nat) : Int)) 0 13 = 1) ∧ ((mm_up S 0 9 ((rn (qB tx_1) n_1 a_1 + (wo j_1).length : Nat) : Int)) 0 14 = 0 ∨ (mm_up S 0 9 ((rn (qB tx_1) n_1 a_1 + (wo j_1).length : Nat) : Int)) 0 14 = 1) ∧ (∀ w_2 : Nat, atP tx_2 n_2 3 a_2 = .inl w_2 → ∀ (z_2 : Nat) (d_2 : Int), z_2 ≤ n_2 + 3 → (R32 x1 ∧ ((x1 = 0 → zz_J zpX9_every_3 (zz_ret Q X 0 0) 5 [some (vr 0), some (vi 0), none] [] (zm (pS (mm_up S 0 9 ((rn (qB tx_1) n_1 a_1 + (wo j_1).length : Nat) : Int)) z_2 w_2 d_2) L) (0, 0)) ∧ (¬ x1 = 0 → zz_J zpX9_every_3 (zz_ret Q X 0 0) 5 [some (vr 0), some (vi 1), none] [] (zm (pS (mm_up S 0 9 ((rn (qB tx_1) n_1 a_1 + (wo j_1).length : Nat) : Int)) z_2 w_2 d_2) L) (0, 0)))) ∧ (R32 x1 ∧ ((x1 = 0 → zz_J zpX9_every_3 (zz_ret Q X 0 0) 5 [some (vr 0), some (vi 0), none] [] (zm (pS (mm_up S 0 9 ((rn (qB tx_1) n_1 a_1 + (wo j_1).length : Nat) : Int)) z_2 w_2 d_2) L) (0, 0)) ∧ (¬ x1 = 0 → zz_J zpX9_every_3 (zz_ret Q X 0 0) 5 [some (vr 0), some (vi 0), none] [] (zm (pS (mm_up S 0 9 ((rn (qB tx_1) n_1 a_1 + (wo j_1).length : Nat) : Int)) z_2 w_2 d_2) L) (0, 0))))) ∧ (∀ c_2 : Nat × (Fc → Bool), atP tx_2 n_2 3 a_2 = .inr c_2 → (c_2.2 (fcS (mm_up S 0 9 ((rn (qB tx_1) n_1 a_1 + (wo j_1).length : Nat) : Int))) = true → (R32 x1 ∧ ((x1 = 0 → zz_J zpX9_every_3 (zz_ret Q X 0 0) 5 [some (vr 0), some (vi 0), none] [] (zm (pS (mm_up S 0 9 ((rn (qB tx_1) n_1 a_1 + (wo j_1).length : Nat) : Int)) c_2.1 (-1) ((mm_up S 0 9 ((rn (qB tx_1) n_1 a_1 + (wo j_1).length : Nat) : Int)) 0 11)) L) (0, 0)) ∧ (¬ x1 = 0 → zz_J zpX9_every_3 (zz_ret Q X 0 0) 5 [some (vr 0), some (vi 1), none] [] (zm (pS (mm_up S 0 9 ((rn (qB tx_1) n_1 a_1 + (wo j_1).length : Nat) : Int)) c_2.1 (-1) ((mm_up S 0 9 ((rn (qB tx_1) n_1 a_1 + (wo j_1).length : Nat) : Int)) 0 11)) L) (0, 0))))) ∧ (c_2.2 (fcS (mm_up S 0 9 ((rn (qB tx_1) n_1 a_1 + (wo j_1).length : Nat) : Int))) = false → (R32 x1 ∧ ((x1 = 0 → zz_J zpX9_every_3 (zz_ret Q X 0 0) 5 [some (vr 0), some (vi 0), none] [] (zm (pS (mm_up S 0 9 ((rn (qB tx_1) n_1 a_1 + (wo j_1).length : Nat) : Int)) c_2.1 (-1) ((mm_up S 0 9 ((rn (qB tx_1) n_1 a_1 + (wo j_1).length : Nat) : Int)) 0 11)) L) (0, 0)) ∧ (¬ x1 = 0 → zz_J zpX9_every_3 (zz_ret Q X 0 0) 5 [some (vr 0), some (vi 0), none] [] (zm (pS (mm_up S 0 9 ((rn (qB tx_1) n_1 a_1 + (wo j_1).length : Nat) : Int)) c_2.1 (-1) ((mm_up S 0 9 ((rn (qB tx_1) n_1 a_1 + (wo j_1).length : Nat) : Int)) 0 11)) L) (0, 0))))))))) ∧ (hsW tx_1 n_1 (rn (qB tx_1) n_1 a_1) (wo j_1) = false → ((x1 = 0 ∨ x1 = 1) ∧ (Q (some (vi x1)) (zm (mm_up S 0 9 ((rn (qB tx_1) n_1 a_1 : Nat) : Int)) L)))))))) : zz_J zpX9_every_3 (zz_ret Q X 0 0) 5 [some (vr 0), some (vi x1), none] [] (zm S L) (0, 0) := zz_J.go [(5, [2])] 400 h

theorem zmX9_every_3 (l : Launch) (hl : l.stackTraces = false) : mm_Spec l yX9_every (ws_ yX9_every cX9_every 3 (some .boolean)) (mm_rm 19 0 0) (zE zX9_every_3) := by
  refine zz_Met.J hl (by decide) (fun C G hnh => ztX9_every_3 G hnh) ?_
  rintro as ⟨⟨t_, f⟩, S, L, P⟩ Q X h
  unfold zX9_every_3 at h
  split at h
  rotate_left
  · exact h.elim
  rename_i h_
  obtain ⟨e1_, e2_, h⟩ := mm_and2 h (fun q => q)
  cases mm_beq e1_
  cases mm_beq e2_
  try dsimp only at h
  refine ⟨rfl, ?_⟩
  refine zz_Jev (M' := zm S L) rfl rfl rfl ?_
  obtain ⟨tx, n, a, hT, h9, h10, h11, ha, hF, h13, h14, hq1, hq2⟩ := h
  have hn := hT.1
  have hat := atP_ok hT.2.2.1 (fun a w h e => ptP_w h e) 3
  generalize hd : S 0 11 = d at h11 hq2
  have tw : ∀ (w z : Nat) (x d' : Int), w ≤ n → z ≤ n + 3 → (x = 0 ∨ x = 1) → evP tx n (atP tx n 3) a = .inl w → zz_J zpX9_every_3 (zz_ret Q X 0 0) 5 [some (vr 0), some (vi x), none] [] (zm (pS S z w d') L) (0, 0) := by
    intro w z x d' hw hz hx e
    refine zwX9_every_3_5 ?_
    simp only [pS_r10]
    exact ⟨by omega, fun _ => ⟨hx, bool_qq hx (hq1 w e z d' hz)⟩, fun h => by omega⟩
  have lp : ∀ (k a' : Nat) (g : Fc → Bool) (x : Int), n - a' = k → a' ≤ n → x = (bif g (fcS S) then 1 else 0) → evP tx n (atP tx n 3) a = lpP n (rn (qB tx) n) (spW tx n 12) (atP tx n 3) (fun g h F => g F && h F) a' g → zz_J zpX9_every_3 (zz_ret Q X 0 0) 5 [some (vr 0), some (vi x), none] [] (zm (pS S a' (-1) d) L) (0, 0) := by
    intro k
    induction k using Nat.strongRecOn with
    | ind k ih =>
      intro a' g x hk ha' hx e
      have hb := rn_le (q := qB tx) ha'
      have hx01 : x = 0 ∨ x = 1 := by rw [hx]; cases g (fcS S) <;> simp
      refine zwX9_every_3_5 ?_
      simp only [pS_r10, pS_r9, pS_r11, pS_9, mT_pS, pS_pS, fcS_pS]
      refine ⟨by omega, fun h => absurd trivial h, fun _ => ⟨tx, n, a', 12, rfl, by decide, hT, rfl, ha', fun c => ?_, fun c => ⟨hx01, ?_⟩⟩⟩
      · have hs : spW tx n 12 a' = some (rn (qB tx) n a' + 3) := by unfold spW; rw [if_pos c]; rfl
        have h1 := spW_in (by decide) _ _ ha' hs
        refine ⟨tx, n, rn (qB tx) n a' + 3, hT, rfl, trivial, h11, h1.2, hF, h13, h14, fun w ew z d' hz => ?_, fun c2 ec => ?_⟩
        · rw [lpP_l ha' hs ew] at e
          have hw := (hat _ h1.2).2 w ew
          refine ⟨⟨by omega, fun _ => tw w z 0 d' hw hz (Or.inl rfl) e, fun _ => tw w z 1 d' hw hz (Or.inr rfl) e⟩, ⟨by omega, fun _ => tw w z 0 d' hw hz (Or.inl rfl) e, fun _ => tw w z 0 d' hw hz (Or.inl rfl) e⟩⟩
        · have h2 := (hat _ h1.2).1 c2 ec
          rw [lpP_r (fun a b h1 h2 => spW_in (by decide) a b h1 h2) (fun a c h1 h2 => (hat a h1).1 c h2) ha' hs ec] at e
          refine ⟨fun t => ⟨by omega, fun x0 => ?_, fun x1 => ?_⟩, fun t => ⟨by omega, fun x0 => ?_, fun x1 => ?_⟩⟩
          · refine ih (n - c2.1) (by omega) c2.1 _ 0 rfl h2.2 ?_ e
            rw [t]; revert hx; cases g (fcS S) <;> simp; omega
          · refine ih (n - c2.1) (by omega) c2.1 _ 1 rfl h2.2 ?_ e
            rw [t]; revert hx; cases g (fcS S) <;> simp; omega
          · refine ih (n - c2.1) (by omega) c2.1 _ 0 rfl h2.2 ?_ e
            rw [t]; simp
          · refine ih (n - c2.1) (by omega) c2.1 _ 0 rfl h2.2 ?_ e
            rw [t]; simp
      · have hs : spW tx n 12 a' = none := by unfold spW; rw [if_neg (by rw [c]; decide)]
        rw [lpP_n ha' hs] at e
        have hq := hq2 _ e
        rw [hx]
        revert hq
        show (g (fcS S) = true → _) ∧ (g (fcS S) = false → _) → _
        cases g (fcS S) with
        | true => exact fun hq => hq.1 rfl
        | false => exact fun hq => hq.2 rfl
  refine zwX9_every_3_0 ⟨tx, n, a, hT, h9, h10, by rw [hd]; exact h11, ha, hF, h13, h14, fun w e z d' hz => ?_, fun c e => ?_⟩
  · have hw := (hat a ha).2 w e
    have e2 : evP tx n (atP tx n 3) a = .inl w := seqP_f e
    exact ⟨tw w z 1 d' hw hz (Or.inr rfl) e2, tw w z 0 d' hw hz (Or.inl rfl) e2⟩
  · have hc := (hat a ha).1 c e
    rw [hd]
    exact ⟨fun t => lp _ c.1 c.2 1 rfl hc.2 (by rw [t]; rfl) (seqP_s e), fun t => lp _ c.1 c.2 0 rfl hc.2 (by rw [t]; rfl) (seqP_s e)⟩
def zX9_some_3 : zz_Sp := fun as M Q X => match as with
  | [.inr (.inr (some h_))] => bif Nat.beq h_ 0 && Nat.beq M.1.1 1 then (∃ (tx_ : Nat → Int) (n_ a_ : Nat), mT M.2.1 tx_ n_ ∧ M.2.1 0 9 = a_ ∧ M.2.1 0 10 = -1 ∧ M.2.1 0 11 = 3 ∧ a_ ≤ n_ ∧ bF (fcS M.2.1) ∧ (M.2.1 0 13 = 0 ∨ M.2.1 0 13 = 1) ∧ (M.2.1 0 14 = 0 ∨ M.2.1 0 14 = 1) ∧ (∀ w_ : Nat, soP tx_ n_ (atP tx_ n_ 3) a_ = .inl w_ → ∀ (z_ : Nat) (d_ : Int), z_ ≤ n_ + 3 → Q (some (vi 1)) (zm (pS M.2.1 z_ w_ d_) M.2.2.1) ∧ Q (some (vi 0)) (zm (pS M.2.1 z_ w_ d_) M.2.2.1)) ∧ (∀ c_ : Nat × (Fc → Bool), soP tx_ n_ (atP tx_ n_ 3) a_ = .inr c_ → (c_.2 (fcS M.2.1) = true → Q (some (vi 1)) (zm (pS M.2.1 c_.1 (-1) (M.2.1 0 11)) M.2.2.1)) ∧ (c_.2 (fcS M.2.1) = false → Q (some (vi 0)) (zm (pS M.2.1 c_.1 (-1) (M.2.1 0 11)) M.2.2.1)))) else False
  | _ => False

def zpX9_some_3 : zz_P := [(0, zo_ald 1 0), (1, zo_callv 4 1 8 zX9_every_3), (4, zo_ist 5 1), (5, zo_ald 6 0), (6, zo_get 9 8 0 10), (9, zo_c 10 (vi (-1))), (10, zo_cne false true 13 44), (13, zo_ald 14 0), (14, zo_c 16 (vr 1013)), (16, zo_callv 19 2 8 zX9_has), (19, zo_zifeq 22 44), (22, zo_ald 23 0), (23, zo_callv 26 1 8 zX9_every_3), (26, zo_ist 27 2), (27, zo_ild 28 1), (28, zo_ifne false 31 35), (31, zo_ild 32 2), (32, zo_zifeq 35 39), (35, zo_c 36 (vi 1)), (36, zo_goto 40), (39, zo_c 40 (vi 0)), (40, zo_ist 41 1), (41, zo_goto 5), (44, zo_ild 45 1), (45, zo_zret false)]
theorem ztX9_some_3 {C : mm_C} (G : mm_G C RX9 cX9_some (some .boolean) 3 (mm_rm 20 0 0)) (hnh : mm_nh C) : zz_OKs C zpX9_some_3 :=
  ⟨zz_of (ok_aload_n G dX9_some_0 rfl rfl) (z_ald _ _),
   zz_of (ok_callv G hnh (zmX9_every_3 _ G.hst) rfl rfl (RX9, TX9, 32) rfl q1967 q1969 qs48 q93 q1970 (by decide +kernel) ⟨by decide, by decide⟩ dX9_some_1 rfl) (z_callv _ _ _ _),
   zz_of (ok_istore_n G dX9_some_4 rfl rfl (by decide)) (z_ist _ _),
   zz_of (ok_aload_n G dX9_some_5 rfl rfl) (z_ald _ _),
   zz_of (ok_get G (nx := 9) (ci := 8) (kd := 0) (k := 10) (RX9, TX9, 32) rfl (by decide) rfl q1815 dX9_some_6 rfl) (z_get _ _ _ _),
   zz_of (ok_iconst G (v := (zI (-1))) dX9_some_9 (by decide) rfl) (z_cz 10 (-1)),
   zz_of (ok_cne G dX9_some_10 rfl rfl) (z_cne _ _ _ _),
   zz_of (ok_aload_n G dX9_some_13 rfl rfl) (z_ald _ _),
   zz_of (ok_lds G (tx := "or") (by decide +kernel) dX9_some_14 rfl) (z_cr 16 1013),
   zz_of (ok_callv G hnh (zmX9_has _ G.hst) rfl rfl (RX9, TX9, 32) rfl q1942 q1944 qs45 q93 q1945 (by decide +kernel) ⟨by decide, by decide⟩ dX9_some_16 rfl) (z_callv _ _ _ _),
   zz_of (ok_ifeq G dX9_some_19 rfl rfl) (z_zifeq _ _),
   zz_of (ok_aload_n G dX9_some_22 rfl rfl) (z_ald _ _),
   zz_of (ok_callv G hnh (zmX9_every_3 _ G.hst) rfl rfl (RX9, TX9, 32) rfl q1967 q1969 qs48 q93 q1970 (by decide +kernel) ⟨by decide, by decide⟩ dX9_some_23 rfl) (z_callv _ _ _ _),
   zz_of (ok_istore_n G dX9_some_26 rfl rfl (by decide)) (z_ist _ _),
   zz_of (ok_iload_n G dX9_some_27 rfl rfl) (z_ild _ _),
   zz_of (ok_ifne G dX9_some_28 rfl rfl) (z_ifne _ _ _),
   zz_of (ok_iload_n G dX9_some_31 rfl rfl) (z_ild _ _),
   zz_of (ok_ifeq G dX9_some_32 rfl rfl) (z_zifeq _ _),
   zz_of (ok_iconst G (v := 1) dX9_some_35 (by decide) rfl) (z_cn 36 1),
   zz_of (ok_goto G dX9_some_36 rfl) (z_goto _),
   zz_of (ok_iconst G (v := 0) dX9_some_39 (by decide) rfl) (z_cn 40 0),
   zz_of (ok_istore_n G dX9_some_40 rfl rfl (by decide)) (z_ist _ _),
   zz_of (ok_goto G dX9_some_41 rfl) (z_goto _),
   zz_of (ok_iload_n G dX9_some_44 rfl rfl) (z_ild _ _),
   zz_of (ok_zret G dX9_some_45) (z_zret _), trivial⟩

theorem zwX9_some_3_0 {Q : Option zv → zz_M → Prop} {X : Nat → zz_M → Prop} {S L : Nat → Nat → Int}  (h : (∃ (tx_1 : Nat → Int) (n_1 a_1 : Nat), mT S tx_1 n_1 ∧ S 0 9 = a_1 ∧ S 0 10 = -1 ∧ S 0 11 = 3 ∧ a_1 ≤ n_1 ∧ bF (fcS S) ∧ (S 0 13 = 0 ∨ S 0 13 = 1) ∧ (S 0 14 = 0 ∨ S 0 14 = 1) ∧ (∀ w_1 : Nat, evP tx_1 n_1 (atP tx_1 n_1 3) a_1 = .inl w_1 → ∀ (z_1 : Nat) (d_1 : Int), z_1 ≤ n_1 + 3 → (zz_J zpX9_some_3 (zz_ret Q X 0 0) 5 [some (vr 0), some (vi 1), none] [] (zm (pS S z_1 w_1 d_1) L) (0, 0)) ∧ (zz_J zpX9_some_3 (zz_ret Q X 0 0) 5 [some (vr 0), some (vi 0), none] [] (zm (pS S z_1 w_1 d_1) L) (0, 0))) ∧ (∀ c_1 : Nat × (Fc → Bool), evP tx_1 n_1 (atP tx_1 n_1 3) a_1 = .inr c_1 → (c_1.2 (fcS S) = true → (zz_J zpX9_some_3 (zz_ret Q X 0 0) 5 [some (vr 0), some (vi 1), none] [] (zm (pS S c_1.1 (-1) (S 0 11)) L) (0, 0))) ∧ (c_1.2 (fcS S) = false → (zz_J zpX9_some_3 (zz_ret Q X 0 0) 5 [some (vr 0), some (vi 0), none] [] (zm (pS S c_1.1 (-1) (S 0 11)) L) (0, 0)))))) : zz_J zpX9_some_3 (zz_ret Q X 0 0) 0 [some (vr 0), none, none] [] (zm S L) (0, 0) := zz_J.go [(5, [2])] 400 h
theorem zwX9_some_3_5 {Q : Option zv → zz_M → Prop} {X : Nat → zz_M → Prop} {S L : Nat → Nat → Int} {x1 : Int} (h : R32 (S 0 10) ∧ ((¬ (S 0 10) = (-1) → (x1 = 0 ∨ x1 = 1) ∧ (Q (some (vi x1)) (zm S L))) ∧ ((S 0 10) = (-1) → (∃ (tx_1 : Nat → Int) (n_1 a_1 j_1 : Nat), 1013 = 1000 + j_1 ∧ j_1 < 18 ∧ mT S tx_1 n_1 ∧ S 0 9 = a_1 ∧ a_1 ≤ n_1 ∧ (hsW tx_1 n_1 (rn (qB tx_1) n_1 a_1) (wo j_1) = true → ((∃ (tx_2 : Nat → Int) (n_2 a_2 : Nat), mT (mm_up S 0 9 ((rn (qB tx_1) n_1 a_1 + (wo j_1).length : Nat) : Int)) tx_2 n_2 ∧ (mm_up S 0 9 ((rn (qB tx_1) n_1 a_1 + (wo j_1).length : Nat) : Int)) 0 9 = a_2 ∧ (mm_up S 0 9 ((rn (qB tx_1) n_1 a_1 + (wo j_1).length : Nat) : Int)) 0 10 = -1 ∧ (mm_up S 0 9 ((rn (qB tx_1) n_1 a_1 + (wo j_1).length : Nat) : Int)) 0 11 = 3 ∧ a_2 ≤ n_2 ∧ bF (fcS (mm_up S 0 9 ((rn (qB tx_1) n_1 a_1 + (wo j_1).length : Nat) : Int))) ∧ ((mm_up S 0 9 ((rn (qB tx_1) n_1 a_1 + (wo j_1).length : Nat) : Int)) 0 13 = 0 ∨ (mm_up S 0 9 ((rn (qB tx_1) n_1 a_1 + (wo j_1).length : Nat) : Int)) 0 13 = 1) ∧ ((mm_up S 0 9 ((rn (qB tx_1) n_1 a_1 + (wo j_1).length : Nat) : Int)) 0 14 = 0 ∨ (mm_up S 0 9 ((rn (qB tx_1) n_1 a_1 + (wo j_1).length : Nat) : Int)) 0 14 = 1) ∧ (∀ w_2 : Nat, evP tx_2 n_2 (atP tx_2 n_2 3) a_2 = .inl w_2 → ∀ (z_2 : Nat) (d_2 : Int), z_2 ≤ n_2 + 3 → (R32 x1 ∧ ((¬ x1 = 0 → zz_J zpX9_some_3 (zz_ret Q X 0 0) 5 [some (vr 0), some (vi 1), none] [] (zm (pS (mm_up S 0 9 ((rn (qB tx_1) n_1 a_1 + (wo j_1).length : Nat) : Int)) z_2 w_2 d_2) L) (0, 0)) ∧ (x1 = 0 → zz_J zpX9_some_3 (zz_ret Q X 0 0) 5 [some (vr 0), some (vi 1), none] [] (zm (pS (mm_up S 0 9 ((rn (qB tx_1) n_1 a_1 + (wo j_1).length : Nat) : Int)) z_2 w_2 d_2) L) (0, 0)))) ∧ (R32 x1 ∧ ((¬ x1 = 0 → zz_J zpX9_some_3 (zz_ret Q X 0 0) 5 [some (vr 0), some (vi 1), none] [] (zm (pS (mm_up S 0 9 ((rn (qB tx_1) n_1 a_1 + (wo j_1).length : Nat) : Int)) z_2 w_2 d_2) L) (0, 0)) ∧ (x1 = 0 → zz_J zpX9_some_3 (zz_ret Q X 0 0) 5 [some (vr 0), some (vi 0), none] [] (zm (pS (mm_up S 0 9 ((rn (qB tx_1) n_1 a_1 + (wo j_1).length : Nat) : Int)) z_2 w_2 d_2) L) (0, 0))))) ∧ (∀ c_2 : Nat × (Fc → Bool), evP tx_2 n_2 (atP tx_2 n_2 3) a_2 = .inr c_2 → (c_2.2 (fcS (mm_up S 0 9 ((rn (qB tx_1) n_1 a_1 + (wo j_1).length : Nat) : Int))) = true → (R32 x1 ∧ ((¬ x1 = 0 → zz_J zpX9_some_3 (zz_ret Q X 0 0) 5 [some (vr 0), some (vi 1), none] [] (zm (pS (mm_up S 0 9 ((rn (qB tx_1) n_1 a_1 + (wo j_1).length : Nat) : Int)) c_2.1 (-1) ((mm_up S 0 9 ((rn (qB tx_1) n_1 a_1 + (wo j_1).length : Nat) : Int)) 0 11)) L) (0, 0)) ∧ (x1 = 0 → zz_J zpX9_some_3 (zz_ret Q X 0 0) 5 [some (vr 0), some (vi 1), none] [] (zm (pS (mm_up S 0 9 ((rn (qB tx_1) n_1 a_1 + (wo j_1).length : Nat) : Int)) c_2.1 (-1) ((mm_up S 0 9 ((rn (qB tx_1) n_1 a_1 + (wo j_1).length : Nat) : Int)) 0 11)) L) (0, 0))))) ∧ (c_2.2 (fcS (mm_up S 0 9 ((rn (qB tx_1) n_1 a_1 + (wo j_1).length : Nat) : Int))) = false → (R32 x1 ∧ ((¬ x1 = 0 → zz_J zpX9_some_3 (zz_ret Q X 0 0) 5 [some (vr 0), some (vi 1), none] [] (zm (pS (mm_up S 0 9 ((rn (qB tx_1) n_1 a_1 + (wo j_1).length : Nat) : Int)) c_2.1 (-1) ((mm_up S 0 9 ((rn (qB tx_1) n_1 a_1 + (wo j_1).length : Nat) : Int)) 0 11)) L) (0, 0)) ∧ (x1 = 0 → zz_J zpX9_some_3 (zz_ret Q X 0 0) 5 [some (vr 0), some (vi 0), none] [] (zm (pS (mm_up S 0 9 ((rn (qB tx_1) n_1 a_1 + (wo j_1).length : Nat) : Int)) c_2.1 (-1) ((mm_up S 0 9 ((rn (qB tx_1) n_1 a_1 + (wo j_1).length : Nat) : Int)) 0 11)) L) (0, 0))))))))) ∧ (hsW tx_1 n_1 (rn (qB tx_1) n_1 a_1) (wo j_1) = false → ((x1 = 0 ∨ x1 = 1) ∧ (Q (some (vi x1)) (zm (mm_up S 0 9 ((rn (qB tx_1) n_1 a_1 : Nat) : Int)) L)))))))) : zz_J zpX9_some_3 (zz_ret Q X 0 0) 5 [some (vr 0), some (vi x1), none] [] (zm S L) (0, 0) := zz_J.go [(5, [2])] 400 h

theorem zmX9_some_3 (l : Launch) (hl : l.stackTraces = false) : mm_Spec l yX9_some (ws_ yX9_some cX9_some 3 (some .boolean)) (mm_rm 20 0 0) (zE zX9_some_3) := by
  refine zz_Met.J hl (by decide) (fun C G hnh => ztX9_some_3 G hnh) ?_
  rintro as ⟨⟨t_, f⟩, S, L, P⟩ Q X h
  unfold zX9_some_3 at h
  split at h
  rotate_left
  · exact h.elim
  rename_i h_
  obtain ⟨e1_, e2_, h⟩ := mm_and2 h (fun q => q)
  cases mm_beq e1_
  cases mm_beq e2_
  try dsimp only at h
  refine ⟨rfl, ?_⟩
  refine zz_Jev (M' := zm S L) rfl rfl rfl ?_
  obtain ⟨tx, n, a, hT, h9, h10, h11, ha, hF, h13, h14, hq1, hq2⟩ := h
  have hn := hT.1
  have hat : pOK n (evP tx n (atP tx n 3)) := evP_ok (atP_ok hT.2.2.1 (fun a w h e => ptP_w h e) 3)
  generalize hd : S 0 11 = d at h11 hq2
  have tw : ∀ (w z : Nat) (x d' : Int), w ≤ n → z ≤ n + 3 → (x = 0 ∨ x = 1) → soP tx n (atP tx n 3) a = .inl w → zz_J zpX9_some_3 (zz_ret Q X 0 0) 5 [some (vr 0), some (vi x), none] [] (zm (pS S z w d') L) (0, 0) := by
    intro w z x d' hw hz hx e
    refine zwX9_some_3_5 ?_
    simp only [pS_r10]
    exact ⟨by omega, fun _ => ⟨hx, bool_qq hx (hq1 w e z d' hz)⟩, fun h => by omega⟩
  have lp : ∀ (k a' : Nat) (g : Fc → Bool) (x : Int), n - a' = k → a' ≤ n → x = (bif g (fcS S) then 1 else 0) → soP tx n (atP tx n 3) a = lpP n (rn (qB tx) n) (spW tx n 13) (evP tx n (atP tx n 3)) (fun g h F => g F || h F) a' g → zz_J zpX9_some_3 (zz_ret Q X 0 0) 5 [some (vr 0), some (vi x), none] [] (zm (pS S a' (-1) d) L) (0, 0) := by
    intro k
    induction k using Nat.strongRecOn with
    | ind k ih =>
      intro a' g x hk ha' hx e
      have hb := rn_le (q := qB tx) ha'
      have hx01 : x = 0 ∨ x = 1 := by rw [hx]; cases g (fcS S) <;> simp
      refine zwX9_some_3_5 ?_
      simp only [pS_r10, pS_r9, pS_r11, pS_9, mT_pS, pS_pS, fcS_pS]
      refine ⟨by omega, fun h => absurd trivial h, fun _ => ⟨tx, n, a', 13, rfl, by decide, hT, rfl, ha', fun c => ?_, fun c => ⟨hx01, ?_⟩⟩⟩
      · have hs : spW tx n 13 a' = some (rn (qB tx) n a' + 2) := by unfold spW; rw [if_pos c]; rfl
        have h1 := spW_in (by decide) _ _ ha' hs
        refine ⟨tx, n, rn (qB tx) n a' + 2, hT, rfl, trivial, h11, h1.2, hF, h13, h14, fun w ew z d' hz => ?_, fun c2 ec => ?_⟩
        · rw [lpP_l ha' hs ew] at e
          have hw := (hat _ h1.2).2 w ew
          refine ⟨⟨by omega, fun _ => tw w z 1 d' hw hz (Or.inr rfl) e, fun _ => tw w z 1 d' hw hz (Or.inr rfl) e⟩, ⟨by omega, fun _ => tw w z 1 d' hw hz (Or.inr rfl) e, fun _ => tw w z 0 d' hw hz (Or.inl rfl) e⟩⟩
        · have h2 := (hat _ h1.2).1 c2 ec
          rw [lpP_r (fun a b h1 h2 => spW_in (by decide) a b h1 h2) (fun a c h1 h2 => (hat a h1).1 c h2) ha' hs ec] at e
          refine ⟨fun t => ⟨by omega, fun x0 => ?_, fun x1 => ?_⟩, fun t => ⟨by omega, fun x0 => ?_, fun x1 => ?_⟩⟩
          · refine ih (n - c2.1) (by omega) c2.1 _ 1 rfl h2.2 ?_ e
            rw [t]; simp
          · refine ih (n - c2.1) (by omega) c2.1 _ 1 rfl h2.2 ?_ e
            rw [t]; simp
          · refine ih (n - c2.1) (by omega) c2.1 _ 1 rfl h2.2 ?_ e
            rw [t]; revert hx; cases g (fcS S) <;> simp; omega
          · refine ih (n - c2.1) (by omega) c2.1 _ 0 rfl h2.2 ?_ e
            rw [t]; revert hx; cases g (fcS S) <;> simp; omega
      · have hs : spW tx n 13 a' = none := by unfold spW; rw [if_neg (by rw [c]; decide)]
        rw [lpP_n ha' hs] at e
        have hq := hq2 _ e
        rw [hx]
        revert hq
        show (g (fcS S) = true → _) ∧ (g (fcS S) = false → _) → _
        cases g (fcS S) with
        | true => exact fun hq => hq.1 rfl
        | false => exact fun hq => hq.2 rfl
  refine zwX9_some_3_0 ⟨tx, n, a, hT, h9, h10, by rw [hd]; exact h11, ha, hF, h13, h14, fun w e z d' hz => ?_, fun c e => ?_⟩
  · have hw := (hat a ha).2 w e
    have e2 : soP tx n (atP tx n 3) a = .inl w := seqP_f e
    exact ⟨tw w z 1 d' hw hz (Or.inr rfl) e2, tw w z 0 d' hw hz (Or.inl rfl) e2⟩
  · have hc := (hat a ha).1 c e
    rw [hd]
    exact ⟨fun t => lp _ c.1 c.2 1 rfl hc.2 (by rw [t]; rfl) (seqP_s e), fun t => lp _ c.1 c.2 0 rfl hc.2 (by rw [t]; rfl) (seqP_s e)⟩
def zX9_atom_4 : zz_Sp := fun as M Q X => match as with
  | [.inr (.inr (some h_))] => bif Nat.beq h_ 0 && Nat.beq M.1.1 1 then (∃ (tx_ : Nat → Int) (n_ a_ : Nat), mT M.2.1 tx_ n_ ∧ M.2.1 0 9 = a_ ∧ M.2.1 0 10 = -1 ∧ M.2.1 0 11 = 2 ∧ a_ ≤ n_ ∧ bF (fcS M.2.1) ∧ (M.2.1 0 13 = 0 ∨ M.2.1 0 13 = 1) ∧ (M.2.1 0 14 = 0 ∨ M.2.1 0 14 = 1) ∧ (∀ w_ : Nat, atP tx_ n_ 4 a_ = .inl w_ → ∀ (z_ : Nat) (d_ : Int), z_ ≤ n_ + 4 → Q (some (vi 1)) (zm (pS M.2.1 z_ w_ d_) M.2.2.1) ∧ Q (some (vi 0)) (zm (pS M.2.1 z_ w_ d_) M.2.2.1)) ∧ (∀ c_ : Nat × (Fc → Bool), atP tx_ n_ 4 a_ = .inr c_ → (c_.2 (fcS M.2.1) = true → Q (some (vi 1)) (zm (pS M.2.1 c_.1 (-1) (M.2.1 0 11)) M.2.2.1)) ∧ (c_.2 (fcS M.2.1) = false → Q (some (vi 0)) (zm (pS M.2.1 c_.1 (-1) (M.2.1 0 11)) M.2.2.1)))) else False
  | _ => False

def zpX9_atom_4 : zz_P := [(0, zo_ald 1 0), (1, zo_get 4 8 0 10), (4, zo_c 5 (vi (-1))), (5, zo_ceq false true 8 10), (8, zo_c 9 (vi 0)), (9, zo_zret true), (10, zo_ald 11 0), (11, zo_callv 14 1 8 zX9_skip), (14, zo_ald 15 0), (15, zo_get 18 8 0 9), (18, zo_ist 19 1), (19, zo_ald 20 0), (20, zo_c 22 (vr 1009)), (22, zo_callv 25 2 8 zX9_has), (25, zo_ist 26 2), (26, zo_ild 27 2), (27, zo_ifne false 30 44), (30, zo_ald 31 0), (31, zo_c 33 (vi 40)), (33, zo_callv 36 2 8 zX9_isSign), (36, zo_zifne 39 44), (39, zo_ald 40 0), (40, zo_callv 43 1 8 zX9_plainCond), (43, zo_zret true), (44, zo_ald 45 0), (45, zo_get 48 8 0 11), (48, zo_c 50 (vi 6)), (50, zo_cne false true 53 60), (53, zo_ald 54 0), (54, zo_ild 55 1), (55, zo_callv 58 2 8 zX9_wrong), (58, zo_c 59 (vi 0)), (59, zo_zret true), (60, zo_ald 61 0), (61, zo_dup 62), (62, zo_get 65 8 0 11), (65, zo_c 66 (vi 1)), (66, zo_iadd 67), (67, zo_puti 70 8 11), (70, zo_c 71 (vi 0)), (71, zo_ist 72 3), (72, zo_ild 73 2), (73, zo_ifeq false 76 92), (76, zo_ald 77 0), (77, zo_callv 80 1 8 zX9_atom_3), (80, zo_zifne 83 87), (83, zo_c 84 (vi 1)), (84, zo_goto 88), (87, zo_c 88 (vi 0)), (88, zo_ist 89 3), (89, zo_goto 142), (92, zo_ald 93 0), (93, zo_dup 94), (94, zo_get 97 8 0 9), (97, zo_c 98 (vi 1)), (98, zo_iadd 99), (99, zo_puti 102 8 9), (102, zo_ald 103 0), (103, zo_callv 106 1 8 zX9_some_3), (106, zo_ist 107 3), (107, zo_ald 108 0), (108, zo_get 111 8 0 10), (111, zo_c 112 (vi (-1))), (112, zo_cne false true 115 132), (115, zo_ald 116 0), (116, zo_c 118 (vi 41)), (118, zo_callv 121 2 8 zX9_isSign), (121, zo_zifne 124 132), (124, zo_ald 125 0), (125, zo_ald 126 0), (126, zo_get 129 8 0 9), (129, zo_callv 132 2 8 zX9_wrong), (132, zo_ald 133 0), (133, zo_dup 134), (134, zo_get 137 8 0 9), (137, zo_c 138 (vi 1)), (138, zo_iadd 139), (139, zo_puti 142 8 9), (142, zo_ald 143 0), (143, zo_dup 144), (144, zo_get 147 8 0 11), (147, zo_c 148 (vi 1)), (148, zo_isub 149), (149, zo_puti 152 8 11), (152, zo_ild 153 3), (153, zo_zret false)]
theorem ztX9_atom_4 {C : mm_C} (G : mm_G C RX9 cX9_atom (some .boolean) 4 (mm_rm 21 0 0)) (hnh : mm_nh C) : zz_OKs C zpX9_atom_4 :=
  ⟨zz_of (ok_aload_n G dX9_atom_0 rfl rfl) (z_ald _ _),
   zz_of (ok_get G (nx := 4) (ci := 8) (kd := 0) (k := 10) (RX9, TX9, 32) rfl (by decide) rfl q1815 dX9_atom_1 rfl) (z_get _ _ _ _),
   zz_of (ok_iconst G (v := (zI (-1))) dX9_atom_4 (by decide) rfl) (z_cz 5 (-1)),
   zz_of (ok_ceq G dX9_atom_5 rfl rfl) (z_ceq _ _ _ _),
   zz_of (ok_iconst G (v := 0) dX9_atom_8 (by decide) rfl) (z_cn 9 0),
   zz_of (ok_zret G dX9_atom_9) (z_zret _),
   zz_of (ok_aload_n G dX9_atom_10 rfl rfl) (z_ald _ _),
   zz_of (ok_callv G hnh (zmX9_skip _ G.hst) rfl rfl (RX9, TX9, 32) rfl q1925 q1927 qs41 q93 q1928 (by decide +kernel) ⟨by decide, by decide⟩ dX9_atom_11 rfl) (z_callv _ _ _ _),
   zz_of (ok_aload_n G dX9_atom_14 rfl rfl) (z_ald _ _),
   zz_of (ok_get G (nx := 18) (ci := 8) (kd := 0) (k := 9) (RX9, TX9, 32) rfl (by decide) rfl q1814 dX9_atom_15 rfl) (z_get _ _ _ _),
   zz_of (ok_istore_n G dX9_atom_18 rfl rfl (by decide)) (z_ist _ _),
   zz_of (ok_aload_n G dX9_atom_19 rfl rfl) (z_ald _ _),
   zz_of (ok_lds G (tx := "not") (by decide +kernel) dX9_atom_20 rfl) (z_cr 22 1009),
   zz_of (ok_callv G hnh (zmX9_has _ G.hst) rfl rfl (RX9, TX9, 32) rfl q1942 q1944 qs45 q93 q1945 (by decide +kernel) ⟨by decide, by decide⟩ dX9_atom_22 rfl) (z_callv _ _ _ _),
   zz_of (ok_istore_n G dX9_atom_25 rfl rfl (by decide)) (z_ist _ _),
   zz_of (ok_iload_n G dX9_atom_26 rfl rfl) (z_ild _ _),
   zz_of (ok_ifne G dX9_atom_27 rfl rfl) (z_ifne _ _ _),
   zz_of (ok_aload_n G dX9_atom_30 rfl rfl) (z_ald _ _),
   zz_of (ok_bipush G (v := 40) dX9_atom_31 (by decide) rfl) (z_cn 33 40),
   zz_of (ok_callv G hnh (zmX9_isSign _ G.hst) rfl rfl (RX9, TX9, 32) rfl q1976 q1978 qs50 q93 q1979 (by decide +kernel) ⟨by decide, by decide⟩ dX9_atom_33 rfl) (z_callv _ _ _ _),
   zz_of (ok_ifne G dX9_atom_36 rfl rfl) (z_zifne _ _),
   zz_of (ok_aload_n G dX9_atom_39 rfl rfl) (z_ald _ _),
   zz_of (ok_callv G hnh (zmX9_plainCond _ G.hst) rfl rfl (RX9, TX9, 32) rfl q1980 q1982 qs51 q93 q1983 (by decide +kernel) ⟨by decide, by decide⟩ dX9_atom_40 rfl) (z_callv _ _ _ _),
   zz_of (ok_zret G dX9_atom_43) (z_zret _),
   zz_of (ok_aload_n G dX9_atom_44 rfl rfl) (z_ald _ _),
   zz_of (ok_get G (nx := 48) (ci := 8) (kd := 0) (k := 11) (RX9, TX9, 32) rfl (by decide) rfl q1816 dX9_atom_45 rfl) (z_get _ _ _ _),
   zz_of (ok_bipush G (v := 6) dX9_atom_48 (by decide) rfl) (z_cn 50 6),
   zz_of (ok_cne G dX9_atom_50 rfl rfl) (z_cne _ _ _ _),
   zz_of (ok_aload_n G dX9_atom_53 rfl rfl) (z_ald _ _),
   zz_of (ok_iload_n G dX9_atom_54 rfl rfl) (z_ild _ _),
   zz_of (ok_callv G hnh (zmX9_wrong _ G.hst) rfl rfl (RX9, TX9, 32) rfl q1933 q1935 qs43 q93 q1936 (by decide +kernel) ⟨by decide, by decide⟩ dX9_atom_55 rfl) (z_callv _ _ _ _),
   zz_of (ok_iconst G (v := 0) dX9_atom_58 (by decide) rfl) (z_cn 59 0),
   zz_of (ok_zret G dX9_atom_59) (z_zret _),
   zz_of (ok_aload_n G dX9_atom_60 rfl rfl) (z_ald _ _),
   zz_of (ok_dup G dX9_atom_61 rfl) (z_dup _),
   zz_of (ok_get G (nx := 65) (ci := 8) (kd := 0) (k := 11) (RX9, TX9, 32) rfl (by decide) rfl q1816 dX9_atom_62 rfl) (z_get _ _ _ _),
   zz_of (ok_iconst G (v := 1) dX9_atom_65 (by decide) rfl) (z_cn 66 1),
   zz_of (ok_iadd G dX9_atom_66 rfl) (z_iadd _),
   zz_of (ok_puti G (nx := 70) (idx := 129) (ci := 8) (k := 11) (RX9, TX9, 32) rfl (by decide) rfl (mm_pw G (ci := 8) (k := 11) (RX9, TX9, 32) rfl (by decide) rfl q1816 dX9_atom_67) rfl) (z_puti _ _ _),
   zz_of (ok_iconst G (v := 0) dX9_atom_70 (by decide) rfl) (z_cn 71 0),
   zz_of (ok_istore_n G dX9_atom_71 rfl rfl (by decide)) (z_ist _ _),
   zz_of (ok_iload_n G dX9_atom_72 rfl rfl) (z_ild _ _),
   zz_of (ok_ifeq G dX9_atom_73 rfl rfl) (z_ifeq _ _ _),
   zz_of (ok_aload_n G dX9_atom_76 rfl rfl) (z_ald _ _),
   zz_of (ok_callv G hnh (zmX9_atom_3 _ G.hst) rfl rfl (RX9, TX9, 32) rfl q1971 q1973 qs49 q93 q1974 (by decide +kernel) ⟨by decide, by decide⟩ dX9_atom_77 rfl) (z_callv _ _ _ _),
   zz_of (ok_ifne G dX9_atom_80 rfl rfl) (z_zifne _ _),
   zz_of (ok_iconst G (v := 1) dX9_atom_83 (by decide) rfl) (z_cn 84 1),
   zz_of (ok_goto G dX9_atom_84 rfl) (z_goto _),
   zz_of (ok_iconst G (v := 0) dX9_atom_87 (by decide) rfl) (z_cn 88 0),
   zz_of (ok_istore_n G dX9_atom_88 rfl rfl (by decide)) (z_ist _ _),
   zz_of (ok_goto G dX9_atom_89 rfl) (z_goto _),
   zz_of (ok_aload_n G dX9_atom_92 rfl rfl) (z_ald _ _),
   zz_of (ok_dup G dX9_atom_93 rfl) (z_dup _),
   zz_of (ok_get G (nx := 97) (ci := 8) (kd := 0) (k := 9) (RX9, TX9, 32) rfl (by decide) rfl q1814 dX9_atom_94 rfl) (z_get _ _ _ _),
   zz_of (ok_iconst G (v := 1) dX9_atom_97 (by decide) rfl) (z_cn 98 1),
   zz_of (ok_iadd G dX9_atom_98 rfl) (z_iadd _),
   zz_of (ok_puti G (nx := 102) (idx := 80) (ci := 8) (k := 9) (RX9, TX9, 32) rfl (by decide) rfl (mm_pw G (ci := 8) (k := 9) (RX9, TX9, 32) rfl (by decide) rfl q1814 dX9_atom_99) rfl) (z_puti _ _ _),
   zz_of (ok_aload_n G dX9_atom_102 rfl rfl) (z_ald _ _),
   zz_of (ok_callv G hnh (zmX9_some_3 _ G.hst) rfl rfl (RX9, TX9, 32) rfl q1963 q1965 qs47 q93 q1966 (by decide +kernel) ⟨by decide, by decide⟩ dX9_atom_103 rfl) (z_callv _ _ _ _),
   zz_of (ok_istore_n G dX9_atom_106 rfl rfl (by decide)) (z_ist _ _),
   zz_of (ok_aload_n G dX9_atom_107 rfl rfl) (z_ald _ _),
   zz_of (ok_get G (nx := 111) (ci := 8) (kd := 0) (k := 10) (RX9, TX9, 32) rfl (by decide) rfl q1815 dX9_atom_108 rfl) (z_get _ _ _ _),
   zz_of (ok_iconst G (v := (zI (-1))) dX9_atom_111 (by decide) rfl) (z_cz 112 (-1)),
   zz_of (ok_cne G dX9_atom_112 rfl rfl) (z_cne _ _ _ _),
   zz_of (ok_aload_n G dX9_atom_115 rfl rfl) (z_ald _ _),
   zz_of (ok_bipush G (v := 41) dX9_atom_116 (by decide) rfl) (z_cn 118 41),
   zz_of (ok_callv G hnh (zmX9_isSign _ G.hst) rfl rfl (RX9, TX9, 32) rfl q1976 q1978 qs50 q93 q1979 (by decide +kernel) ⟨by decide, by decide⟩ dX9_atom_118 rfl) (z_callv _ _ _ _),
   zz_of (ok_ifne G dX9_atom_121 rfl rfl) (z_zifne _ _),
   zz_of (ok_aload_n G dX9_atom_124 rfl rfl) (z_ald _ _),
   zz_of (ok_aload_n G dX9_atom_125 rfl rfl) (z_ald _ _),
   zz_of (ok_get G (nx := 129) (ci := 8) (kd := 0) (k := 9) (RX9, TX9, 32) rfl (by decide) rfl q1814 dX9_atom_126 rfl) (z_get _ _ _ _),
   zz_of (ok_callv G hnh (zmX9_wrong _ G.hst) rfl rfl (RX9, TX9, 32) rfl q1933 q1935 qs43 q93 q1936 (by decide +kernel) ⟨by decide, by decide⟩ dX9_atom_129 rfl) (z_callv _ _ _ _),
   zz_of (ok_aload_n G dX9_atom_132 rfl rfl) (z_ald _ _),
   zz_of (ok_dup G dX9_atom_133 rfl) (z_dup _),
   zz_of (ok_get G (nx := 137) (ci := 8) (kd := 0) (k := 9) (RX9, TX9, 32) rfl (by decide) rfl q1814 dX9_atom_134 rfl) (z_get _ _ _ _),
   zz_of (ok_iconst G (v := 1) dX9_atom_137 (by decide) rfl) (z_cn 138 1),
   zz_of (ok_iadd G dX9_atom_138 rfl) (z_iadd _),
   zz_of (ok_puti G (nx := 142) (idx := 80) (ci := 8) (k := 9) (RX9, TX9, 32) rfl (by decide) rfl (mm_pw G (ci := 8) (k := 9) (RX9, TX9, 32) rfl (by decide) rfl q1814 dX9_atom_139) rfl) (z_puti _ _ _),
   zz_of (ok_aload_n G dX9_atom_142 rfl rfl) (z_ald _ _),
   zz_of (ok_dup G dX9_atom_143 rfl) (z_dup _),
   zz_of (ok_get G (nx := 147) (ci := 8) (kd := 0) (k := 11) (RX9, TX9, 32) rfl (by decide) rfl q1816 dX9_atom_144 rfl) (z_get _ _ _ _),
   zz_of (ok_iconst G (v := 1) dX9_atom_147 (by decide) rfl) (z_cn 148 1),
   zz_of (ok_isub G dX9_atom_148 rfl) (z_isub _),
   zz_of (ok_puti G (nx := 152) (idx := 129) (ci := 8) (k := 11) (RX9, TX9, 32) rfl (by decide) rfl (mm_pw G (ci := 8) (k := 11) (RX9, TX9, 32) rfl (by decide) rfl q1816 dX9_atom_149) rfl) (z_puti _ _ _),
   zz_of (ok_iload_n G dX9_atom_152 rfl rfl) (z_ild _ _),
   zz_of (ok_zret G dX9_atom_153) (z_zret _), trivial⟩

theorem zwX9_atom_4_0 {Q : Option zv → zz_M → Prop} {X : Nat → zz_M → Prop} {S L : Nat → Nat → Int}  (h : R32 (S 0 10) ∧ (((S 0 10) = (-1) → (∃ (tx_1 : Nat → Int) (n_1 a_1 : Nat), mT S tx_1 n_1 ∧ S 0 9 = a_1 ∧ a_1 ≤ n_1 + 1000 ∧ ((∃ (tx_2 : Nat → Int) (n_2 a_2 j_2 : Nat), 1009 = 1000 + j_2 ∧ j_2 < 18 ∧ mT (mm_up S 0 9 ((rn (qB tx_1) n_1 a_1 : Nat) : Int)) tx_2 n_2 ∧ (mm_up S 0 9 ((rn (qB tx_1) n_1 a_1 : Nat) : Int)) 0 9 = a_2 ∧ a_2 ≤ n_2 ∧ (hsW tx_2 n_2 (rn (qB tx_2) n_2 a_2) (wo j_2) = true → (zz_J zpX9_atom_4 (zz_ret Q X 0 0) 26 [some (vr 0), some (vi ((rn (qB tx_1) n_1 a_1 : Nat) : Int)), some (vi 1), none] [] (zm (mm_up (mm_up S 0 9 ((rn (qB tx_1) n_1 a_1 : Nat) : Int)) 0 9 ((rn (qB tx_2) n_2 a_2 + (wo j_2).length : Nat) : Int)) L) (0, 0))) ∧ (hsW tx_2 n_2 (rn (qB tx_2) n_2 a_2) (wo j_2) = false → (zz_J zpX9_atom_4 (zz_ret Q X 0 0) 26 [some (vr 0), some (vi ((rn (qB tx_1) n_1 a_1 : Nat) : Int)), some (vi 0), none] [] (zm (mm_up (mm_up S 0 9 ((rn (qB tx_1) n_1 a_1 : Nat) : Int)) 0 9 ((rn (qB tx_2) n_2 a_2 : Nat) : Int)) L) (0, 0))))))) ∧ (¬ (S 0 10) = (-1) → Q (some (vi 0)) (zm S L)))) : zz_J zpX9_atom_4 (zz_ret Q X 0 0) 0 [some (vr 0), none, none, none] [] (zm S L) (0, 0) := zz_J.go [(26, [3]), (44, [3]), (107, [1, 2]), (132, [1, 2]), (142, [1, 2])] 400 h
theorem zwX9_atom_4_26 {Q : Option zv → zz_M → Prop} {X : Nat → zz_M → Prop} {S L : Nat → Nat → Int} {x1 : Int} {x2 : Int} (h : R32 x2 ∧ ((¬ x2 = 0 → zz_J zpX9_atom_4 (zz_ret Q X 0 0) 44 [some (vr 0), some (vi x1), some (vi x2), none] [] (zm S L) (0, 0)) ∧ (x2 = 0 → (∃ (tx_1 : Nat → Int) (n_1 a_1 : Nat), R32 (40 : Int) ∧ mT S tx_1 n_1 ∧ S 0 9 = a_1 ∧ a_1 ≤ n_1 ∧ (isSg tx_1 n_1 (rn (qB tx_1) n_1 a_1) (40 : Int) = true → (zz_J zpX9_atom_4 (zz_ret Q X 0 0) 44 [some (vr 0), some (vi x1), some (vi x2), none] [] (zm (mm_up S 0 9 ((rn (qB tx_1) n_1 a_1 : Nat) : Int)) L) (0, 0))) ∧ (isSg tx_1 n_1 (rn (qB tx_1) n_1 a_1) (40 : Int) = false → ((∃ (tx_2 : Nat → Int) (n_2 a_2 : Nat), mT (mm_up S 0 9 ((rn (qB tx_1) n_1 a_1 : Nat) : Int)) tx_2 n_2 ∧ (mm_up S 0 9 ((rn (qB tx_1) n_1 a_1 : Nat) : Int)) 0 9 = a_2 ∧ (mm_up S 0 9 ((rn (qB tx_1) n_1 a_1 : Nat) : Int)) 0 10 = -1 ∧ a_2 ≤ n_2 ∧ bF (fcS (mm_up S 0 9 ((rn (qB tx_1) n_1 a_1 : Nat) : Int))) ∧ ((mm_up S 0 9 ((rn (qB tx_1) n_1 a_1 : Nat) : Int)) 0 13 = 0 ∨ (mm_up S 0 9 ((rn (qB tx_1) n_1 a_1 : Nat) : Int)) 0 13 = 1) ∧ ((mm_up S 0 9 ((rn (qB tx_1) n_1 a_1 : Nat) : Int)) 0 14 = 0 ∨ (mm_up S 0 9 ((rn (qB tx_1) n_1 a_1 : Nat) : Int)) 0 14 = 1) ∧ (∀ w_2 : Nat, plP tx_2 n_2 a_2 = .inl w_2 → ∀ (z_2 : Nat) (d_2 : Int), z_2 ≤ n_2 → (Q (some (vi 1)) (zm (pS (mm_up S 0 9 ((rn (qB tx_1) n_1 a_1 : Nat) : Int)) z_2 w_2 d_2) L)) ∧ (Q (some (vi 0)) (zm (pS (mm_up S 0 9 ((rn (qB tx_1) n_1 a_1 : Nat) : Int)) z_2 w_2 d_2) L))) ∧ (∀ c_2 : Nat × (Fc → Bool), plP tx_2 n_2 a_2 = .inr c_2 → (c_2.2 (fcS (mm_up S 0 9 ((rn (qB tx_1) n_1 a_1 : Nat) : Int))) = true → (Q (some (vi 1)) (zm (pS (mm_up S 0 9 ((rn (qB tx_1) n_1 a_1 : Nat) : Int)) c_2.1 (-1) ((mm_up S 0 9 ((rn (qB tx_1) n_1 a_1 : Nat) : Int)) 0 11)) L))) ∧ (c_2.2 (fcS (mm_up S 0 9 ((rn (qB tx_1) n_1 a_1 : Nat) : Int))) = false → (Q (some (vi 0)) (zm (pS (mm_up S 0 9 ((rn (qB tx_1) n_1 a_1 : Nat) : Int)) c_2.1 (-1) ((mm_up S 0 9 ((rn (qB tx_1) n_1 a_1 : Nat) : Int)) 0 11)) L))))))))))) : zz_J zpX9_atom_4 (zz_ret Q X 0 0) 26 [some (vr 0), some (vi x1), some (vi x2), none] [] (zm S L) (0, 0) := zz_J.go [(26, [3]), (44, [3]), (107, [1, 2]), (132, [1, 2]), (142, [1, 2])] 400 h
theorem zwX9_atom_4_44 {Q : Option zv → zz_M → Prop} {X : Nat → zz_M → Prop} {S L : Nat → Nat → Int} {x1 : Int} {x2 : Int} (h : R32 (S 0 11) ∧ ((¬ (S 0 11) = 6 → R32 x2 ∧ ((x2 = 0 → (∃ (tx_1 : Nat → Int) (n_1 a_1 : Nat), mT (mm_up (mm_up S 0 11 ((S 0 11) + 1)) 0 9 ((S 0 9) + 1)) tx_1 n_1 ∧ (mm_up (mm_up S 0 11 ((S 0 11) + 1)) 0 9 ((S 0 9) + 1)) 0 9 = a_1 ∧ (mm_up (mm_up S 0 11 ((S 0 11) + 1)) 0 9 ((S 0 9) + 1)) 0 10 = -1 ∧ (mm_up (mm_up S 0 11 ((S 0 11) + 1)) 0 9 ((S 0 9) + 1)) 0 11 = 3 ∧ a_1 ≤ n_1 ∧ bF (fcS (mm_up (mm_up S 0 11 ((S 0 11) + 1)) 0 9 ((S 0 9) + 1))) ∧ ((mm_up (mm_up S 0 11 ((S 0 11) + 1)) 0 9 ((S 0 9) + 1)) 0 13 = 0 ∨ (mm_up (mm_up S 0 11 ((S 0 11) + 1)) 0 9 ((S 0 9) + 1)) 0 13 = 1) ∧ ((mm_up (mm_up S 0 11 ((S 0 11) + 1)) 0 9 ((S 0 9) + 1)) 0 14 = 0 ∨ (mm_up (mm_up S 0 11 ((S 0 11) + 1)) 0 9 ((S 0 9) + 1)) 0 14 = 1) ∧ (∀ w_1 : Nat, soP tx_1 n_1 (atP tx_1 n_1 3) a_1 = .inl w_1 → ∀ (z_1 : Nat) (d_1 : Int), z_1 ≤ n_1 + 3 → (zz_J zpX9_atom_4 (zz_ret Q X 0 0) 107 [some (vr 0), none, none, some (vi 1)] [] (zm (pS (mm_up (mm_up S 0 11 ((S 0 11) + 1)) 0 9 ((S 0 9) + 1)) z_1 w_1 d_1) L) (0, 0)) ∧ (zz_J zpX9_atom_4 (zz_ret Q X 0 0) 107 [some (vr 0), none, none, some (vi 0)] [] (zm (pS (mm_up (mm_up S 0 11 ((S 0 11) + 1)) 0 9 ((S 0 9) + 1)) z_1 w_1 d_1) L) (0, 0))) ∧ (∀ c_1 : Nat × (Fc → Bool), soP tx_1 n_1 (atP tx_1 n_1 3) a_1 = .inr c_1 → (c_1.2 (fcS (mm_up (mm_up S 0 11 ((S 0 11) + 1)) 0 9 ((S 0 9) + 1))) = true → (zz_J zpX9_atom_4 (zz_ret Q X 0 0) 107 [some (vr 0), none, none, some (vi 1)] [] (zm (pS (mm_up (mm_up S 0 11 ((S 0 11) + 1)) 0 9 ((S 0 9) + 1)) c_1.1 (-1) ((mm_up (mm_up S 0 11 ((S 0 11) + 1)) 0 9 ((S 0 9) + 1)) 0 11)) L) (0, 0))) ∧ (c_1.2 (fcS (mm_up (mm_up S 0 11 ((S 0 11) + 1)) 0 9 ((S 0 9) + 1))) = false → (zz_J zpX9_atom_4 (zz_ret Q X 0 0) 107 [some (vr 0), none, none, some (vi 0)] [] (zm (pS (mm_up (mm_up S 0 11 ((S 0 11) + 1)) 0 9 ((S 0 9) + 1)) c_1.1 (-1) ((mm_up (mm_up S 0 11 ((S 0 11) + 1)) 0 9 ((S 0 9) + 1)) 0 11)) L) (0, 0)))))) ∧ (¬ x2 = 0 → (∃ (tx_2 : Nat → Int) (n_2 a_2 : Nat), mT (mm_up S 0 11 ((S 0 11) + 1)) tx_2 n_2 ∧ (mm_up S 0 11 ((S 0 11) + 1)) 0 9 = a_2 ∧ (mm_up S 0 11 ((S 0 11) + 1)) 0 10 = -1 ∧ (mm_up S 0 11 ((S 0 11) + 1)) 0 11 = 3 ∧ a_2 ≤ n_2 ∧ bF (fcS (mm_up S 0 11 ((S 0 11) + 1))) ∧ ((mm_up S 0 11 ((S 0 11) + 1)) 0 13 = 0 ∨ (mm_up S 0 11 ((S 0 11) + 1)) 0 13 = 1) ∧ ((mm_up S 0 11 ((S 0 11) + 1)) 0 14 = 0 ∨ (mm_up S 0 11 ((S 0 11) + 1)) 0 14 = 1) ∧ (∀ w_2 : Nat, atP tx_2 n_2 3 a_2 = .inl w_2 → ∀ (z_2 : Nat) (d_2 : Int), z_2 ≤ n_2 + 3 → (zz_J zpX9_atom_4 (zz_ret Q X 0 0) 142 [some (vr 0), none, none, some (vi 0)] [] (zm (pS (mm_up S 0 11 ((S 0 11) + 1)) z_2 w_2 d_2) L) (0, 0)) ∧ (zz_J zpX9_atom_4 (zz_ret Q X 0 0) 142 [some (vr 0), none, none, some (vi 1)] [] (zm (pS (mm_up S 0 11 ((S 0 11) + 1)) z_2 w_2 d_2) L) (0, 0))) ∧ (∀ c_2 : Nat × (Fc → Bool), atP tx_2 n_2 3 a_2 = .inr c_2 → (c_2.2 (fcS (mm_up S 0 11 ((S 0 11) + 1))) = true → (zz_J zpX9_atom_4 (zz_ret Q X 0 0) 142 [some (vr 0), none, none, some (vi 0)] [] (zm (pS (mm_up S 0 11 ((S 0 11) + 1)) c_2.1 (-1) ((mm_up S 0 11 ((S 0 11) + 1)) 0 11)) L) (0, 0))) ∧ (c_2.2 (fcS (mm_up S 0 11 ((S 0 11) + 1))) = false → (zz_J zpX9_atom_4 (zz_ret Q X 0 0) 142 [some (vr 0), none, none, some (vi 1)] [] (zm (pS (mm_up S 0 11 ((S 0 11) + 1)) c_2.1 (-1) ((mm_up S 0 11 ((S 0 11) + 1)) 0 11)) L) (0, 0)))))))) ∧ ((S 0 11) = 6 → (R32 (S 0 10) ∧ (Q (some (vi 0)) (zm (mm_up S 0 10 (wrF (S 0 10) x1)) L)))))) : zz_J zpX9_atom_4 (zz_ret Q X 0 0) 44 [some (vr 0), some (vi x1), some (vi x2), none] [] (zm S L) (0, 0) := zz_J.go [(26, [3]), (44, [3]), (107, [1, 2]), (132, [1, 2]), (142, [1, 2])] 400 h
theorem zwX9_atom_4_107 {Q : Option zv → zz_M → Prop} {X : Nat → zz_M → Prop} {S L : Nat → Nat → Int} {x3 : Int} (h : R32 (S 0 10) ∧ ((¬ (S 0 10) = (-1) → zz_J zpX9_atom_4 (zz_ret Q X 0 0) 132 [some (vr 0), none, none, some (vi x3)] [] (zm S L) (0, 0)) ∧ ((S 0 10) = (-1) → (∃ (tx_1 : Nat → Int) (n_1 a_1 : Nat), R32 (41 : Int) ∧ mT S tx_1 n_1 ∧ S 0 9 = a_1 ∧ a_1 ≤ n_1 ∧ (isSg tx_1 n_1 (rn (qB tx_1) n_1 a_1) (41 : Int) = true → (zz_J zpX9_atom_4 (zz_ret Q X 0 0) 132 [some (vr 0), none, none, some (vi x3)] [] (zm (mm_up S 0 9 ((rn (qB tx_1) n_1 a_1 : Nat) : Int)) L) (0, 0))) ∧ (isSg tx_1 n_1 (rn (qB tx_1) n_1 a_1) (41 : Int) = false → ((R32 ((mm_up S 0 9 ((rn (qB tx_1) n_1 a_1 : Nat) : Int)) 0 10) ∧ (zz_J zpX9_atom_4 (zz_ret Q X 0 0) 132 [some (vr 0), none, none, some (vi x3)] [] (zm (mm_up (mm_up S 0 9 ((rn (qB tx_1) n_1 a_1 : Nat) : Int)) 0 10 (wrF ((mm_up S 0 9 ((rn (qB tx_1) n_1 a_1 : Nat) : Int)) 0 10) ((rn (qB tx_1) n_1 a_1 : Nat) : Int))) L) (0, 0))))))))) : zz_J zpX9_atom_4 (zz_ret Q X 0 0) 107 [some (vr 0), none, none, some (vi x3)] [] (zm S L) (0, 0) := zz_J.go [(26, [3]), (44, [3]), (107, [1, 2]), (132, [1, 2]), (142, [1, 2])] 400 h
theorem zwX9_atom_4_132 {Q : Option zv → zz_M → Prop} {X : Nat → zz_M → Prop} {S L : Nat → Nat → Int} {x3 : Int} (h : zz_J zpX9_atom_4 (zz_ret Q X 0 0) 142 [some (vr 0), none, none, some (vi x3)] [] (zm (mm_up S 0 9 ((S 0 9) + 1)) L) (0, 0)) : zz_J zpX9_atom_4 (zz_ret Q X 0 0) 132 [some (vr 0), none, none, some (vi x3)] [] (zm S L) (0, 0) := zz_J.go [(26, [3]), (44, [3]), (107, [1, 2]), (132, [1, 2]), (142, [1, 2])] 400 h
theorem zwX9_atom_4_142 {Q : Option zv → zz_M → Prop} {X : Nat → zz_M → Prop} {S L : Nat → Nat → Int} {x3 : Int} (h : (x3 = 0 ∨ x3 = 1) ∧ (Q (some (vi x3)) (zm (mm_up S 0 11 ((S 0 11) - 1)) L))) : zz_J zpX9_atom_4 (zz_ret Q X 0 0) 142 [some (vr 0), none, none, some (vi x3)] [] (zm S L) (0, 0) := zz_J.go [(26, [3]), (44, [3]), (107, [1, 2]), (132, [1, 2]), (142, [1, 2])] 400 h

theorem zmX9_atom_4 (l : Launch) (hl : l.stackTraces = false) : mm_Spec l yX9_atom (ws_ yX9_atom cX9_atom 4 (some .boolean)) (mm_rm 21 0 0) (zE zX9_atom_4) := by
  refine zz_Met.J hl (by decide) (fun C G hnh => ztX9_atom_4 G hnh) ?_
  rintro as ⟨⟨t_, f⟩, S, L, P⟩ Q X h
  unfold zX9_atom_4 at h
  split at h
  rotate_left
  · exact h.elim
  rename_i h_
  obtain ⟨e1_, e2_, h⟩ := mm_and2 h (fun q => q)
  cases mm_beq e1_
  cases mm_beq e2_
  try dsimp only at h
  refine ⟨rfl, ?_⟩
  refine zz_Jev (M' := zm S L) rfl rfl rfl ?_
  obtain ⟨tx, n, a, hT, h9, h10, h11, ha, hF, h13, h14, hq1, hq2⟩ := h
  have hn := hT.1
  have hpw : ∀ a w, a ≤ n → ptP tx n a = .inl w → w ≤ n := fun a w h e => ptP_w h e
  generalize hd : S 0 11 = d at h11 hq2
  have hS : S = pS S a (-1) d := by rw [← hd]; exact pS_of h9 h10
  rw [hS]
  have hb := rn_le (q := qB tx) ha
  have hbb := rn_rn (q := qB tx) ha
  have hat := atP_ok hT.2.2.1 hpw 3
  have hso := soP_ok (tx := tx) hat
  have t142 : ∀ (z : Nat) (w d' x : Int), (x = 0 ∨ x = 1) → Q (some (vi x)) (zm (pS S z w (d' - 1)) L) → zz_J zpX9_atom_4 (zz_ret Q X 0 0) 142 [some (vr 0), none, none, some (vi x)] [] (zm (pS S z w d') L) (0, 0) := by
    intro z w d' x hx hq
    refine zwX9_atom_4_142 ?_
    simp only [pS_r11, pS_11]
    exact ⟨hx, hq⟩
  have t132 : ∀ (z : Nat) (w d' x : Int), (x = 0 ∨ x = 1) → Q (some (vi x)) (zm (pS S (z + 1 : Nat) w (d' - 1)) L) → zz_J zpX9_atom_4 (zz_ret Q X 0 0) 132 [some (vr 0), none, none, some (vi x)] [] (zm (pS S z w d') L) (0, 0) := by
    intro z w d' x hx hq
    refine zwX9_atom_4_132 ?_
    simp only [pS_r9, pS_9]
    exact t142 (z + 1) w d' x hx hq
  -- not
  have t44n : hsW tx n (rn (qB tx) n a) (wo 9) = true → zz_J zpX9_atom_4 (zz_ret Q X 0 0) 44 [some (vr 0), some (vi (rn (qB tx) n a : Nat)), some (vi 1), none] [] (zm (pS S (rn (qB tx) n a + 3 : Nat) (-1) d) L) (0, 0) := by
    intro c
    have h3 : rn (qB tx) n a + 3 ≤ n := hsW_le hb c
    refine zwX9_atom_4_44 ?_
    simp only [pS_r10, pS_r9, pS_r11, pS_11, mT_pS, pS_pS, fcS_pS]
    refine ⟨by omega, fun _ => ⟨by omega, fun h => absurd h (by decide), fun _ => ⟨tx, n, rn (qB tx) n a + 3, hT, rfl, trivial, by omega, h3, hF, h13, h14, fun w ew z d' hz => ?_, fun c2 ec => ?_⟩⟩, fun h => by omega⟩
    · have e : atP tx n 4 a = .inl w := by unfold atP; rw [if_pos c, ew]
      have hq := hq1 w e z (d' - 1) (by omega)
      exact ⟨t142 z w d' 0 (Or.inl rfl) hq.2, t142 z w d' 1 (Or.inr rfl) hq.1⟩
    · have e : atP tx n 4 a = .inr (c2.1, fun F => !c2.2 F) := by unfold atP; rw [if_pos c, ec]
      have hq := hq2 _ e
      have ed : d + 1 - 1 = d := by omega
      refine ⟨fun t => t142 _ _ _ 0 (Or.inl rfl) ?_, fun t => t142 _ _ _ 1 (Or.inr rfl) ?_⟩
      · rw [ed]; exact hq.2 (by show (!c2.2 (fcS S)) = false; rw [t]; rfl)
      · rw [ed]; exact hq.1 (by show (!c2.2 (fcS S)) = true; rw [t]; rfl)
  -- a bracket
  have t44b : hsW tx n (rn (qB tx) n a) (wo 9) = false → isSg tx n (rn (qB tx) n a) 40 = true → zz_J zpX9_atom_4 (zz_ret Q X 0 0) 44 [some (vr 0), some (vi (rn (qB tx) n a : Nat)), some (vi 0), none] [] (zm (pS S (rn (qB tx) n a : Nat) (-1) d) L) (0, 0) := by
    intro c c1
    have h3 := (isSg_t.mp c1).1
    have eat : ∀ q, soP tx n (atP tx n 3) (rn (qB tx) n a + 1) = q → atP tx n 4 a = (match q with
      | .inl w => .inl w
      | .inr c => if isSg tx n (rn (qB tx) n c.1) 41 = true then .inr (rn (qB tx) n c.1 + 1, c.2) else .inl (rn (qB tx) n c.1)) := by
      intro q hq
      unfold atP
      rw [if_neg (by rw [c]; decide), if_pos c1, hq]
      cases q <;> rfl
    refine zwX9_atom_4_44 ?_
    simp only [pS_r10, pS_r9, pS_r11, pS_11, pS_9, mT_pS, pS_pS, fcS_pS]
    refine ⟨by omega, fun _ => ⟨by omega, fun _ => ⟨tx, n, rn (qB tx) n a + 1, hT, rfl, trivial, by omega, by omega, hF, h13, h14, fun w ew z d' hz => ?_, fun c2 ec => ?_⟩, fun h => absurd trivial h⟩, fun h => by omega⟩
    · have e := eat _ ew
      have hw := (hso _ (by omega)).2 w ew
      have hq := hq1 w e (z + 1) (d' - 1) (by omega)
      have f107 : ∀ x : Int, (x = 0 ∨ x = 1) → Q (some (vi x)) (zm (pS S (z + 1 : Nat) w (d' - 1)) L) → zz_J zpX9_atom_4 (zz_ret Q X 0 0) 107 [some (vr 0), none, none, some (vi x)] [] (zm (pS S z w d') L) (0, 0) := by
        intro x hx hqx
        refine zwX9_atom_4_107 ?_
        simp only [pS_r10]
        exact ⟨by omega, fun _ => t132 z w d' x hx hqx, fun h => by omega⟩
      exact ⟨f107 1 (Or.inr rfl) hq.1, f107 0 (Or.inl rfl) hq.2⟩
    · have e := eat _ ec
      have hc := (hso _ (by omega)).1 c2 ec
      have g2 := rn_le (q := qB tx) hc.2
      have f107 : ∀ x : Int, (x = 0 ∨ x = 1) → (x = 1 → c2.2 (fcS S) = true) → (x = 0 → c2.2 (fcS S) = false) → zz_J zpX9_atom_4 (zz_ret Q X 0 0) 107 [some (vr 0), none, none, some (vi x)] [] (zm (pS S c2.1 (-1) (d + 1)) L) (0, 0) := by
        intro x hx x1 x0
        have ed : d + 1 - 1 = d := by omega
        refine zwX9_atom_4_107 ?_
        simp only [pS_r10, pS_r9, pS_r11, pS_11, pS_9, pS_10, mT_pS, pS_pS, fcS_pS, wrF, if_true]
        refine ⟨by omega, fun h => absurd trivial h, fun _ => ⟨tx, n, c2.1, by omega, hT, rfl, hc.2, fun s => ?_, fun s => ⟨by omega, ?_⟩⟩⟩
        · have e2 : atP tx n 4 a = .inr (rn (qB tx) n c2.1 + 1, c2.2) := by rw [e]; exact if_pos s
          have hq := hq2 _ e2
          refine t132 _ _ _ x hx ?_
          rw [ed]
          rcases hx with h | h
          · rw [h]; exact hq.2 (x0 h)
          · rw [h]; exact hq.1 (x1 h)
        · have e2 : atP tx n 4 a = .inl (rn (qB tx) n c2.1) := by rw [e]; exact if_neg (by rw [s]; decide)
          refine t132 _ _ _ x hx ?_
          rw [ed]
          exact bool_qq hx (hq1 _ e2 (rn (qB tx) n c2.1 + 1) d (by omega))
      exact ⟨fun t => f107 1 (Or.inr rfl) (fun _ => t) (fun h => absurd h (by decide)), fun t => f107 0 (Or.inl rfl) (fun h => absurd h (by decide)) (fun _ => t)⟩
  have ats : plP tx n (rn (qB tx) n a) = plP tx n a := by unfold plP; rw [hbb]
  refine zwX9_atom_4_0 ?_
  simp only [pS_r10, pS_r9, pS_r11, pS_9, mT_pS, pS_pS, fcS_pS]
  refine ⟨by omega, fun _ => ⟨tx, n, a, hT, rfl, by omega, tx, n, rn (qB tx) n a, 9, rfl, by decide, hT, rfl, hb, ?_⟩, fun h => absurd trivial h⟩
  rw [hbb]
  refine ⟨fun c => ?_, fun c => ?_⟩
  · exact zwX9_atom_4_26 ⟨by omega, fun _ => t44n c, fun h => by omega⟩
  · refine zwX9_atom_4_26 ?_
    simp only [pS_r10, pS_r9, pS_r11, pS_9, mT_pS, pS_pS, fcS_pS]
    refine ⟨by omega, fun h => absurd trivial h, fun _ => ⟨tx, n, rn (qB tx) n a, by omega, hT, rfl, hb, ?_⟩⟩
    rw [hbb]
    refine ⟨fun c2 => t44b c c2, fun c2 => ⟨tx, n, rn (qB tx) n a, hT, rfl, trivial, hb, hF, h13, h14, fun w ew z d' hz => ?_, fun c3 ec => ?_⟩⟩
    · rw [ats] at ew
      exact hq1 w (by unfold atP; rw [if_neg (by rw [c]; decide), if_neg (by rw [c2]; decide)]; exact ew) z d' (by omega)
    · rw [ats] at ec
      exact hq2 c3 (by unfold atP; rw [if_neg (by rw [c]; decide), if_neg (by rw [c2]; decide)]; exact ec)
def zX9_every_4 : zz_Sp := fun as M Q X => match as with
  | [.inr (.inr (some h_))] => bif Nat.beq h_ 0 && Nat.beq M.1.1 1 then (∃ (tx_ : Nat → Int) (n_ a_ : Nat), mT M.2.1 tx_ n_ ∧ M.2.1 0 9 = a_ ∧ M.2.1 0 10 = -1 ∧ M.2.1 0 11 = 2 ∧ a_ ≤ n_ ∧ bF (fcS M.2.1) ∧ (M.2.1 0 13 = 0 ∨ M.2.1 0 13 = 1) ∧ (M.2.1 0 14 = 0 ∨ M.2.1 0 14 = 1) ∧ (∀ w_ : Nat, evP tx_ n_ (atP tx_ n_ 4) a_ = .inl w_ → ∀ (z_ : Nat) (d_ : Int), z_ ≤ n_ + 4 → Q (some (vi 1)) (zm (pS M.2.1 z_ w_ d_) M.2.2.1) ∧ Q (some (vi 0)) (zm (pS M.2.1 z_ w_ d_) M.2.2.1)) ∧ (∀ c_ : Nat × (Fc → Bool), evP tx_ n_ (atP tx_ n_ 4) a_ = .inr c_ → (c_.2 (fcS M.2.1) = true → Q (some (vi 1)) (zm (pS M.2.1 c_.1 (-1) (M.2.1 0 11)) M.2.2.1)) ∧ (c_.2 (fcS M.2.1) = false → Q (some (vi 0)) (zm (pS M.2.1 c_.1 (-1) (M.2.1 0 11)) M.2.2.1)))) else False
  | _ => False

def zpX9_every_4 : zz_P := [(0, zo_ald 1 0), (1, zo_callv 4 1 8 zX9_atom_4), (4, zo_ist 5 1), (5, zo_ald 6 0), (6, zo_get 9 8 0 10), (9, zo_c 10 (vi (-1))), (10, zo_cne false true 13 44), (13, zo_ald 14 0), (14, zo_c 16 (vr 1012)), (16, zo_callv 19 2 8 zX9_has), (19, zo_zifeq 22 44), (22, zo_ald 23 0), (23, zo_callv 26 1 8 zX9_atom_4), (26, zo_ist 27 2), (27, zo_ild 28 1), (28, zo_ifeq false 31 39), (31, zo_ild 32 2), (32, zo_zifeq 35 39), (35, zo_c 36 (vi 1)), (36, zo_goto 40), (39, zo_c 40 (vi 0)), (40, zo_ist 41 1), (41, zo_goto 5), (44, zo_ild 45 1), (45, zo_zret false)]
theorem ztX9_every_4 {C : mm_C} (G : mm_G C RX9 cX9_every (some .boolean) 3 (mm_rm 22 0 0)) (hnh : mm_nh C) : zz_OKs C zpX9_every_4 :=
  ⟨zz_of (ok_aload_n G dX9_every_0 rfl rfl) (z_ald _ _),
   zz_of (ok_callv G hnh (zmX9_atom_4 _ G.hst) rfl rfl (RX9, TX9, 32) rfl q1971 q1973 qs49 q93 q1974 (by decide +kernel) ⟨by decide, by decide⟩ dX9_every_1 rfl) (z_callv _ _ _ _),
   zz_of (ok_istore_n G dX9_every_4 rfl rfl (by decide)) (z_ist _ _),
   zz_of (ok_aload_n G dX9_every_5 rfl rfl) (z_ald _ _),
   zz_of (ok_get G (nx := 9) (ci := 8) (kd := 0) (k := 10) (RX9, TX9, 32) rfl (by decide) rfl q1815 dX9_every_6 rfl) (z_get _ _ _ _),
   zz_of (ok_iconst G (v := (zI (-1))) dX9_every_9 (by decide) rfl) (z_cz 10 (-1)),
   zz_of (ok_cne G dX9_every_10 rfl rfl) (z_cne _ _ _ _),
   zz_of (ok_aload_n G dX9_every_13 rfl rfl) (z_ald _ _),
   zz_of (ok_lds G (tx := "and") (by decide +kernel) dX9_every_14 rfl) (z_cr 16 1012),
   zz_of (ok_callv G hnh (zmX9_has _ G.hst) rfl rfl (RX9, TX9, 32) rfl q1942 q1944 qs45 q93 q1945 (by decide +kernel) ⟨by decide, by decide⟩ dX9_every_16 rfl) (z_callv _ _ _ _),
   zz_of (ok_ifeq G dX9_every_19 rfl rfl) (z_zifeq _ _),
   zz_of (ok_aload_n G dX9_every_22 rfl rfl) (z_ald _ _),
   zz_of (ok_callv G hnh (zmX9_atom_4 _ G.hst) rfl rfl (RX9, TX9, 32) rfl q1971 q1973 qs49 q93 q1974 (by decide +kernel) ⟨by decide, by decide⟩ dX9_every_23 rfl) (z_callv _ _ _ _),
   zz_of (ok_istore_n G dX9_every_26 rfl rfl (by decide)) (z_ist _ _),
   zz_of (ok_iload_n G dX9_every_27 rfl rfl) (z_ild _ _),
   zz_of (ok_ifeq G dX9_every_28 rfl rfl) (z_ifeq _ _ _),
   zz_of (ok_iload_n G dX9_every_31 rfl rfl) (z_ild _ _),
   zz_of (ok_ifeq G dX9_every_32 rfl rfl) (z_zifeq _ _),
   zz_of (ok_iconst G (v := 1) dX9_every_35 (by decide) rfl) (z_cn 36 1),
   zz_of (ok_goto G dX9_every_36 rfl) (z_goto _),
   zz_of (ok_iconst G (v := 0) dX9_every_39 (by decide) rfl) (z_cn 40 0),
   zz_of (ok_istore_n G dX9_every_40 rfl rfl (by decide)) (z_ist _ _),
   zz_of (ok_goto G dX9_every_41 rfl) (z_goto _),
   zz_of (ok_iload_n G dX9_every_44 rfl rfl) (z_ild _ _),
   zz_of (ok_zret G dX9_every_45) (z_zret _), trivial⟩

theorem zwX9_every_4_0 {Q : Option zv → zz_M → Prop} {X : Nat → zz_M → Prop} {S L : Nat → Nat → Int}  (h : (∃ (tx_1 : Nat → Int) (n_1 a_1 : Nat), mT S tx_1 n_1 ∧ S 0 9 = a_1 ∧ S 0 10 = -1 ∧ S 0 11 = 2 ∧ a_1 ≤ n_1 ∧ bF (fcS S) ∧ (S 0 13 = 0 ∨ S 0 13 = 1) ∧ (S 0 14 = 0 ∨ S 0 14 = 1) ∧ (∀ w_1 : Nat, atP tx_1 n_1 4 a_1 = .inl w_1 → ∀ (z_1 : Nat) (d_1 : Int), z_1 ≤ n_1 + 4 → (zz_J zpX9_every_4 (zz_ret Q X 0 0) 5 [some (vr 0), some (vi 1), none] [] (zm (pS S z_1 w_1 d_1) L) (0, 0)) ∧ (zz_J zpX9_every_4 (zz_ret Q X 0 0) 5 [some (vr 0), some (vi 0), none] [] (zm (pS S z_1 w_1 d_1) L) (0, 0))) ∧ (∀ c_1 : Nat × (Fc → Bool), atP tx_1 n_1 4 a_1 = .inr c_1 → (c_1.2 (fcS S) = true → (zz_J zpX9_every_4 (zz_ret Q X 0 0) 5 [some (vr 0), some (vi 1), none] [] (zm (pS S c_1.1 (-1) (S 0 11)) L) (0, 0))) ∧ (c_1.2 (fcS S) = false → (zz_J zpX9_every_4 (zz_ret Q X 0 0) 5 [some (vr 0), some (vi 0), none] [] (zm (pS S c_1.1 (-1) (S 0 11)) L) (0, 0)))))) : zz_J zpX9_every_4 (zz_ret Q X 0 0) 0 [some (vr 0), none, none] [] (zm S L) (0, 0) := zz_J.go [(5, [2])] 400 h
theorem zwX9_every_4_5 {Q : Option zv → zz_M → Prop} {X : Nat → zz_M → Prop} {S L : Nat → Nat → Int} {x1 : Int} (h : R32 (S 0 10) ∧ ((¬ (S 0 10) = (-1) → (x1 = 0 ∨ x1 = 1) ∧ (Q (some (vi x1)) (zm S L))) ∧ ((S 0 10) = (-1) → (∃ (tx_1 : Nat → Int) (n_1 a_1 j_1 : Nat), 1012 = 1000 + j_1 ∧ j_1 < 18 ∧ mT S tx_1 n_1 ∧ S 0 9 = a_1 ∧ a_1 ≤ n_1 ∧ (hsW tx_1 n_1 (rn (qB tx_1) n_1 a_1) (wo j_1) = true → ((∃ (tx_2 : Nat → Int) (n_2 a_2 : Nat), mT (mm_up S 0 9 ((rn (qB tx_1) n_1 a_1 + (wo j_1).length : Nat) : Int)) tx_2 n_2 ∧ (mm_up S 0 9 ((rn (qB tx_1) n_1 a_1 + (wo j_1).length : Nat) : Int)) 0 9 = a_2 ∧ (mm_up S 0 9 ((rn (qB tx_1) n_1 a_1 + (wo j_1).length : Nat) : Int)) 0 10 = -1 ∧ (mm_up S 0 9 ((rn (qB tx_1) n_1 a_1 + (wo j_1).length : Nat) : Int)) 0 11 = 2 ∧ a_2 ≤ n_2 ∧ bF (fcS (mm_up S 0 9 ((rn (qB tx_1) n_1 a_1 + (wo j_1).length : Nat) : Int))) ∧ ((mm_up S 0 9 ((rn (qB tx_1) n_1 a_1 + (wo j_1).length : Nat) : Int)) 0 13 = 0 ∨ (mm_up S 0 9 ((rn (qB tx_1) n_1 a_1 + (wo j_1).length : Nat) : Int)) 0 13 = 1) ∧ ((mm_up S 0 9 ((rn (qB tx_1) n_1 a_1 + (wo j_1).length : Nat) : Int)) 0 14 = 0 ∨ (mm_up S 0 9 ((rn (qB tx_1) n_1 a_1 + (wo j_1).length : Nat) : Int)) 0 14 = 1) ∧ (∀ w_2 : Nat, atP tx_2 n_2 4 a_2 = .inl w_2 → ∀ (z_2 : Nat) (d_2 : Int), z_2 ≤ n_2 + 4 → (R32 x1 ∧ ((x1 = 0 → zz_J zpX9_every_4 (zz_ret Q X 0 0) 5 [some (vr 0), some (vi 0), none] [] (zm (pS (mm_up S 0 9 ((rn (qB tx_1) n_1 a_1 + (wo j_1).length : Nat) : Int)) z_2 w_2 d_2) L) (0, 0)) ∧ (¬ x1 = 0 → zz_J zpX9_every_4 (zz_ret Q X 0 0) 5 [some (vr 0), some (vi 1), none] [] (zm (pS (mm_up S 0 9 ((rn (qB tx_1) n_1 a_1 + (wo j_1).length : Nat) : Int)) z_2 w_2 d_2) L) (0, 0)))) ∧ (R32 x1 ∧ ((x1 = 0 → zz_J zpX9_every_4 (zz_ret Q X 0 0) 5 [some (vr 0), some (vi 0), none] [] (zm (pS (mm_up S 0 9 ((rn (qB tx_1) n_1 a_1 + (wo j_1).length : Nat) : Int)) z_2 w_2 d_2) L) (0, 0)) ∧ (¬ x1 = 0 → zz_J zpX9_every_4 (zz_ret Q X 0 0) 5 [some (vr 0), some (vi 0), none] [] (zm (pS (mm_up S 0 9 ((rn (qB tx_1) n_1 a_1 + (wo j_1).length : Nat) : Int)) z_2 w_2 d_2) L) (0, 0))))) ∧ (∀ c_2 : Nat × (Fc → Bool), atP tx_2 n_2 4 a_2 = .inr c_2 → (c_2.2 (fcS (mm_up S 0 9 ((rn (qB tx_1) n_1 a_1 + (wo j_1).length : Nat) : Int))) = true → (R32 x1 ∧ ((x1 = 0 → zz_J zpX9_every_4 (zz_ret Q X 0 0) 5 [some (vr 0), some (vi 0), none] [] (zm (pS (mm_up S 0 9 ((rn (qB tx_1) n_1 a_1 + (wo j_1).length : Nat) : Int)) c_2.1 (-1) ((mm_up S 0 9 ((rn (qB tx_1) n_1 a_1 + (wo j_1).length : Nat) : Int)) 0 11)) L) (0, 0)) ∧ (¬ x1 = 0 → zz_J zpX9_every_4 (zz_ret Q X 0 0) 5 [some (vr 0), some (vi 1), none] [] (zm (pS (mm_up S 0 9 ((rn (qB tx_1) n_1 a_1 + (wo j_1).length : Nat) : Int)) c_2.1 (-1) ((mm_up S 0 9 ((rn (qB tx_1) n_1 a_1 + (wo j_1).length : Nat) : Int)) 0 11)) L) (0, 0))))) ∧ (c_2.2 (fcS (mm_up S 0 9 ((rn (qB tx_1) n_1 a_1 + (wo j_1).length : Nat) : Int))) = false → (R32 x1 ∧ ((x1 = 0 → zz_J zpX9_every_4 (zz_ret Q X 0 0) 5 [some (vr 0), some (vi 0), none] [] (zm (pS (mm_up S 0 9 ((rn (qB tx_1) n_1 a_1 + (wo j_1).length : Nat) : Int)) c_2.1 (-1) ((mm_up S 0 9 ((rn (qB tx_1) n_1 a_1 + (wo j_1).length : Nat) : Int)) 0 11)) L) (0, 0)) ∧ (¬ x1 = 0 → zz_J zpX9_every_4 (zz_ret Q X 0 0) 5 [some (vr 0), some (vi 0), none] [] (zm (pS (mm_up S 0 9 ((rn (qB tx_1) n_1 a_1 + (wo j_1).length : Nat) : Int)) c_2.1 (-1) ((mm_up S 0 9 ((rn (qB tx_1) n_1 a_1 + (wo j_1).length : Nat) : Int)) 0 11)) L) (0, 0))))))))) ∧ (hsW tx_1 n_1 (rn (qB tx_1) n_1 a_1) (wo j_1) = false → ((x1 = 0 ∨ x1 = 1) ∧ (Q (some (vi x1)) (zm (mm_up S 0 9 ((rn (qB tx_1) n_1 a_1 : Nat) : Int)) L)))))))) : zz_J zpX9_every_4 (zz_ret Q X 0 0) 5 [some (vr 0), some (vi x1), none] [] (zm S L) (0, 0) := zz_J.go [(5, [2])] 400 h

theorem zmX9_every_4 (l : Launch) (hl : l.stackTraces = false) : mm_Spec l yX9_every (ws_ yX9_every cX9_every 3 (some .boolean)) (mm_rm 22 0 0) (zE zX9_every_4) := by
  refine zz_Met.J hl (by decide) (fun C G hnh => ztX9_every_4 G hnh) ?_
  rintro as ⟨⟨t_, f⟩, S, L, P⟩ Q X h
  unfold zX9_every_4 at h
  split at h
  rotate_left
  · exact h.elim
  rename_i h_
  obtain ⟨e1_, e2_, h⟩ := mm_and2 h (fun q => q)
  cases mm_beq e1_
  cases mm_beq e2_
  try dsimp only at h
  refine ⟨rfl, ?_⟩
  refine zz_Jev (M' := zm S L) rfl rfl rfl ?_
  obtain ⟨tx, n, a, hT, h9, h10, h11, ha, hF, h13, h14, hq1, hq2⟩ := h
  have hn := hT.1
  have hat := atP_ok hT.2.2.1 (fun a w h e => ptP_w h e) 4
  generalize hd : S 0 11 = d at h11 hq2
  have tw : ∀ (w z : Nat) (x d' : Int), w ≤ n → z ≤ n + 4 → (x = 0 ∨ x = 1) → evP tx n (atP tx n 4) a = .inl w → zz_J zpX9_every_4 (zz_ret Q X 0 0) 5 [some (vr 0), some (vi x), none] [] (zm (pS S z w d') L) (0, 0) := by
    intro w z x d' hw hz hx e
    refine zwX9_every_4_5 ?_
    simp only [pS_r10]
    exact ⟨by omega, fun _ => ⟨hx, bool_qq hx (hq1 w e z d' hz)⟩, fun h => by omega⟩
  have lp : ∀ (k a' : Nat) (g : Fc → Bool) (x : Int), n - a' = k → a' ≤ n → x = (bif g (fcS S) then 1 else 0) → evP tx n (atP tx n 4) a = lpP n (rn (qB tx) n) (spW tx n 12) (atP tx n 4) (fun g h F => g F && h F) a' g → zz_J zpX9_every_4 (zz_ret Q X 0 0) 5 [some (vr 0), some (vi x), none] [] (zm (pS S a' (-1) d) L) (0, 0) := by
    intro k
    induction k using Nat.strongRecOn with
    | ind k ih =>
      intro a' g x hk ha' hx e
      have hb := rn_le (q := qB tx) ha'
      have hx01 : x = 0 ∨ x = 1 := by rw [hx]; cases g (fcS S) <;> simp
      refine zwX9_every_4_5 ?_
      simp only [pS_r10, pS_r9, pS_r11, pS_9, mT_pS, pS_pS, fcS_pS]
      refine ⟨by omega, fun h => absurd trivial h, fun _ => ⟨tx, n, a', 12, rfl, by decide, hT, rfl, ha', fun c => ?_, fun c => ⟨hx01, ?_⟩⟩⟩
      · have hs : spW tx n 12 a' = some (rn (qB tx) n a' + 3) := by unfold spW; rw [if_pos c]; rfl
        have h1 := spW_in (by decide) _ _ ha' hs
        refine ⟨tx, n, rn (qB tx) n a' + 3, hT, rfl, trivial, h11, h1.2, hF, h13, h14, fun w ew z d' hz => ?_, fun c2 ec => ?_⟩
        · rw [lpP_l ha' hs ew] at e
          have hw := (hat _ h1.2).2 w ew
          refine ⟨⟨by omega, fun _ => tw w z 0 d' hw hz (Or.inl rfl) e, fun _ => tw w z 1 d' hw hz (Or.inr rfl) e⟩, ⟨by omega, fun _ => tw w z 0 d' hw hz (Or.inl rfl) e, fun _ => tw w z 0 d' hw hz (Or.inl rfl) e⟩⟩
        · have h2 := (hat _ h1.2).1 c2 ec
          rw [lpP_r (fun a b h1 h2 => spW_in (by decide) a b h1 h2) (fun a c h1 h2 => (hat a h1).1 c h2) ha' hs ec] at e
          refine ⟨fun t => ⟨by omega, fun x0 => ?_, fun x1 => ?_⟩, fun t => ⟨by omega, fun x0 => ?_, fun x1 => ?_⟩⟩
          · refine ih (n - c2.1) (by omega) c2.1 _ 0 rfl h2.2 ?_ e
            rw [t]; revert hx; cases g (fcS S) <;> simp; omega
          · refine ih (n - c2.1) (by omega) c2.1 _ 1 rfl h2.2 ?_ e
            rw [t]; revert hx; cases g (fcS S) <;> simp; omega
          · refine ih (n - c2.1) (by omega) c2.1 _ 0 rfl h2.2 ?_ e
            rw [t]; simp
          · refine ih (n - c2.1) (by omega) c2.1 _ 0 rfl h2.2 ?_ e
            rw [t]; simp
      · have hs : spW tx n 12 a' = none := by unfold spW; rw [if_neg (by rw [c]; decide)]
        rw [lpP_n ha' hs] at e
        have hq := hq2 _ e
        rw [hx]
        revert hq
        show (g (fcS S) = true → _) ∧ (g (fcS S) = false → _) → _
        cases g (fcS S) with
        | true => exact fun hq => hq.1 rfl
        | false => exact fun hq => hq.2 rfl
  refine zwX9_every_4_0 ⟨tx, n, a, hT, h9, h10, by rw [hd]; exact h11, ha, hF, h13, h14, fun w e z d' hz => ?_, fun c e => ?_⟩
  · have hw := (hat a ha).2 w e
    have e2 : evP tx n (atP tx n 4) a = .inl w := seqP_f e
    exact ⟨tw w z 1 d' hw hz (Or.inr rfl) e2, tw w z 0 d' hw hz (Or.inl rfl) e2⟩
  · have hc := (hat a ha).1 c e
    rw [hd]
    exact ⟨fun t => lp _ c.1 c.2 1 rfl hc.2 (by rw [t]; rfl) (seqP_s e), fun t => lp _ c.1 c.2 0 rfl hc.2 (by rw [t]; rfl) (seqP_s e)⟩
def zX9_some_4 : zz_Sp := fun as M Q X => match as with
  | [.inr (.inr (some h_))] => bif Nat.beq h_ 0 && Nat.beq M.1.1 1 then (∃ (tx_ : Nat → Int) (n_ a_ : Nat), mT M.2.1 tx_ n_ ∧ M.2.1 0 9 = a_ ∧ M.2.1 0 10 = -1 ∧ M.2.1 0 11 = 2 ∧ a_ ≤ n_ ∧ bF (fcS M.2.1) ∧ (M.2.1 0 13 = 0 ∨ M.2.1 0 13 = 1) ∧ (M.2.1 0 14 = 0 ∨ M.2.1 0 14 = 1) ∧ (∀ w_ : Nat, soP tx_ n_ (atP tx_ n_ 4) a_ = .inl w_ → ∀ (z_ : Nat) (d_ : Int), z_ ≤ n_ + 4 → Q (some (vi 1)) (zm (pS M.2.1 z_ w_ d_) M.2.2.1) ∧ Q (some (vi 0)) (zm (pS M.2.1 z_ w_ d_) M.2.2.1)) ∧ (∀ c_ : Nat × (Fc → Bool), soP tx_ n_ (atP tx_ n_ 4) a_ = .inr c_ → (c_.2 (fcS M.2.1) = true → Q (some (vi 1)) (zm (pS M.2.1 c_.1 (-1) (M.2.1 0 11)) M.2.2.1)) ∧ (c_.2 (fcS M.2.1) = false → Q (some (vi 0)) (zm (pS M.2.1 c_.1 (-1) (M.2.1 0 11)) M.2.2.1)))) else False
  | _ => False

def zpX9_some_4 : zz_P := [(0, zo_ald 1 0), (1, zo_callv 4 1 8 zX9_every_4), (4, zo_ist 5 1), (5, zo_ald 6 0), (6, zo_get 9 8 0 10), (9, zo_c 10 (vi (-1))), (10, zo_cne false true 13 44), (13, zo_ald 14 0), (14, zo_c 16 (vr 1013)), (16, zo_callv 19 2 8 zX9_has), (19, zo_zifeq 22 44), (22, zo_ald 23 0), (23, zo_callv 26 1 8 zX9_every_4), (26, zo_ist 27 2), (27, zo_ild 28 1), (28, zo_ifne false 31 35), (31, zo_ild 32 2), (32, zo_zifeq 35 39), (35, zo_c 36 (vi 1)), (36, zo_goto 40), (39, zo_c 40 (vi 0)), (40, zo_ist 41 1), (41, zo_goto 5), (44, zo_ild 45 1), (45, zo_zret false)]
theorem ztX9_some_4 {C : mm_C} (G : mm_G C RX9 cX9_some (some .boolean) 3 (mm_rm 23 0 0)) (hnh : mm_nh C) : zz_OKs C zpX9_some_4 :=
  ⟨zz_of (ok_aload_n G dX9_some_0 rfl rfl) (z_ald _ _),
   zz_of (ok_callv G hnh (zmX9_every_4 _ G.hst) rfl rfl (RX9, TX9, 32) rfl q1967 q1969 qs48 q93 q1970 (by decide +kernel) ⟨by decide, by decide⟩ dX9_some_1 rfl) (z_callv _ _ _ _),
   zz_of (ok_istore_n G dX9_some_4 rfl rfl (by decide)) (z_ist _ _),
   zz_of (ok_aload_n G dX9_some_5 rfl rfl) (z_ald _ _),
   zz_of (ok_get G (nx := 9) (ci := 8) (kd := 0) (k := 10) (RX9, TX9, 32) rfl (by decide) rfl q1815 dX9_some_6 rfl) (z_get _ _ _ _),
   zz_of (ok_iconst G (v := (zI (-1))) dX9_some_9 (by decide) rfl) (z_cz 10 (-1)),
   zz_of (ok_cne G dX9_some_10 rfl rfl) (z_cne _ _ _ _),
   zz_of (ok_aload_n G dX9_some_13 rfl rfl) (z_ald _ _),
   zz_of (ok_lds G (tx := "or") (by decide +kernel) dX9_some_14 rfl) (z_cr 16 1013),
   zz_of (ok_callv G hnh (zmX9_has _ G.hst) rfl rfl (RX9, TX9, 32) rfl q1942 q1944 qs45 q93 q1945 (by decide +kernel) ⟨by decide, by decide⟩ dX9_some_16 rfl) (z_callv _ _ _ _),
   zz_of (ok_ifeq G dX9_some_19 rfl rfl) (z_zifeq _ _),
   zz_of (ok_aload_n G dX9_some_22 rfl rfl) (z_ald _ _),
   zz_of (ok_callv G hnh (zmX9_every_4 _ G.hst) rfl rfl (RX9, TX9, 32) rfl q1967 q1969 qs48 q93 q1970 (by decide +kernel) ⟨by decide, by decide⟩ dX9_some_23 rfl) (z_callv _ _ _ _),
   zz_of (ok_istore_n G dX9_some_26 rfl rfl (by decide)) (z_ist _ _),
   zz_of (ok_iload_n G dX9_some_27 rfl rfl) (z_ild _ _),
   zz_of (ok_ifne G dX9_some_28 rfl rfl) (z_ifne _ _ _),
   zz_of (ok_iload_n G dX9_some_31 rfl rfl) (z_ild _ _),
   zz_of (ok_ifeq G dX9_some_32 rfl rfl) (z_zifeq _ _),
   zz_of (ok_iconst G (v := 1) dX9_some_35 (by decide) rfl) (z_cn 36 1),
   zz_of (ok_goto G dX9_some_36 rfl) (z_goto _),
   zz_of (ok_iconst G (v := 0) dX9_some_39 (by decide) rfl) (z_cn 40 0),
   zz_of (ok_istore_n G dX9_some_40 rfl rfl (by decide)) (z_ist _ _),
   zz_of (ok_goto G dX9_some_41 rfl) (z_goto _),
   zz_of (ok_iload_n G dX9_some_44 rfl rfl) (z_ild _ _),
   zz_of (ok_zret G dX9_some_45) (z_zret _), trivial⟩

theorem zwX9_some_4_0 {Q : Option zv → zz_M → Prop} {X : Nat → zz_M → Prop} {S L : Nat → Nat → Int}  (h : (∃ (tx_1 : Nat → Int) (n_1 a_1 : Nat), mT S tx_1 n_1 ∧ S 0 9 = a_1 ∧ S 0 10 = -1 ∧ S 0 11 = 2 ∧ a_1 ≤ n_1 ∧ bF (fcS S) ∧ (S 0 13 = 0 ∨ S 0 13 = 1) ∧ (S 0 14 = 0 ∨ S 0 14 = 1) ∧ (∀ w_1 : Nat, evP tx_1 n_1 (atP tx_1 n_1 4) a_1 = .inl w_1 → ∀ (z_1 : Nat) (d_1 : Int), z_1 ≤ n_1 + 4 → (zz_J zpX9_some_4 (zz_ret Q X 0 0) 5 [some (vr 0), some (vi 1), none] [] (zm (pS S z_1 w_1 d_1) L) (0, 0)) ∧ (zz_J zpX9_some_4 (zz_ret Q X 0 0) 5 [some (vr 0), some (vi 0), none] [] (zm (pS S z_1 w_1 d_1) L) (0, 0))) ∧ (∀ c_1 : Nat × (Fc → Bool), evP tx_1 n_1 (atP tx_1 n_1 4) a_1 = .inr c_1 → (c_1.2 (fcS S) = true → (zz_J zpX9_some_4 (zz_ret Q X 0 0) 5 [some (vr 0), some (vi 1), none] [] (zm (pS S c_1.1 (-1) (S 0 11)) L) (0, 0))) ∧ (c_1.2 (fcS S) = false → (zz_J zpX9_some_4 (zz_ret Q X 0 0) 5 [some (vr 0), some (vi 0), none] [] (zm (pS S c_1.1 (-1) (S 0 11)) L) (0, 0)))))) : zz_J zpX9_some_4 (zz_ret Q X 0 0) 0 [some (vr 0), none, none] [] (zm S L) (0, 0) := zz_J.go [(5, [2])] 400 h
theorem zwX9_some_4_5 {Q : Option zv → zz_M → Prop} {X : Nat → zz_M → Prop} {S L : Nat → Nat → Int} {x1 : Int} (h : R32 (S 0 10) ∧ ((¬ (S 0 10) = (-1) → (x1 = 0 ∨ x1 = 1) ∧ (Q (some (vi x1)) (zm S L))) ∧ ((S 0 10) = (-1) → (∃ (tx_1 : Nat → Int) (n_1 a_1 j_1 : Nat), 1013 = 1000 + j_1 ∧ j_1 < 18 ∧ mT S tx_1 n_1 ∧ S 0 9 = a_1 ∧ a_1 ≤ n_1 ∧ (hsW tx_1 n_1 (rn (qB tx_1) n_1 a_1) (wo j_1) = true → ((∃ (tx_2 : Nat → Int) (n_2 a_2 : Nat), mT (mm_up S 0 9 ((rn (qB tx_1) n_1 a_1 + (wo j_1).length : Nat) : Int)) tx_2 n_2 ∧ (mm_up S 0 9 ((rn (qB tx_1) n_1 a_1 + (wo j_1).length : Nat) : Int)) 0 9 = a_2 ∧ (mm_up S 0 9 ((rn (qB tx_1) n_1 a_1 + (wo j_1).length : Nat) : Int)) 0 10 = -1 ∧ (mm_up S 0 9 ((rn (qB tx_1) n_1 a_1 + (wo j_1).length : Nat) : Int)) 0 11 = 2 ∧ a_2 ≤ n_2 ∧ bF (fcS (mm_up S 0 9 ((rn (qB tx_1) n_1 a_1 + (wo j_1).length : Nat) : Int))) ∧ ((mm_up S 0 9 ((rn (qB tx_1) n_1 a_1 + (wo j_1).length : Nat) : Int)) 0 13 = 0 ∨ (mm_up S 0 9 ((rn (qB tx_1) n_1 a_1 + (wo j_1).length : Nat) : Int)) 0 13 = 1) ∧ ((mm_up S 0 9 ((rn (qB tx_1) n_1 a_1 + (wo j_1).length : Nat) : Int)) 0 14 = 0 ∨ (mm_up S 0 9 ((rn (qB tx_1) n_1 a_1 + (wo j_1).length : Nat) : Int)) 0 14 = 1) ∧ (∀ w_2 : Nat, evP tx_2 n_2 (atP tx_2 n_2 4) a_2 = .inl w_2 → ∀ (z_2 : Nat) (d_2 : Int), z_2 ≤ n_2 + 4 → (R32 x1 ∧ ((¬ x1 = 0 → zz_J zpX9_some_4 (zz_ret Q X 0 0) 5 [some (vr 0), some (vi 1), none] [] (zm (pS (mm_up S 0 9 ((rn (qB tx_1) n_1 a_1 + (wo j_1).length : Nat) : Int)) z_2 w_2 d_2) L) (0, 0)) ∧ (x1 = 0 → zz_J zpX9_some_4 (zz_ret Q X 0 0) 5 [some (vr 0), some (vi 1), none] [] (zm (pS (mm_up S 0 9 ((rn (qB tx_1) n_1 a_1 + (wo j_1).length : Nat) : Int)) z_2 w_2 d_2) L) (0, 0)))) ∧ (R32 x1 ∧ ((¬ x1 = 0 → zz_J zpX9_some_4 (zz_ret Q X 0 0) 5 [some (vr 0), some (vi 1), none] [] (zm (pS (mm_up S 0 9 ((rn (qB tx_1) n_1 a_1 + (wo j_1).length : Nat) : Int)) z_2 w_2 d_2) L) (0, 0)) ∧ (x1 = 0 → zz_J zpX9_some_4 (zz_ret Q X 0 0) 5 [some (vr 0), some (vi 0), none] [] (zm (pS (mm_up S 0 9 ((rn (qB tx_1) n_1 a_1 + (wo j_1).length : Nat) : Int)) z_2 w_2 d_2) L) (0, 0))))) ∧ (∀ c_2 : Nat × (Fc → Bool), evP tx_2 n_2 (atP tx_2 n_2 4) a_2 = .inr c_2 → (c_2.2 (fcS (mm_up S 0 9 ((rn (qB tx_1) n_1 a_1 + (wo j_1).length : Nat) : Int))) = true → (R32 x1 ∧ ((¬ x1 = 0 → zz_J zpX9_some_4 (zz_ret Q X 0 0) 5 [some (vr 0), some (vi 1), none] [] (zm (pS (mm_up S 0 9 ((rn (qB tx_1) n_1 a_1 + (wo j_1).length : Nat) : Int)) c_2.1 (-1) ((mm_up S 0 9 ((rn (qB tx_1) n_1 a_1 + (wo j_1).length : Nat) : Int)) 0 11)) L) (0, 0)) ∧ (x1 = 0 → zz_J zpX9_some_4 (zz_ret Q X 0 0) 5 [some (vr 0), some (vi 1), none] [] (zm (pS (mm_up S 0 9 ((rn (qB tx_1) n_1 a_1 + (wo j_1).length : Nat) : Int)) c_2.1 (-1) ((mm_up S 0 9 ((rn (qB tx_1) n_1 a_1 + (wo j_1).length : Nat) : Int)) 0 11)) L) (0, 0))))) ∧ (c_2.2 (fcS (mm_up S 0 9 ((rn (qB tx_1) n_1 a_1 + (wo j_1).length : Nat) : Int))) = false → (R32 x1 ∧ ((¬ x1 = 0 → zz_J zpX9_some_4 (zz_ret Q X 0 0) 5 [some (vr 0), some (vi 1), none] [] (zm (pS (mm_up S 0 9 ((rn (qB tx_1) n_1 a_1 + (wo j_1).length : Nat) : Int)) c_2.1 (-1) ((mm_up S 0 9 ((rn (qB tx_1) n_1 a_1 + (wo j_1).length : Nat) : Int)) 0 11)) L) (0, 0)) ∧ (x1 = 0 → zz_J zpX9_some_4 (zz_ret Q X 0 0) 5 [some (vr 0), some (vi 0), none] [] (zm (pS (mm_up S 0 9 ((rn (qB tx_1) n_1 a_1 + (wo j_1).length : Nat) : Int)) c_2.1 (-1) ((mm_up S 0 9 ((rn (qB tx_1) n_1 a_1 + (wo j_1).length : Nat) : Int)) 0 11)) L) (0, 0))))))))) ∧ (hsW tx_1 n_1 (rn (qB tx_1) n_1 a_1) (wo j_1) = false → ((x1 = 0 ∨ x1 = 1) ∧ (Q (some (vi x1)) (zm (mm_up S 0 9 ((rn (qB tx_1) n_1 a_1 : Nat) : Int)) L)))))))) : zz_J zpX9_some_4 (zz_ret Q X 0 0) 5 [some (vr 0), some (vi x1), none] [] (zm S L) (0, 0) := zz_J.go [(5, [2])] 400 h

theorem zmX9_some_4 (l : Launch) (hl : l.stackTraces = false) : mm_Spec l yX9_some (ws_ yX9_some cX9_some 3 (some .boolean)) (mm_rm 23 0 0) (zE zX9_some_4) := by
  refine zz_Met.J hl (by decide) (fun C G hnh => ztX9_some_4 G hnh) ?_
  rintro as ⟨⟨t_, f⟩, S, L, P⟩ Q X h
  unfold zX9_some_4 at h
  split at h
  rotate_left
  · exact h.elim
  rename_i h_
  obtain ⟨e1_, e2_, h⟩ := mm_and2 h (fun q => q)
  cases mm_beq e1_
  cases mm_beq e2_
  try dsimp only at h
  refine ⟨rfl, ?_⟩
  refine zz_Jev (M' := zm S L) rfl rfl rfl ?_
  obtain ⟨tx, n, a, hT, h9, h10, h11, ha, hF, h13, h14, hq1, hq2⟩ := h
  have hn := hT.1
  have hat : pOK n (evP tx n (atP tx n 4)) := evP_ok (atP_ok hT.2.2.1 (fun a w h e => ptP_w h e) 4)
  generalize hd : S 0 11 = d at h11 hq2
  have tw : ∀ (w z : Nat) (x d' : Int), w ≤ n → z ≤ n + 4 → (x = 0 ∨ x = 1) → soP tx n (atP tx n 4) a = .inl w → zz_J zpX9_some_4 (zz_ret Q X 0 0) 5 [some (vr 0), some (vi x), none] [] (zm (pS S z w d') L) (0, 0) := by
    intro w z x d' hw hz hx e
    refine zwX9_some_4_5 ?_
    simp only [pS_r10]
    exact ⟨by omega, fun _ => ⟨hx, bool_qq hx (hq1 w e z d' hz)⟩, fun h => by omega⟩
  have lp : ∀ (k a' : Nat) (g : Fc → Bool) (x : Int), n - a' = k → a' ≤ n → x = (bif g (fcS S) then 1 else 0) → soP tx n (atP tx n 4) a = lpP n (rn (qB tx) n) (spW tx n 13) (evP tx n (atP tx n 4)) (fun g h F => g F || h F) a' g → zz_J zpX9_some_4 (zz_ret Q X 0 0) 5 [some (vr 0), some (vi x), none] [] (zm (pS S a' (-1) d) L) (0, 0) := by
    intro k
    induction k using Nat.strongRecOn with
    | ind k ih =>
      intro a' g x hk ha' hx e
      have hb := rn_le (q := qB tx) ha'
      have hx01 : x = 0 ∨ x = 1 := by rw [hx]; cases g (fcS S) <;> simp
      refine zwX9_some_4_5 ?_
      simp only [pS_r10, pS_r9, pS_r11, pS_9, mT_pS, pS_pS, fcS_pS]
      refine ⟨by omega, fun h => absurd trivial h, fun _ => ⟨tx, n, a', 13, rfl, by decide, hT, rfl, ha', fun c => ?_, fun c => ⟨hx01, ?_⟩⟩⟩
      · have hs : spW tx n 13 a' = some (rn (qB tx) n a' + 2) := by unfold spW; rw [if_pos c]; rfl
        have h1 := spW_in (by decide) _ _ ha' hs
        refine ⟨tx, n, rn (qB tx) n a' + 2, hT, rfl, trivial, h11, h1.2, hF, h13, h14, fun w ew z d' hz => ?_, fun c2 ec => ?_⟩
        · rw [lpP_l ha' hs ew] at e
          have hw := (hat _ h1.2).2 w ew
          refine ⟨⟨by omega, fun _ => tw w z 1 d' hw hz (Or.inr rfl) e, fun _ => tw w z 1 d' hw hz (Or.inr rfl) e⟩, ⟨by omega, fun _ => tw w z 1 d' hw hz (Or.inr rfl) e, fun _ => tw w z 0 d' hw hz (Or.inl rfl) e⟩⟩
        · have h2 := (hat _ h1.2).1 c2 ec
          rw [lpP_r (fun a b h1 h2 => spW_in (by decide) a b h1 h2) (fun a c h1 h2 => (hat a h1).1 c h2) ha' hs ec] at e
          refine ⟨fun t => ⟨by omega, fun x0 => ?_, fun x1 => ?_⟩, fun t => ⟨by omega, fun x0 => ?_, fun x1 => ?_⟩⟩
          · refine ih (n - c2.1) (by omega) c2.1 _ 1 rfl h2.2 ?_ e
            rw [t]; simp
          · refine ih (n - c2.1) (by omega) c2.1 _ 1 rfl h2.2 ?_ e
            rw [t]; simp
          · refine ih (n - c2.1) (by omega) c2.1 _ 1 rfl h2.2 ?_ e
            rw [t]; revert hx; cases g (fcS S) <;> simp; omega
          · refine ih (n - c2.1) (by omega) c2.1 _ 0 rfl h2.2 ?_ e
            rw [t]; revert hx; cases g (fcS S) <;> simp; omega
      · have hs : spW tx n 13 a' = none := by unfold spW; rw [if_neg (by rw [c]; decide)]
        rw [lpP_n ha' hs] at e
        have hq := hq2 _ e
        rw [hx]
        revert hq
        show (g (fcS S) = true → _) ∧ (g (fcS S) = false → _) → _
        cases g (fcS S) with
        | true => exact fun hq => hq.1 rfl
        | false => exact fun hq => hq.2 rfl
  refine zwX9_some_4_0 ⟨tx, n, a, hT, h9, h10, by rw [hd]; exact h11, ha, hF, h13, h14, fun w e z d' hz => ?_, fun c e => ?_⟩
  · have hw := (hat a ha).2 w e
    have e2 : soP tx n (atP tx n 4) a = .inl w := seqP_f e
    exact ⟨tw w z 1 d' hw hz (Or.inr rfl) e2, tw w z 0 d' hw hz (Or.inl rfl) e2⟩
  · have hc := (hat a ha).1 c e
    rw [hd]
    exact ⟨fun t => lp _ c.1 c.2 1 rfl hc.2 (by rw [t]; rfl) (seqP_s e), fun t => lp _ c.1 c.2 0 rfl hc.2 (by rw [t]; rfl) (seqP_s e)⟩
def zX9_atom_5 : zz_Sp := fun as M Q X => match as with
  | [.inr (.inr (some h_))] => bif Nat.beq h_ 0 && Nat.beq M.1.1 1 then (∃ (tx_ : Nat → Int) (n_ a_ : Nat), mT M.2.1 tx_ n_ ∧ M.2.1 0 9 = a_ ∧ M.2.1 0 10 = -1 ∧ M.2.1 0 11 = 1 ∧ a_ ≤ n_ ∧ bF (fcS M.2.1) ∧ (M.2.1 0 13 = 0 ∨ M.2.1 0 13 = 1) ∧ (M.2.1 0 14 = 0 ∨ M.2.1 0 14 = 1) ∧ (∀ w_ : Nat, atP tx_ n_ 5 a_ = .inl w_ → ∀ (z_ : Nat) (d_ : Int), z_ ≤ n_ + 5 → Q (some (vi 1)) (zm (pS M.2.1 z_ w_ d_) M.2.2.1) ∧ Q (some (vi 0)) (zm (pS M.2.1 z_ w_ d_) M.2.2.1)) ∧ (∀ c_ : Nat × (Fc → Bool), atP tx_ n_ 5 a_ = .inr c_ → (c_.2 (fcS M.2.1) = true → Q (some (vi 1)) (zm (pS M.2.1 c_.1 (-1) (M.2.1 0 11)) M.2.2.1)) ∧ (c_.2 (fcS M.2.1) = false → Q (some (vi 0)) (zm (pS M.2.1 c_.1 (-1) (M.2.1 0 11)) M.2.2.1)))) else False
  | _ => False

def zpX9_atom_5 : zz_P := [(0, zo_ald 1 0), (1, zo_get 4 8 0 10), (4, zo_c 5 (vi (-1))), (5, zo_ceq false true 8 10), (8, zo_c 9 (vi 0)), (9, zo_zret true), (10, zo_ald 11 0), (11, zo_callv 14 1 8 zX9_skip), (14, zo_ald 15 0), (15, zo_get 18 8 0 9), (18, zo_ist 19 1), (19, zo_ald 20 0), (20, zo_c 22 (vr 1009)), (22, zo_callv 25 2 8 zX9_has), (25, zo_ist 26 2), (26, zo_ild 27 2), (27, zo_ifne false 30 44), (30, zo_ald 31 0), (31, zo_c 33 (vi 40)), (33, zo_callv 36 2 8 zX9_isSign), (36, zo_zifne 39 44), (39, zo_ald 40 0), (40, zo_callv 43 1 8 zX9_plainCond), (43, zo_zret true), (44, zo_ald 45 0), (45, zo_get 48 8 0 11), (48, zo_c 50 (vi 6)), (50, zo_cne false true 53 60), (53, zo_ald 54 0), (54, zo_ild 55 1), (55, zo_callv 58 2 8 zX9_wrong), (58, zo_c 59 (vi 0)), (59, zo_zret true), (60, zo_ald 61 0), (61, zo_dup 62), (62, zo_get 65 8 0 11), (65, zo_c 66 (vi 1)), (66, zo_iadd 67), (67, zo_puti 70 8 11), (70, zo_c 71 (vi 0)), (71, zo_ist 72 3), (72, zo_ild 73 2), (73, zo_ifeq false 76 92), (76, zo_ald 77 0), (77, zo_callv 80 1 8 zX9_atom_4), (80, zo_zifne 83 87), (83, zo_c 84 (vi 1)), (84, zo_goto 88), (87, zo_c 88 (vi 0)), (88, zo_ist 89 3), (89, zo_goto 142), (92, zo_ald 93 0), (93, zo_dup 94), (94, zo_get 97 8 0 9), (97, zo_c 98 (vi 1)), (98, zo_iadd 99), (99, zo_puti 102 8 9), (102, zo_ald 103 0), (103, zo_callv 106 1 8 zX9_some_4), (106, zo_ist 107 3), (107, zo_ald 108 0), (108, zo_get 111 8 0 10), (111, zo_c 112 (vi (-1))), (112, zo_cne false true 115 132), (115, zo_ald 116 0), (116, zo_c 118 (vi 41)), (118, zo_callv 121 2 8 zX9_isSign), (121, zo_zifne 124 132), (124, zo_ald 125 0), (125, zo_ald 126 0), (126, zo_get 129 8 0 9), (129, zo_callv 132 2 8 zX9_wrong), (132, zo_ald 133 0), (133, zo_dup 134), (134, zo_get 137 8 0 9), (137, zo_c 138 (vi 1)), (138, zo_iadd 139), (139, zo_puti 142 8 9), (142, zo_ald 143 0), (143, zo_dup 144), (144, zo_get 147 8 0 11), (147, zo_c 148 (vi 1)), (148, zo_isub 149), (149, zo_puti 152 8 11), (152, zo_ild 153 3), (153, zo_zret false)]
theorem ztX9_atom_5 {C : mm_C} (G : mm_G C RX9 cX9_atom (some .boolean) 4 (mm_rm 24 0 0)) (hnh : mm_nh C) : zz_OKs C zpX9_atom_5 :=
  ⟨zz_of (ok_aload_n G dX9_atom_0 rfl rfl) (z_ald _ _),
   zz_of (ok_get G (nx := 4) (ci := 8) (kd := 0) (k := 10) (RX9, TX9, 32) rfl (by decide) rfl q1815 dX9_atom_1 rfl) (z_get _ _ _ _),
   zz_of (ok_iconst G (v := (zI (-1))) dX9_atom_4 (by decide) rfl) (z_cz 5 (-1)),
   zz_of (ok_ceq G dX9_atom_5 rfl rfl) (z_ceq _ _ _ _),
   zz_of (ok_iconst G (v := 0) dX9_atom_8 (by decide) rfl) (z_cn 9 0),
   zz_of (ok_zret G dX9_atom_9) (z_zret _),
   zz_of (ok_aload_n G dX9_atom_10 rfl rfl) (z_ald _ _),
   zz_of (ok_callv G hnh (zmX9_skip _ G.hst) rfl rfl (RX9, TX9, 32) rfl q1925 q1927 qs41 q93 q1928 (by decide +kernel) ⟨by decide, by decide⟩ dX9_atom_11 rfl) (z_callv _ _ _ _),
   zz_of (ok_aload_n G dX9_atom_14 rfl rfl) (z_ald _ _),
   zz_of (ok_get G (nx := 18) (ci := 8) (kd := 0) (k := 9) (RX9, TX9, 32) rfl (by decide) rfl q1814 dX9_atom_15 rfl) (z_get _ _ _ _),
   zz_of (ok_istore_n G dX9_atom_18 rfl rfl (by decide)) (z_ist _ _),
   zz_of (ok_aload_n G dX9_atom_19 rfl rfl) (z_ald _ _),
   zz_of (ok_lds G (tx := "not") (by decide +kernel) dX9_atom_20 rfl) (z_cr 22 1009),
   zz_of (ok_callv G hnh (zmX9_has _ G.hst) rfl rfl (RX9, TX9, 32) rfl q1942 q1944 qs45 q93 q1945 (by decide +kernel) ⟨by decide, by decide⟩ dX9_atom_22 rfl) (z_callv _ _ _ _),
   zz_of (ok_istore_n G dX9_atom_25 rfl rfl (by decide)) (z_ist _ _),
   zz_of (ok_iload_n G dX9_atom_26 rfl rfl) (z_ild _ _),
   zz_of (ok_ifne G dX9_atom_27 rfl rfl) (z_ifne _ _ _),
   zz_of (ok_aload_n G dX9_atom_30 rfl rfl) (z_ald _ _),
   zz_of (ok_bipush G (v := 40) dX9_atom_31 (by decide) rfl) (z_cn 33 40),
   zz_of (ok_callv G hnh (zmX9_isSign _ G.hst) rfl rfl (RX9, TX9, 32) rfl q1976 q1978 qs50 q93 q1979 (by decide +kernel) ⟨by decide, by decide⟩ dX9_atom_33 rfl) (z_callv _ _ _ _),
   zz_of (ok_ifne G dX9_atom_36 rfl rfl) (z_zifne _ _),
   zz_of (ok_aload_n G dX9_atom_39 rfl rfl) (z_ald _ _),
   zz_of (ok_callv G hnh (zmX9_plainCond _ G.hst) rfl rfl (RX9, TX9, 32) rfl q1980 q1982 qs51 q93 q1983 (by decide +kernel) ⟨by decide, by decide⟩ dX9_atom_40 rfl) (z_callv _ _ _ _),
   zz_of (ok_zret G dX9_atom_43) (z_zret _),
   zz_of (ok_aload_n G dX9_atom_44 rfl rfl) (z_ald _ _),
   zz_of (ok_get G (nx := 48) (ci := 8) (kd := 0) (k := 11) (RX9, TX9, 32) rfl (by decide) rfl q1816 dX9_atom_45 rfl) (z_get _ _ _ _),
   zz_of (ok_bipush G (v := 6) dX9_atom_48 (by decide) rfl) (z_cn 50 6),
   zz_of (ok_cne G dX9_atom_50 rfl rfl) (z_cne _ _ _ _),
   zz_of (ok_aload_n G dX9_atom_53 rfl rfl) (z_ald _ _),
   zz_of (ok_iload_n G dX9_atom_54 rfl rfl) (z_ild _ _),
   zz_of (ok_callv G hnh (zmX9_wrong _ G.hst) rfl rfl (RX9, TX9, 32) rfl q1933 q1935 qs43 q93 q1936 (by decide +kernel) ⟨by decide, by decide⟩ dX9_atom_55 rfl) (z_callv _ _ _ _),
   zz_of (ok_iconst G (v := 0) dX9_atom_58 (by decide) rfl) (z_cn 59 0),
   zz_of (ok_zret G dX9_atom_59) (z_zret _),
   zz_of (ok_aload_n G dX9_atom_60 rfl rfl) (z_ald _ _),
   zz_of (ok_dup G dX9_atom_61 rfl) (z_dup _),
   zz_of (ok_get G (nx := 65) (ci := 8) (kd := 0) (k := 11) (RX9, TX9, 32) rfl (by decide) rfl q1816 dX9_atom_62 rfl) (z_get _ _ _ _),
   zz_of (ok_iconst G (v := 1) dX9_atom_65 (by decide) rfl) (z_cn 66 1),
   zz_of (ok_iadd G dX9_atom_66 rfl) (z_iadd _),
   zz_of (ok_puti G (nx := 70) (idx := 129) (ci := 8) (k := 11) (RX9, TX9, 32) rfl (by decide) rfl (mm_pw G (ci := 8) (k := 11) (RX9, TX9, 32) rfl (by decide) rfl q1816 dX9_atom_67) rfl) (z_puti _ _ _),
   zz_of (ok_iconst G (v := 0) dX9_atom_70 (by decide) rfl) (z_cn 71 0),
   zz_of (ok_istore_n G dX9_atom_71 rfl rfl (by decide)) (z_ist _ _),
   zz_of (ok_iload_n G dX9_atom_72 rfl rfl) (z_ild _ _),
   zz_of (ok_ifeq G dX9_atom_73 rfl rfl) (z_ifeq _ _ _),
   zz_of (ok_aload_n G dX9_atom_76 rfl rfl) (z_ald _ _),
   zz_of (ok_callv G hnh (zmX9_atom_4 _ G.hst) rfl rfl (RX9, TX9, 32) rfl q1971 q1973 qs49 q93 q1974 (by decide +kernel) ⟨by decide, by decide⟩ dX9_atom_77 rfl) (z_callv _ _ _ _),
   zz_of (ok_ifne G dX9_atom_80 rfl rfl) (z_zifne _ _),
   zz_of (ok_iconst G (v := 1) dX9_atom_83 (by decide) rfl) (z_cn 84 1),
   zz_of (ok_goto G dX9_atom_84 rfl) (z_goto _),
   zz_of (ok_iconst G (v := 0) dX9_atom_87 (by decide) rfl) (z_cn 88 0),
   zz_of (ok_istore_n G dX9_atom_88 rfl rfl (by decide)) (z_ist _ _),
   zz_of (ok_goto G dX9_atom_89 rfl) (z_goto _),
   zz_of (ok_aload_n G dX9_atom_92 rfl rfl) (z_ald _ _),
   zz_of (ok_dup G dX9_atom_93 rfl) (z_dup _),
   zz_of (ok_get G (nx := 97) (ci := 8) (kd := 0) (k := 9) (RX9, TX9, 32) rfl (by decide) rfl q1814 dX9_atom_94 rfl) (z_get _ _ _ _),
   zz_of (ok_iconst G (v := 1) dX9_atom_97 (by decide) rfl) (z_cn 98 1),
   zz_of (ok_iadd G dX9_atom_98 rfl) (z_iadd _),
   zz_of (ok_puti G (nx := 102) (idx := 80) (ci := 8) (k := 9) (RX9, TX9, 32) rfl (by decide) rfl (mm_pw G (ci := 8) (k := 9) (RX9, TX9, 32) rfl (by decide) rfl q1814 dX9_atom_99) rfl) (z_puti _ _ _),
   zz_of (ok_aload_n G dX9_atom_102 rfl rfl) (z_ald _ _),
   zz_of (ok_callv G hnh (zmX9_some_4 _ G.hst) rfl rfl (RX9, TX9, 32) rfl q1963 q1965 qs47 q93 q1966 (by decide +kernel) ⟨by decide, by decide⟩ dX9_atom_103 rfl) (z_callv _ _ _ _),
   zz_of (ok_istore_n G dX9_atom_106 rfl rfl (by decide)) (z_ist _ _),
   zz_of (ok_aload_n G dX9_atom_107 rfl rfl) (z_ald _ _),
   zz_of (ok_get G (nx := 111) (ci := 8) (kd := 0) (k := 10) (RX9, TX9, 32) rfl (by decide) rfl q1815 dX9_atom_108 rfl) (z_get _ _ _ _),
   zz_of (ok_iconst G (v := (zI (-1))) dX9_atom_111 (by decide) rfl) (z_cz 112 (-1)),
   zz_of (ok_cne G dX9_atom_112 rfl rfl) (z_cne _ _ _ _),
   zz_of (ok_aload_n G dX9_atom_115 rfl rfl) (z_ald _ _),
   zz_of (ok_bipush G (v := 41) dX9_atom_116 (by decide) rfl) (z_cn 118 41),
   zz_of (ok_callv G hnh (zmX9_isSign _ G.hst) rfl rfl (RX9, TX9, 32) rfl q1976 q1978 qs50 q93 q1979 (by decide +kernel) ⟨by decide, by decide⟩ dX9_atom_118 rfl) (z_callv _ _ _ _),
   zz_of (ok_ifne G dX9_atom_121 rfl rfl) (z_zifne _ _),
   zz_of (ok_aload_n G dX9_atom_124 rfl rfl) (z_ald _ _),
   zz_of (ok_aload_n G dX9_atom_125 rfl rfl) (z_ald _ _),
   zz_of (ok_get G (nx := 129) (ci := 8) (kd := 0) (k := 9) (RX9, TX9, 32) rfl (by decide) rfl q1814 dX9_atom_126 rfl) (z_get _ _ _ _),
   zz_of (ok_callv G hnh (zmX9_wrong _ G.hst) rfl rfl (RX9, TX9, 32) rfl q1933 q1935 qs43 q93 q1936 (by decide +kernel) ⟨by decide, by decide⟩ dX9_atom_129 rfl) (z_callv _ _ _ _),
   zz_of (ok_aload_n G dX9_atom_132 rfl rfl) (z_ald _ _),
   zz_of (ok_dup G dX9_atom_133 rfl) (z_dup _),
   zz_of (ok_get G (nx := 137) (ci := 8) (kd := 0) (k := 9) (RX9, TX9, 32) rfl (by decide) rfl q1814 dX9_atom_134 rfl) (z_get _ _ _ _),
   zz_of (ok_iconst G (v := 1) dX9_atom_137 (by decide) rfl) (z_cn 138 1),
   zz_of (ok_iadd G dX9_atom_138 rfl) (z_iadd _),
   zz_of (ok_puti G (nx := 142) (idx := 80) (ci := 8) (k := 9) (RX9, TX9, 32) rfl (by decide) rfl (mm_pw G (ci := 8) (k := 9) (RX9, TX9, 32) rfl (by decide) rfl q1814 dX9_atom_139) rfl) (z_puti _ _ _),
   zz_of (ok_aload_n G dX9_atom_142 rfl rfl) (z_ald _ _),
   zz_of (ok_dup G dX9_atom_143 rfl) (z_dup _),
   zz_of (ok_get G (nx := 147) (ci := 8) (kd := 0) (k := 11) (RX9, TX9, 32) rfl (by decide) rfl q1816 dX9_atom_144 rfl) (z_get _ _ _ _),
   zz_of (ok_iconst G (v := 1) dX9_atom_147 (by decide) rfl) (z_cn 148 1),
   zz_of (ok_isub G dX9_atom_148 rfl) (z_isub _),
   zz_of (ok_puti G (nx := 152) (idx := 129) (ci := 8) (k := 11) (RX9, TX9, 32) rfl (by decide) rfl (mm_pw G (ci := 8) (k := 11) (RX9, TX9, 32) rfl (by decide) rfl q1816 dX9_atom_149) rfl) (z_puti _ _ _),
   zz_of (ok_iload_n G dX9_atom_152 rfl rfl) (z_ild _ _),
   zz_of (ok_zret G dX9_atom_153) (z_zret _), trivial⟩

theorem zwX9_atom_5_0 {Q : Option zv → zz_M → Prop} {X : Nat → zz_M → Prop} {S L : Nat → Nat → Int}  (h : R32 (S 0 10) ∧ (((S 0 10) = (-1) → (∃ (tx_1 : Nat → Int) (n_1 a_1 : Nat), mT S tx_1 n_1 ∧ S 0 9 = a_1 ∧ a_1 ≤ n_1 + 1000 ∧ ((∃ (tx_2 : Nat → Int) (n_2 a_2 j_2 : Nat), 1009 = 1000 + j_2 ∧ j_2 < 18 ∧ mT (mm_up S 0 9 ((rn (qB tx_1) n_1 a_1 : Nat) : Int)) tx_2 n_2 ∧ (mm_up S 0 9 ((rn (qB tx_1) n_1 a_1 : Nat) : Int)) 0 9 = a_2 ∧ a_2 ≤ n_2 ∧ (hsW tx_2 n_2 (rn (qB tx_2) n_2 a_2) (wo j_2) = true → (zz_J zpX9_atom_5 (zz_ret Q X 0 0) 26 [some (vr 0), some (vi ((rn (qB tx_1) n_1 a_1 : Nat) : Int)), some (vi 1), none] [] (zm (mm_up (mm_up S 0 9 ((rn (qB tx_1) n_1 a_1 : Nat) : Int)) 0 9 ((rn (qB tx_2) n_2 a_2 + (wo j_2).length : Nat) : Int)) L) (0, 0))) ∧ (hsW tx_2 n_2 (rn (qB tx_2) n_2 a_2) (wo j_2) = false → (zz_J zpX9_atom_5 (zz_ret Q X 0 0) 26 [some (vr 0), some (vi ((rn (qB tx_1) n_1 a_1 : Nat) : Int)), some (vi 0), none] [] (zm (mm_up (mm_up S 0 9 ((rn (qB tx_1) n_1 a_1 : Nat) : Int)) 0 9 ((rn (qB tx_2) n_2 a_2 : Nat) : Int)) L) (0, 0))))))) ∧ (¬ (S 0 10) = (-1) → Q (some (vi 0)) (zm S L)))) : zz_J zpX9_atom_5 (zz_ret Q X 0 0) 0 [some (vr 0), none, none, none] [] (zm S L) (0, 0) := zz_J.go [(26, [3]), (44, [3]), (107, [1, 2]), (132, [1, 2]), (142, [1, 2])] 400 h
theorem zwX9_atom_5_26 {Q : Option zv → zz_M → Prop} {X : Nat → zz_M → Prop} {S L : Nat → Nat → Int} {x1 : Int} {x2 : Int} (h : R32 x2 ∧ ((¬ x2 = 0 → zz_J zpX9_atom_5 (zz_ret Q X 0 0) 44 [some (vr 0), some (vi x1), some (vi x2), none] [] (zm S L) (0, 0)) ∧ (x2 = 0 → (∃ (tx_1 : Nat → Int) (n_1 a_1 : Nat), R32 (40 : Int) ∧ mT S tx_1 n_1 ∧ S 0 9 = a_1 ∧ a_1 ≤ n_1 ∧ (isSg tx_1 n_1 (rn (qB tx_1) n_1 a_1) (40 : Int) = true → (zz_J zpX9_atom_5 (zz_ret Q X 0 0) 44 [some (vr 0), some (vi x1), some (vi x2), none] [] (zm (mm_up S 0 9 ((rn (qB tx_1) n_1 a_1 : Nat) : Int)) L) (0, 0))) ∧ (isSg tx_1 n_1 (rn (qB tx_1) n_1 a_1) (40 : Int) = false → ((∃ (tx_2 : Nat → Int) (n_2 a_2 : Nat), mT (mm_up S 0 9 ((rn (qB tx_1) n_1 a_1 : Nat) : Int)) tx_2 n_2 ∧ (mm_up S 0 9 ((rn (qB tx_1) n_1 a_1 : Nat) : Int)) 0 9 = a_2 ∧ (mm_up S 0 9 ((rn (qB tx_1) n_1 a_1 : Nat) : Int)) 0 10 = -1 ∧ a_2 ≤ n_2 ∧ bF (fcS (mm_up S 0 9 ((rn (qB tx_1) n_1 a_1 : Nat) : Int))) ∧ ((mm_up S 0 9 ((rn (qB tx_1) n_1 a_1 : Nat) : Int)) 0 13 = 0 ∨ (mm_up S 0 9 ((rn (qB tx_1) n_1 a_1 : Nat) : Int)) 0 13 = 1) ∧ ((mm_up S 0 9 ((rn (qB tx_1) n_1 a_1 : Nat) : Int)) 0 14 = 0 ∨ (mm_up S 0 9 ((rn (qB tx_1) n_1 a_1 : Nat) : Int)) 0 14 = 1) ∧ (∀ w_2 : Nat, plP tx_2 n_2 a_2 = .inl w_2 → ∀ (z_2 : Nat) (d_2 : Int), z_2 ≤ n_2 → (Q (some (vi 1)) (zm (pS (mm_up S 0 9 ((rn (qB tx_1) n_1 a_1 : Nat) : Int)) z_2 w_2 d_2) L)) ∧ (Q (some (vi 0)) (zm (pS (mm_up S 0 9 ((rn (qB tx_1) n_1 a_1 : Nat) : Int)) z_2 w_2 d_2) L))) ∧ (∀ c_2 : Nat × (Fc → Bool), plP tx_2 n_2 a_2 = .inr c_2 → (c_2.2 (fcS (mm_up S 0 9 ((rn (qB tx_1) n_1 a_1 : Nat) : Int))) = true → (Q (some (vi 1)) (zm (pS (mm_up S 0 9 ((rn (qB tx_1) n_1 a_1 : Nat) : Int)) c_2.1 (-1) ((mm_up S 0 9 ((rn (qB tx_1) n_1 a_1 : Nat) : Int)) 0 11)) L))) ∧ (c_2.2 (fcS (mm_up S 0 9 ((rn (qB tx_1) n_1 a_1 : Nat) : Int))) = false → (Q (some (vi 0)) (zm (pS (mm_up S 0 9 ((rn (qB tx_1) n_1 a_1 : Nat) : Int)) c_2.1 (-1) ((mm_up S 0 9 ((rn (qB tx_1) n_1 a_1 : Nat) : Int)) 0 11)) L))))))))))) : zz_J zpX9_atom_5 (zz_ret Q X 0 0) 26 [some (vr 0), some (vi x1), some (vi x2), none] [] (zm S L) (0, 0) := zz_J.go [(26, [3]), (44, [3]), (107, [1, 2]), (132, [1, 2]), (142, [1, 2])] 400 h
theorem zwX9_atom_5_44 {Q : Option zv → zz_M → Prop} {X : Nat → zz_M → Prop} {S L : Nat → Nat → Int} {x1 : Int} {x2 : Int} (h : R32 (S 0 11) ∧ ((¬ (S 0 11) = 6 → R32 x2 ∧ ((x2 = 0 → (∃ (tx_1 : Nat → Int) (n_1 a_1 : Nat), mT (mm_up (mm_up S 0 11 ((S 0 11) + 1)) 0 9 ((S 0 9) + 1)) tx_1 n_1 ∧ (mm_up (mm_up S 0 11 ((S 0 11) + 1)) 0 9 ((S 0 9) + 1)) 0 9 = a_1 ∧ (mm_up (mm_up S 0 11 ((S 0 11) + 1)) 0 9 ((S 0 9) + 1)) 0 10 = -1 ∧ (mm_up (mm_up S 0 11 ((S 0 11) + 1)) 0 9 ((S 0 9) + 1)) 0 11 = 2 ∧ a_1 ≤ n_1 ∧ bF (fcS (mm_up (mm_up S 0 11 ((S 0 11) + 1)) 0 9 ((S 0 9) + 1))) ∧ ((mm_up (mm_up S 0 11 ((S 0 11) + 1)) 0 9 ((S 0 9) + 1)) 0 13 = 0 ∨ (mm_up (mm_up S 0 11 ((S 0 11) + 1)) 0 9 ((S 0 9) + 1)) 0 13 = 1) ∧ ((mm_up (mm_up S 0 11 ((S 0 11) + 1)) 0 9 ((S 0 9) + 1)) 0 14 = 0 ∨ (mm_up (mm_up S 0 11 ((S 0 11) + 1)) 0 9 ((S 0 9) + 1)) 0 14 = 1) ∧ (∀ w_1 : Nat, soP tx_1 n_1 (atP tx_1 n_1 4) a_1 = .inl w_1 → ∀ (z_1 : Nat) (d_1 : Int), z_1 ≤ n_1 + 4 → (zz_J zpX9_atom_5 (zz_ret Q X 0 0) 107 [some (vr 0), none, none, some (vi 1)] [] (zm (pS (mm_up (mm_up S 0 11 ((S 0 11) + 1)) 0 9 ((S 0 9) + 1)) z_1 w_1 d_1) L) (0, 0)) ∧ (zz_J zpX9_atom_5 (zz_ret Q X 0 0) 107 [some (vr 0), none, none, some (vi 0)] [] (zm (pS (mm_up (mm_up S 0 11 ((S 0 11) + 1)) 0 9 ((S 0 9) + 1)) z_1 w_1 d_1) L) (0, 0))) ∧ (∀ c_1 : Nat × (Fc → Bool), soP tx_1 n_1 (atP tx_1 n_1 4) a_1 = .inr c_1 → (c_1.2 (fcS (mm_up (mm_up S 0 11 ((S 0 11) + 1)) 0 9 ((S 0 9) + 1))) = true → (zz_J zpX9_atom_5 (zz_ret Q X 0 0) 107 [some (vr 0), none, none, some (vi 1)] [] (zm (pS (mm_up (mm_up S 0 11 ((S 0 11) + 1)) 0 9 ((S 0 9) + 1)) c_1.1 (-1) ((mm_up (mm_up S 0 11 ((S 0 11) + 1)) 0 9 ((S 0 9) + 1)) 0 11)) L) (0, 0))) ∧ (c_1.2 (fcS (mm_up (mm_up S 0 11 ((S 0 11) + 1)) 0 9 ((S 0 9) + 1))) = false → (zz_J zpX9_atom_5 (zz_ret Q X 0 0) 107 [some (vr 0), none, none, some (vi 0)] [] (zm (pS (mm_up (mm_up S 0 11 ((S 0 11) + 1)) 0 9 ((S 0 9) + 1)) c_1.1 (-1) ((mm_up (mm_up S 0 11 ((S 0 11) + 1)) 0 9 ((S 0 9) + 1)) 0 11)) L) (0, 0)))))) ∧ (¬ x2 = 0 → (∃ (tx_2 : Nat → Int) (n_2 a_2 : Nat), mT (mm_up S 0 11 ((S 0 11) + 1)) tx_2 n_2 ∧ (mm_up S 0 11 ((S 0 11) + 1)) 0 9 = a_2 ∧ (mm_up S 0 11 ((S 0 11) + 1)) 0 10 = -1 ∧ (mm_up S 0 11 ((S 0 11) + 1)) 0 11 = 2 ∧ a_2 ≤ n_2 ∧ bF (fcS (mm_up S 0 11 ((S 0 11) + 1))) ∧ ((mm_up S 0 11 ((S 0 11) + 1)) 0 13 = 0 ∨ (mm_up S 0 11 ((S 0 11) + 1)) 0 13 = 1) ∧ ((mm_up S 0 11 ((S 0 11) + 1)) 0 14 = 0 ∨ (mm_up S 0 11 ((S 0 11) + 1)) 0 14 = 1) ∧ (∀ w_2 : Nat, atP tx_2 n_2 4 a_2 = .inl w_2 → ∀ (z_2 : Nat) (d_2 : Int), z_2 ≤ n_2 + 4 → (zz_J zpX9_atom_5 (zz_ret Q X 0 0) 142 [some (vr 0), none, none, some (vi 0)] [] (zm (pS (mm_up S 0 11 ((S 0 11) + 1)) z_2 w_2 d_2) L) (0, 0)) ∧ (zz_J zpX9_atom_5 (zz_ret Q X 0 0) 142 [some (vr 0), none, none, some (vi 1)] [] (zm (pS (mm_up S 0 11 ((S 0 11) + 1)) z_2 w_2 d_2) L) (0, 0))) ∧ (∀ c_2 : Nat × (Fc → Bool), atP tx_2 n_2 4 a_2 = .inr c_2 → (c_2.2 (fcS (mm_up S 0 11 ((S 0 11) + 1))) = true → (zz_J zpX9_atom_5 (zz_ret Q X 0 0) 142 [some (vr 0), none, none, some (vi 0)] [] (zm (pS (mm_up S 0 11 ((S 0 11) + 1)) c_2.1 (-1) ((mm_up S 0 11 ((S 0 11) + 1)) 0 11)) L) (0, 0))) ∧ (c_2.2 (fcS (mm_up S 0 11 ((S 0 11) + 1))) = false → (zz_J zpX9_atom_5 (zz_ret Q X 0 0) 142 [some (vr 0), none, none, some (vi 1)] [] (zm (pS (mm_up S 0 11 ((S 0 11) + 1)) c_2.1 (-1) ((mm_up S 0 11 ((S 0 11) + 1)) 0 11)) L) (0, 0)))))))) ∧ ((S 0 11) = 6 → (R32 (S 0 10) ∧ (Q (some (vi 0)) (zm (mm_up S 0 10 (wrF (S 0 10) x1)) L)))))) : zz_J zpX9_atom_5 (zz_ret Q X 0 0) 44 [some (vr 0), some (vi x1), some (vi x2), none] [] (zm S L) (0, 0) := zz_J.go [(26, [3]), (44, [3]), (107, [1, 2]), (132, [1, 2]), (142, [1, 2])] 400 h
theorem zwX9_atom_5_107 {Q : Option zv → zz_M → Prop} {X : Nat → zz_M → Prop} {S L : Nat → Nat → Int} {x3 : Int} (h : R32 (S 0 10) ∧ ((¬ (S 0 10) = (-1) → zz_J zpX9_atom_5 (zz_ret Q X 0 0) 132 [some (vr 0), none, none, some (vi x3)] [] (zm S L) (0, 0)) ∧ ((S 0 10) = (-1) → (∃ (tx_1 : Nat → Int) (n_1 a_1 : Nat), R32 (41 : Int) ∧ mT S tx_1 n_1 ∧ S 0 9 = a_1 ∧ a_1 ≤ n_1 ∧ (isSg tx_1 n_1 (rn (qB tx_1) n_1 a_1) (41 : Int) = true → (zz_J zpX9_atom_5 (zz_ret Q X 0 0) 132 [some (vr 0), none, none, some (vi x3)] [] (zm (mm_up S 0 9 ((rn (qB tx_1) n_1 a_1 : Nat) : Int)) L) (0, 0))) ∧ (isSg tx_1 n_1 (rn (qB tx_1) n_1 a_1) (41 : Int) = false → ((R32 ((mm_up S 0 9 ((rn (qB tx_1) n_1 a_1 : Nat) : Int)) 0 10) ∧ (zz_J zpX9_atom_5 (zz_ret Q X 0 0) 132 [some (vr 0), none, none, some (vi x3)] [] (zm (mm_up (mm_up S 0 9 ((rn (qB tx_1) n_1 a_1 : Nat) : Int)) 0 10 (wrF ((mm_up S 0 9 ((rn (qB tx_1) n_1 a_1 : Nat) : Int)) 0 10) ((rn (qB tx_1) n_1 a_1 : Nat) : Int))) L) (0, 0))))))))) : zz_J zpX9_atom_5 (zz_ret Q X 0 0) 107 [some (vr 0), none, none, some (vi x3)] [] (zm S L) (0, 0) := zz_J.go [(26, [3]), (44, [3]), (107, [1, 2]), (132, [1, 2]), (142, [1, 2])] 400 h
theorem zwX9_atom_5_132 {Q : Option zv → zz_M → Prop} {X : Nat → zz_M → Prop} {S L : Nat → Nat → Int} {x3 : Int} (h : zz_J zpX9_atom_5 (zz_ret Q X 0 0) 142 [some (vr 0), none, none, some (vi x3)] [] (zm (mm_up S 0 9 ((S 0 9) + 1)) L) (0, 0)) : zz_J zpX9_atom_5 (zz_ret Q X 0 0) 132 [some (vr 0), none, none, some (vi x3)] [] (zm S L) (0, 0) := zz_J.go [(26, [3]), (44, [3]), (107, [1, 2]), (132, [1, 2]), (142, [1, 2])] 400 h
theorem zwX9_atom_5_142 {Q : Option zv → zz_M → Prop} {X : Nat → zz_M → Prop} {S L : Nat → Nat → Int} {x3 : Int} (h : (x3 = 0 ∨ x3 = 1) ∧ (Q (some (vi x3)) (zm (mm_up S 0 11 ((S 0 11) - 1)) L))) : zz_J zpX9_atom_5 (zz_ret Q X 0 0) 142 [some (vr 0), none, none, some (vi x3)] [] (zm S L) (0, 0) := zz_J.go [(26, [3]), (44, [3]), (107, [1, 2]), (132, [1, 2]), (142, [1, 2])] 400 h

theorem zmX9_atom_5 (l : Launch) (hl : l.stackTraces = false) : mm_Spec l yX9_atom (ws_ yX9_atom cX9_atom 4 (some .boolean)) (mm_rm 24 0 0) (zE zX9_atom_5) := by
  refine zz_Met.J hl (by decide) (fun C G hnh => ztX9_atom_5 G hnh) ?_
  rintro as ⟨⟨t_, f⟩, S, L, P⟩ Q X h
  unfold zX9_atom_5 at h
  split at h
  rotate_left
  · exact h.elim
  rename_i h_
  obtain ⟨e1_, e2_, h⟩ := mm_and2 h (fun q => q)
  cases mm_beq e1_
  cases mm_beq e2_
  try dsimp only at h
  refine ⟨rfl, ?_⟩
  refine zz_Jev (M' := zm S L) rfl rfl rfl ?_
  obtain ⟨tx, n, a, hT, h9, h10, h11, ha, hF, h13, h14, hq1, hq2⟩ := h
  have hn := hT.1
  have hpw : ∀ a w, a ≤ n → ptP tx n a = .inl w → w ≤ n := fun a w h e => ptP_w h e
  generalize hd : S 0 11 = d at h11 hq2
  have hS : S = pS S a (-1) d := by rw [← hd]; exact pS_of h9 h10
  rw [hS]
  have hb := rn_le (q := qB tx) ha
  have hbb := rn_rn (q := qB tx) ha
  have hat := atP_ok hT.2.2.1 hpw 4
  have hso := soP_ok (tx := tx) hat
  have t142 : ∀ (z : Nat) (w d' x : Int), (x = 0 ∨ x = 1) → Q (some (vi x)) (zm (pS S z w (d' - 1)) L) → zz_J zpX9_atom_5 (zz_ret Q X 0 0) 142 [some (vr 0), none, none, some (vi x)] [] (zm (pS S z w d') L) (0, 0) := by
    intro z w d' x hx hq
    refine zwX9_atom_5_142 ?_
    simp only [pS_r11, pS_11]
    exact ⟨hx, hq⟩
  have t132 : ∀ (z : Nat) (w d' x : Int), (x = 0 ∨ x = 1) → Q (some (vi x)) (zm (pS S (z + 1 : Nat) w (d' - 1)) L) → zz_J zpX9_atom_5 (zz_ret Q X 0 0) 132 [some (vr 0), none, none, some (vi x)] [] (zm (pS S z w d') L) (0, 0) := by
    intro z w d' x hx hq
    refine zwX9_atom_5_132 ?_
    simp only [pS_r9, pS_9]
    exact t142 (z + 1) w d' x hx hq
  -- not
  have t44n : hsW tx n (rn (qB tx) n a) (wo 9) = true → zz_J zpX9_atom_5 (zz_ret Q X 0 0) 44 [some (vr 0), some (vi (rn (qB tx) n a : Nat)), some (vi 1), none] [] (zm (pS S (rn (qB tx) n a + 3 : Nat) (-1) d) L) (0, 0) := by
    intro c
    have h3 : rn (qB tx) n a + 3 ≤ n := hsW_le hb c
    refine zwX9_atom_5_44 ?_
    simp only [pS_r10, pS_r9, pS_r11, pS_11, mT_pS, pS_pS, fcS_pS]
    refine ⟨by omega, fun _ => ⟨by omega, fun h => absurd h (by decide), fun _ => ⟨tx, n, rn (qB tx) n a + 3, hT, rfl, trivial, by omega, h3, hF, h13, h14, fun w ew z d' hz => ?_, fun c2 ec => ?_⟩⟩, fun h => by omega⟩
    · have e : atP tx n 5 a = .inl w := by unfold atP; rw [if_pos c, ew]
      have hq := hq1 w e z (d' - 1) (by omega)
      exact ⟨t142 z w d' 0 (Or.inl rfl) hq.2, t142 z w d' 1 (Or.inr rfl) hq.1⟩
    · have e : atP tx n 5 a = .inr (c2.1, fun F => !c2.2 F) := by unfold atP; rw [if_pos c, ec]
      have hq := hq2 _ e
      have ed : d + 1 - 1 = d := by omega
      refine ⟨fun t => t142 _ _ _ 0 (Or.inl rfl) ?_, fun t => t142 _ _ _ 1 (Or.inr rfl) ?_⟩
      · rw [ed]; exact hq.2 (by show (!c2.2 (fcS S)) = false; rw [t]; rfl)
      · rw [ed]; exact hq.1 (by show (!c2.2 (fcS S)) = true; rw [t]; rfl)
  -- a bracket
  have t44b : hsW tx n (rn (qB tx) n a) (wo 9) = false → isSg tx n (rn (qB tx) n a) 40 = true → zz_J zpX9_atom_5 (zz_ret Q X 0 0) 44 [some (vr 0), some (vi (rn (qB tx) n a : Nat)), some (vi 0), none] [] (zm (pS S (rn (qB tx) n a : Nat) (-1) d) L) (0, 0) := by
    intro c c1
    have h3 := (isSg_t.mp c1).1
    have eat : ∀ q, soP tx n (atP tx n 4) (rn (qB tx) n a + 1) = q → atP tx n 5 a = (match q with
      | .inl w => .inl w
      | .inr c => if isSg tx n (rn (qB tx) n c.1) 41 = true then .inr (rn (qB tx) n c.1 + 1, c.2) else .inl (rn (qB tx) n c.1)) := by
      intro q hq
      unfold atP
      rw [if_neg (by rw [c]; decide), if_pos c1, hq]
      cases q <;> rfl
    refine zwX9_atom_5_44 ?_
    simp only [pS_r10, pS_r9, pS_r11, pS_11, pS_9, mT_pS, pS_pS, fcS_pS]
    refine ⟨by omega, fun _ => ⟨by omega, fun _ => ⟨tx, n, rn (qB tx) n a + 1, hT, rfl, trivial, by omega, by omega, hF, h13, h14, fun w ew z d' hz => ?_, fun c2 ec => ?_⟩, fun h => absurd trivial h⟩, fun h => by omega⟩
    · have e := eat _ ew
      have hw := (hso _ (by omega)).2 w ew
      have hq := hq1 w e (z + 1) (d' - 1) (by omega)
      have f107 : ∀ x : Int, (x = 0 ∨ x = 1) → Q (some (vi x)) (zm (pS S (z + 1 : Nat) w (d' - 1)) L) → zz_J zpX9_atom_5 (zz_ret Q X 0 0) 107 [some (vr 0), none, none, some (vi x)] [] (zm (pS S z w d') L) (0, 0) := by
        intro x hx hqx
        refine zwX9_atom_5_107 ?_
        simp only [pS_r10]
        exact ⟨by omega, fun _ => t132 z w d' x hx hqx, fun h => by omega⟩
      exact ⟨f107 1 (Or.inr rfl) hq.1, f107 0 (Or.inl rfl) hq.2⟩
    · have e := eat _ ec
      have hc := (hso _ (by omega)).1 c2 ec
      have g2 := rn_le (q := qB tx) hc.2
      have f107 : ∀ x : Int, (x = 0 ∨ x = 1) → (x = 1 → c2.2 (fcS S) = true) → (x = 0 → c2.2 (fcS S) = false) → zz_J zpX9_atom_5 (zz_ret Q X 0 0) 107 [some (vr 0), none, none, some (vi x)] [] (zm (pS S c2.1 (-1) (d + 1)) L) (0, 0) := by
        intro x hx x1 x0
        have ed : d + 1 - 1 = d := by omega
        refine zwX9_atom_5_107 ?_
        simp only [pS_r10, pS_r9, pS_r11, pS_11, pS_9, pS_10, mT_pS, pS_pS, fcS_pS, wrF, if_true]
        refine ⟨by omega, fun h => absurd trivial h, fun _ => ⟨tx, n, c2.1, by omega, hT, rfl, hc.2, fun s => ?_, fun s => ⟨by omega, ?_⟩⟩⟩
        · have e2 : atP tx n 5 a = .inr (rn (qB tx) n c2.1 + 1, c2.2) := by rw [e]; exact if_pos s
          have hq := hq2 _ e2
          refine t132 _ _ _ x hx ?_
          rw [ed]
          rcases hx with h | h
          · rw [h]; exact hq.2 (x0 h)
          · rw [h]; exact hq.1 (x1 h)
        · have e2 : atP tx n 5 a = .inl (rn (qB tx) n c2.1) := by rw [e]; exact if_neg (by rw [s]; decide)
          refine t132 _ _ _ x hx ?_
          rw [ed]
          exact bool_qq hx (hq1 _ e2 (rn (qB tx) n c2.1 + 1) d (by omega))
      exact ⟨fun t => f107 1 (Or.inr rfl) (fun _ => t) (fun h => absurd h (by decide)), fun t => f107 0 (Or.inl rfl) (fun h => absurd h (by decide)) (fun _ => t)⟩
  have ats : plP tx n (rn (qB tx) n a) = plP tx n a := by unfold plP; rw [hbb]
  refine zwX9_atom_5_0 ?_
  simp only [pS_r10, pS_r9, pS_r11, pS_9, mT_pS, pS_pS, fcS_pS]
  refine ⟨by omega, fun _ => ⟨tx, n, a, hT, rfl, by omega, tx, n, rn (qB tx) n a, 9, rfl, by decide, hT, rfl, hb, ?_⟩, fun h => absurd trivial h⟩
  rw [hbb]
  refine ⟨fun c => ?_, fun c => ?_⟩
  · exact zwX9_atom_5_26 ⟨by omega, fun _ => t44n c, fun h => by omega⟩
  · refine zwX9_atom_5_26 ?_
    simp only [pS_r10, pS_r9, pS_r11, pS_9, mT_pS, pS_pS, fcS_pS]
    refine ⟨by omega, fun h => absurd trivial h, fun _ => ⟨tx, n, rn (qB tx) n a, by omega, hT, rfl, hb, ?_⟩⟩
    rw [hbb]
    refine ⟨fun c2 => t44b c c2, fun c2 => ⟨tx, n, rn (qB tx) n a, hT, rfl, trivial, hb, hF, h13, h14, fun w ew z d' hz => ?_, fun c3 ec => ?_⟩⟩
    · rw [ats] at ew
      exact hq1 w (by unfold atP; rw [if_neg (by rw [c]; decide), if_neg (by rw [c2]; decide)]; exact ew) z d' (by omega)
    · rw [ats] at ec
      exact hq2 c3 (by unfold atP; rw [if_neg (by rw [c]; decide), if_neg (by rw [c2]; decide)]; exact ec)
def zX9_every_5 : zz_Sp := fun as M Q X => match as with
  | [.inr (.inr (some h_))] => bif Nat.beq h_ 0 && Nat.beq M.1.1 1 then (∃ (tx_ : Nat → Int) (n_ a_ : Nat), mT M.2.1 tx_ n_ ∧ M.2.1 0 9 = a_ ∧ M.2.1 0 10 = -1 ∧ M.2.1 0 11 = 1 ∧ a_ ≤ n_ ∧ bF (fcS M.2.1) ∧ (M.2.1 0 13 = 0 ∨ M.2.1 0 13 = 1) ∧ (M.2.1 0 14 = 0 ∨ M.2.1 0 14 = 1) ∧ (∀ w_ : Nat, evP tx_ n_ (atP tx_ n_ 5) a_ = .inl w_ → ∀ (z_ : Nat) (d_ : Int), z_ ≤ n_ + 5 → Q (some (vi 1)) (zm (pS M.2.1 z_ w_ d_) M.2.2.1) ∧ Q (some (vi 0)) (zm (pS M.2.1 z_ w_ d_) M.2.2.1)) ∧ (∀ c_ : Nat × (Fc → Bool), evP tx_ n_ (atP tx_ n_ 5) a_ = .inr c_ → (c_.2 (fcS M.2.1) = true → Q (some (vi 1)) (zm (pS M.2.1 c_.1 (-1) (M.2.1 0 11)) M.2.2.1)) ∧ (c_.2 (fcS M.2.1) = false → Q (some (vi 0)) (zm (pS M.2.1 c_.1 (-1) (M.2.1 0 11)) M.2.2.1)))) else False
  | _ => False

def zpX9_every_5 : zz_P := [(0, zo_ald 1 0), (1, zo_callv 4 1 8 zX9_atom_5), (4, zo_ist 5 1), (5, zo_ald 6 0), (6, zo_get 9 8 0 10), (9, zo_c 10 (vi (-1))), (10, zo_cne false true 13 44), (13, zo_ald 14 0), (14, zo_c 16 (vr 1012)), (16, zo_callv 19 2 8 zX9_has), (19, zo_zifeq 22 44), (22, zo_ald 23 0), (23, zo_callv 26 1 8 zX9_atom_5), (26, zo_ist 27 2), (27, zo_ild 28 1), (28, zo_ifeq false 31 39), (31, zo_ild 32 2), (32, zo_zifeq 35 39), (35, zo_c 36 (vi 1)), (36, zo_goto 40), (39, zo_c 40 (vi 0)), (40, zo_ist 41 1), (41, zo_goto 5), (44, zo_ild 45 1), (45, zo_zret false)]
theorem ztX9_every_5 {C : mm_C} (G : mm_G C RX9 cX9_every (some .boolean) 3 (mm_rm 25 0 0)) (hnh : mm_nh C) : zz_OKs C zpX9_every_5 :=
  ⟨zz_of (ok_aload_n G dX9_every_0 rfl rfl) (z_ald _ _),
   zz_of (ok_callv G hnh (zmX9_atom_5 _ G.hst) rfl rfl (RX9, TX9, 32) rfl q1971 q1973 qs49 q93 q1974 (by decide +kernel) ⟨by decide, by decide⟩ dX9_every_1 rfl) (z_callv _ _ _ _),
   zz_of (ok_istore_n G dX9_every_4 rfl rfl (by decide)) (z_ist _ _),
   zz_of (ok_aload_n G dX9_every_5 rfl rfl) (z_ald _ _),
   zz_of (ok_get G (nx := 9) (ci := 8) (kd := 0) (k := 10) (RX9, TX9, 32) rfl (by decide) rfl q1815 dX9_every_6 rfl) (z_get _ _ _ _),
   zz_of (ok_iconst G (v := (zI (-1))) dX9_every_9 (by decide) rfl) (z_cz 10 (-1)),
   zz_of (ok_cne G dX9_every_10 rfl rfl) (z_cne _ _ _ _),
   zz_of (ok_aload_n G dX9_every_13 rfl rfl) (z_ald _ _),
   zz_of (ok_lds G (tx := "and") (by decide +kernel) dX9_every_14 rfl) (z_cr 16 1012),
   zz_of (ok_callv G hnh (zmX9_has _ G.hst) rfl rfl (RX9, TX9, 32) rfl q1942 q1944 qs45 q93 q1945 (by decide +kernel) ⟨by decide, by decide⟩ dX9_every_16 rfl) (z_callv _ _ _ _),
   zz_of (ok_ifeq G dX9_every_19 rfl rfl) (z_zifeq _ _),
   zz_of (ok_aload_n G dX9_every_22 rfl rfl) (z_ald _ _),
   zz_of (ok_callv G hnh (zmX9_atom_5 _ G.hst) rfl rfl (RX9, TX9, 32) rfl q1971 q1973 qs49 q93 q1974 (by decide +kernel) ⟨by decide, by decide⟩ dX9_every_23 rfl) (z_callv _ _ _ _),
   zz_of (ok_istore_n G dX9_every_26 rfl rfl (by decide)) (z_ist _ _),
   zz_of (ok_iload_n G dX9_every_27 rfl rfl) (z_ild _ _),
   zz_of (ok_ifeq G dX9_every_28 rfl rfl) (z_ifeq _ _ _),
   zz_of (ok_iload_n G dX9_every_31 rfl rfl) (z_ild _ _),
   zz_of (ok_ifeq G dX9_every_32 rfl rfl) (z_zifeq _ _),
   zz_of (ok_iconst G (v := 1) dX9_every_35 (by decide) rfl) (z_cn 36 1),
   zz_of (ok_goto G dX9_every_36 rfl) (z_goto _),
   zz_of (ok_iconst G (v := 0) dX9_every_39 (by decide) rfl) (z_cn 40 0),
   zz_of (ok_istore_n G dX9_every_40 rfl rfl (by decide)) (z_ist _ _),
   zz_of (ok_goto G dX9_every_41 rfl) (z_goto _),
   zz_of (ok_iload_n G dX9_every_44 rfl rfl) (z_ild _ _),
   zz_of (ok_zret G dX9_every_45) (z_zret _), trivial⟩

theorem zwX9_every_5_0 {Q : Option zv → zz_M → Prop} {X : Nat → zz_M → Prop} {S L : Nat → Nat → Int}  (h : (∃ (tx_1 : Nat → Int) (n_1 a_1 : Nat), mT S tx_1 n_1 ∧ S 0 9 = a_1 ∧ S 0 10 = -1 ∧ S 0 11 = 1 ∧ a_1 ≤ n_1 ∧ bF (fcS S) ∧ (S 0 13 = 0 ∨ S 0 13 = 1) ∧ (S 0 14 = 0 ∨ S 0 14 = 1) ∧ (∀ w_1 : Nat, atP tx_1 n_1 5 a_1 = .inl w_1 → ∀ (z_1 : Nat) (d_1 : Int), z_1 ≤ n_1 + 5 → (zz_J zpX9_every_5 (zz_ret Q X 0 0) 5 [some (vr 0), some (vi 1), none] [] (zm (pS S z_1 w_1 d_1) L) (0, 0)) ∧ (zz_J zpX9_every_5 (zz_ret Q X 0 0) 5 [some (vr 0), some (vi 0), none] [] (zm (pS S z_1 w_1 d_1) L) (0, 0))) ∧ (∀ c_1 : Nat × (Fc → Bool), atP tx_1 n_1 5 a_1 = .inr c_1 → (c_1.2 (fcS S) = true → (zz_J zpX9_every_5 (zz_ret Q X 0 0) 5 [some (vr 0), some (vi 1), none] [] (zm (pS S c_1.1 (-1) (S 0 11)) L) (0, 0))) ∧ (c_1.2 (fcS S) = false → (zz_J zpX9_every_5 (zz_ret Q X 0 0) 5 [some (vr 0), some (vi 0), none] [] (zm (pS S c_1.1 (-1) (S 0 11)) L) (0, 0)))))) : zz_J zpX9_every_5 (zz_ret Q X 0 0) 0 [some (vr 0), none, none] [] (zm S L) (0, 0) := zz_J.go [(5, [2])] 400 h
theorem zwX9_every_5_5 {Q : Option zv → zz_M → Prop} {X : Nat → zz_M → Prop} {S L : Nat → Nat → Int} {x1 : Int} (h : R32 (S 0 10) ∧ ((¬ (S 0 10) = (-1) → (x1 = 0 ∨ x1 = 1) ∧ (Q (some (vi x1)) (zm S L))) ∧ ((S 0 10) = (-1) → (∃ (tx_1 : Nat → Int) (n_1 a_1 j_1 : Nat), 1012 = 1000 + j_1 ∧ j_1 < 18 ∧ mT S tx_1 n_1 ∧ S 0 9 = a_1 ∧ a_1 ≤ n_1 ∧ (hsW tx_1 n_1 (rn (qB tx_1) n_1 a_1) (wo j_1) = true → ((∃ (tx_2 : Nat → Int) (n_2 a_2 : Nat), mT (mm_up S 0 9 ((rn (qB tx_1) n_1 a_1 + (wo j_1).length : Nat) : Int)) tx_2 n_2 ∧ (mm_up S 0 9 ((rn (qB tx_1) n_1 a_1 + (wo j_1).length : Nat) : Int)) 0 9 = a_2 ∧ (mm_up S 0 9 ((rn (qB tx_1) n_1 a_1 + (wo j_1).length : Nat) : Int)) 0 10 = -1 ∧ (mm_up S 0 9 ((rn (qB tx_1) n_1 a_1 + (wo j_1).length : Nat) : Int)) 0 11 = 1 ∧ a_2 ≤ n_2 ∧ bF (fcS (mm_up S 0 9 ((rn (qB tx_1) n_1 a_1 + (wo j_1).length : Nat) : Int))) ∧ ((mm_up S 0 9 ((rn (qB tx_1) n_1 a_1 + (wo j_1).length : Nat) : Int)) 0 13 = 0 ∨ (mm_up S 0 9 ((rn (qB tx_1) n_1 a_1 + (wo j_1).length : Nat) : Int)) 0 13 = 1) ∧ ((mm_up S 0 9 ((rn (qB tx_1) n_1 a_1 + (wo j_1).length : Nat) : Int)) 0 14 = 0 ∨ (mm_up S 0 9 ((rn (qB tx_1) n_1 a_1 + (wo j_1).length : Nat) : Int)) 0 14 = 1) ∧ (∀ w_2 : Nat, atP tx_2 n_2 5 a_2 = .inl w_2 → ∀ (z_2 : Nat) (d_2 : Int), z_2 ≤ n_2 + 5 → (R32 x1 ∧ ((x1 = 0 → zz_J zpX9_every_5 (zz_ret Q X 0 0) 5 [some (vr 0), some (vi 0), none] [] (zm (pS (mm_up S 0 9 ((rn (qB tx_1) n_1 a_1 + (wo j_1).length : Nat) : Int)) z_2 w_2 d_2) L) (0, 0)) ∧ (¬ x1 = 0 → zz_J zpX9_every_5 (zz_ret Q X 0 0) 5 [some (vr 0), some (vi 1), none] [] (zm (pS (mm_up S 0 9 ((rn (qB tx_1) n_1 a_1 + (wo j_1).length : Nat) : Int)) z_2 w_2 d_2) L) (0, 0)))) ∧ (R32 x1 ∧ ((x1 = 0 → zz_J zpX9_every_5 (zz_ret Q X 0 0) 5 [some (vr 0), some (vi 0), none] [] (zm (pS (mm_up S 0 9 ((rn (qB tx_1) n_1 a_1 + (wo j_1).length : Nat) : Int)) z_2 w_2 d_2) L) (0, 0)) ∧ (¬ x1 = 0 → zz_J zpX9_every_5 (zz_ret Q X 0 0) 5 [some (vr 0), some (vi 0), none] [] (zm (pS (mm_up S 0 9 ((rn (qB tx_1) n_1 a_1 + (wo j_1).length : Nat) : Int)) z_2 w_2 d_2) L) (0, 0))))) ∧ (∀ c_2 : Nat × (Fc → Bool), atP tx_2 n_2 5 a_2 = .inr c_2 → (c_2.2 (fcS (mm_up S 0 9 ((rn (qB tx_1) n_1 a_1 + (wo j_1).length : Nat) : Int))) = true → (R32 x1 ∧ ((x1 = 0 → zz_J zpX9_every_5 (zz_ret Q X 0 0) 5 [some (vr 0), some (vi 0), none] [] (zm (pS (mm_up S 0 9 ((rn (qB tx_1) n_1 a_1 + (wo j_1).length : Nat) : Int)) c_2.1 (-1) ((mm_up S 0 9 ((rn (qB tx_1) n_1 a_1 + (wo j_1).length : Nat) : Int)) 0 11)) L) (0, 0)) ∧ (¬ x1 = 0 → zz_J zpX9_every_5 (zz_ret Q X 0 0) 5 [some (vr 0), some (vi 1), none] [] (zm (pS (mm_up S 0 9 ((rn (qB tx_1) n_1 a_1 + (wo j_1).length : Nat) : Int)) c_2.1 (-1) ((mm_up S 0 9 ((rn (qB tx_1) n_1 a_1 + (wo j_1).length : Nat) : Int)) 0 11)) L) (0, 0))))) ∧ (c_2.2 (fcS (mm_up S 0 9 ((rn (qB tx_1) n_1 a_1 + (wo j_1).length : Nat) : Int))) = false → (R32 x1 ∧ ((x1 = 0 → zz_J zpX9_every_5 (zz_ret Q X 0 0) 5 [some (vr 0), some (vi 0), none] [] (zm (pS (mm_up S 0 9 ((rn (qB tx_1) n_1 a_1 + (wo j_1).length : Nat) : Int)) c_2.1 (-1) ((mm_up S 0 9 ((rn (qB tx_1) n_1 a_1 + (wo j_1).length : Nat) : Int)) 0 11)) L) (0, 0)) ∧ (¬ x1 = 0 → zz_J zpX9_every_5 (zz_ret Q X 0 0) 5 [some (vr 0), some (vi 0), none] [] (zm (pS (mm_up S 0 9 ((rn (qB tx_1) n_1 a_1 + (wo j_1).length : Nat) : Int)) c_2.1 (-1) ((mm_up S 0 9 ((rn (qB tx_1) n_1 a_1 + (wo j_1).length : Nat) : Int)) 0 11)) L) (0, 0))))))))) ∧ (hsW tx_1 n_1 (rn (qB tx_1) n_1 a_1) (wo j_1) = false → ((x1 = 0 ∨ x1 = 1) ∧ (Q (some (vi x1)) (zm (mm_up S 0 9 ((rn (qB tx_1) n_1 a_1 : Nat) : Int)) L)))))))) : zz_J zpX9_every_5 (zz_ret Q X 0 0) 5 [some (vr 0), some (vi x1), none] [] (zm S L) (0, 0) := zz_J.go [(5, [2])] 400 h

theorem zmX9_every_5 (l : Launch) (hl : l.stackTraces = false) : mm_Spec l yX9_every (ws_ yX9_every cX9_every 3 (some .boolean)) (mm_rm 25 0 0) (zE zX9_every_5) := by
  refine zz_Met.J hl (by decide) (fun C G hnh => ztX9_every_5 G hnh) ?_
  rintro as ⟨⟨t_, f⟩, S, L, P⟩ Q X h
  unfold zX9_every_5 at h
  split at h
  rotate_left
  · exact h.elim
  rename_i h_
  obtain ⟨e1_, e2_, h⟩ := mm_and2 h (fun q => q)
  cases mm_beq e1_
  cases mm_beq e2_
  try dsimp only at h
  refine ⟨rfl, ?_⟩
  refine zz_Jev (M' := zm S L) rfl rfl rfl ?_
  obtain ⟨tx, n, a, hT, h9, h10, h11, ha, hF, h13, h14, hq1, hq2⟩ := h
  have hn := hT.1
  have hat := atP_ok hT.2.2.1 (fun a w h e => ptP_w h e) 5
  generalize hd : S 0 11 = d at h11 hq2
  have tw : ∀ (w z : Nat) (x d' : Int), w ≤ n → z ≤ n + 5 → (x = 0 ∨ x = 1) → evP tx n (atP tx n 5) a = .inl w → zz_J zpX9_every_5 (zz_ret Q X 0 0) 5 [some (vr 0), some (vi x), none] [] (zm (pS S z w d') L) (0, 0) := by
    intro w z x d' hw hz hx e
    refine zwX9_every_5_5 ?_
    simp only [pS_r10]
    exact ⟨by omega, fun _ => ⟨hx, bool_qq hx (hq1 w e z d' hz)⟩, fun h => by omega⟩
  have lp : ∀ (k a' : Nat) (g : Fc → Bool) (x : Int), n - a' = k → a' ≤ n → x = (bif g (fcS S) then 1 else 0) → evP tx n (atP tx n 5) a = lpP n (rn (qB tx) n) (spW tx n 12) (atP tx n 5) (fun g h F => g F && h F) a' g → zz_J zpX9_every_5 (zz_ret Q X 0 0) 5 [some (vr 0), some (vi x), none] [] (zm (pS S a' (-1) d) L) (0, 0) := by
    intro k
    induction k using Nat.strongRecOn with
    | ind k ih =>
      intro a' g x hk ha' hx e
      have hb := rn_le (q := qB tx) ha'
      have hx01 : x = 0 ∨ x = 1 := by rw [hx]; cases g (fcS S) <;> simp
      refine zwX9_every_5_5 ?_
      simp only [pS_r10, pS_r9, pS_r11, pS_9, mT_pS, pS_pS, fcS_pS]
      refine ⟨by omega, fun h => absurd trivial h, fun _ => ⟨tx, n, a', 12, rfl, by decide, hT, rfl, ha', fun c => ?_, fun c => ⟨hx01, ?_⟩⟩⟩
      · have hs : spW tx n 12 a' = some (rn (qB tx) n a' + 3) := by unfold spW; rw [if_pos c]; rfl
        have h1 := spW_in (by decide) _ _ ha' hs
        refine ⟨tx, n, rn (qB tx) n a' + 3, hT, rfl, trivial, h11, h1.2, hF, h13, h14, fun w ew z d' hz => ?_, fun c2 ec => ?_⟩
        · rw [lpP_l ha' hs ew] at e
          have hw := (hat _ h1.2).2 w ew
          refine ⟨⟨by omega, fun _ => tw w z 0 d' hw hz (Or.inl rfl) e, fun _ => tw w z 1 d' hw hz (Or.inr rfl) e⟩, ⟨by omega, fun _ => tw w z 0 d' hw hz (Or.inl rfl) e, fun _ => tw w z 0 d' hw hz (Or.inl rfl) e⟩⟩
        · have h2 := (hat _ h1.2).1 c2 ec
          rw [lpP_r (fun a b h1 h2 => spW_in (by decide) a b h1 h2) (fun a c h1 h2 => (hat a h1).1 c h2) ha' hs ec] at e
          refine ⟨fun t => ⟨by omega, fun x0 => ?_, fun x1 => ?_⟩, fun t => ⟨by omega, fun x0 => ?_, fun x1 => ?_⟩⟩
          · refine ih (n - c2.1) (by omega) c2.1 _ 0 rfl h2.2 ?_ e
            rw [t]; revert hx; cases g (fcS S) <;> simp; omega
          · refine ih (n - c2.1) (by omega) c2.1 _ 1 rfl h2.2 ?_ e
            rw [t]; revert hx; cases g (fcS S) <;> simp; omega
          · refine ih (n - c2.1) (by omega) c2.1 _ 0 rfl h2.2 ?_ e
            rw [t]; simp
          · refine ih (n - c2.1) (by omega) c2.1 _ 0 rfl h2.2 ?_ e
            rw [t]; simp
      · have hs : spW tx n 12 a' = none := by unfold spW; rw [if_neg (by rw [c]; decide)]
        rw [lpP_n ha' hs] at e
        have hq := hq2 _ e
        rw [hx]
        revert hq
        show (g (fcS S) = true → _) ∧ (g (fcS S) = false → _) → _
        cases g (fcS S) with
        | true => exact fun hq => hq.1 rfl
        | false => exact fun hq => hq.2 rfl
  refine zwX9_every_5_0 ⟨tx, n, a, hT, h9, h10, by rw [hd]; exact h11, ha, hF, h13, h14, fun w e z d' hz => ?_, fun c e => ?_⟩
  · have hw := (hat a ha).2 w e
    have e2 : evP tx n (atP tx n 5) a = .inl w := seqP_f e
    exact ⟨tw w z 1 d' hw hz (Or.inr rfl) e2, tw w z 0 d' hw hz (Or.inl rfl) e2⟩
  · have hc := (hat a ha).1 c e
    rw [hd]
    exact ⟨fun t => lp _ c.1 c.2 1 rfl hc.2 (by rw [t]; rfl) (seqP_s e), fun t => lp _ c.1 c.2 0 rfl hc.2 (by rw [t]; rfl) (seqP_s e)⟩
def zX9_some_5 : zz_Sp := fun as M Q X => match as with
  | [.inr (.inr (some h_))] => bif Nat.beq h_ 0 && Nat.beq M.1.1 1 then (∃ (tx_ : Nat → Int) (n_ a_ : Nat), mT M.2.1 tx_ n_ ∧ M.2.1 0 9 = a_ ∧ M.2.1 0 10 = -1 ∧ M.2.1 0 11 = 1 ∧ a_ ≤ n_ ∧ bF (fcS M.2.1) ∧ (M.2.1 0 13 = 0 ∨ M.2.1 0 13 = 1) ∧ (M.2.1 0 14 = 0 ∨ M.2.1 0 14 = 1) ∧ (∀ w_ : Nat, soP tx_ n_ (atP tx_ n_ 5) a_ = .inl w_ → ∀ (z_ : Nat) (d_ : Int), z_ ≤ n_ + 5 → Q (some (vi 1)) (zm (pS M.2.1 z_ w_ d_) M.2.2.1) ∧ Q (some (vi 0)) (zm (pS M.2.1 z_ w_ d_) M.2.2.1)) ∧ (∀ c_ : Nat × (Fc → Bool), soP tx_ n_ (atP tx_ n_ 5) a_ = .inr c_ → (c_.2 (fcS M.2.1) = true → Q (some (vi 1)) (zm (pS M.2.1 c_.1 (-1) (M.2.1 0 11)) M.2.2.1)) ∧ (c_.2 (fcS M.2.1) = false → Q (some (vi 0)) (zm (pS M.2.1 c_.1 (-1) (M.2.1 0 11)) M.2.2.1)))) else False
  | _ => False

def zpX9_some_5 : zz_P := [(0, zo_ald 1 0), (1, zo_callv 4 1 8 zX9_every_5), (4, zo_ist 5 1), (5, zo_ald 6 0), (6, zo_get 9 8 0 10), (9, zo_c 10 (vi (-1))), (10, zo_cne false true 13 44), (13, zo_ald 14 0), (14, zo_c 16 (vr 1013)), (16, zo_callv 19 2 8 zX9_has), (19, zo_zifeq 22 44), (22, zo_ald 23 0), (23, zo_callv 26 1 8 zX9_every_5), (26, zo_ist 27 2), (27, zo_ild 28 1), (28, zo_ifne false 31 35), (31, zo_ild 32 2), (32, zo_zifeq 35 39), (35, zo_c 36 (vi 1)), (36, zo_goto 40), (39, zo_c 40 (vi 0)), (40, zo_ist 41 1), (41, zo_goto 5), (44, zo_ild 45 1), (45, zo_zret false)]
theorem ztX9_some_5 {C : mm_C} (G : mm_G C RX9 cX9_some (some .boolean) 3 (mm_rm 26 0 0)) (hnh : mm_nh C) : zz_OKs C zpX9_some_5 :=
  ⟨zz_of (ok_aload_n G dX9_some_0 rfl rfl) (z_ald _ _),
   zz_of (ok_callv G hnh (zmX9_every_5 _ G.hst) rfl rfl (RX9, TX9, 32) rfl q1967 q1969 qs48 q93 q1970 (by decide +kernel) ⟨by decide, by decide⟩ dX9_some_1 rfl) (z_callv _ _ _ _),
   zz_of (ok_istore_n G dX9_some_4 rfl rfl (by decide)) (z_ist _ _),
   zz_of (ok_aload_n G dX9_some_5 rfl rfl) (z_ald _ _),
   zz_of (ok_get G (nx := 9) (ci := 8) (kd := 0) (k := 10) (RX9, TX9, 32) rfl (by decide) rfl q1815 dX9_some_6 rfl) (z_get _ _ _ _),
   zz_of (ok_iconst G (v := (zI (-1))) dX9_some_9 (by decide) rfl) (z_cz 10 (-1)),
   zz_of (ok_cne G dX9_some_10 rfl rfl) (z_cne _ _ _ _),
   zz_of (ok_aload_n G dX9_some_13 rfl rfl) (z_ald _ _),
   zz_of (ok_lds G (tx := "or") (by decide +kernel) dX9_some_14 rfl) (z_cr 16 1013),
   zz_of (ok_callv G hnh (zmX9_has _ G.hst) rfl rfl (RX9, TX9, 32) rfl q1942 q1944 qs45 q93 q1945 (by decide +kernel) ⟨by decide, by decide⟩ dX9_some_16 rfl) (z_callv _ _ _ _),
   zz_of (ok_ifeq G dX9_some_19 rfl rfl) (z_zifeq _ _),
   zz_of (ok_aload_n G dX9_some_22 rfl rfl) (z_ald _ _),
   zz_of (ok_callv G hnh (zmX9_every_5 _ G.hst) rfl rfl (RX9, TX9, 32) rfl q1967 q1969 qs48 q93 q1970 (by decide +kernel) ⟨by decide, by decide⟩ dX9_some_23 rfl) (z_callv _ _ _ _),
   zz_of (ok_istore_n G dX9_some_26 rfl rfl (by decide)) (z_ist _ _),
   zz_of (ok_iload_n G dX9_some_27 rfl rfl) (z_ild _ _),
   zz_of (ok_ifne G dX9_some_28 rfl rfl) (z_ifne _ _ _),
   zz_of (ok_iload_n G dX9_some_31 rfl rfl) (z_ild _ _),
   zz_of (ok_ifeq G dX9_some_32 rfl rfl) (z_zifeq _ _),
   zz_of (ok_iconst G (v := 1) dX9_some_35 (by decide) rfl) (z_cn 36 1),
   zz_of (ok_goto G dX9_some_36 rfl) (z_goto _),
   zz_of (ok_iconst G (v := 0) dX9_some_39 (by decide) rfl) (z_cn 40 0),
   zz_of (ok_istore_n G dX9_some_40 rfl rfl (by decide)) (z_ist _ _),
   zz_of (ok_goto G dX9_some_41 rfl) (z_goto _),
   zz_of (ok_iload_n G dX9_some_44 rfl rfl) (z_ild _ _),
   zz_of (ok_zret G dX9_some_45) (z_zret _), trivial⟩

theorem zwX9_some_5_0 {Q : Option zv → zz_M → Prop} {X : Nat → zz_M → Prop} {S L : Nat → Nat → Int}  (h : (∃ (tx_1 : Nat → Int) (n_1 a_1 : Nat), mT S tx_1 n_1 ∧ S 0 9 = a_1 ∧ S 0 10 = -1 ∧ S 0 11 = 1 ∧ a_1 ≤ n_1 ∧ bF (fcS S) ∧ (S 0 13 = 0 ∨ S 0 13 = 1) ∧ (S 0 14 = 0 ∨ S 0 14 = 1) ∧ (∀ w_1 : Nat, evP tx_1 n_1 (atP tx_1 n_1 5) a_1 = .inl w_1 → ∀ (z_1 : Nat) (d_1 : Int), z_1 ≤ n_1 + 5 → (zz_J zpX9_some_5 (zz_ret Q X 0 0) 5 [some (vr 0), some (vi 1), none] [] (zm (pS S z_1 w_1 d_1) L) (0, 0)) ∧ (zz_J zpX9_some_5 (zz_ret Q X 0 0) 5 [some (vr 0), some (vi 0), none] [] (zm (pS S z_1 w_1 d_1) L) (0, 0))) ∧ (∀ c_1 : Nat × (Fc → Bool), evP tx_1 n_1 (atP tx_1 n_1 5) a_1 = .inr c_1 → (c_1.2 (fcS S) = true → (zz_J zpX9_some_5 (zz_ret Q X 0 0) 5 [some (vr 0), some (vi 1), none] [] (zm (pS S c_1.1 (-1) (S 0 11)) L) (0, 0))) ∧ (c_1.2 (fcS S) = false → (zz_J zpX9_some_5 (zz_ret Q X 0 0) 5 [some (vr 0), some (vi 0), none] [] (zm (pS S c_1.1 (-1) (S 0 11)) L) (0, 0)))))) : zz_J zpX9_some_5 (zz_ret Q X 0 0) 0 [some (vr 0), none, none] [] (zm S L) (0, 0) := zz_J.go [(5, [2])] 400 h
theorem zwX9_some_5_5 {Q : Option zv → zz_M → Prop} {X : Nat → zz_M → Prop} {S L : Nat → Nat → Int} {x1 : Int} (h : R32 (S 0 10) ∧ ((¬ (S 0 10) = (-1) → (x1 = 0 ∨ x1 = 1) ∧ (Q (some (vi x1)) (zm S L))) ∧ ((S 0 10) = (-1) → (∃ (tx_1 : Nat → Int) (n_1 a_1 j_1 : Nat), 1013 = 1000 + j_1 ∧ j_1 < 18 ∧ mT S tx_1 n_1 ∧ S 0 9 = a_1 ∧ a_1 ≤ n_1 ∧ (hsW tx_1 n_1 (rn (qB tx_1) n_1 a_1) (wo j_1) = true → ((∃ (tx_2 : Nat → Int) (n_2 a_2 : Nat), mT (mm_up S 0 9 ((rn (qB tx_1) n_1 a_1 + (wo j_1).length : Nat) : Int)) tx_2 n_2 ∧ (mm_up S 0 9 ((rn (qB tx_1) n_1 a_1 + (wo j_1).length : Nat) : Int)) 0 9 = a_2 ∧ (mm_up S 0 9 ((rn (qB tx_1) n_1 a_1 + (wo j_1).length : Nat) : Int)) 0 10 = -1 ∧ (mm_up S 0 9 ((rn (qB tx_1) n_1 a_1 + (wo j_1).length : Nat) : Int)) 0 11 = 1 ∧ a_2 ≤ n_2 ∧ bF (fcS (mm_up S 0 9 ((rn (qB tx_1) n_1 a_1 + (wo j_1).length : Nat) : Int))) ∧ ((mm_up S 0 9 ((rn (qB tx_1) n_1 a_1 + (wo j_1).length : Nat) : Int)) 0 13 = 0 ∨ (mm_up S 0 9 ((rn (qB tx_1) n_1 a_1 + (wo j_1).length : Nat) : Int)) 0 13 = 1) ∧ ((mm_up S 0 9 ((rn (qB tx_1) n_1 a_1 + (wo j_1).length : Nat) : Int)) 0 14 = 0 ∨ (mm_up S 0 9 ((rn (qB tx_1) n_1 a_1 + (wo j_1).length : Nat) : Int)) 0 14 = 1) ∧ (∀ w_2 : Nat, evP tx_2 n_2 (atP tx_2 n_2 5) a_2 = .inl w_2 → ∀ (z_2 : Nat) (d_2 : Int), z_2 ≤ n_2 + 5 → (R32 x1 ∧ ((¬ x1 = 0 → zz_J zpX9_some_5 (zz_ret Q X 0 0) 5 [some (vr 0), some (vi 1), none] [] (zm (pS (mm_up S 0 9 ((rn (qB tx_1) n_1 a_1 + (wo j_1).length : Nat) : Int)) z_2 w_2 d_2) L) (0, 0)) ∧ (x1 = 0 → zz_J zpX9_some_5 (zz_ret Q X 0 0) 5 [some (vr 0), some (vi 1), none] [] (zm (pS (mm_up S 0 9 ((rn (qB tx_1) n_1 a_1 + (wo j_1).length : Nat) : Int)) z_2 w_2 d_2) L) (0, 0)))) ∧ (R32 x1 ∧ ((¬ x1 = 0 → zz_J zpX9_some_5 (zz_ret Q X 0 0) 5 [some (vr 0), some (vi 1), none] [] (zm (pS (mm_up S 0 9 ((rn (qB tx_1) n_1 a_1 + (wo j_1).length : Nat) : Int)) z_2 w_2 d_2) L) (0, 0)) ∧ (x1 = 0 → zz_J zpX9_some_5 (zz_ret Q X 0 0) 5 [some (vr 0), some (vi 0), none] [] (zm (pS (mm_up S 0 9 ((rn (qB tx_1) n_1 a_1 + (wo j_1).length : Nat) : Int)) z_2 w_2 d_2) L) (0, 0))))) ∧ (∀ c_2 : Nat × (Fc → Bool), evP tx_2 n_2 (atP tx_2 n_2 5) a_2 = .inr c_2 → (c_2.2 (fcS (mm_up S 0 9 ((rn (qB tx_1) n_1 a_1 + (wo j_1).length : Nat) : Int))) = true → (R32 x1 ∧ ((¬ x1 = 0 → zz_J zpX9_some_5 (zz_ret Q X 0 0) 5 [some (vr 0), some (vi 1), none] [] (zm (pS (mm_up S 0 9 ((rn (qB tx_1) n_1 a_1 + (wo j_1).length : Nat) : Int)) c_2.1 (-1) ((mm_up S 0 9 ((rn (qB tx_1) n_1 a_1 + (wo j_1).length : Nat) : Int)) 0 11)) L) (0, 0)) ∧ (x1 = 0 → zz_J zpX9_some_5 (zz_ret Q X 0 0) 5 [some (vr 0), some (vi 1), none] [] (zm (pS (mm_up S 0 9 ((rn (qB tx_1) n_1 a_1 + (wo j_1).length : Nat) : Int)) c_2.1 (-1) ((mm_up S 0 9 ((rn (qB tx_1) n_1 a_1 + (wo j_1).length : Nat) : Int)) 0 11)) L) (0, 0))))) ∧ (c_2.2 (fcS (mm_up S 0 9 ((rn (qB tx_1) n_1 a_1 + (wo j_1).length : Nat) : Int))) = false → (R32 x1 ∧ ((¬ x1 = 0 → zz_J zpX9_some_5 (zz_ret Q X 0 0) 5 [some (vr 0), some (vi 1), none] [] (zm (pS (mm_up S 0 9 ((rn (qB tx_1) n_1 a_1 + (wo j_1).length : Nat) : Int)) c_2.1 (-1) ((mm_up S 0 9 ((rn (qB tx_1) n_1 a_1 + (wo j_1).length : Nat) : Int)) 0 11)) L) (0, 0)) ∧ (x1 = 0 → zz_J zpX9_some_5 (zz_ret Q X 0 0) 5 [some (vr 0), some (vi 0), none] [] (zm (pS (mm_up S 0 9 ((rn (qB tx_1) n_1 a_1 + (wo j_1).length : Nat) : Int)) c_2.1 (-1) ((mm_up S 0 9 ((rn (qB tx_1) n_1 a_1 + (wo j_1).length : Nat) : Int)) 0 11)) L) (0, 0))))))))) ∧ (hsW tx_1 n_1 (rn (qB tx_1) n_1 a_1) (wo j_1) = false → ((x1 = 0 ∨ x1 = 1) ∧ (Q (some (vi x1)) (zm (mm_up S 0 9 ((rn (qB tx_1) n_1 a_1 : Nat) : Int)) L)))))))) : zz_J zpX9_some_5 (zz_ret Q X 0 0) 5 [some (vr 0), some (vi x1), none] [] (zm S L) (0, 0) := zz_J.go [(5, [2])] 400 h

theorem zmX9_some_5 (l : Launch) (hl : l.stackTraces = false) : mm_Spec l yX9_some (ws_ yX9_some cX9_some 3 (some .boolean)) (mm_rm 26 0 0) (zE zX9_some_5) := by
  refine zz_Met.J hl (by decide) (fun C G hnh => ztX9_some_5 G hnh) ?_
  rintro as ⟨⟨t_, f⟩, S, L, P⟩ Q X h
  unfold zX9_some_5 at h
  split at h
  rotate_left
  · exact h.elim
  rename_i h_
  obtain ⟨e1_, e2_, h⟩ := mm_and2 h (fun q => q)
  cases mm_beq e1_
  cases mm_beq e2_
  try dsimp only at h
  refine ⟨rfl, ?_⟩
  refine zz_Jev (M' := zm S L) rfl rfl rfl ?_
  obtain ⟨tx, n, a, hT, h9, h10, h11, ha, hF, h13, h14, hq1, hq2⟩ := h
  have hn := hT.1
  have hat : pOK n (evP tx n (atP tx n 5)) := evP_ok (atP_ok hT.2.2.1 (fun a w h e => ptP_w h e) 5)
  generalize hd : S 0 11 = d at h11 hq2
  have tw : ∀ (w z : Nat) (x d' : Int), w ≤ n → z ≤ n + 5 → (x = 0 ∨ x = 1) → soP tx n (atP tx n 5) a = .inl w → zz_J zpX9_some_5 (zz_ret Q X 0 0) 5 [some (vr 0), some (vi x), none] [] (zm (pS S z w d') L) (0, 0) := by
    intro w z x d' hw hz hx e
    refine zwX9_some_5_5 ?_
    simp only [pS_r10]
    exact ⟨by omega, fun _ => ⟨hx, bool_qq hx (hq1 w e z d' hz)⟩, fun h => by omega⟩
  have lp : ∀ (k a' : Nat) (g : Fc → Bool) (x : Int), n - a' = k → a' ≤ n → x = (bif g (fcS S) then 1 else 0) → soP tx n (atP tx n 5) a = lpP n (rn (qB tx) n) (spW tx n 13) (evP tx n (atP tx n 5)) (fun g h F => g F || h F) a' g → zz_J zpX9_some_5 (zz_ret Q X 0 0) 5 [some (vr 0), some (vi x), none] [] (zm (pS S a' (-1) d) L) (0, 0) := by
    intro k
    induction k using Nat.strongRecOn with
    | ind k ih =>
      intro a' g x hk ha' hx e
      have hb := rn_le (q := qB tx) ha'
      have hx01 : x = 0 ∨ x = 1 := by rw [hx]; cases g (fcS S) <;> simp
      refine zwX9_some_5_5 ?_
      simp only [pS_r10, pS_r9, pS_r11, pS_9, mT_pS, pS_pS, fcS_pS]
      refine ⟨by omega, fun h => absurd trivial h, fun _ => ⟨tx, n, a', 13, rfl, by decide, hT, rfl, ha', fun c => ?_, fun c => ⟨hx01, ?_⟩⟩⟩
      · have hs : spW tx n 13 a' = some (rn (qB tx) n a' + 2) := by unfold spW; rw [if_pos c]; rfl
        have h1 := spW_in (by decide) _ _ ha' hs
        refine ⟨tx, n, rn (qB tx) n a' + 2, hT, rfl, trivial, h11, h1.2, hF, h13, h14, fun w ew z d' hz => ?_, fun c2 ec => ?_⟩
        · rw [lpP_l ha' hs ew] at e
          have hw := (hat _ h1.2).2 w ew
          refine ⟨⟨by omega, fun _ => tw w z 1 d' hw hz (Or.inr rfl) e, fun _ => tw w z 1 d' hw hz (Or.inr rfl) e⟩, ⟨by omega, fun _ => tw w z 1 d' hw hz (Or.inr rfl) e, fun _ => tw w z 0 d' hw hz (Or.inl rfl) e⟩⟩
        · have h2 := (hat _ h1.2).1 c2 ec
          rw [lpP_r (fun a b h1 h2 => spW_in (by decide) a b h1 h2) (fun a c h1 h2 => (hat a h1).1 c h2) ha' hs ec] at e
          refine ⟨fun t => ⟨by omega, fun x0 => ?_, fun x1 => ?_⟩, fun t => ⟨by omega, fun x0 => ?_, fun x1 => ?_⟩⟩
          · refine ih (n - c2.1) (by omega) c2.1 _ 1 rfl h2.2 ?_ e
            rw [t]; simp
          · refine ih (n - c2.1) (by omega) c2.1 _ 1 rfl h2.2 ?_ e
            rw [t]; simp
          · refine ih (n - c2.1) (by omega) c2.1 _ 1 rfl h2.2 ?_ e
            rw [t]; revert hx; cases g (fcS S) <;> simp; omega
          · refine ih (n - c2.1) (by omega) c2.1 _ 0 rfl h2.2 ?_ e
            rw [t]; revert hx; cases g (fcS S) <;> simp; omega
      · have hs : spW tx n 13 a' = none := by unfold spW; rw [if_neg (by rw [c]; decide)]
        rw [lpP_n ha' hs] at e
        have hq := hq2 _ e
        rw [hx]
        revert hq
        show (g (fcS S) = true → _) ∧ (g (fcS S) = false → _) → _
        cases g (fcS S) with
        | true => exact fun hq => hq.1 rfl
        | false => exact fun hq => hq.2 rfl
  refine zwX9_some_5_0 ⟨tx, n, a, hT, h9, h10, by rw [hd]; exact h11, ha, hF, h13, h14, fun w e z d' hz => ?_, fun c e => ?_⟩
  · have hw := (hat a ha).2 w e
    have e2 : soP tx n (atP tx n 5) a = .inl w := seqP_f e
    exact ⟨tw w z 1 d' hw hz (Or.inr rfl) e2, tw w z 0 d' hw hz (Or.inl rfl) e2⟩
  · have hc := (hat a ha).1 c e
    rw [hd]
    exact ⟨fun t => lp _ c.1 c.2 1 rfl hc.2 (by rw [t]; rfl) (seqP_s e), fun t => lp _ c.1 c.2 0 rfl hc.2 (by rw [t]; rfl) (seqP_s e)⟩
def zX9_atom_6 : zz_Sp := fun as M Q X => match as with
  | [.inr (.inr (some h_))] => bif Nat.beq h_ 0 && Nat.beq M.1.1 1 then (∃ (tx_ : Nat → Int) (n_ a_ : Nat), mT M.2.1 tx_ n_ ∧ M.2.1 0 9 = a_ ∧ M.2.1 0 10 = -1 ∧ M.2.1 0 11 = 0 ∧ a_ ≤ n_ ∧ bF (fcS M.2.1) ∧ (M.2.1 0 13 = 0 ∨ M.2.1 0 13 = 1) ∧ (M.2.1 0 14 = 0 ∨ M.2.1 0 14 = 1) ∧ (∀ w_ : Nat, atP tx_ n_ 6 a_ = .inl w_ → ∀ (z_ : Nat) (d_ : Int), z_ ≤ n_ + 6 → Q (some (vi 1)) (zm (pS M.2.1 z_ w_ d_) M.2.2.1) ∧ Q (some (vi 0)) (zm (pS M.2.1 z_ w_ d_) M.2.2.1)) ∧ (∀ c_ : Nat × (Fc → Bool), atP tx_ n_ 6 a_ = .inr c_ → (c_.2 (fcS M.2.1) = true → Q (some (vi 1)) (zm (pS M.2.1 c_.1 (-1) (M.2.1 0 11)) M.2.2.1)) ∧ (c_.2 (fcS M.2.1) = false → Q (some (vi 0)) (zm (pS M.2.1 c_.1 (-1) (M.2.1 0 11)) M.2.2.1)))) else False
  | _ => False

def zpX9_atom_6 : zz_P := [(0, zo_ald 1 0), (1, zo_get 4 8 0 10), (4, zo_c 5 (vi (-1))), (5, zo_ceq false true 8 10), (8, zo_c 9 (vi 0)), (9, zo_zret true), (10, zo_ald 11 0), (11, zo_callv 14 1 8 zX9_skip), (14, zo_ald 15 0), (15, zo_get 18 8 0 9), (18, zo_ist 19 1), (19, zo_ald 20 0), (20, zo_c 22 (vr 1009)), (22, zo_callv 25 2 8 zX9_has), (25, zo_ist 26 2), (26, zo_ild 27 2), (27, zo_ifne false 30 44), (30, zo_ald 31 0), (31, zo_c 33 (vi 40)), (33, zo_callv 36 2 8 zX9_isSign), (36, zo_zifne 39 44), (39, zo_ald 40 0), (40, zo_callv 43 1 8 zX9_plainCond), (43, zo_zret true), (44, zo_ald 45 0), (45, zo_get 48 8 0 11), (48, zo_c 50 (vi 6)), (50, zo_cne false true 53 60), (53, zo_ald 54 0), (54, zo_ild 55 1), (55, zo_callv 58 2 8 zX9_wrong), (58, zo_c 59 (vi 0)), (59, zo_zret true), (60, zo_ald 61 0), (61, zo_dup 62), (62, zo_get 65 8 0 11), (65, zo_c 66 (vi 1)), (66, zo_iadd 67), (67, zo_puti 70 8 11), (70, zo_c 71 (vi 0)), (71, zo_ist 72 3), (72, zo_ild 73 2), (73, zo_ifeq false 76 92), (76, zo_ald 77 0), (77, zo_callv 80 1 8 zX9_atom_5), (80, zo_zifne 83 87), (83, zo_c 84 (vi 1)), (84, zo_goto 88), (87, zo_c 88 (vi 0)), (88, zo_ist 89 3), (89, zo_goto 142), (92, zo_ald 93 0), (93, zo_dup 94), (94, zo_get 97 8 0 9), (97, zo_c 98 (vi 1)), (98, zo_iadd 99), (99, zo_puti 102 8 9), (102, zo_ald 103 0), (103, zo_callv 106 1 8 zX9_some_5), (106, zo_ist 107 3), (107, zo_ald 108 0), (108, zo_get 111 8 0 10), (111, zo_c 112 (vi (-1))), (112, zo_cne false true 115 132), (115, zo_ald 116 0), (116, zo_c 118 (vi 41)), (118, zo_callv 121 2 8 zX9_isSign), (121, zo_zifne 124 132), (124, zo_ald 125 0), (125, zo_ald 126 0), (126, zo_get 129 8 0 9), (129, zo_callv 132 2 8 zX9_wrong), (132, zo_ald 133 0), (133, zo_dup 134), (134, zo_get 137 8 0 9), (137, zo_c 138 (vi 1)), (138, zo_iadd 139), (139, zo_puti 142 8 9), (142, zo_ald 143 0), (143, zo_dup 144), (144, zo_get 147 8 0 11), (147, zo_c 148 (vi 1)), (148, zo_isub 149), (149, zo_puti 152 8 11), (152, zo_ild 153 3), (153, zo_zret false)]
theorem ztX9_atom_6 {C : mm_C} (G : mm_G C RX9 cX9_atom (some .boolean) 4 (mm_rm 27 0 0)) (hnh : mm_nh C) : zz_OKs C zpX9_atom_6 :=
  ⟨zz_of (ok_aload_n G dX9_atom_0 rfl rfl) (z_ald _ _),
   zz_of (ok_get G (nx := 4) (ci := 8) (kd := 0) (k := 10) (RX9, TX9, 32) rfl (by decide) rfl q1815 dX9_atom_1 rfl) (z_get _ _ _ _),
   zz_of (ok_iconst G (v := (zI (-1))) dX9_atom_4 (by decide) rfl) (z_cz 5 (-1)),
   zz_of (ok_ceq G dX9_atom_5 rfl rfl) (z_ceq _ _ _ _),
   zz_of (ok_iconst G (v := 0) dX9_atom_8 (by decide) rfl) (z_cn 9 0),
   zz_of (ok_zret G dX9_atom_9) (z_zret _),
   zz_of (ok_aload_n G dX9_atom_10 rfl rfl) (z_ald _ _),
   zz_of (ok_callv G hnh (zmX9_skip _ G.hst) rfl rfl (RX9, TX9, 32) rfl q1925 q1927 qs41 q93 q1928 (by decide +kernel) ⟨by decide, by decide⟩ dX9_atom_11 rfl) (z_callv _ _ _ _),
   zz_of (ok_aload_n G dX9_atom_14 rfl rfl) (z_ald _ _),
   zz_of (ok_get G (nx := 18) (ci := 8) (kd := 0) (k := 9) (RX9, TX9, 32) rfl (by decide) rfl q1814 dX9_atom_15 rfl) (z_get _ _ _ _),
   zz_of (ok_istore_n G dX9_atom_18 rfl rfl (by decide)) (z_ist _ _),
   zz_of (ok_aload_n G dX9_atom_19 rfl rfl) (z_ald _ _),
   zz_of (ok_lds G (tx := "not") (by decide +kernel) dX9_atom_20 rfl) (z_cr 22 1009),
   zz_of (ok_callv G hnh (zmX9_has _ G.hst) rfl rfl (RX9, TX9, 32) rfl q1942 q1944 qs45 q93 q1945 (by decide +kernel) ⟨by decide, by decide⟩ dX9_atom_22 rfl) (z_callv _ _ _ _),
   zz_of (ok_istore_n G dX9_atom_25 rfl rfl (by decide)) (z_ist _ _),
   zz_of (ok_iload_n G dX9_atom_26 rfl rfl) (z_ild _ _),
   zz_of (ok_ifne G dX9_atom_27 rfl rfl) (z_ifne _ _ _),
   zz_of (ok_aload_n G dX9_atom_30 rfl rfl) (z_ald _ _),
   zz_of (ok_bipush G (v := 40) dX9_atom_31 (by decide) rfl) (z_cn 33 40),
   zz_of (ok_callv G hnh (zmX9_isSign _ G.hst) rfl rfl (RX9, TX9, 32) rfl q1976 q1978 qs50 q93 q1979 (by decide +kernel) ⟨by decide, by decide⟩ dX9_atom_33 rfl) (z_callv _ _ _ _),
   zz_of (ok_ifne G dX9_atom_36 rfl rfl) (z_zifne _ _),
   zz_of (ok_aload_n G dX9_atom_39 rfl rfl) (z_ald _ _),
   zz_of (ok_callv G hnh (zmX9_plainCond _ G.hst) rfl rfl (RX9, TX9, 32) rfl q1980 q1982 qs51 q93 q1983 (by decide +kernel) ⟨by decide, by decide⟩ dX9_atom_40 rfl) (z_callv _ _ _ _),
   zz_of (ok_zret G dX9_atom_43) (z_zret _),
   zz_of (ok_aload_n G dX9_atom_44 rfl rfl) (z_ald _ _),
   zz_of (ok_get G (nx := 48) (ci := 8) (kd := 0) (k := 11) (RX9, TX9, 32) rfl (by decide) rfl q1816 dX9_atom_45 rfl) (z_get _ _ _ _),
   zz_of (ok_bipush G (v := 6) dX9_atom_48 (by decide) rfl) (z_cn 50 6),
   zz_of (ok_cne G dX9_atom_50 rfl rfl) (z_cne _ _ _ _),
   zz_of (ok_aload_n G dX9_atom_53 rfl rfl) (z_ald _ _),
   zz_of (ok_iload_n G dX9_atom_54 rfl rfl) (z_ild _ _),
   zz_of (ok_callv G hnh (zmX9_wrong _ G.hst) rfl rfl (RX9, TX9, 32) rfl q1933 q1935 qs43 q93 q1936 (by decide +kernel) ⟨by decide, by decide⟩ dX9_atom_55 rfl) (z_callv _ _ _ _),
   zz_of (ok_iconst G (v := 0) dX9_atom_58 (by decide) rfl) (z_cn 59 0),
   zz_of (ok_zret G dX9_atom_59) (z_zret _),
   zz_of (ok_aload_n G dX9_atom_60 rfl rfl) (z_ald _ _),
   zz_of (ok_dup G dX9_atom_61 rfl) (z_dup _),
   zz_of (ok_get G (nx := 65) (ci := 8) (kd := 0) (k := 11) (RX9, TX9, 32) rfl (by decide) rfl q1816 dX9_atom_62 rfl) (z_get _ _ _ _),
   zz_of (ok_iconst G (v := 1) dX9_atom_65 (by decide) rfl) (z_cn 66 1),
   zz_of (ok_iadd G dX9_atom_66 rfl) (z_iadd _),
   zz_of (ok_puti G (nx := 70) (idx := 129) (ci := 8) (k := 11) (RX9, TX9, 32) rfl (by decide) rfl (mm_pw G (ci := 8) (k := 11) (RX9, TX9, 32) rfl (by decide) rfl q1816 dX9_atom_67) rfl) (z_puti _ _ _),
   zz_of (ok_iconst G (v := 0) dX9_atom_70 (by decide) rfl) (z_cn 71 0),
   zz_of (ok_istore_n G dX9_atom_71 rfl rfl (by decide)) (z_ist _ _),
   zz_of (ok_iload_n G dX9_atom_72 rfl rfl) (z_ild _ _),
   zz_of (ok_ifeq G dX9_atom_73 rfl rfl) (z_ifeq _ _ _),
   zz_of (ok_aload_n G dX9_atom_76 rfl rfl) (z_ald _ _),
   zz_of (ok_callv G hnh (zmX9_atom_5 _ G.hst) rfl rfl (RX9, TX9, 32) rfl q1971 q1973 qs49 q93 q1974 (by decide +kernel) ⟨by decide, by decide⟩ dX9_atom_77 rfl) (z_callv _ _ _ _),
   zz_of (ok_ifne G dX9_atom_80 rfl rfl) (z_zifne _ _),
   zz_of (ok_iconst G (v := 1) dX9_atom_83 (by decide) rfl) (z_cn 84 1),
   zz_of (ok_goto G dX9_atom_84 rfl) (z_goto _),
   zz_of (ok_iconst G (v := 0) dX9_atom_87 (by decide) rfl) (z_cn 88 0),
   zz_of (ok_istore_n G dX9_atom_88 rfl rfl (by decide)) (z_ist _ _),
   zz_of (ok_goto G dX9_atom_89 rfl) (z_goto _),
   zz_of (ok_aload_n G dX9_atom_92 rfl rfl) (z_ald _ _),
   zz_of (ok_dup G dX9_atom_93 rfl) (z_dup _),
   zz_of (ok_get G (nx := 97) (ci := 8) (kd := 0) (k := 9) (RX9, TX9, 32) rfl (by decide) rfl q1814 dX9_atom_94 rfl) (z_get _ _ _ _),
   zz_of (ok_iconst G (v := 1) dX9_atom_97 (by decide) rfl) (z_cn 98 1),
   zz_of (ok_iadd G dX9_atom_98 rfl) (z_iadd _),
   zz_of (ok_puti G (nx := 102) (idx := 80) (ci := 8) (k := 9) (RX9, TX9, 32) rfl (by decide) rfl (mm_pw G (ci := 8) (k := 9) (RX9, TX9, 32) rfl (by decide) rfl q1814 dX9_atom_99) rfl) (z_puti _ _ _),
   zz_of (ok_aload_n G dX9_atom_102 rfl rfl) (z_ald _ _),
   zz_of (ok_callv G hnh (zmX9_some_5 _ G.hst) rfl rfl (RX9, TX9, 32) rfl q1963 q1965 qs47 q93 q1966 (by decide +kernel) ⟨by decide, by decide⟩ dX9_atom_103 rfl) (z_callv _ _ _ _),
   zz_of (ok_istore_n G dX9_atom_106 rfl rfl (by decide)) (z_ist _ _),
   zz_of (ok_aload_n G dX9_atom_107 rfl rfl) (z_ald _ _),
   zz_of (ok_get G (nx := 111) (ci := 8) (kd := 0) (k := 10) (RX9, TX9, 32) rfl (by decide) rfl q1815 dX9_atom_108 rfl) (z_get _ _ _ _),
   zz_of (ok_iconst G (v := (zI (-1))) dX9_atom_111 (by decide) rfl) (z_cz 112 (-1)),
   zz_of (ok_cne G dX9_atom_112 rfl rfl) (z_cne _ _ _ _),
   zz_of (ok_aload_n G dX9_atom_115 rfl rfl) (z_ald _ _),
   zz_of (ok_bipush G (v := 41) dX9_atom_116 (by decide) rfl) (z_cn 118 41),
   zz_of (ok_callv G hnh (zmX9_isSign _ G.hst) rfl rfl (RX9, TX9, 32) rfl q1976 q1978 qs50 q93 q1979 (by decide +kernel) ⟨by decide, by decide⟩ dX9_atom_118 rfl) (z_callv _ _ _ _),
   zz_of (ok_ifne G dX9_atom_121 rfl rfl) (z_zifne _ _),
   zz_of (ok_aload_n G dX9_atom_124 rfl rfl) (z_ald _ _),
   zz_of (ok_aload_n G dX9_atom_125 rfl rfl) (z_ald _ _),
   zz_of (ok_get G (nx := 129) (ci := 8) (kd := 0) (k := 9) (RX9, TX9, 32) rfl (by decide) rfl q1814 dX9_atom_126 rfl) (z_get _ _ _ _),
   zz_of (ok_callv G hnh (zmX9_wrong _ G.hst) rfl rfl (RX9, TX9, 32) rfl q1933 q1935 qs43 q93 q1936 (by decide +kernel) ⟨by decide, by decide⟩ dX9_atom_129 rfl) (z_callv _ _ _ _),
   zz_of (ok_aload_n G dX9_atom_132 rfl rfl) (z_ald _ _),
   zz_of (ok_dup G dX9_atom_133 rfl) (z_dup _),
   zz_of (ok_get G (nx := 137) (ci := 8) (kd := 0) (k := 9) (RX9, TX9, 32) rfl (by decide) rfl q1814 dX9_atom_134 rfl) (z_get _ _ _ _),
   zz_of (ok_iconst G (v := 1) dX9_atom_137 (by decide) rfl) (z_cn 138 1),
   zz_of (ok_iadd G dX9_atom_138 rfl) (z_iadd _),
   zz_of (ok_puti G (nx := 142) (idx := 80) (ci := 8) (k := 9) (RX9, TX9, 32) rfl (by decide) rfl (mm_pw G (ci := 8) (k := 9) (RX9, TX9, 32) rfl (by decide) rfl q1814 dX9_atom_139) rfl) (z_puti _ _ _),
   zz_of (ok_aload_n G dX9_atom_142 rfl rfl) (z_ald _ _),
   zz_of (ok_dup G dX9_atom_143 rfl) (z_dup _),
   zz_of (ok_get G (nx := 147) (ci := 8) (kd := 0) (k := 11) (RX9, TX9, 32) rfl (by decide) rfl q1816 dX9_atom_144 rfl) (z_get _ _ _ _),
   zz_of (ok_iconst G (v := 1) dX9_atom_147 (by decide) rfl) (z_cn 148 1),
   zz_of (ok_isub G dX9_atom_148 rfl) (z_isub _),
   zz_of (ok_puti G (nx := 152) (idx := 129) (ci := 8) (k := 11) (RX9, TX9, 32) rfl (by decide) rfl (mm_pw G (ci := 8) (k := 11) (RX9, TX9, 32) rfl (by decide) rfl q1816 dX9_atom_149) rfl) (z_puti _ _ _),
   zz_of (ok_iload_n G dX9_atom_152 rfl rfl) (z_ild _ _),
   zz_of (ok_zret G dX9_atom_153) (z_zret _), trivial⟩

theorem zwX9_atom_6_0 {Q : Option zv → zz_M → Prop} {X : Nat → zz_M → Prop} {S L : Nat → Nat → Int}  (h : R32 (S 0 10) ∧ (((S 0 10) = (-1) → (∃ (tx_1 : Nat → Int) (n_1 a_1 : Nat), mT S tx_1 n_1 ∧ S 0 9 = a_1 ∧ a_1 ≤ n_1 + 1000 ∧ ((∃ (tx_2 : Nat → Int) (n_2 a_2 j_2 : Nat), 1009 = 1000 + j_2 ∧ j_2 < 18 ∧ mT (mm_up S 0 9 ((rn (qB tx_1) n_1 a_1 : Nat) : Int)) tx_2 n_2 ∧ (mm_up S 0 9 ((rn (qB tx_1) n_1 a_1 : Nat) : Int)) 0 9 = a_2 ∧ a_2 ≤ n_2 ∧ (hsW tx_2 n_2 (rn (qB tx_2) n_2 a_2) (wo j_2) = true → (zz_J zpX9_atom_6 (zz_ret Q X 0 0) 26 [some (vr 0), some (vi ((rn (qB tx_1) n_1 a_1 : Nat) : Int)), some (vi 1), none] [] (zm (mm_up (mm_up S 0 9 ((rn (qB tx_1) n_1 a_1 : Nat) : Int)) 0 9 ((rn (qB tx_2) n_2 a_2 + (wo j_2).length : Nat) : Int)) L) (0, 0))) ∧ (hsW tx_2 n_2 (rn (qB tx_2) n_2 a_2) (wo j_2) = false → (zz_J zpX9_atom_6 (zz_ret Q X 0 0) 26 [some (vr 0), some (vi ((rn (qB tx_1) n_1 a_1 : Nat) : Int)), some (vi 0), none] [] (zm (mm_up (mm_up S 0 9 ((rn (qB tx_1) n_1 a_1 : Nat) : Int)) 0 9 ((rn (qB tx_2) n_2 a_2 : Nat) : Int)) L) (0, 0))))))) ∧ (¬ (S 0 10) = (-1) → Q (some (vi 0)) (zm S L)))) : zz_J zpX9_atom_6 (zz_ret Q X 0 0) 0 [some (vr 0), none, none, none] [] (zm S L) (0, 0) := zz_J.go [(26, [3]), (44, [3]), (107, [1, 2]), (132, [1, 2]), (142, [1, 2])] 400 h
theorem zwX9_atom_6_26 {Q : Option zv → zz_M → Prop} {X : Nat → zz_M → Prop} {S L : Nat → Nat → Int} {x1 : Int} {x2 : Int} (h : R32 x2 ∧ ((¬ x2 = 0 → zz_J zpX9_atom_6 (zz_ret Q X 0 0) 44 [some (vr 0), some (vi x1), some (vi x2), none] [] (zm S L) (0, 0)) ∧ (x2 = 0 → (∃ (tx_1 : Nat → Int) (n_1 a_1 : Nat), R32 (40 : Int) ∧ mT S tx_1 n_1 ∧ S 0 9 = a_1 ∧ a_1 ≤ n_1 ∧ (isSg tx_1 n_1 (rn (qB tx_1) n_1 a_1) (40 : Int) = true → (zz_J zpX9_atom_6 (zz_ret Q X 0 0) 44 [some (vr 0), some (vi x1), some (vi x2), none] [] (zm (mm_up S 0 9 ((rn (qB tx_1) n_1 a_1 : Nat) : Int)) L) (0, 0))) ∧ (isSg tx_1 n_1 (rn (qB tx_1) n_1 a_1) (40 : Int) = false → ((∃ (tx_2 : Nat → Int) (n_2 a_2 : Nat), mT (mm_up S 0 9 ((rn (qB tx_1) n_1 a_1 : Nat) : Int)) tx_2 n_2 ∧ (mm_up S 0 9 ((rn (qB tx_1) n_1 a_1 : Nat) : Int)) 0 9 = a_2 ∧ (mm_up S 0 9 ((rn (qB tx_1) n_1 a_1 : Nat) : Int)) 0 10 = -1 ∧ a_2 ≤ n_2 ∧ bF (fcS (mm_up S 0 9 ((rn (qB tx_1) n_1 a_1 : Nat) : Int))) ∧ ((mm_up S 0 9 ((rn (qB tx_1) n_1 a_1 : Nat) : Int)) 0 13 = 0 ∨ (mm_up S 0 9 ((rn (qB tx_1) n_1 a_1 : Nat) : Int)) 0 13 = 1) ∧ ((mm_up S 0 9 ((rn (qB tx_1) n_1 a_1 : Nat) : Int)) 0 14 = 0 ∨ (mm_up S 0 9 ((rn (qB tx_1) n_1 a_1 : Nat) : Int)) 0 14 = 1) ∧ (∀ w_2 : Nat, plP tx_2 n_2 a_2 = .inl w_2 → ∀ (z_2 : Nat) (d_2 : Int), z_2 ≤ n_2 → (Q (some (vi 1)) (zm (pS (mm_up S 0 9 ((rn (qB tx_1) n_1 a_1 : Nat) : Int)) z_2 w_2 d_2) L)) ∧ (Q (some (vi 0)) (zm (pS (mm_up S 0 9 ((rn (qB tx_1) n_1 a_1 : Nat) : Int)) z_2 w_2 d_2) L))) ∧ (∀ c_2 : Nat × (Fc → Bool), plP tx_2 n_2 a_2 = .inr c_2 → (c_2.2 (fcS (mm_up S 0 9 ((rn (qB tx_1) n_1 a_1 : Nat) : Int))) = true → (Q (some (vi 1)) (zm (pS (mm_up S 0 9 ((rn (qB tx_1) n_1 a_1 : Nat) : Int)) c_2.1 (-1) ((mm_up S 0 9 ((rn (qB tx_1) n_1 a_1 : Nat) : Int)) 0 11)) L))) ∧ (c_2.2 (fcS (mm_up S 0 9 ((rn (qB tx_1) n_1 a_1 : Nat) : Int))) = false → (Q (some (vi 0)) (zm (pS (mm_up S 0 9 ((rn (qB tx_1) n_1 a_1 : Nat) : Int)) c_2.1 (-1) ((mm_up S 0 9 ((rn (qB tx_1) n_1 a_1 : Nat) : Int)) 0 11)) L))))))))))) : zz_J zpX9_atom_6 (zz_ret Q X 0 0) 26 [some (vr 0), some (vi x1), some (vi x2), none] [] (zm S L) (0, 0) := zz_J.go [(26, [3]), (44, [3]), (107, [1, 2]), (132, [1, 2]), (142, [1, 2])] 400 h
theorem zwX9_atom_6_44 {Q : Option zv → zz_M → Prop} {X : Nat → zz_M → Prop} {S L : Nat → Nat → Int} {x1 : Int} {x2 : Int} (h : R32 (S 0 11) ∧ ((¬ (S 0 11) = 6 → R32 x2 ∧ ((x2 = 0 → (∃ (tx_1 : Nat → Int) (n_1 a_1 : Nat), mT (mm_up (mm_up S 0 11 ((S 0 11) + 1)) 0 9 ((S 0 9) + 1)) tx_1 n_1 ∧ (mm_up (mm_up S 0 11 ((S 0 11) + 1)) 0 9 ((S 0 9) + 1)) 0 9 = a_1 ∧ (mm_up (mm_up S 0 11 ((S 0 11) + 1)) 0 9 ((S 0 9) + 1)) 0 10 = -1 ∧ (mm_up (mm_up S 0 11 ((S 0 11) + 1)) 0 9 ((S 0 9) + 1)) 0 11 = 1 ∧ a_1 ≤ n_1 ∧ bF (fcS (mm_up (mm_up S 0 11 ((S 0 11) + 1)) 0 9 ((S 0 9) + 1))) ∧ ((mm_up (mm_up S 0 11 ((S 0 11) + 1)) 0 9 ((S 0 9) + 1)) 0 13 = 0 ∨ (mm_up (mm_up S 0 11 ((S 0 11) + 1)) 0 9 ((S 0 9) + 1)) 0 13 = 1) ∧ ((mm_up (mm_up S 0 11 ((S 0 11) + 1)) 0 9 ((S 0 9) + 1)) 0 14 = 0 ∨ (mm_up (mm_up S 0 11 ((S 0 11) + 1)) 0 9 ((S 0 9) + 1)) 0 14 = 1) ∧ (∀ w_1 : Nat, soP tx_1 n_1 (atP tx_1 n_1 5) a_1 = .inl w_1 → ∀ (z_1 : Nat) (d_1 : Int), z_1 ≤ n_1 + 5 → (zz_J zpX9_atom_6 (zz_ret Q X 0 0) 107 [some (vr 0), none, none, some (vi 1)] [] (zm (pS (mm_up (mm_up S 0 11 ((S 0 11) + 1)) 0 9 ((S 0 9) + 1)) z_1 w_1 d_1) L) (0, 0)) ∧ (zz_J zpX9_atom_6 (zz_ret Q X 0 0) 107 [some (vr 0), none, none, some (vi 0)] [] (zm (pS (mm_up (mm_up S 0 11 ((S 0 11) + 1)) 0 9 ((S 0 9) + 1)) z_1 w_1 d_1) L) (0, 0))) ∧ (∀ c_1 : Nat × (Fc → Bool), soP tx_1 n_1 (atP tx_1 n_1 5) a_1 = .inr c_1 → (c_1.2 (fcS (mm_up (mm_up S 0 11 ((S 0 11) + 1)) 0 9 ((S 0 9) + 1))) = true → (zz_J zpX9_atom_6 (zz_ret Q X 0 0) 107 [some (vr 0), none, none, some (vi 1)] [] (zm (pS (mm_up (mm_up S 0 11 ((S 0 11) + 1)) 0 9 ((S 0 9) + 1)) c_1.1 (-1) ((mm_up (mm_up S 0 11 ((S 0 11) + 1)) 0 9 ((S 0 9) + 1)) 0 11)) L) (0, 0))) ∧ (c_1.2 (fcS (mm_up (mm_up S 0 11 ((S 0 11) + 1)) 0 9 ((S 0 9) + 1))) = false → (zz_J zpX9_atom_6 (zz_ret Q X 0 0) 107 [some (vr 0), none, none, some (vi 0)] [] (zm (pS (mm_up (mm_up S 0 11 ((S 0 11) + 1)) 0 9 ((S 0 9) + 1)) c_1.1 (-1) ((mm_up (mm_up S 0 11 ((S 0 11) + 1)) 0 9 ((S 0 9) + 1)) 0 11)) L) (0, 0)))))) ∧ (¬ x2 = 0 → (∃ (tx_2 : Nat → Int) (n_2 a_2 : Nat), mT (mm_up S 0 11 ((S 0 11) + 1)) tx_2 n_2 ∧ (mm_up S 0 11 ((S 0 11) + 1)) 0 9 = a_2 ∧ (mm_up S 0 11 ((S 0 11) + 1)) 0 10 = -1 ∧ (mm_up S 0 11 ((S 0 11) + 1)) 0 11 = 1 ∧ a_2 ≤ n_2 ∧ bF (fcS (mm_up S 0 11 ((S 0 11) + 1))) ∧ ((mm_up S 0 11 ((S 0 11) + 1)) 0 13 = 0 ∨ (mm_up S 0 11 ((S 0 11) + 1)) 0 13 = 1) ∧ ((mm_up S 0 11 ((S 0 11) + 1)) 0 14 = 0 ∨ (mm_up S 0 11 ((S 0 11) + 1)) 0 14 = 1) ∧ (∀ w_2 : Nat, atP tx_2 n_2 5 a_2 = .inl w_2 → ∀ (z_2 : Nat) (d_2 : Int), z_2 ≤ n_2 + 5 → (zz_J zpX9_atom_6 (zz_ret Q X 0 0) 142 [some (vr 0), none, none, some (vi 0)] [] (zm (pS (mm_up S 0 11 ((S 0 11) + 1)) z_2 w_2 d_2) L) (0, 0)) ∧ (zz_J zpX9_atom_6 (zz_ret Q X 0 0) 142 [some (vr 0), none, none, some (vi 1)] [] (zm (pS (mm_up S 0 11 ((S 0 11) + 1)) z_2 w_2 d_2) L) (0, 0))) ∧ (∀ c_2 : Nat × (Fc → Bool), atP tx_2 n_2 5 a_2 = .inr c_2 → (c_2.2 (fcS (mm_up S 0 11 ((S 0 11) + 1))) = true → (zz_J zpX9_atom_6 (zz_ret Q X 0 0) 142 [some (vr 0), none, none, some (vi 0)] [] (zm (pS (mm_up S 0 11 ((S 0 11) + 1)) c_2.1 (-1) ((mm_up S 0 11 ((S 0 11) + 1)) 0 11)) L) (0, 0))) ∧ (c_2.2 (fcS (mm_up S 0 11 ((S 0 11) + 1))) = false → (zz_J zpX9_atom_6 (zz_ret Q X 0 0) 142 [some (vr 0), none, none, some (vi 1)] [] (zm (pS (mm_up S 0 11 ((S 0 11) + 1)) c_2.1 (-1) ((mm_up S 0 11 ((S 0 11) + 1)) 0 11)) L) (0, 0)))))))) ∧ ((S 0 11) = 6 → (R32 (S 0 10) ∧ (Q (some (vi 0)) (zm (mm_up S 0 10 (wrF (S 0 10) x1)) L)))))) : zz_J zpX9_atom_6 (zz_ret Q X 0 0) 44 [some (vr 0), some (vi x1), some (vi x2), none] [] (zm S L) (0, 0) := zz_J.go [(26, [3]), (44, [3]), (107, [1, 2]), (132, [1, 2]), (142, [1, 2])] 400 h
theorem zwX9_atom_6_107 {Q : Option zv → zz_M → Prop} {X : Nat → zz_M → Prop} {S L : Nat → Nat → Int} {x3 : Int} (h : R32 (S 0 10) ∧ ((¬ (S 0 10) = (-1) → zz_J zpX9_atom_6 (zz_ret Q X 0 0) 132 [some (vr 0), none, none, some (vi x3)] [] (zm S L) (0, 0)) ∧ ((S 0 10) = (-1) → (∃ (tx_1 : Nat → Int) (n_1 a_1 : Nat), R32 (41 : Int) ∧ mT S tx_1 n_1 ∧ S 0 9 = a_1 ∧ a_1 ≤ n_1 ∧ (isSg tx_1 n_1 (rn (qB tx_1) n_1 a_1) (41 : Int) = true → (zz_J zpX9_atom_6 (zz_ret Q X 0 0) 132 [some (vr 0), none, none, some (vi x3)] [] (zm (mm_up S 0 9 ((rn (qB tx_1) n_1 a_1 : Nat) : Int)) L) (0, 0))) ∧ (isSg tx_1 n_1 (rn (qB tx_1) n_1 a_1) (41 : Int) = false → ((R32 ((mm_up S 0 9 ((rn (qB tx_1) n_1 a_1 : Nat) : Int)) 0 10) ∧ (zz_J zpX9_atom_6 (zz_ret Q X 0 0) 132 [some (vr 0), none, none, some (vi x3)] [] (zm (mm_up (mm_up S 0 9 ((rn (qB tx_1) n_1 a_1 : Nat) : Int)) 0 10 (wrF ((mm_up S 0 9 ((rn (qB tx_1) n_1 a_1 : Nat) : Int)) 0 10) ((rn (qB tx_1) n_1 a_1 : Nat) : Int))) L) (0, 0))))))))) : zz_J zpX9_atom_6 (zz_ret Q X 0 0) 107 [some (vr 0), none, none, some (vi x3)] [] (zm S L) (0, 0) := zz_J.go [(26, [3]), (44, [3]), (107, [1, 2]), (132, [1, 2]), (142, [1, 2])] 400 h
theorem zwX9_atom_6_132 {Q : Option zv → zz_M → Prop} {X : Nat → zz_M → Prop} {S L : Nat → Nat → Int} {x3 : Int} (h : zz_J zpX9_atom_6 (zz_ret Q X 0 0) 142 [some (vr 0), none, none, some (vi x3)] [] (zm (mm_up S 0 9 ((S 0 9) + 1)) L) (0, 0)) : zz_J zpX9_atom_6 (zz_ret Q X 0 0) 132 [some (vr 0), none, none, some (vi x3)] [] (zm S L) (0, 0) := zz_J.go [(26, [3]), (44, [3]), (107, [1, 2]), (132, [1, 2]), (142, [1, 2])] 400 h
theorem zwX9_atom_6_142 {Q : Option zv → zz_M → Prop} {X : Nat → zz_M → Prop} {S L : Nat → Nat → Int} {x3 : Int} (h : (x3 = 0 ∨ x3 = 1) ∧ (Q (some (vi x3)) (zm (mm_up S 0 11 ((S 0 11) - 1)) L))) : zz_J zpX9_atom_6 (zz_ret Q X 0 0) 142 [some (vr 0), none, none, some (vi x3)] [] (zm S L) (0, 0) := zz_J.go [(26, [3]), (44, [3]), (107, [1, 2]), (132, [1, 2]), (142, [1, 2])] 400 h

theorem zmX9_atom_6 (l : Launch) (hl : l.stackTraces = false) : mm_Spec l yX9_atom (ws_ yX9_atom cX9_atom 4 (some .boolean)) (mm_rm 27 0 0) (zE zX9_atom_6) := by
  refine zz_Met.J hl (by decide) (fun C G hnh => ztX9_atom_6 G hnh) ?_
  rintro as ⟨⟨t_, f⟩, S, L, P⟩ Q X h
  unfold zX9_atom_6 at h
  split at h
  rotate_left
  · exact h.elim
  rename_i h_
  obtain ⟨e1_, e2_, h⟩ := mm_and2 h (fun q => q)
  cases mm_beq e1_
  cases mm_beq e2_
  try dsimp only at h
  refine ⟨rfl, ?_⟩
  refine zz_Jev (M' := zm S L) rfl rfl rfl ?_
  obtain ⟨tx, n, a, hT, h9, h10, h11, ha, hF, h13, h14, hq1, hq2⟩ := h
  have hn := hT.1
  have hpw : ∀ a w, a ≤ n → ptP tx n a = .inl w → w ≤ n := fun a w h e => ptP_w h e
  generalize hd : S 0 11 = d at h11 hq2
  have hS : S = pS S a (-1) d := by rw [← hd]; exact pS_of h9 h10
  rw [hS]
  have hb := rn_le (q := qB tx) ha
  have hbb := rn_rn (q := qB tx) ha
  have hat := atP_ok hT.2.2.1 hpw 5
  have hso := soP_ok (tx := tx) hat
  have t142 : ∀ (z : Nat) (w d' x : Int), (x = 0 ∨ x = 1) → Q (some (vi x)) (zm (pS S z w (d' - 1)) L) → zz_J zpX9_atom_6 (zz_ret Q X 0 0) 142 [some (vr 0), none, none, some (vi x)] [] (zm (pS S z w d') L) (0, 0) := by
    intro z w d' x hx hq
    refine zwX9_atom_6_142 ?_
    simp only [pS_r11, pS_11]
    exact ⟨hx, hq⟩
  have t132 : ∀ (z : Nat) (w d' x : Int), (x = 0 ∨ x = 1) → Q (some (vi x)) (zm (pS S (z + 1 : Nat) w (d' - 1)) L) → zz_J zpX9_atom_6 (zz_ret Q X 0 0) 132 [some (vr 0), none, none, some (vi x)] [] (zm (pS S z w d') L) (0, 0) := by
    intro z w d' x hx hq
    refine zwX9_atom_6_132 ?_
    simp only [pS_r9, pS_9]
    exact t142 (z + 1) w d' x hx hq
  -- not
  have t44n : hsW tx n (rn (qB tx) n a) (wo 9) = true → zz_J zpX9_atom_6 (zz_ret Q X 0 0) 44 [some (vr 0), some (vi (rn (qB tx) n a : Nat)), some (vi 1), none] [] (zm (pS S (rn (qB tx) n a + 3 : Nat) (-1) d) L) (0, 0) := by
    intro c
    have h3 : rn (qB tx) n a + 3 ≤ n := hsW_le hb c
    refine zwX9_atom_6_44 ?_
    simp only [pS_r10, pS_r9, pS_r11, pS_11, mT_pS, pS_pS, fcS_pS]
    refine ⟨by omega, fun _ => ⟨by omega, fun h => absurd h (by decide), fun _ => ⟨tx, n, rn (qB tx) n a + 3, hT, rfl, trivial, by omega, h3, hF, h13, h14, fun w ew z d' hz => ?_, fun c2 ec => ?_⟩⟩, fun h => by omega⟩
    · have e : atP tx n 6 a = .inl w := by unfold atP; rw [if_pos c, ew]
      have hq := hq1 w e z (d' - 1) (by omega)
      exact ⟨t142 z w d' 0 (Or.inl rfl) hq.2, t142 z w d' 1 (Or.inr rfl) hq.1⟩
    · have e : atP tx n 6 a = .inr (c2.1, fun F => !c2.2 F) := by unfold atP; rw [if_pos c, ec]
      have hq := hq2 _ e
      have ed : d + 1 - 1 = d := by omega
      refine ⟨fun t => t142 _ _ _ 0 (Or.inl rfl) ?_, fun t => t142 _ _ _ 1 (Or.inr rfl) ?_⟩
      · rw [ed]; exact hq.2 (by show (!c2.2 (fcS S)) = false; rw [t]; rfl)
      · rw [ed]; exact hq.1 (by show (!c2.2 (fcS S)) = true; rw [t]; rfl)
  -- a bracket
  have t44b : hsW tx n (rn (qB tx) n a) (wo 9) = false → isSg tx n (rn (qB tx) n a) 40 = true → zz_J zpX9_atom_6 (zz_ret Q X 0 0) 44 [some (vr 0), some (vi (rn (qB tx) n a : Nat)), some (vi 0), none] [] (zm (pS S (rn (qB tx) n a : Nat) (-1) d) L) (0, 0) := by
    intro c c1
    have h3 := (isSg_t.mp c1).1
    have eat : ∀ q, soP tx n (atP tx n 5) (rn (qB tx) n a + 1) = q → atP tx n 6 a = (match q with
      | .inl w => .inl w
      | .inr c => if isSg tx n (rn (qB tx) n c.1) 41 = true then .inr (rn (qB tx) n c.1 + 1, c.2) else .inl (rn (qB tx) n c.1)) := by
      intro q hq
      unfold atP
      rw [if_neg (by rw [c]; decide), if_pos c1, hq]
      cases q <;> rfl
    refine zwX9_atom_6_44 ?_
    simp only [pS_r10, pS_r9, pS_r11, pS_11, pS_9, mT_pS, pS_pS, fcS_pS]
    refine ⟨by omega, fun _ => ⟨by omega, fun _ => ⟨tx, n, rn (qB tx) n a + 1, hT, rfl, trivial, by omega, by omega, hF, h13, h14, fun w ew z d' hz => ?_, fun c2 ec => ?_⟩, fun h => absurd trivial h⟩, fun h => by omega⟩
    · have e := eat _ ew
      have hw := (hso _ (by omega)).2 w ew
      have hq := hq1 w e (z + 1) (d' - 1) (by omega)
      have f107 : ∀ x : Int, (x = 0 ∨ x = 1) → Q (some (vi x)) (zm (pS S (z + 1 : Nat) w (d' - 1)) L) → zz_J zpX9_atom_6 (zz_ret Q X 0 0) 107 [some (vr 0), none, none, some (vi x)] [] (zm (pS S z w d') L) (0, 0) := by
        intro x hx hqx
        refine zwX9_atom_6_107 ?_
        simp only [pS_r10]
        exact ⟨by omega, fun _ => t132 z w d' x hx hqx, fun h => by omega⟩
      exact ⟨f107 1 (Or.inr rfl) hq.1, f107 0 (Or.inl rfl) hq.2⟩
    · have e := eat _ ec
      have hc := (hso _ (by omega)).1 c2 ec
      have g2 := rn_le (q := qB tx) hc.2
      have f107 : ∀ x : Int, (x = 0 ∨ x = 1) → (x = 1 → c2.2 (fcS S) = true) → (x = 0 → c2.2 (fcS S) = false) → zz_J zpX9_atom_6 (zz_ret Q X 0 0) 107 [some (vr 0), none, none, some (vi x)] [] (zm (pS S c2.1 (-1) (d + 1)) L) (0, 0) := by
        intro x hx x1 x0
        have ed : d + 1 - 1 = d := by omega
        refine zwX9_atom_6_107 ?_
        simp only [pS_r10, pS_r9, pS_r11, pS_11, pS_9, pS_10, mT_pS, pS_pS, fcS_pS, wrF, if_true]
        refine ⟨by omega, fun h => absurd trivial h, fun _ => ⟨tx, n, c2.1, by omega, hT, rfl, hc.2, fun s => ?_, fun s => ⟨by omega, ?_⟩⟩⟩
        · have e2 : atP tx n 6 a = .inr (rn (qB tx) n c2.1 + 1, c2.2) := by rw [e]; exact if_pos s
          have hq := hq2 _ e2
          refine t132 _ _ _ x hx ?_
          rw [ed]
          rcases hx with h | h
          · rw [h]; exact hq.2 (x0 h)
          · rw [h]; exact hq.1 (x1 h)
        · have e2 : atP tx n 6 a = .inl (rn (qB tx) n c2.1) := by rw [e]; exact if_neg (by rw [s]; decide)
          refine t132 _ _ _ x hx ?_
          rw [ed]
          exact bool_qq hx (hq1 _ e2 (rn (qB tx) n c2.1 + 1) d (by omega))
      exact ⟨fun t => f107 1 (Or.inr rfl) (fun _ => t) (fun h => absurd h (by decide)), fun t => f107 0 (Or.inl rfl) (fun h => absurd h (by decide)) (fun _ => t)⟩
  have ats : plP tx n (rn (qB tx) n a) = plP tx n a := by unfold plP; rw [hbb]
  refine zwX9_atom_6_0 ?_
  simp only [pS_r10, pS_r9, pS_r11, pS_9, mT_pS, pS_pS, fcS_pS]
  refine ⟨by omega, fun _ => ⟨tx, n, a, hT, rfl, by omega, tx, n, rn (qB tx) n a, 9, rfl, by decide, hT, rfl, hb, ?_⟩, fun h => absurd trivial h⟩
  rw [hbb]
  refine ⟨fun c => ?_, fun c => ?_⟩
  · exact zwX9_atom_6_26 ⟨by omega, fun _ => t44n c, fun h => by omega⟩
  · refine zwX9_atom_6_26 ?_
    simp only [pS_r10, pS_r9, pS_r11, pS_9, mT_pS, pS_pS, fcS_pS]
    refine ⟨by omega, fun h => absurd trivial h, fun _ => ⟨tx, n, rn (qB tx) n a, by omega, hT, rfl, hb, ?_⟩⟩
    rw [hbb]
    refine ⟨fun c2 => t44b c c2, fun c2 => ⟨tx, n, rn (qB tx) n a, hT, rfl, trivial, hb, hF, h13, h14, fun w ew z d' hz => ?_, fun c3 ec => ?_⟩⟩
    · rw [ats] at ew
      exact hq1 w (by unfold atP; rw [if_neg (by rw [c]; decide), if_neg (by rw [c2]; decide)]; exact ew) z d' (by omega)
    · rw [ats] at ec
      exact hq2 c3 (by unfold atP; rw [if_neg (by rw [c]; decide), if_neg (by rw [c2]; decide)]; exact ec)
def zX9_every_6 : zz_Sp := fun as M Q X => match as with
  | [.inr (.inr (some h_))] => bif Nat.beq h_ 0 && Nat.beq M.1.1 1 then (∃ (tx_ : Nat → Int) (n_ a_ : Nat), mT M.2.1 tx_ n_ ∧ M.2.1 0 9 = a_ ∧ M.2.1 0 10 = -1 ∧ M.2.1 0 11 = 0 ∧ a_ ≤ n_ ∧ bF (fcS M.2.1) ∧ (M.2.1 0 13 = 0 ∨ M.2.1 0 13 = 1) ∧ (M.2.1 0 14 = 0 ∨ M.2.1 0 14 = 1) ∧ (∀ w_ : Nat, evP tx_ n_ (atP tx_ n_ 6) a_ = .inl w_ → ∀ (z_ : Nat) (d_ : Int), z_ ≤ n_ + 6 → Q (some (vi 1)) (zm (pS M.2.1 z_ w_ d_) M.2.2.1) ∧ Q (some (vi 0)) (zm (pS M.2.1 z_ w_ d_) M.2.2.1)) ∧ (∀ c_ : Nat × (Fc → Bool), evP tx_ n_ (atP tx_ n_ 6) a_ = .inr c_ → (c_.2 (fcS M.2.1) = true → Q (some (vi 1)) (zm (pS M.2.1 c_.1 (-1) (M.2.1 0 11)) M.2.2.1)) ∧ (c_.2 (fcS M.2.1) = false → Q (some (vi 0)) (zm (pS M.2.1 c_.1 (-1) (M.2.1 0 11)) M.2.2.1)))) else False
  | _ => False

def zpX9_every_6 : zz_P := [(0, zo_ald 1 0), (1, zo_callv 4 1 8 zX9_atom_6), (4, zo_ist 5 1), (5, zo_ald 6 0), (6, zo_get 9 8 0 10), (9, zo_c 10 (vi (-1))), (10, zo_cne false true 13 44), (13, zo_ald 14 0), (14, zo_c 16 (vr 1012)), (16, zo_callv 19 2 8 zX9_has), (19, zo_zifeq 22 44), (22, zo_ald 23 0), (23, zo_callv 26 1 8 zX9_atom_6), (26, zo_ist 27 2), (27, zo_ild 28 1), (28, zo_ifeq false 31 39), (31, zo_ild 32 2), (32, zo_zifeq 35 39), (35, zo_c 36 (vi 1)), (36, zo_goto 40), (39, zo_c 40 (vi 0)), (40, zo_ist 41 1), (41, zo_goto 5), (44, zo_ild 45 1), (45, zo_zret false)]
theorem ztX9_every_6 {C : mm_C} (G : mm_G C RX9 cX9_every (some .boolean) 3 (mm_rm 28 0 0)) (hnh : mm_nh C) : zz_OKs C zpX9_every_6 :=
  ⟨zz_of (ok_aload_n G dX9_every_0 rfl rfl) (z_ald _ _),
   zz_of (ok_callv G hnh (zmX9_atom_6 _ G.hst) rfl rfl (RX9, TX9, 32) rfl q1971 q1973 qs49 q93 q1974 (by decide +kernel) ⟨by decide, by decide⟩ dX9_every_1 rfl) (z_callv _ _ _ _),
   zz_of (ok_istore_n G dX9_every_4 rfl rfl (by decide)) (z_ist _ _),
   zz_of (ok_aload_n G dX9_every_5 rfl rfl) (z_ald _ _),
   zz_of (ok_get G (nx := 9) (ci := 8) (kd := 0) (k := 10) (RX9, TX9, 32) rfl (by decide) rfl q1815 dX9_every_6 rfl) (z_get _ _ _ _),
   zz_of (ok_iconst G (v := (zI (-1))) dX9_every_9 (by decide) rfl) (z_cz 10 (-1)),
   zz_of (ok_cne G dX9_every_10 rfl rfl) (z_cne _ _ _ _),
   zz_of (ok_aload_n G dX9_every_13 rfl rfl) (z_ald _ _),
   zz_of (ok_lds G (tx := "and") (by decide +kernel) dX9_every_14 rfl) (z_cr 16 1012),
   zz_of (ok_callv G hnh (zmX9_has _ G.hst) rfl rfl (RX9, TX9, 32) rfl q1942 q1944 qs45 q93 q1945 (by decide +kernel) ⟨by decide, by decide⟩ dX9_every_16 rfl) (z_callv _ _ _ _),
   zz_of (ok_ifeq G dX9_every_19 rfl rfl) (z_zifeq _ _),
   zz_of (ok_aload_n G dX9_every_22 rfl rfl) (z_ald _ _),
   zz_of (ok_callv G hnh (zmX9_atom_6 _ G.hst) rfl rfl (RX9, TX9, 32) rfl q1971 q1973 qs49 q93 q1974 (by decide +kernel) ⟨by decide, by decide⟩ dX9_every_23 rfl) (z_callv _ _ _ _),
   zz_of (ok_istore_n G dX9_every_26 rfl rfl (by decide)) (z_ist _ _),
   zz_of (ok_iload_n G dX9_every_27 rfl rfl) (z_ild _ _),
   zz_of (ok_ifeq G dX9_every_28 rfl rfl) (z_ifeq _ _ _),
   zz_of (ok_iload_n G dX9_every_31 rfl rfl) (z_ild _ _),
   zz_of (ok_ifeq G dX9_every_32 rfl rfl) (z_zifeq _ _),
   zz_of (ok_iconst G (v := 1) dX9_every_35 (by decide) rfl) (z_cn 36 1),
   zz_of (ok_goto G dX9_every_36 rfl) (z_goto _),
   zz_of (ok_iconst G (v := 0) dX9_every_39 (by decide) rfl) (z_cn 40 0),
   zz_of (ok_istore_n G dX9_every_40 rfl rfl (by decide)) (z_ist _ _),
   zz_of (ok_goto G dX9_every_41 rfl) (z_goto _),
   zz_of (ok_iload_n G dX9_every_44 rfl rfl) (z_ild _ _),
   zz_of (ok_zret G dX9_every_45) (z_zret _), trivial⟩

theorem zwX9_every_6_0 {Q : Option zv → zz_M → Prop} {X : Nat → zz_M → Prop} {S L : Nat → Nat → Int}  (h : (∃ (tx_1 : Nat → Int) (n_1 a_1 : Nat), mT S tx_1 n_1 ∧ S 0 9 = a_1 ∧ S 0 10 = -1 ∧ S 0 11 = 0 ∧ a_1 ≤ n_1 ∧ bF (fcS S) ∧ (S 0 13 = 0 ∨ S 0 13 = 1) ∧ (S 0 14 = 0 ∨ S 0 14 = 1) ∧ (∀ w_1 : Nat, atP tx_1 n_1 6 a_1 = .inl w_1 → ∀ (z_1 : Nat) (d_1 : Int), z_1 ≤ n_1 + 6 → (zz_J zpX9_every_6 (zz_ret Q X 0 0) 5 [some (vr 0), some (vi 1), none] [] (zm (pS S z_1 w_1 d_1) L) (0, 0)) ∧ (zz_J zpX9_every_6 (zz_ret Q X 0 0) 5 [some (vr 0), some (vi 0), none] [] (zm (pS S z_1 w_1 d_1) L) (0, 0))) ∧ (∀ c_1 : Nat × (Fc → Bool), atP tx_1 n_1 6 a_1 = .inr c_1 → (c_1.2 (fcS S) = true → (zz_J zpX9_every_6 (zz_ret Q X 0 0) 5 [some (vr 0), some (vi 1), none] [] (zm (pS S c_1.1 (-1) (S 0 11)) L) (0, 0))) ∧ (c_1.2 (fcS S) = false → (zz_J zpX9_every_6 (zz_ret Q X 0 0) 5 [some (vr 0), some (vi 0), none] [] (zm (pS S c_1.1 (-1) (S 0 11)) L) (0, 0)))))) : zz_J zpX9_every_6 (zz_ret Q X 0 0) 0 [some (vr 0), none, none] [] (zm S L) (0, 0) := zz_J.go [(5, [2])] 400 h
theorem zwX9_every_6_5 {Q : Option zv → zz_M → Prop} {X : Nat → zz_M → Prop} {S L : Nat → Nat → Int} {x1 : Int} (h : R32 (S 0 10) ∧ ((¬ (S 0 10) = (-1) → (x1 = 0 ∨ x1 = 1) ∧ (Q (some (vi x1)) (zm S L))) ∧ ((S 0 10) = (-1) → (∃ (tx_1 : Nat → Int) (n_1 a_1 j_1 : Nat), 1012 = 1000 + j_1 ∧ j_1 < 18 ∧ mT S tx_1 n_1 ∧ S 0 9 = a_1 ∧ a_1 ≤ n_1 ∧ (hsW tx_1 n_1 (rn (qB tx_1) n_1 a_1) (wo j_1) = true → ((∃ (tx_2 : Nat → Int) (n_2 a_2 : Nat), mT (mm_up S 0 9 ((rn (qB tx_1) n_1 a_1 + (wo j_1).length : Nat) : Int)) tx_2 n_2 ∧ (mm_up S 0 9 ((rn (qB tx_1) n_1 a_1 + (wo j_1).length : Nat) : Int)) 0 9 = a_2 ∧ (mm_up S 0 9 ((rn (qB tx_1) n_1 a_1 + (wo j_1).length : Nat) : Int)) 0 10 = -1 ∧ (mm_up S 0 9 ((rn (qB tx_1) n_1 a_1 + (wo j_1).length : Nat) : Int)) 0 11 = 0 ∧ a_2 ≤ n_2 ∧ bF (fcS (mm_up S 0 9 ((rn (qB tx_1) n_1 a_1 + (wo j_1).length : Nat) : Int))) ∧ ((mm_up S 0 9 ((rn (qB tx_1) n_1 a_1 + (wo j_1).length : Nat) : Int)) 0 13 = 0 ∨ (mm_up S 0 9 ((rn (qB tx_1) n_1 a_1 + (wo j_1).length : Nat) : Int)) 0 13 = 1) ∧ ((mm_up S 0 9 ((rn (qB tx_1) n_1 a_1 + (wo j_1).length : Nat) : Int)) 0 14 = 0 ∨ (mm_up S 0 9 ((rn (qB tx_1) n_1 a_1 + (wo j_1).length : Nat) : Int)) 0 14 = 1) ∧ (∀ w_2 : Nat, atP tx_2 n_2 6 a_2 = .inl w_2 → ∀ (z_2 : Nat) (d_2 : Int), z_2 ≤ n_2 + 6 → (R32 x1 ∧ ((x1 = 0 → zz_J zpX9_every_6 (zz_ret Q X 0 0) 5 [some (vr 0), some (vi 0), none] [] (zm (pS (mm_up S 0 9 ((rn (qB tx_1) n_1 a_1 + (wo j_1).length : Nat) : Int)) z_2 w_2 d_2) L) (0, 0)) ∧ (¬ x1 = 0 → zz_J zpX9_every_6 (zz_ret Q X 0 0) 5 [some (vr 0), some (vi 1), none] [] (zm (pS (mm_up S 0 9 ((rn (qB tx_1) n_1 a_1 + (wo j_1).length : Nat) : Int)) z_2 w_2 d_2) L) (0, 0)))) ∧ (R32 x1 ∧ ((x1 = 0 → zz_J zpX9_every_6 (zz_ret Q X 0 0) 5 [some (vr 0), some (vi 0), none] [] (zm (pS (mm_up S 0 9 ((rn (qB tx_1) n_1 a_1 + (wo j_1).length : Nat) : Int)) z_2 w_2 d_2) L) (0, 0)) ∧ (¬ x1 = 0 → zz_J zpX9_every_6 (zz_ret Q X 0 0) 5 [some (vr 0), some (vi 0), none] [] (zm (pS (mm_up S 0 9 ((rn (qB tx_1) n_1 a_1 + (wo j_1).length : Nat) : Int)) z_2 w_2 d_2) L) (0, 0))))) ∧ (∀ c_2 : Nat × (Fc → Bool), atP tx_2 n_2 6 a_2 = .inr c_2 → (c_2.2 (fcS (mm_up S 0 9 ((rn (qB tx_1) n_1 a_1 + (wo j_1).length : Nat) : Int))) = true → (R32 x1 ∧ ((x1 = 0 → zz_J zpX9_every_6 (zz_ret Q X 0 0) 5 [some (vr 0), some (vi 0), none] [] (zm (pS (mm_up S 0 9 ((rn (qB tx_1) n_1 a_1 + (wo j_1).length : Nat) : Int)) c_2.1 (-1) ((mm_up S 0 9 ((rn (qB tx_1) n_1 a_1 + (wo j_1).length : Nat) : Int)) 0 11)) L) (0, 0)) ∧ (¬ x1 = 0 → zz_J zpX9_every_6 (zz_ret Q X 0 0) 5 [some (vr 0), some (vi 1), none] [] (zm (pS (mm_up S 0 9 ((rn (qB tx_1) n_1 a_1 + (wo j_1).length : Nat) : Int)) c_2.1 (-1) ((mm_up S 0 9 ((rn (qB tx_1) n_1 a_1 + (wo j_1).length : Nat) : Int)) 0 11)) L) (0, 0))))) ∧ (c_2.2 (fcS (mm_up S 0 9 ((rn (qB tx_1) n_1 a_1 + (wo j_1).length : Nat) : Int))) = false → (R32 x1 ∧ ((x1 = 0 → zz_J zpX9_every_6 (zz_ret Q X 0 0) 5 [some (vr 0), some (vi 0), none] [] (zm (pS (mm_up S 0 9 ((rn (qB tx_1) n_1 a_1 + (wo j_1).length : Nat) : Int)) c_2.1 (-1) ((mm_up S 0 9 ((rn (qB tx_1) n_1 a_1 + (wo j_1).length : Nat) : Int)) 0 11)) L) (0, 0)) ∧ (¬ x1 = 0 → zz_J zpX9_every_6 (zz_ret Q X 0 0) 5 [some (vr 0), some (vi 0), none] [] (zm (pS (mm_up S 0 9 ((rn (qB tx_1) n_1 a_1 + (wo j_1).length : Nat) : Int)) c_2.1 (-1) ((mm_up S 0 9 ((rn (qB tx_1) n_1 a_1 + (wo j_1).length : Nat) : Int)) 0 11)) L) (0, 0))))))))) ∧ (hsW tx_1 n_1 (rn (qB tx_1) n_1 a_1) (wo j_1) = false → ((x1 = 0 ∨ x1 = 1) ∧ (Q (some (vi x1)) (zm (mm_up S 0 9 ((rn (qB tx_1) n_1 a_1 : Nat) : Int)) L)))))))) : zz_J zpX9_every_6 (zz_ret Q X 0 0) 5 [some (vr 0), some (vi x1), none] [] (zm S L) (0, 0) := zz_J.go [(5, [2])] 400 h

theorem zmX9_every_6 (l : Launch) (hl : l.stackTraces = false) : mm_Spec l yX9_every (ws_ yX9_every cX9_every 3 (some .boolean)) (mm_rm 28 0 0) (zE zX9_every_6) := by
  refine zz_Met.J hl (by decide) (fun C G hnh => ztX9_every_6 G hnh) ?_
  rintro as ⟨⟨t_, f⟩, S, L, P⟩ Q X h
  unfold zX9_every_6 at h
  split at h
  rotate_left
  · exact h.elim
  rename_i h_
  obtain ⟨e1_, e2_, h⟩ := mm_and2 h (fun q => q)
  cases mm_beq e1_
  cases mm_beq e2_
  try dsimp only at h
  refine ⟨rfl, ?_⟩
  refine zz_Jev (M' := zm S L) rfl rfl rfl ?_
  obtain ⟨tx, n, a, hT, h9, h10, h11, ha, hF, h13, h14, hq1, hq2⟩ := h
  have hn := hT.1
  have hat := atP_ok hT.2.2.1 (fun a w h e => ptP_w h e) 6
  generalize hd : S 0 11 = d at h11 hq2
  have tw : ∀ (w z : Nat) (x d' : Int), w ≤ n → z ≤ n + 6 → (x = 0 ∨ x = 1) → evP tx n (atP tx n 6) a = .inl w → zz_J zpX9_every_6 (zz_ret Q X 0 0) 5 [some (vr 0), some (vi x), none] [] (zm (pS S z w d') L) (0, 0) := by
    intro w z x d' hw hz hx e
    refine zwX9_every_6_5 ?_
    simp only [pS_r10]
    exact ⟨by omega, fun _ => ⟨hx, bool_qq hx (hq1 w e z d' hz)⟩, fun h => by omega⟩
  have lp : ∀ (k a' : Nat) (g : Fc → Bool) (x : Int), n - a' = k → a' ≤ n → x = (bif g (fcS S) then 1 else 0) → evP tx n (atP tx n 6) a = lpP n (rn (qB tx) n) (spW tx n 12) (atP tx n 6) (fun g h F => g F && h F) a' g → zz_J zpX9_every_6 (zz_ret Q X 0 0) 5 [some (vr 0), some (vi x), none] [] (zm (pS S a' (-1) d) L) (0, 0) := by
    intro k
    induction k using Nat.strongRecOn with
    | ind k ih =>
      intro a' g x hk ha' hx e
      have hb := rn_le (q := qB tx) ha'
      have hx01 : x = 0 ∨ x = 1 := by rw [hx]; cases g (fcS S) <;> simp
      refine zwX9_every_6_5 ?_
      simp only [pS_r10, pS_r9, pS_r11, pS_9, mT_pS, pS_pS, fcS_pS]
      refine ⟨by omega, fun h => absurd trivial h, fun _ => ⟨tx, n, a', 12, rfl, by decide, hT, rfl, ha', fun c => ?_, fun c => ⟨hx01, ?_⟩⟩⟩
      · have hs : spW tx n 12 a' = some (rn (qB tx) n a' + 3) := by unfold spW; rw [if_pos c]; rfl
        have h1 := spW_in (by decide) _ _ ha' hs
        refine ⟨tx, n, rn (qB tx) n a' + 3, hT, rfl, trivial, h11, h1.2, hF, h13, h14, fun w ew z d' hz => ?_, fun c2 ec => ?_⟩
        · rw [lpP_l ha' hs ew] at e
          have hw := (hat _ h1.2).2 w ew
          refine ⟨⟨by omega, fun _ => tw w z 0 d' hw hz (Or.inl rfl) e, fun _ => tw w z 1 d' hw hz (Or.inr rfl) e⟩, ⟨by omega, fun _ => tw w z 0 d' hw hz (Or.inl rfl) e, fun _ => tw w z 0 d' hw hz (Or.inl rfl) e⟩⟩
        · have h2 := (hat _ h1.2).1 c2 ec
          rw [lpP_r (fun a b h1 h2 => spW_in (by decide) a b h1 h2) (fun a c h1 h2 => (hat a h1).1 c h2) ha' hs ec] at e
          refine ⟨fun t => ⟨by omega, fun x0 => ?_, fun x1 => ?_⟩, fun t => ⟨by omega, fun x0 => ?_, fun x1 => ?_⟩⟩
          · refine ih (n - c2.1) (by omega) c2.1 _ 0 rfl h2.2 ?_ e
            rw [t]; revert hx; cases g (fcS S) <;> simp; omega
          · refine ih (n - c2.1) (by omega) c2.1 _ 1 rfl h2.2 ?_ e
            rw [t]; revert hx; cases g (fcS S) <;> simp; omega
          · refine ih (n - c2.1) (by omega) c2.1 _ 0 rfl h2.2 ?_ e
            rw [t]; simp
          · refine ih (n - c2.1) (by omega) c2.1 _ 0 rfl h2.2 ?_ e
            rw [t]; simp
      · have hs : spW tx n 12 a' = none := by unfold spW; rw [if_neg (by rw [c]; decide)]
        rw [lpP_n ha' hs] at e
        have hq := hq2 _ e
        rw [hx]
        revert hq
        show (g (fcS S) = true → _) ∧ (g (fcS S) = false → _) → _
        cases g (fcS S) with
        | true => exact fun hq => hq.1 rfl
        | false => exact fun hq => hq.2 rfl
  refine zwX9_every_6_0 ⟨tx, n, a, hT, h9, h10, by rw [hd]; exact h11, ha, hF, h13, h14, fun w e z d' hz => ?_, fun c e => ?_⟩
  · have hw := (hat a ha).2 w e
    have e2 : evP tx n (atP tx n 6) a = .inl w := seqP_f e
    exact ⟨tw w z 1 d' hw hz (Or.inr rfl) e2, tw w z 0 d' hw hz (Or.inl rfl) e2⟩
  · have hc := (hat a ha).1 c e
    rw [hd]
    exact ⟨fun t => lp _ c.1 c.2 1 rfl hc.2 (by rw [t]; rfl) (seqP_s e), fun t => lp _ c.1 c.2 0 rfl hc.2 (by rw [t]; rfl) (seqP_s e)⟩
def zX9_some_6 : zz_Sp := fun as M Q X => match as with
  | [.inr (.inr (some h_))] => bif Nat.beq h_ 0 && Nat.beq M.1.1 1 then (∃ (tx_ : Nat → Int) (n_ a_ : Nat), mT M.2.1 tx_ n_ ∧ M.2.1 0 9 = a_ ∧ M.2.1 0 10 = -1 ∧ M.2.1 0 11 = 0 ∧ a_ ≤ n_ ∧ bF (fcS M.2.1) ∧ (M.2.1 0 13 = 0 ∨ M.2.1 0 13 = 1) ∧ (M.2.1 0 14 = 0 ∨ M.2.1 0 14 = 1) ∧ (∀ w_ : Nat, soP tx_ n_ (atP tx_ n_ 6) a_ = .inl w_ → ∀ (z_ : Nat) (d_ : Int), z_ ≤ n_ + 6 → Q (some (vi 1)) (zm (pS M.2.1 z_ w_ d_) M.2.2.1) ∧ Q (some (vi 0)) (zm (pS M.2.1 z_ w_ d_) M.2.2.1)) ∧ (∀ c_ : Nat × (Fc → Bool), soP tx_ n_ (atP tx_ n_ 6) a_ = .inr c_ → (c_.2 (fcS M.2.1) = true → Q (some (vi 1)) (zm (pS M.2.1 c_.1 (-1) (M.2.1 0 11)) M.2.2.1)) ∧ (c_.2 (fcS M.2.1) = false → Q (some (vi 0)) (zm (pS M.2.1 c_.1 (-1) (M.2.1 0 11)) M.2.2.1)))) else False
  | _ => False

def zpX9_some_6 : zz_P := [(0, zo_ald 1 0), (1, zo_callv 4 1 8 zX9_every_6), (4, zo_ist 5 1), (5, zo_ald 6 0), (6, zo_get 9 8 0 10), (9, zo_c 10 (vi (-1))), (10, zo_cne false true 13 44), (13, zo_ald 14 0), (14, zo_c 16 (vr 1013)), (16, zo_callv 19 2 8 zX9_has), (19, zo_zifeq 22 44), (22, zo_ald 23 0), (23, zo_callv 26 1 8 zX9_every_6), (26, zo_ist 27 2), (27, zo_ild 28 1), (28, zo_ifne false 31 35), (31, zo_ild 32 2), (32, zo_zifeq 35 39), (35, zo_c 36 (vi 1)), (36, zo_goto 40), (39, zo_c 40 (vi 0)), (40, zo_ist 41 1), (41, zo_goto 5), (44, zo_ild 45 1), (45, zo_zret false)]
theorem ztX9_some_6 {C : mm_C} (G : mm_G C RX9 cX9_some (some .boolean) 3 (mm_rm 29 0 0)) (hnh : mm_nh C) : zz_OKs C zpX9_some_6 :=
  ⟨zz_of (ok_aload_n G dX9_some_0 rfl rfl) (z_ald _ _),
   zz_of (ok_callv G hnh (zmX9_every_6 _ G.hst) rfl rfl (RX9, TX9, 32) rfl q1967 q1969 qs48 q93 q1970 (by decide +kernel) ⟨by decide, by decide⟩ dX9_some_1 rfl) (z_callv _ _ _ _),
   zz_of (ok_istore_n G dX9_some_4 rfl rfl (by decide)) (z_ist _ _),
   zz_of (ok_aload_n G dX9_some_5 rfl rfl) (z_ald _ _),
   zz_of (ok_get G (nx := 9) (ci := 8) (kd := 0) (k := 10) (RX9, TX9, 32) rfl (by decide) rfl q1815 dX9_some_6 rfl) (z_get _ _ _ _),
   zz_of (ok_iconst G (v := (zI (-1))) dX9_some_9 (by decide) rfl) (z_cz 10 (-1)),
   zz_of (ok_cne G dX9_some_10 rfl rfl) (z_cne _ _ _ _),
   zz_of (ok_aload_n G dX9_some_13 rfl rfl) (z_ald _ _),
   zz_of (ok_lds G (tx := "or") (by decide +kernel) dX9_some_14 rfl) (z_cr 16 1013),
   zz_of (ok_callv G hnh (zmX9_has _ G.hst) rfl rfl (RX9, TX9, 32) rfl q1942 q1944 qs45 q93 q1945 (by decide +kernel) ⟨by decide, by decide⟩ dX9_some_16 rfl) (z_callv _ _ _ _),
   zz_of (ok_ifeq G dX9_some_19 rfl rfl) (z_zifeq _ _),
   zz_of (ok_aload_n G dX9_some_22 rfl rfl) (z_ald _ _),
   zz_of (ok_callv G hnh (zmX9_every_6 _ G.hst) rfl rfl (RX9, TX9, 32) rfl q1967 q1969 qs48 q93 q1970 (by decide +kernel) ⟨by decide, by decide⟩ dX9_some_23 rfl) (z_callv _ _ _ _),
   zz_of (ok_istore_n G dX9_some_26 rfl rfl (by decide)) (z_ist _ _),
   zz_of (ok_iload_n G dX9_some_27 rfl rfl) (z_ild _ _),
   zz_of (ok_ifne G dX9_some_28 rfl rfl) (z_ifne _ _ _),
   zz_of (ok_iload_n G dX9_some_31 rfl rfl) (z_ild _ _),
   zz_of (ok_ifeq G dX9_some_32 rfl rfl) (z_zifeq _ _),
   zz_of (ok_iconst G (v := 1) dX9_some_35 (by decide) rfl) (z_cn 36 1),
   zz_of (ok_goto G dX9_some_36 rfl) (z_goto _),
   zz_of (ok_iconst G (v := 0) dX9_some_39 (by decide) rfl) (z_cn 40 0),
   zz_of (ok_istore_n G dX9_some_40 rfl rfl (by decide)) (z_ist _ _),
   zz_of (ok_goto G dX9_some_41 rfl) (z_goto _),
   zz_of (ok_iload_n G dX9_some_44 rfl rfl) (z_ild _ _),
   zz_of (ok_zret G dX9_some_45) (z_zret _), trivial⟩

theorem zwX9_some_6_0 {Q : Option zv → zz_M → Prop} {X : Nat → zz_M → Prop} {S L : Nat → Nat → Int}  (h : (∃ (tx_1 : Nat → Int) (n_1 a_1 : Nat), mT S tx_1 n_1 ∧ S 0 9 = a_1 ∧ S 0 10 = -1 ∧ S 0 11 = 0 ∧ a_1 ≤ n_1 ∧ bF (fcS S) ∧ (S 0 13 = 0 ∨ S 0 13 = 1) ∧ (S 0 14 = 0 ∨ S 0 14 = 1) ∧ (∀ w_1 : Nat, evP tx_1 n_1 (atP tx_1 n_1 6) a_1 = .inl w_1 → ∀ (z_1 : Nat) (d_1 : Int), z_1 ≤ n_1 + 6 → (zz_J zpX9_some_6 (zz_ret Q X 0 0) 5 [some (vr 0), some (vi 1), none] [] (zm (pS S z_1 w_1 d_1) L) (0, 0)) ∧ (zz_J zpX9_some_6 (zz_ret Q X 0 0) 5 [some (vr 0), some (vi 0), none] [] (zm (pS S z_1 w_1 d_1) L) (0, 0))) ∧ (∀ c_1 : Nat × (Fc → Bool), evP tx_1 n_1 (atP tx_1 n_1 6) a_1 = .inr c_1 → (c_1.2 (fcS S) = true → (zz_J zpX9_some_6 (zz_ret Q X 0 0) 5 [some (vr 0), some (vi 1), none] [] (zm (pS S c_1.1 (-1) (S 0 11)) L) (0, 0))) ∧ (c_1.2 (fcS S) = false → (zz_J zpX9_some_6 (zz_ret Q X 0 0) 5 [some (vr 0), some (vi 0), none] [] (zm (pS S c_1.1 (-1) (S 0 11)) L) (0, 0)))))) : zz_J zpX9_some_6 (zz_ret Q X 0 0) 0 [some (vr 0), none, none] [] (zm S L) (0, 0) := zz_J.go [(5, [2])] 400 h
theorem zwX9_some_6_5 {Q : Option zv → zz_M → Prop} {X : Nat → zz_M → Prop} {S L : Nat → Nat → Int} {x1 : Int} (h : R32 (S 0 10) ∧ ((¬ (S 0 10) = (-1) → (x1 = 0 ∨ x1 = 1) ∧ (Q (some (vi x1)) (zm S L))) ∧ ((S 0 10) = (-1) → (∃ (tx_1 : Nat → Int) (n_1 a_1 j_1 : Nat), 1013 = 1000 + j_1 ∧ j_1 < 18 ∧ mT S tx_1 n_1 ∧ S 0 9 = a_1 ∧ a_1 ≤ n_1 ∧ (hsW tx_1 n_1 (rn (qB tx_1) n_1 a_1) (wo j_1) = true → ((∃ (tx_2 : Nat → Int) (n_2 a_2 : Nat), mT (mm_up S 0 9 ((rn (qB tx_1) n_1 a_1 + (wo j_1).length : Nat) : Int)) tx_2 n_2 ∧ (mm_up S 0 9 ((rn (qB tx_1) n_1 a_1 + (wo j_1).length : Nat) : Int)) 0 9 = a_2 ∧ (mm_up S 0 9 ((rn (qB tx_1) n_1 a_1 + (wo j_1).length : Nat) : Int)) 0 10 = -1 ∧ (mm_up S 0 9 ((rn (qB tx_1) n_1 a_1 + (wo j_1).length : Nat) : Int)) 0 11 = 0 ∧ a_2 ≤ n_2 ∧ bF (fcS (mm_up S 0 9 ((rn (qB tx_1) n_1 a_1 + (wo j_1).length : Nat) : Int))) ∧ ((mm_up S 0 9 ((rn (qB tx_1) n_1 a_1 + (wo j_1).length : Nat) : Int)) 0 13 = 0 ∨ (mm_up S 0 9 ((rn (qB tx_1) n_1 a_1 + (wo j_1).length : Nat) : Int)) 0 13 = 1) ∧ ((mm_up S 0 9 ((rn (qB tx_1) n_1 a_1 + (wo j_1).length : Nat) : Int)) 0 14 = 0 ∨ (mm_up S 0 9 ((rn (qB tx_1) n_1 a_1 + (wo j_1).length : Nat) : Int)) 0 14 = 1) ∧ (∀ w_2 : Nat, evP tx_2 n_2 (atP tx_2 n_2 6) a_2 = .inl w_2 → ∀ (z_2 : Nat) (d_2 : Int), z_2 ≤ n_2 + 6 → (R32 x1 ∧ ((¬ x1 = 0 → zz_J zpX9_some_6 (zz_ret Q X 0 0) 5 [some (vr 0), some (vi 1), none] [] (zm (pS (mm_up S 0 9 ((rn (qB tx_1) n_1 a_1 + (wo j_1).length : Nat) : Int)) z_2 w_2 d_2) L) (0, 0)) ∧ (x1 = 0 → zz_J zpX9_some_6 (zz_ret Q X 0 0) 5 [some (vr 0), some (vi 1), none] [] (zm (pS (mm_up S 0 9 ((rn (qB tx_1) n_1 a_1 + (wo j_1).length : Nat) : Int)) z_2 w_2 d_2) L) (0, 0)))) ∧ (R32 x1 ∧ ((¬ x1 = 0 → zz_J zpX9_some_6 (zz_ret Q X 0 0) 5 [some (vr 0), some (vi 1), none] [] (zm (pS (mm_up S 0 9 ((rn (qB tx_1) n_1 a_1 + (wo j_1).length : Nat) : Int)) z_2 w_2 d_2) L) (0, 0)) ∧ (x1 = 0 → zz_J zpX9_some_6 (zz_ret Q X 0 0) 5 [some (vr 0), some (vi 0), none] [] (zm (pS (mm_up S 0 9 ((rn (qB tx_1) n_1 a_1 + (wo j_1).length : Nat) : Int)) z_2 w_2 d_2) L) (0, 0))))) ∧ (∀ c_2 : Nat × (Fc → Bool), evP tx_2 n_2 (atP tx_2 n_2 6) a_2 = .inr c_2 → (c_2.2 (fcS (mm_up S 0 9 ((rn (qB tx_1) n_1 a_1 + (wo j_1).length : Nat) : Int))) = true → (R32 x1 ∧ ((¬ x1 = 0 → zz_J zpX9_some_6 (zz_ret Q X 0 0) 5 [some (vr 0), some (vi 1), none] [] (zm (pS (mm_up S 0 9 ((rn (qB tx_1) n_1 a_1 + (wo j_1).length : Nat) : Int)) c_2.1 (-1) ((mm_up S 0 9 ((rn (qB tx_1) n_1 a_1 + (wo j_1).length : Nat) : Int)) 0 11)) L) (0, 0)) ∧ (x1 = 0 → zz_J zpX9_some_6 (zz_ret Q X 0 0) 5 [some (vr 0), some (vi 1), none] [] (zm (pS (mm_up S 0 9 ((rn (qB tx_1) n_1 a_1 + (wo j_1).length : Nat) : Int)) c_2.1 (-1) ((mm_up S 0 9 ((rn (qB tx_1) n_1 a_1 + (wo j_1).length : Nat) : Int)) 0 11)) L) (0, 0))))) ∧ (c_2.2 (fcS (mm_up S 0 9 ((rn (qB tx_1) n_1 a_1 + (wo j_1).length : Nat) : Int))) = false → (R32 x1 ∧ ((¬ x1 = 0 → zz_J zpX9_some_6 (zz_ret Q X 0 0) 5 [some (vr 0), some (vi 1), none] [] (zm (pS (mm_up S 0 9 ((rn (qB tx_1) n_1 a_1 + (wo j_1).length : Nat) : Int)) c_2.1 (-1) ((mm_up S 0 9 ((rn (qB tx_1) n_1 a_1 + (wo j_1).length : Nat) : Int)) 0 11)) L) (0, 0)) ∧ (x1 = 0 → zz_J zpX9_some_6 (zz_ret Q X 0 0) 5 [some (vr 0), some (vi 0), none] [] (zm (pS (mm_up S 0 9 ((rn (qB tx_1) n_1 a_1 + (wo j_1).length : Nat) : Int)) c_2.1 (-1) ((mm_up S 0 9 ((rn (qB tx_1) n_1 a_1 + (wo j_1).length : Nat) : Int)) 0 11)) L) (0, 0))))))))) ∧ (hsW tx_1 n_1 (rn (qB tx_1) n_1 a_1) (wo j_1) = false → ((x1 = 0 ∨ x1 = 1) ∧ (Q (some (vi x1)) (zm (mm_up S 0 9 ((rn (qB tx_1) n_1 a_1 : Nat) : Int)) L)))))))) : zz_J zpX9_some_6 (zz_ret Q X 0 0) 5 [some (vr 0), some (vi x1), none] [] (zm S L) (0, 0) := zz_J.go [(5, [2])] 400 h

theorem zmX9_some_6 (l : Launch) (hl : l.stackTraces = false) : mm_Spec l yX9_some (ws_ yX9_some cX9_some 3 (some .boolean)) (mm_rm 29 0 0) (zE zX9_some_6) := by
  refine zz_Met.J hl (by decide) (fun C G hnh => ztX9_some_6 G hnh) ?_
  rintro as ⟨⟨t_, f⟩, S, L, P⟩ Q X h
  unfold zX9_some_6 at h
  split at h
  rotate_left
  · exact h.elim
  rename_i h_
  obtain ⟨e1_, e2_, h⟩ := mm_and2 h (fun q => q)
  cases mm_beq e1_
  cases mm_beq e2_
  try dsimp only at h
  refine ⟨rfl, ?_⟩
  refine zz_Jev (M' := zm S L) rfl rfl rfl ?_
  obtain ⟨tx, n, a, hT, h9, h10, h11, ha, hF, h13, h14, hq1, hq2⟩ := h
  have hn := hT.1
  have hat : pOK n (evP tx n (atP tx n 6)) := evP_ok (atP_ok hT.2.2.1 (fun a w h e => ptP_w h e) 6)
  generalize hd : S 0 11 = d at h11 hq2
  have tw : ∀ (w z : Nat) (x d' : Int), w ≤ n → z ≤ n + 6 → (x = 0 ∨ x = 1) → soP tx n (atP tx n 6) a = .inl w → zz_J zpX9_some_6 (zz_ret Q X 0 0) 5 [some (vr 0), some (vi x), none] [] (zm (pS S z w d') L) (0, 0) := by
    intro w z x d' hw hz hx e
    refine zwX9_some_6_5 ?_
    simp only [pS_r10]
    exact ⟨by omega, fun _ => ⟨hx, bool_qq hx (hq1 w e z d' hz)⟩, fun h => by omega⟩
  have lp : ∀ (k a' : Nat) (g : Fc → Bool) (x : Int), n - a' = k → a' ≤ n → x = (bif g (fcS S) then 1 else 0) → soP tx n (atP tx n 6) a = lpP n (rn (qB tx) n) (spW tx n 13) (evP tx n (atP tx n 6)) (fun g h F => g F || h F) a' g → zz_J zpX9_some_6 (zz_ret Q X 0 0) 5 [some (vr 0), some (vi x), none] [] (zm (pS S a' (-1) d) L) (0, 0) := by
    intro k
    induction k using Nat.strongRecOn with
    | ind k ih =>
      intro a' g x hk ha' hx e
      have hb := rn_le (q := qB tx) ha'
      have hx01 : x = 0 ∨ x = 1 := by rw [hx]; cases g (fcS S) <;> simp
      refine zwX9_some_6_5 ?_
      simp only [pS_r10, pS_r9, pS_r11, pS_9, mT_pS, pS_pS, fcS_pS]
      refine ⟨by omega, fun h => absurd trivial h, fun _ => ⟨tx, n, a', 13, rfl, by decide, hT, rfl, ha', fun c => ?_, fun c => ⟨hx01, ?_⟩⟩⟩
      · have hs : spW tx n 13 a' = some (rn (qB tx) n a' + 2) := by unfold spW; rw [if_pos c]; rfl
        have h1 := spW_in (by decide) _ _ ha' hs
        refine ⟨tx, n, rn (qB tx) n a' + 2, hT, rfl, trivial, h11, h1.2, hF, h13, h14, fun w ew z d' hz => ?_, fun c2 ec => ?_⟩
        · rw [lpP_l ha' hs ew] at e
          have hw := (hat _ h1.2).2 w ew
          refine ⟨⟨by omega, fun _ => tw w z 1 d' hw hz (Or.inr rfl) e, fun _ => tw w z 1 d' hw hz (Or.inr rfl) e⟩, ⟨by omega, fun _ => tw w z 1 d' hw hz (Or.inr rfl) e, fun _ => tw w z 0 d' hw hz (Or.inl rfl) e⟩⟩
        · have h2 := (hat _ h1.2).1 c2 ec
          rw [lpP_r (fun a b h1 h2 => spW_in (by decide) a b h1 h2) (fun a c h1 h2 => (hat a h1).1 c h2) ha' hs ec] at e
          refine ⟨fun t => ⟨by omega, fun x0 => ?_, fun x1 => ?_⟩, fun t => ⟨by omega, fun x0 => ?_, fun x1 => ?_⟩⟩
          · refine ih (n - c2.1) (by omega) c2.1 _ 1 rfl h2.2 ?_ e
            rw [t]; simp
          · refine ih (n - c2.1) (by omega) c2.1 _ 1 rfl h2.2 ?_ e
            rw [t]; simp
          · refine ih (n - c2.1) (by omega) c2.1 _ 1 rfl h2.2 ?_ e
            rw [t]; revert hx; cases g (fcS S) <;> simp; omega
          · refine ih (n - c2.1) (by omega) c2.1 _ 0 rfl h2.2 ?_ e
            rw [t]; revert hx; cases g (fcS S) <;> simp; omega
      · have hs : spW tx n 13 a' = none := by unfold spW; rw [if_neg (by rw [c]; decide)]
        rw [lpP_n ha' hs] at e
        have hq := hq2 _ e
        rw [hx]
        revert hq
        show (g (fcS S) = true → _) ∧ (g (fcS S) = false → _) → _
        cases g (fcS S) with
        | true => exact fun hq => hq.1 rfl
        | false => exact fun hq => hq.2 rfl
  refine zwX9_some_6_0 ⟨tx, n, a, hT, h9, h10, by rw [hd]; exact h11, ha, hF, h13, h14, fun w e z d' hz => ?_, fun c e => ?_⟩
  · have hw := (hat a ha).2 w e
    have e2 : soP tx n (atP tx n 6) a = .inl w := seqP_f e
    exact ⟨tw w z 1 d' hw hz (Or.inr rfl) e2, tw w z 0 d' hw hz (Or.inl rfl) e2⟩
  · have hc := (hat a ha).1 c e
    rw [hd]
    exact ⟨fun t => lp _ c.1 c.2 1 rfl hc.2 (by rw [t]; rfl) (seqP_s e), fun t => lp _ c.1 c.2 0 rfl hc.2 (by rw [t]; rfl) (seqP_s e)⟩
