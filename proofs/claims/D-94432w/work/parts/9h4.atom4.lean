/-! ===== conditions by depth 4 ===== -/
set_option maxRecDepth 100000
def zX1_atom_4 (c_ s_ : Nat) : zz_Sp := fun as M Q X => match as with
  | [.inr (.inr (some h_))] => bif Nat.beq h_ 100 && Nat.beq M.1.1 2 then (∃ (tx_ : Nat → Int) (n_ a_ t_ : Nat), qT M.2.1 tx_ n_ ∧ M.2.1 101 3 = (a_ : Int) ∧ a_ ≤ n_ ∧ M.2.1 101 6 = 2 ∧ frF M.1.2 t_ ∧ (∀ w_ : Nat, atP tx_ n_ 4 a_ = .inl w_ → (24 * (n_ - a_) + 60 ≤ c_ ∧ 120 * (n_ - a_) + 300 ≤ s_) ∧ ∀ (S_ L_ : Nat → Nat → Int) (P_ : Nat → Nat → Option Nat) (f_ : Nat → Nat × Nat) (u_ : Nat), gr t_ u_ M.1.2 M.2.1 M.2.2.1 M.2.2.2 f_ S_ L_ P_ → S_ 101 4 = (w_ : Int) → X 0 ((2, f_), S_, L_, P_)) ∧ (∀ r_ : Nat × (Fc → Bool), atP tx_ n_ 4 a_ = .inr r_ → (24 * (r_.1 - a_) ≤ c_ ∧ 120 * (r_.1 - a_) ≤ s_) ∧ ∀ (S_ L_ : Nat → Nat → Int) (P_ : Nat → Nat → Option Nat) (f_ : Nat → Nat × Nat) (u_ g_ : Nat), gr t_ u_ M.1.2 M.2.1 M.2.2.1 M.2.2.2 f_ S_ L_ P_ → S_ 101 3 = (r_.1 : Int) → S_ 101 6 = 2 → coT t_ u_ f_ S_ P_ 8 g_ r_.2 → Q (some (vr g_)) ((2, f_), S_, L_, P_))) else False
  | _ => False

def zpX1_atom_4 (c_ s_ : Nat) : zz_P := [(0, zo_ald 1 0), (1, zo_get 4 0 2 2), (4, zo_ast 5 1), (5, zo_ald 6 1), (6, zo_c 8 (vi 40)), (8, zo_callv 11 2 3 zX4_sign), (11, zo_zifeq 14 43), (14, zo_ald 15 1), (15, zo_cvF (mm_rm 25 c_ s_) 18 1 3 1 6 zX4_goesDeeper), (18, zo_ald 19 0), (19, zo_cvG (mm_rm 25 c_ s_) 22 1 0 zX1_cond_3), (22, zo_ast 23 2), (23, zo_ald 24 1), (24, zo_callv 27 1 3 zX4_comesUp), (27, zo_ald 28 1), (28, zo_c 30 (vi 41)), (30, zo_callv 33 2 3 zX4_sign), (33, zo_zifne 36 41), (36, zo_ald 37 1), (37, zo_cvF (mm_rm 25 c_ s_) 40 1 3 1 6 zX4_wrong), (40, zo_athr 20 0), (41, zo_ald 42 2), (42, zo_aret), (43, zo_ald 44 1), (44, zo_c 46 (vr 1009)), (46, zo_cvG (mm_rm 25 c_ s_) 49 2 3 zX4_passes), (49, zo_zifeq 52 74), (52, zo_ald 53 1), (53, zo_cvF (mm_rm 25 c_ s_) 56 1 3 1 6 zX4_goesDeeper), (56, zo_ald 57 0), (57, zo_cvG (mm_rm 25 c_ s_) 60 1 0 zX1_atom_3), (60, zo_ast 61 2), (61, zo_ald 62 1), (62, zo_callv 65 1 3 zX4_comesUp), (65, zo_new (mm_rm 25 c_ s_) 68 12 1), (68, zo_dup 69), (69, zo_ald 70 2), (70, zo_ciF (mm_rm 25 c_ s_) 73 2 0 0 zX14_init), (73, zo_aret), (74, zo_ald 75 1), (75, zo_c 78 (vr 1010)), (78, zo_cvG (mm_rm 25 c_ s_) 81 2 3 zX4_passes), (81, zo_zifeq 84 93), (84, zo_new (mm_rm 25 c_ s_) 87 13 1), (87, zo_dup 88), (88, zo_c 89 (vi 1)), (89, zo_ciF (mm_rm 25 c_ s_) 92 2 0 0 zX15_init), (92, zo_aret), (93, zo_ald 94 1), (94, zo_c 97 (vr 1011)), (97, zo_cvG (mm_rm 25 c_ s_) 100 2 3 zX4_passes), (100, zo_zifeq 103 112), (103, zo_new (mm_rm 25 c_ s_) 106 13 1), (106, zo_dup 107), (107, zo_c 108 (vi 0)), (108, zo_ciF (mm_rm 25 c_ s_) 111 2 0 0 zX15_init), (111, zo_aret), (112, zo_ald 113 0), (113, zo_cvG (mm_rm 25 c_ s_) 116 1 0 zX1_sum), (116, zo_ast 117 2), (117, zo_ald 118 1), (118, zo_c 120 (vi 60)), (120, zo_callv 123 2 3 zX4_sign), (123, zo_zifeq 126 139), (126, zo_new (mm_rm 25 c_ s_) 129 16 2), (129, zo_dup 130), (130, zo_ald 131 2), (131, zo_ald 132 0), (132, zo_cvG (mm_rm 25 c_ s_) 135 1 0 zX1_sum), (135, zo_ciF (mm_rm 25 c_ s_) 138 3 0 0 zX19_init), (138, zo_aret), (139, zo_ald 140 1), (140, zo_c 142 (vi 62)), (142, zo_callv 145 2 3 zX4_sign), (145, zo_zifne 148 153), (148, zo_ald 149 1), (149, zo_cvF (mm_rm 25 c_ s_) 152 1 3 1 6 zX4_wrong), (152, zo_athr 20 0), (153, zo_new (mm_rm 25 c_ s_) 156 16 2), (156, zo_dup 157), (157, zo_ald 158 0), (158, zo_cvG (mm_rm 25 c_ s_) 161 1 0 zX1_sum), (161, zo_ald 162 2), (162, zo_ciF (mm_rm 25 c_ s_) 165 3 0 0 zX19_init), (165, zo_aret)]
theorem ztX1_atom_4 (c_ s_ : Nat) {C : mm_C} (G : mm_G C RX1 cX1_atom (some (.object "ChaseCourt$Cond")) 3 (mm_rm 25 c_ s_)) (hnh : mm_nh C) : zz_OKs C (zpX1_atom_4 c_ s_) :=
  ⟨zz_of (ok_aload_n G dX1_atom_0 rfl rfl) (z_ald _ _),
   zz_of (ok_get G (nx := 4) (ci := 0) (kd := 2) (k := 2) (RX1, TX1, 19) rfl (by decide) rfl q404 dX1_atom_1 rfl) (z_get _ _ _ _),
   zz_of (ok_astore_n G dX1_atom_4 rfl rfl (by decide)) (z_ast _ _),
   zz_of (ok_aload_n G dX1_atom_5 rfl rfl) (z_ald _ _),
   zz_of (ok_bipush G (v := 40) dX1_atom_6 (by decide) rfl) (z_cn 8 40),
   zz_of (ok_callv G hnh (zmX4_sign _ G.hst) rfl rfl (RX4, TX4, 7) rfl q1068 q1069 q1070 q88 q1071 (by decide +kernel) ⟨Nat.le_of_ble_eq_true rfl, Nat.le_of_ble_eq_true rfl⟩ dX1_atom_8 rfl) (z_callv _ _ _ _),
   zz_of (ok_ifeq G dX1_atom_11 rfl rfl) (z_zifeq _ _),
   zz_of (ok_aload_n G dX1_atom_14 rfl rfl) (z_ald _ _),
   zz_of (ok_calvF G (hnh.q 15) (zmX4_goesDeeper _ G.hst) (RX4, TX4, 7) rfl q1172 q1173 q1174 q88 q1175 (by decide +kernel) ⟨Nat.le_of_ble_eq_true rfl, Nat.le_of_ble_eq_true rfl⟩ dX1_atom_15 rfl) (z_cvF _ _ _ _ _ _ _),
   zz_of (ok_aload_n G dX1_atom_18 rfl rfl) (z_ald _ _),
   zz_of (ok_calv G (hnh.q 19) (zmX1_cond_3 _ G.hst) (RX1, TX1, 19) rfl q1144 q1146 qs10 q82 q1147 (by decide +kernel) ⟨Nat.le_of_ble_eq_true rfl, Nat.le_of_ble_eq_true rfl⟩ dX1_atom_19 rfl) (z_cvG _ _ _ _ _),
   zz_of (ok_astore_n G dX1_atom_22 rfl rfl (by decide)) (z_ast _ _),
   zz_of (ok_aload_n G dX1_atom_23 rfl rfl) (z_ald _ _),
   zz_of (ok_callv G hnh (zmX4_comesUp _ G.hst) rfl rfl (RX4, TX4, 7) rfl q1176 q1177 q1178 q88 q1179 (by decide +kernel) ⟨Nat.le_of_ble_eq_true rfl, Nat.le_of_ble_eq_true rfl⟩ dX1_atom_24 rfl) (z_callv _ _ _ _),
   zz_of (ok_aload_n G dX1_atom_27 rfl rfl) (z_ald _ _),
   zz_of (ok_bipush G (v := 41) dX1_atom_28 (by decide) rfl) (z_cn 30 41),
   zz_of (ok_callv G hnh (zmX4_sign _ G.hst) rfl rfl (RX4, TX4, 7) rfl q1068 q1069 q1070 q88 q1071 (by decide +kernel) ⟨Nat.le_of_ble_eq_true rfl, Nat.le_of_ble_eq_true rfl⟩ dX1_atom_30 rfl) (z_callv _ _ _ _),
   zz_of (ok_ifne G dX1_atom_33 rfl rfl) (z_zifne _ _),
   zz_of (ok_aload_n G dX1_atom_36 rfl rfl) (z_ald _ _),
   zz_of (ok_calvF G (hnh.q 37) (zmX4_wrong _ G.hst) (RX4, TX4, 7) rfl q955 q956 q957 q88 q958 (by decide +kernel) ⟨Nat.le_of_ble_eq_true rfl, Nat.le_of_ble_eq_true rfl⟩ dX1_atom_37 rfl) (z_cvF _ _ _ _ _ _ _),
   zz_of (ok_athr G (ci := 20) (i := 0) (RX10, TX10, 6) rfl rfl (hnh.q 40) dX1_atom_40) (z_athr _ _),
   zz_of (ok_aload_n G dX1_atom_41 rfl rfl) (z_ald _ _),
   zz_of (ok_aret G (Or.inl ⟨_, rfl⟩) dX1_atom_42) (z_aret),
   zz_of (ok_aload_n G dX1_atom_43 rfl rfl) (z_ald _ _),
   zz_of (ok_lds G (tx := "not") (by decide +kernel) dX1_atom_44 rfl) (z_cr 46 1009),
   zz_of (ok_calv G (hnh.q 46) (zmX4_passes _ G.hst) (RX4, TX4, 7) rfl q1138 q1139 q1140 q88 q1141 (by decide +kernel) ⟨Nat.le_of_ble_eq_true rfl, Nat.le_of_ble_eq_true rfl⟩ dX1_atom_46 rfl) (z_cvG _ _ _ _ _),
   zz_of (ok_ifeq G dX1_atom_49 rfl rfl) (z_zifeq _ _),
   zz_of (ok_aload_n G dX1_atom_52 rfl rfl) (z_ald _ _),
   zz_of (ok_calvF G (hnh.q 53) (zmX4_goesDeeper _ G.hst) (RX4, TX4, 7) rfl q1172 q1173 q1174 q88 q1175 (by decide +kernel) ⟨Nat.le_of_ble_eq_true rfl, Nat.le_of_ble_eq_true rfl⟩ dX1_atom_53 rfl) (z_cvF _ _ _ _ _ _ _),
   zz_of (ok_aload_n G dX1_atom_56 rfl rfl) (z_ald _ _),
   zz_of (ok_calv G (hnh.q 57) (zmX1_atom_3 _ G.hst) (RX1, TX1, 19) rfl q1168 q1170 qs12 q82 q1171 (by decide +kernel) ⟨Nat.le_of_ble_eq_true rfl, Nat.le_of_ble_eq_true rfl⟩ dX1_atom_57 rfl) (z_cvG _ _ _ _ _),
   zz_of (ok_astore_n G dX1_atom_60 rfl rfl (by decide)) (z_ast _ _),
   zz_of (ok_aload_n G dX1_atom_61 rfl rfl) (z_ald _ _),
   zz_of (ok_callv G hnh (zmX4_comesUp _ G.hst) rfl rfl (RX4, TX4, 7) rfl q1176 q1177 q1178 q88 q1179 (by decide +kernel) ⟨Nat.le_of_ble_eq_true rfl, Nat.le_of_ble_eq_true rfl⟩ dX1_atom_62 rfl) (z_callv _ _ _ _),
   zz_of (ok_new G (ci := 12) (RX14, TX14, 1) rfl rfl q1181 q1182 q115 (by decide) dX1_atom_65 rfl) (z_new _ _ _ _),
   zz_of (ok_dup G dX1_atom_68 rfl) (z_dup _),
   zz_of (ok_aload_n G dX1_atom_69 rfl rfl) (z_ald _ _),
   zz_of (ok_caliF G (hnh.q 70) (zmX14_init _ G.hst) q1183 q1184 q115 q1185 rfl (by decide +kernel) ⟨Nat.le_of_ble_eq_true rfl, Nat.le_of_ble_eq_true rfl⟩ dX1_atom_70 rfl) (z_ciF _ _ _ _ _ _),
   zz_of (ok_aret G (Or.inl ⟨_, rfl⟩) dX1_atom_73) (z_aret),
   zz_of (ok_aload_n G dX1_atom_74 rfl rfl) (z_ald _ _),
   zz_of (ok_ldsw G (tx := "serving") (by decide +kernel) dX1_atom_75 rfl) (z_cr 78 1010),
   zz_of (ok_calv G (hnh.q 78) (zmX4_passes _ G.hst) (RX4, TX4, 7) rfl q1138 q1139 q1140 q88 q1141 (by decide +kernel) ⟨Nat.le_of_ble_eq_true rfl, Nat.le_of_ble_eq_true rfl⟩ dX1_atom_78 rfl) (z_cvG _ _ _ _ _),
   zz_of (ok_ifeq G dX1_atom_81 rfl rfl) (z_zifeq _ _),
   zz_of (ok_new G (ci := 13) (RX15, TX15, 1) rfl rfl q1192 q1193 q116 (by decide) dX1_atom_84 rfl) (z_new _ _ _ _),
   zz_of (ok_dup G dX1_atom_87 rfl) (z_dup _),
   zz_of (ok_iconst G (v := 1) dX1_atom_88 (by decide) rfl) (z_cn 89 1),
   zz_of (ok_caliF G (hnh.q 89) (zmX15_init _ G.hst) q1194 q1195 q116 q1196 rfl (by decide +kernel) ⟨Nat.le_of_ble_eq_true rfl, Nat.le_of_ble_eq_true rfl⟩ dX1_atom_89 rfl) (z_ciF _ _ _ _ _ _),
   zz_of (ok_aret G (Or.inl ⟨_, rfl⟩) dX1_atom_92) (z_aret),
   zz_of (ok_aload_n G dX1_atom_93 rfl rfl) (z_ald _ _),
   zz_of (ok_ldsw G (tx := "off") (by decide +kernel) dX1_atom_94 rfl) (z_cr 97 1011),
   zz_of (ok_calv G (hnh.q 97) (zmX4_passes _ G.hst) (RX4, TX4, 7) rfl q1138 q1139 q1140 q88 q1141 (by decide +kernel) ⟨Nat.le_of_ble_eq_true rfl, Nat.le_of_ble_eq_true rfl⟩ dX1_atom_97 rfl) (z_cvG _ _ _ _ _),
   zz_of (ok_ifeq G dX1_atom_100 rfl rfl) (z_zifeq _ _),
   zz_of (ok_new G (ci := 13) (RX15, TX15, 1) rfl rfl q1192 q1193 q116 (by decide) dX1_atom_103 rfl) (z_new _ _ _ _),
   zz_of (ok_dup G dX1_atom_106 rfl) (z_dup _),
   zz_of (ok_iconst G (v := 0) dX1_atom_107 (by decide) rfl) (z_cn 108 0),
   zz_of (ok_caliF G (hnh.q 108) (zmX15_init _ G.hst) q1194 q1195 q116 q1196 rfl (by decide +kernel) ⟨Nat.le_of_ble_eq_true rfl, Nat.le_of_ble_eq_true rfl⟩ dX1_atom_108 rfl) (z_ciF _ _ _ _ _ _),
   zz_of (ok_aret G (Or.inl ⟨_, rfl⟩) dX1_atom_111) (z_aret),
   zz_of (ok_aload_n G dX1_atom_112 rfl rfl) (z_ald _ _),
   zz_of (ok_calv G (hnh.q 113) (zmX1_sum _ G.hst) (RX1, TX1, 19) rfl q1203 q1205 qs13 q82 q1206 (by decide +kernel) ⟨Nat.le_of_ble_eq_true rfl, Nat.le_of_ble_eq_true rfl⟩ dX1_atom_113 rfl) (z_cvG _ _ _ _ _),
   zz_of (ok_astore_n G dX1_atom_116 rfl rfl (by decide)) (z_ast _ _),
   zz_of (ok_aload_n G dX1_atom_117 rfl rfl) (z_ald _ _),
   zz_of (ok_bipush G (v := 60) dX1_atom_118 (by decide) rfl) (z_cn 120 60),
   zz_of (ok_callv G hnh (zmX4_sign _ G.hst) rfl rfl (RX4, TX4, 7) rfl q1068 q1069 q1070 q88 q1071 (by decide +kernel) ⟨Nat.le_of_ble_eq_true rfl, Nat.le_of_ble_eq_true rfl⟩ dX1_atom_120 rfl) (z_callv _ _ _ _),
   zz_of (ok_ifeq G dX1_atom_123 rfl rfl) (z_zifeq _ _),
   zz_of (ok_new G (ci := 16) (RX19, TX19, 2) rfl rfl q1268 q1269 q121 (by decide) dX1_atom_126 rfl) (z_new _ _ _ _),
   zz_of (ok_dup G dX1_atom_129 rfl) (z_dup _),
   zz_of (ok_aload_n G dX1_atom_130 rfl rfl) (z_ald _ _),
   zz_of (ok_aload_n G dX1_atom_131 rfl rfl) (z_ald _ _),
   zz_of (ok_calv G (hnh.q 132) (zmX1_sum _ G.hst) (RX1, TX1, 19) rfl q1203 q1205 qs13 q82 q1206 (by decide +kernel) ⟨Nat.le_of_ble_eq_true rfl, Nat.le_of_ble_eq_true rfl⟩ dX1_atom_132 rfl) (z_cvG _ _ _ _ _),
   zz_of (ok_caliF G (hnh.q 135) (zmX19_init _ G.hst) q1270 q1271 q121 q1272 rfl (by decide +kernel) ⟨Nat.le_of_ble_eq_true rfl, Nat.le_of_ble_eq_true rfl⟩ dX1_atom_135 rfl) (z_ciF _ _ _ _ _ _),
   zz_of (ok_aret G (Or.inl ⟨_, rfl⟩) dX1_atom_138) (z_aret),
   zz_of (ok_aload_n G dX1_atom_139 rfl rfl) (z_ald _ _),
   zz_of (ok_bipush G (v := 62) dX1_atom_140 (by decide) rfl) (z_cn 142 62),
   zz_of (ok_callv G hnh (zmX4_sign _ G.hst) rfl rfl (RX4, TX4, 7) rfl q1068 q1069 q1070 q88 q1071 (by decide +kernel) ⟨Nat.le_of_ble_eq_true rfl, Nat.le_of_ble_eq_true rfl⟩ dX1_atom_142 rfl) (z_callv _ _ _ _),
   zz_of (ok_ifne G dX1_atom_145 rfl rfl) (z_zifne _ _),
   zz_of (ok_aload_n G dX1_atom_148 rfl rfl) (z_ald _ _),
   zz_of (ok_calvF G (hnh.q 149) (zmX4_wrong _ G.hst) (RX4, TX4, 7) rfl q955 q956 q957 q88 q958 (by decide +kernel) ⟨Nat.le_of_ble_eq_true rfl, Nat.le_of_ble_eq_true rfl⟩ dX1_atom_149 rfl) (z_cvF _ _ _ _ _ _ _),
   zz_of (ok_athr G (ci := 20) (i := 0) (RX10, TX10, 6) rfl rfl (hnh.q 152) dX1_atom_152) (z_athr _ _),
   zz_of (ok_new G (ci := 16) (RX19, TX19, 2) rfl rfl q1268 q1269 q121 (by decide) dX1_atom_153 rfl) (z_new _ _ _ _),
   zz_of (ok_dup G dX1_atom_156 rfl) (z_dup _),
   zz_of (ok_aload_n G dX1_atom_157 rfl rfl) (z_ald _ _),
   zz_of (ok_calv G (hnh.q 158) (zmX1_sum _ G.hst) (RX1, TX1, 19) rfl q1203 q1205 qs13 q82 q1206 (by decide +kernel) ⟨Nat.le_of_ble_eq_true rfl, Nat.le_of_ble_eq_true rfl⟩ dX1_atom_158 rfl) (z_cvG _ _ _ _ _),
   zz_of (ok_aload_n G dX1_atom_161 rfl rfl) (z_ald _ _),
   zz_of (ok_caliF G (hnh.q 162) (zmX19_init _ G.hst) q1270 q1271 q121 q1272 rfl (by decide +kernel) ⟨Nat.le_of_ble_eq_true rfl, Nat.le_of_ble_eq_true rfl⟩ dX1_atom_162 rfl) (z_ciF _ _ _ _ _ _),
   zz_of (ok_aret G (Or.inl ⟨_, rfl⟩) dX1_atom_165) (z_aret), trivial⟩

theorem zwX1_atom_4_0 {Q : Option zv → zz_M → Prop} {X : Nat → zz_M → Prop} {f : Nat → Nat × Nat} {S L : Nat → Nat → Int} {P : Nat → Nat → Option Nat} {c_ s_ : Nat}  (h : ((0 ≤ (40 : Int) ∧ (40 : Int) ≤ 127) ∧ ∃ (tx_1 : Nat → Int) (n_1 a_1 b_1 : Nat), qT S tx_1 n_1 ∧ S 101 3 = (a_1 : Int) ∧ a_1 ≤ n_1 ∧ (rn (qB tx_1) n_1 a_1 = b_1 ∧ (isSg tx_1 n_1 b_1 (40 : Int) = true → ((0 + 1 ≤ c_ ∧ 0 + 6 ≤ s_) ∧ (∃ t_2 : Nat, frF f t_2 ∧ R32 ((rS S (b_1 + 1) b_1) 101 6) ∧ ((rS S (b_1 + 1) b_1) 101 6 ≠ 6 → (∃ c3 s3 : Nat, (1 + c3 ≤ c_ ∧ 6 + s3 ≤ s_) ∧ (∃ (tx_4 : Nat → Int) (n_4 a_4 t_4 : Nat), qT (mm_up (rS S (b_1 + 1) b_1) 101 6 ((rS S (b_1 + 1) b_1) 101 6 + 1)) tx_4 n_4 ∧ (mm_up (rS S (b_1 + 1) b_1) 101 6 ((rS S (b_1 + 1) b_1) 101 6 + 1)) 101 3 = (a_4 : Int) ∧ a_4 ≤ n_4 ∧ (mm_up (rS S (b_1 + 1) b_1) 101 6 ((rS S (b_1 + 1) b_1) 101 6 + 1)) 101 6 = 3 ∧ frF f t_4 ∧ (∀ w_4 : Nat, soP tx_4 n_4 (atP tx_4 n_4 3) a_4 = .inl w_4 → (24 * (n_4 - a_4) + 64 ≤ c3 ∧ 120 * (n_4 - a_4) + 390 ≤ s3) ∧ ∀ (S_4 L_4 : Nat → Nat → Int) (P_4 : Nat → Nat → Option Nat) (f_4 : Nat → Nat × Nat) (u_4 : Nat), gr t_4 u_4 f (mm_up (rS S (b_1 + 1) b_1) 101 6 ((rS S (b_1 + 1) b_1) 101 6 + 1)) L P f_4 S_4 L_4 P_4 → S_4 101 4 = (w_4 : Int) → ((1 + c3 ≤ c_ ∧ 6 + s3 ≤ s_) ∧ 0 ≤ 5 ∧ X 0 ((2, f_4), S_4, L_4, P_4))) ∧ (∀ r_4 : Nat × (Fc → Bool), soP tx_4 n_4 (atP tx_4 n_4 3) a_4 = .inr r_4 → (24 * (r_4.1 - a_4) + 24 ≤ c3 ∧ 120 * (r_4.1 - a_4) + 228 + 10 * wl tx_4 n_4 r_4.1 ≤ s3) ∧ ∀ (S_4 L_4 : Nat → Nat → Int) (P_4 : Nat → Nat → Option Nat) (f_4 : Nat → Nat × Nat) (u_4 g_4 : Nat), gr t_4 u_4 f (mm_up (rS S (b_1 + 1) b_1) 101 6 ((rS S (b_1 + 1) b_1) 101 6 + 1)) L P f_4 S_4 L_4 P_4 → S_4 101 3 = (r_4.1 : Int) → S_4 101 6 = 3 → coT t_4 u_4 f_4 S_4 P_4 8 g_4 r_4.2 → (((((0 ≤ (41 : Int) ∧ (41 : Int) ≤ 127) ∧ ∃ (tx_6 : Nat → Int) (n_6 a_6 b_6 : Nat), qT (mm_up S_4 101 6 (S_4 101 6 - 1)) tx_6 n_6 ∧ (mm_up S_4 101 6 (S_4 101 6 - 1)) 101 3 = (a_6 : Int) ∧ a_6 ≤ n_6 ∧ (rn (qB tx_6) n_6 a_6 = b_6 ∧ (isSg tx_6 n_6 b_6 (41 : Int) = true → ((1 + c3 ≤ c_ ∧ 6 + s3 ≤ s_) ∧ (Q (some (vr g_4)) ((2, f_4), rS (mm_up S_4 101 6 (S_4 101 6 - 1)) (b_6 + 1) b_6, L_4, P_4)))) ∧ (isSg tx_6 n_6 b_6 (41 : Int) = false → ((1 + c3 + 1 ≤ c_ ∧ 6 + s3 + 6 ≤ s_) ∧ (∃ t_7 : Nat, frF f_4 t_7 ∧ (∀ (S_7 L_7 : Nat → Nat → Int) (P_7 : Nat → Nat → Option Nat) (f_7 : Nat → Nat × Nat), gr t_7 (t_7 + 1) f_4 (rS (mm_up S_4 101 6 (S_4 101 6 - 1)) b_6 b_6) L_4 P_4 f_7 S_7 L_7 P_7 → (∀ k, S_7 101 k = (rS (mm_up S_4 101 6 (S_4 101 6 - 1)) b_6 b_6) 101 k) → f_7 t_7 = (1, 20) → (zsh ((2, f_7), S_7, L_7, P_7) t_7 = (1, 20) ∧ (((1 + c3 + 1 ≤ c_ ∧ 6 + s3 + 6 ≤ s_) ∧ 0 ≤ 5 ∧ X 0 ((2, f_7), S_7, L_7, P_7))))))))))))))))) ∧ ((rS S (b_1 + 1) b_1) 101 6 = 6 → ∀ (S_2 L_2 : Nat → Nat → Int) (P_2 : Nat → Nat → Option Nat) (f_2 : Nat → Nat × Nat), gr t_2 (t_2 + 1) f (rS S (b_1 + 1) b_1) L P f_2 S_2 L_2 P_2 → (∀ k, S_2 101 k = (rS S (b_1 + 1) b_1) 101 k) → ((1 ≤ c_ ∧ 6 ≤ s_) ∧ 0 ≤ 5 ∧ X 0 ((2, f_2), S_2, L_2, P_2)))))) ∧ (isSg tx_1 n_1 b_1 (40 : Int) = false → (zz_J (zpX1_atom_4 c_ s_) (zz_retP Q X c_ s_) 43 [some (vr 100), some (vr 101), none] [] ((2, f), rS S b_1 b_1, L, P) (0, 0)))))) : zz_J (zpX1_atom_4 c_ s_) (zz_retP Q X c_ s_) 0 [some (vr 100), none, none] [] ((2, f), S, L, P) (0, 0) := zz_J.go [(43, [2]), (74, [2]), (93, [2]), (112, [2])] 400 h
theorem zwX1_atom_4_43 {Q : Option zv → zz_M → Prop} {X : Nat → zz_M → Prop} {f : Nat → Nat × Nat} {S L : Nat → Nat → Int} {P : Nat → Nat → Option Nat} {c_ s_ : Nat} {u_ v_ : Nat}  (h : ∃ c1 s1 : Nat, (u_ + c1 ≤ c_ ∧ v_ + s1 ≤ s_) ∧ (∃ (tx_2 : Nat → Int) (n_2 a_2 b_2 j_2 t_2 : Nat), qT S tx_2 n_2 ∧ S 101 3 = (a_2 : Int) ∧ a_2 ≤ n_2 ∧ rn (qB tx_2) n_2 a_2 = b_2 ∧ (1009 = 1000 + j_2 ∧ j_2 < 18) ∧ frF f t_2 ∧ (9 ≤ c1 ∧ 24 + 5 * (rn (qL tx_2) n_2 b_2 - b_2) ≤ s1) ∧ (∀ (f_2 : Nat → Nat × Nat) (S_2 L_2 : Nat → Nat → Int) (P_2 : Nat → Nat → Option Nat) (u_2 : Nat), gr t_2 u_2 f S L P f_2 S_2 L_2 P_2 → S_2 101 4 = (b_2 : Int) → S_2 101 6 = S 101 6 → (hsW tx_2 n_2 b_2 (wo j_2) = true → S_2 101 3 = ((b_2 + (wo j_2).length : Nat) : Int) → ((u_ + c1 + 1 ≤ c_ ∧ v_ + s1 + 6 ≤ s_) ∧ (∃ t_3 : Nat, frF f_2 t_3 ∧ R32 (S_2 101 6) ∧ (S_2 101 6 ≠ 6 → (∃ c4 s4 : Nat, (u_ + c1 + 1 + c4 ≤ c_ ∧ v_ + s1 + 6 + s4 ≤ s_) ∧ (∃ (tx_5 : Nat → Int) (n_5 a_5 t_5 : Nat), qT (mm_up S_2 101 6 (S_2 101 6 + 1)) tx_5 n_5 ∧ (mm_up S_2 101 6 (S_2 101 6 + 1)) 101 3 = (a_5 : Int) ∧ a_5 ≤ n_5 ∧ (mm_up S_2 101 6 (S_2 101 6 + 1)) 101 6 = 3 ∧ frF f_2 t_5 ∧ (∀ w_5 : Nat, atP tx_5 n_5 3 a_5 = .inl w_5 → (24 * (n_5 - a_5) + 60 ≤ c4 ∧ 120 * (n_5 - a_5) + 300 ≤ s4) ∧ ∀ (S_5 L_5 : Nat → Nat → Int) (P_5 : Nat → Nat → Option Nat) (f_5 : Nat → Nat × Nat) (u_5 : Nat), gr t_5 u_5 f_2 (mm_up S_2 101 6 (S_2 101 6 + 1)) L_2 P_2 f_5 S_5 L_5 P_5 → S_5 101 4 = (w_5 : Int) → ((u_ + c1 + 1 + c4 ≤ c_ ∧ v_ + s1 + 6 + s4 ≤ s_) ∧ 0 ≤ 5 ∧ X 0 ((2, f_5), S_5, L_5, P_5))) ∧ (∀ r_5 : Nat × (Fc → Bool), atP tx_5 n_5 3 a_5 = .inr r_5 → (24 * (r_5.1 - a_5) ≤ c4 ∧ 120 * (r_5.1 - a_5) ≤ s4) ∧ ∀ (S_5 L_5 : Nat → Nat → Int) (P_5 : Nat → Nat → Option Nat) (f_5 : Nat → Nat × Nat) (u_5 g_5 : Nat), gr t_5 u_5 f_2 (mm_up S_2 101 6 (S_2 101 6 + 1)) L_2 P_2 f_5 S_5 L_5 P_5 → S_5 101 3 = (r_5.1 : Int) → S_5 101 6 = 3 → coT t_5 u_5 f_5 S_5 P_5 6 g_5 r_5.2 → (((∃ h7_ : Nat, zfree ((2, f_5), mm_up S_5 101 6 (S_5 101 6 - 1), L_5, P_5) h7_ ∧ (u_ + c1 + 1 + c4 + 1 ≤ c_ ∧ v_ + s1 + 6 + s4 + 1 ≤ s_) ∧ ((u_ + c1 + 1 + c4 + 1 + 0 ≤ c_ ∧ v_ + s1 + 6 + s4 + 1 + 0 ≤ s_) ∧ (zsh ((2, zrw f_5 h7_ (1, 12)), zrw (mm_up S_5 101 6 (S_5 101 6 - 1)) h7_ (fun _ => 0), zrw L_5 h7_ (fun _ => 0), zrw P_5 h7_ (fun _ => none)) h7_ = (1, 12) ∧ zfx ((2, zrw f_5 h7_ (1, 12)), zrw (mm_up S_5 101 6 (S_5 101 6 - 1)) h7_ (fun _ => 0), zrw L_5 h7_ (fun _ => 0), zrw P_5 h7_ (fun _ => none)).1.1 h7_ 0 = false ∧ ((u_ + c1 + 1 + c4 + 1 + 0 ≤ c_ ∧ v_ + s1 + 6 + s4 + 1 + 0 ≤ s_) ∧ (Q (some (vr h7_)) ((2, zrw f_5 h7_ (1, 12)), zrw (mm_up S_5 101 6 (S_5 101 6 - 1)) h7_ (fun _ => 0), zrw L_5 h7_ (fun _ => 0), mm_up (zrw P_5 h7_ (fun _ => none)) h7_ 0 (some g_5))))))))))))) ∧ (S_2 101 6 = 6 → ∀ (S_3 L_3 : Nat → Nat → Int) (P_3 : Nat → Nat → Option Nat) (f_3 : Nat → Nat × Nat), gr t_3 (t_3 + 1) f_2 S_2 L_2 P_2 f_3 S_3 L_3 P_3 → (∀ k, S_3 101 k = S_2 101 k) → ((u_ + c1 + 1 ≤ c_ ∧ v_ + s1 + 6 ≤ s_) ∧ 0 ≤ 5 ∧ X 0 ((2, f_3), S_3, L_3, P_3)))))) ∧ (hsW tx_2 n_2 b_2 (wo j_2) = false → S_2 101 3 = (b_2 : Int) → (zz_J (zpX1_atom_4 c_ s_) (zz_retP Q X c_ s_) 74 [some (vr 100), some (vr 101), none] [] ((2, f_2), S_2, L_2, P_2) (u_ + c1, v_ + s1)))))) : zz_J (zpX1_atom_4 c_ s_) (zz_retP Q X c_ s_) 43 [some (vr 100), some (vr 101), none] [] ((2, f), S, L, P) (u_, v_) := zz_J.go [(43, [2]), (74, [2]), (93, [2]), (112, [2])] 400 h
theorem zwX1_atom_4_74 {Q : Option zv → zz_M → Prop} {X : Nat → zz_M → Prop} {f : Nat → Nat × Nat} {S L : Nat → Nat → Int} {P : Nat → Nat → Option Nat} {c_ s_ : Nat} {u_ v_ : Nat}  (h : ∃ c1 s1 : Nat, (u_ + c1 ≤ c_ ∧ v_ + s1 ≤ s_) ∧ (∃ (tx_2 : Nat → Int) (n_2 a_2 b_2 j_2 t_2 : Nat), qT S tx_2 n_2 ∧ S 101 3 = (a_2 : Int) ∧ a_2 ≤ n_2 ∧ rn (qB tx_2) n_2 a_2 = b_2 ∧ (1010 = 1000 + j_2 ∧ j_2 < 18) ∧ frF f t_2 ∧ (9 ≤ c1 ∧ 24 + 5 * (rn (qL tx_2) n_2 b_2 - b_2) ≤ s1) ∧ (∀ (f_2 : Nat → Nat × Nat) (S_2 L_2 : Nat → Nat → Int) (P_2 : Nat → Nat → Option Nat) (u_2 : Nat), gr t_2 u_2 f S L P f_2 S_2 L_2 P_2 → S_2 101 4 = (b_2 : Int) → S_2 101 6 = S 101 6 → (hsW tx_2 n_2 b_2 (wo j_2) = true → S_2 101 3 = ((b_2 + (wo j_2).length : Nat) : Int) → (∃ h3_ : Nat, zfree ((2, f_2), S_2, L_2, P_2) h3_ ∧ (u_ + c1 + 1 ≤ c_ ∧ v_ + s1 + 1 ≤ s_) ∧ ((u_ + c1 + 1 + 0 ≤ c_ ∧ v_ + s1 + 1 + 0 ≤ s_) ∧ (zsh ((2, zrw f_2 h3_ (1, 13)), zrw S_2 h3_ (fun _ => 0), zrw L_2 h3_ (fun _ => 0), zrw P_2 h3_ (fun _ => none)) h3_ = (1, 13) ∧ ((1 : Int) = 0 ∨ (1 : Int) = 1) ∧ ((u_ + c1 + 1 + 0 ≤ c_ ∧ v_ + s1 + 1 + 0 ≤ s_) ∧ (Q (some (vr h3_)) ((2, zrw f_2 h3_ (1, 13)), mm_up (zrw S_2 h3_ (fun _ => 0)) h3_ 0 (1 : Int), zrw L_2 h3_ (fun _ => 0), zrw P_2 h3_ (fun _ => none)))))))) ∧ (hsW tx_2 n_2 b_2 (wo j_2) = false → S_2 101 3 = (b_2 : Int) → (zz_J (zpX1_atom_4 c_ s_) (zz_retP Q X c_ s_) 93 [some (vr 100), some (vr 101), none] [] ((2, f_2), S_2, L_2, P_2) (u_ + c1, v_ + s1)))))) : zz_J (zpX1_atom_4 c_ s_) (zz_retP Q X c_ s_) 74 [some (vr 100), some (vr 101), none] [] ((2, f), S, L, P) (u_, v_) := zz_J.go [(43, [2]), (74, [2]), (93, [2]), (112, [2])] 400 h
theorem zwX1_atom_4_93 {Q : Option zv → zz_M → Prop} {X : Nat → zz_M → Prop} {f : Nat → Nat × Nat} {S L : Nat → Nat → Int} {P : Nat → Nat → Option Nat} {c_ s_ : Nat} {u_ v_ : Nat}  (h : ∃ c1 s1 : Nat, (u_ + c1 ≤ c_ ∧ v_ + s1 ≤ s_) ∧ (∃ (tx_2 : Nat → Int) (n_2 a_2 b_2 j_2 t_2 : Nat), qT S tx_2 n_2 ∧ S 101 3 = (a_2 : Int) ∧ a_2 ≤ n_2 ∧ rn (qB tx_2) n_2 a_2 = b_2 ∧ (1011 = 1000 + j_2 ∧ j_2 < 18) ∧ frF f t_2 ∧ (9 ≤ c1 ∧ 24 + 5 * (rn (qL tx_2) n_2 b_2 - b_2) ≤ s1) ∧ (∀ (f_2 : Nat → Nat × Nat) (S_2 L_2 : Nat → Nat → Int) (P_2 : Nat → Nat → Option Nat) (u_2 : Nat), gr t_2 u_2 f S L P f_2 S_2 L_2 P_2 → S_2 101 4 = (b_2 : Int) → S_2 101 6 = S 101 6 → (hsW tx_2 n_2 b_2 (wo j_2) = true → S_2 101 3 = ((b_2 + (wo j_2).length : Nat) : Int) → (∃ h3_ : Nat, zfree ((2, f_2), S_2, L_2, P_2) h3_ ∧ (u_ + c1 + 1 ≤ c_ ∧ v_ + s1 + 1 ≤ s_) ∧ ((u_ + c1 + 1 + 0 ≤ c_ ∧ v_ + s1 + 1 + 0 ≤ s_) ∧ (zsh ((2, zrw f_2 h3_ (1, 13)), zrw S_2 h3_ (fun _ => 0), zrw L_2 h3_ (fun _ => 0), zrw P_2 h3_ (fun _ => none)) h3_ = (1, 13) ∧ ((0 : Int) = 0 ∨ (0 : Int) = 1) ∧ ((u_ + c1 + 1 + 0 ≤ c_ ∧ v_ + s1 + 1 + 0 ≤ s_) ∧ (Q (some (vr h3_)) ((2, zrw f_2 h3_ (1, 13)), mm_up (zrw S_2 h3_ (fun _ => 0)) h3_ 0 (0 : Int), zrw L_2 h3_ (fun _ => 0), zrw P_2 h3_ (fun _ => none)))))))) ∧ (hsW tx_2 n_2 b_2 (wo j_2) = false → S_2 101 3 = (b_2 : Int) → (zz_J (zpX1_atom_4 c_ s_) (zz_retP Q X c_ s_) 112 [some (vr 100), some (vr 101), none] [] ((2, f_2), S_2, L_2, P_2) (u_ + c1, v_ + s1)))))) : zz_J (zpX1_atom_4 c_ s_) (zz_retP Q X c_ s_) 93 [some (vr 100), some (vr 101), none] [] ((2, f), S, L, P) (u_, v_) := zz_J.go [(43, [2]), (74, [2]), (93, [2]), (112, [2])] 400 h
theorem zwX1_atom_4_112 {Q : Option zv → zz_M → Prop} {X : Nat → zz_M → Prop} {f : Nat → Nat × Nat} {S L : Nat → Nat → Int} {P : Nat → Nat → Option Nat} {c_ s_ : Nat} {u_ v_ : Nat}  (h : ∃ c1 s1 : Nat, (u_ + c1 ≤ c_ ∧ v_ + s1 ≤ s_) ∧ (∃ (tx_2 : Nat → Int) (n_2 a_2 t_2 : Nat), qT S tx_2 n_2 ∧ S 101 3 = (a_2 : Int) ∧ a_2 ≤ n_2 ∧ frF f t_2 ∧ (∀ w_2 : Nat, suP tx_2 n_2 a_2 = .inl w_2 → (14 * (n_2 - a_2) + 14 ≤ c1 ∧ 95 * (n_2 - a_2) + 90 ≤ s1) ∧ ∀ (S_2 L_2 : Nat → Nat → Int) (P_2 : Nat → Nat → Option Nat) (f_2 : Nat → Nat × Nat) (u_2 : Nat), gr t_2 u_2 f S L P f_2 S_2 L_2 P_2 → S_2 101 4 = (w_2 : Int) → ((u_ + c1 ≤ c_ ∧ v_ + s1 ≤ s_) ∧ 0 ≤ 5 ∧ X 0 ((2, f_2), S_2, L_2, P_2))) ∧ (∀ r_2 : Nat × (Fc → Int), suP tx_2 n_2 a_2 = .inr r_2 → (14 * (r_2.1 - a_2) ≤ c1 ∧ 95 * (r_2.1 - a_2) ≤ s1) ∧ ∀ (S_2 L_2 : Nat → Nat → Int) (P_2 : Nat → Nat → Option Nat) (f_2 : Nat → Nat × Nat) (u_2 g_2 : Nat), gr t_2 u_2 f S L P f_2 S_2 L_2 P_2 → S_2 101 3 = (r_2.1 : Int) → S_2 101 6 = S 101 6 → SuT t_2 u_2 f_2 S_2 P_2 g_2 r_2.2 → (((0 ≤ (60 : Int) ∧ (60 : Int) ≤ 127) ∧ ∃ (tx_3 : Nat → Int) (n_3 a_3 b_3 : Nat), qT S_2 tx_3 n_3 ∧ S_2 101 3 = (a_3 : Int) ∧ a_3 ≤ n_3 ∧ (rn (qB tx_3) n_3 a_3 = b_3 ∧ (isSg tx_3 n_3 b_3 (60 : Int) = true → (∃ h4_ : Nat, zfree ((2, f_2), rS S_2 (b_3 + 1) b_3, L_2, P_2) h4_ ∧ (u_ + c1 + 1 ≤ c_ ∧ v_ + s1 + 2 ≤ s_) ∧ (∃ c5 s5 : Nat, (u_ + c1 + 1 + c5 ≤ c_ ∧ v_ + s1 + 2 + s5 ≤ s_) ∧ (∃ (tx_6 : Nat → Int) (n_6 a_6 t_6 : Nat), qT (zrw (rS S_2 (b_3 + 1) b_3) h4_ (fun _ => 0)) tx_6 n_6 ∧ (zrw (rS S_2 (b_3 + 1) b_3) h4_ (fun _ => 0)) 101 3 = (a_6 : Int) ∧ a_6 ≤ n_6 ∧ frF (zrw f_2 h4_ (1, 16)) t_6 ∧ (∀ w_6 : Nat, suP tx_6 n_6 a_6 = .inl w_6 → (14 * (n_6 - a_6) + 14 ≤ c5 ∧ 95 * (n_6 - a_6) + 90 ≤ s5) ∧ ∀ (S_6 L_6 : Nat → Nat → Int) (P_6 : Nat → Nat → Option Nat) (f_6 : Nat → Nat × Nat) (u_6 : Nat), gr t_6 u_6 (zrw f_2 h4_ (1, 16)) (zrw (rS S_2 (b_3 + 1) b_3) h4_ (fun _ => 0)) (zrw L_2 h4_ (fun _ => 0)) (zrw P_2 h4_ (fun _ => none)) f_6 S_6 L_6 P_6 → S_6 101 4 = (w_6 : Int) → ((u_ + c1 + 1 + c5 ≤ c_ ∧ v_ + s1 + 2 + s5 ≤ s_) ∧ 0 ≤ 5 ∧ X 0 ((2, f_6), S_6, L_6, P_6))) ∧ (∀ r_6 : Nat × (Fc → Int), suP tx_6 n_6 a_6 = .inr r_6 → (14 * (r_6.1 - a_6) ≤ c5 ∧ 95 * (r_6.1 - a_6) ≤ s5) ∧ ∀ (S_6 L_6 : Nat → Nat → Int) (P_6 : Nat → Nat → Option Nat) (f_6 : Nat → Nat × Nat) (u_6 g_6 : Nat), gr t_6 u_6 (zrw f_2 h4_ (1, 16)) (zrw (rS S_2 (b_3 + 1) b_3) h4_ (fun _ => 0)) (zrw L_2 h4_ (fun _ => 0)) (zrw P_2 h4_ (fun _ => none)) f_6 S_6 L_6 P_6 → S_6 101 3 = (r_6.1 : Int) → S_6 101 6 = (zrw (rS S_2 (b_3 + 1) b_3) h4_ (fun _ => 0)) 101 6 → SuT t_6 u_6 f_6 S_6 P_6 g_6 r_6.2 → ((u_ + c1 + 1 + c5 + 0 ≤ c_ ∧ v_ + s1 + 2 + s5 + 0 ≤ s_) ∧ (zsh ((2, f_6), S_6, L_6, P_6) h4_ = (1, 16) ∧ zfx ((2, f_6), S_6, L_6, P_6).1.1 h4_ 0 = false ∧ zfx ((2, f_6), S_6, L_6, P_6).1.1 h4_ 1 = false ∧ ((u_ + c1 + 1 + c5 + 0 ≤ c_ ∧ v_ + s1 + 2 + s5 + 0 ≤ s_) ∧ (Q (some (vr h4_)) ((2, f_6), S_6, L_6, mm_up (mm_up P_6 h4_ 0 (some g_2)) h4_ 1 (some g_6))))))))))) ∧ (isSg tx_3 n_3 b_3 (60 : Int) = false → (((0 ≤ (62 : Int) ∧ (62 : Int) ≤ 127) ∧ ∃ (tx_8 : Nat → Int) (n_8 a_8 b_8 : Nat), qT (rS S_2 b_3 b_3) tx_8 n_8 ∧ (rS S_2 b_3 b_3) 101 3 = (a_8 : Int) ∧ a_8 ≤ n_8 ∧ (rn (qB tx_8) n_8 a_8 = b_8 ∧ (isSg tx_8 n_8 b_8 (62 : Int) = true → (∃ h9_ : Nat, zfree ((2, f_2), rS (rS S_2 b_3 b_3) (b_8 + 1) b_8, L_2, P_2) h9_ ∧ (u_ + c1 + 1 ≤ c_ ∧ v_ + s1 + 2 ≤ s_) ∧ (∃ c10 s10 : Nat, (u_ + c1 + 1 + c10 ≤ c_ ∧ v_ + s1 + 2 + s10 ≤ s_) ∧ (∃ (tx_11 : Nat → Int) (n_11 a_11 t_11 : Nat), qT (zrw (rS (rS S_2 b_3 b_3) (b_8 + 1) b_8) h9_ (fun _ => 0)) tx_11 n_11 ∧ (zrw (rS (rS S_2 b_3 b_3) (b_8 + 1) b_8) h9_ (fun _ => 0)) 101 3 = (a_11 : Int) ∧ a_11 ≤ n_11 ∧ frF (zrw f_2 h9_ (1, 16)) t_11 ∧ (∀ w_11 : Nat, suP tx_11 n_11 a_11 = .inl w_11 → (14 * (n_11 - a_11) + 14 ≤ c10 ∧ 95 * (n_11 - a_11) + 90 ≤ s10) ∧ ∀ (S_11 L_11 : Nat → Nat → Int) (P_11 : Nat → Nat → Option Nat) (f_11 : Nat → Nat × Nat) (u_11 : Nat), gr t_11 u_11 (zrw f_2 h9_ (1, 16)) (zrw (rS (rS S_2 b_3 b_3) (b_8 + 1) b_8) h9_ (fun _ => 0)) (zrw L_2 h9_ (fun _ => 0)) (zrw P_2 h9_ (fun _ => none)) f_11 S_11 L_11 P_11 → S_11 101 4 = (w_11 : Int) → ((u_ + c1 + 1 + c10 ≤ c_ ∧ v_ + s1 + 2 + s10 ≤ s_) ∧ 0 ≤ 5 ∧ X 0 ((2, f_11), S_11, L_11, P_11))) ∧ (∀ r_11 : Nat × (Fc → Int), suP tx_11 n_11 a_11 = .inr r_11 → (14 * (r_11.1 - a_11) ≤ c10 ∧ 95 * (r_11.1 - a_11) ≤ s10) ∧ ∀ (S_11 L_11 : Nat → Nat → Int) (P_11 : Nat → Nat → Option Nat) (f_11 : Nat → Nat × Nat) (u_11 g_11 : Nat), gr t_11 u_11 (zrw f_2 h9_ (1, 16)) (zrw (rS (rS S_2 b_3 b_3) (b_8 + 1) b_8) h9_ (fun _ => 0)) (zrw L_2 h9_ (fun _ => 0)) (zrw P_2 h9_ (fun _ => none)) f_11 S_11 L_11 P_11 → S_11 101 3 = (r_11.1 : Int) → S_11 101 6 = (zrw (rS (rS S_2 b_3 b_3) (b_8 + 1) b_8) h9_ (fun _ => 0)) 101 6 → SuT t_11 u_11 f_11 S_11 P_11 g_11 r_11.2 → ((u_ + c1 + 1 + c10 + 0 ≤ c_ ∧ v_ + s1 + 2 + s10 + 0 ≤ s_) ∧ (zsh ((2, f_11), S_11, L_11, P_11) h9_ = (1, 16) ∧ zfx ((2, f_11), S_11, L_11, P_11).1.1 h9_ 0 = false ∧ zfx ((2, f_11), S_11, L_11, P_11).1.1 h9_ 1 = false ∧ ((u_ + c1 + 1 + c10 + 0 ≤ c_ ∧ v_ + s1 + 2 + s10 + 0 ≤ s_) ∧ (Q (some (vr h9_)) ((2, f_11), S_11, L_11, mm_up (mm_up P_11 h9_ 0 (some g_11)) h9_ 1 (some g_2))))))))))) ∧ (isSg tx_8 n_8 b_8 (62 : Int) = false → ((u_ + c1 + 1 ≤ c_ ∧ v_ + s1 + 6 ≤ s_) ∧ (∃ t_13 : Nat, frF f_2 t_13 ∧ (∀ (S_13 L_13 : Nat → Nat → Int) (P_13 : Nat → Nat → Option Nat) (f_13 : Nat → Nat × Nat), gr t_13 (t_13 + 1) f_2 (rS (rS S_2 b_3 b_3) b_8 b_8) L_2 P_2 f_13 S_13 L_13 P_13 → (∀ k, S_13 101 k = (rS (rS S_2 b_3 b_3) b_8 b_8) 101 k) → f_13 t_13 = (1, 20) → (zsh ((2, f_13), S_13, L_13, P_13) t_13 = (1, 20) ∧ (((u_ + c1 + 1 ≤ c_ ∧ v_ + s1 + 6 ≤ s_) ∧ 0 ≤ 5 ∧ X 0 ((2, f_13), S_13, L_13, P_13)))))))))))))))))) : zz_J (zpX1_atom_4 c_ s_) (zz_retP Q X c_ s_) 112 [some (vr 100), some (vr 101), none] [] ((2, f), S, L, P) (u_, v_) := zz_J.go [(43, [2]), (74, [2]), (93, [2]), (112, [2])] 400 h

theorem zmX1_atom_4 (l : Launch) (hl : l.stackTraces = false) (c_ s_ : Nat) : mm_Spec l yX1_atom (ws_ yX1_atom cX1_atom 3 (some (.object "ChaseCourt$Cond"))) (mm_rm 25 c_ s_) (zE (zX1_atom_4 c_ s_)) := by
  refine zz_Met.J hl (by decide) (fun C G hnh => ztX1_atom_4 c_ s_ G hnh) ?_
  rintro as ⟨⟨t_, f⟩, S, L, P⟩ Q X h
  unfold zX1_atom_4 at h
  split at h
  rotate_left
  · exact h.elim
  rename_i h_
  obtain ⟨e1_, e2_, h⟩ := mm_and2 h (fun q => q)
  cases mm_beq e1_
  cases mm_beq e2_
  try dsimp only at h
  refine ⟨rfl, ?_⟩
  refine zz_retP_J ?_
  obtain ⟨tx, n, a, t, hT, ha, han, h6, hf, qw, qr⟩ := h
  have n400 := hT.1
  have t2 := hf.1
  have hx := fun k hk => (hT.2.2 k hk).1
  obtain ⟨b, hb⟩ : ∃ b, rn (qB tx) n a = b := ⟨_, rfl⟩
  have hbn : b ≤ n := by rw [← hb]; exact rn_le han
  have hab : a ≤ b := by rw [← hb]; exact rn_ge han
  have hbb : rn (qB tx) n b = b := by rw [← hb]; exact rn_rn han
  have wlb := wl_le (tx := tx) hbn
  have ewl : rn (qL tx) n b - b = wl tx n b := by unfold wl; rw [hbb]
  have whs : ∀ j, hsW tx n b (wo j) = true → wl tx n b = (wo j).length := fun j e => wl_hs (by rw [hbb]; exact e)
  have t112 : ∀ (u uu vv : Nat) (f' : Nat → Nat × Nat) (S' L' : Nat → Nat → Int) (P' : Nat → Nat → Option Nat), atP tx n 4 a = plP tx n a → hsW tx n b (wo 10) = false → hsW tx n b (wo 11) = false → gr t u f S L P f' S' L' P' → S' 101 3 = (b : Int) → S' 101 6 = 2 → uu ≤ 27 → vv ≤ 72 + 15 * wl tx n b → zz_J (zpX1_atom_4 c_ s_) (zz_retP Q X c_ s_) 112 [some (vr 100), some (vr 101), none] [] ((2, f'), S', L', P') (uu, vv) := by
    intro u uu vv f' S' L' P' hpl h10 h11 g1 r3 r6 hu hv
    have tu := g1.le
    cases hs : suP tx n b with
    | inl w =>
      obtain ⟨⟨b1, b2⟩, q⟩ := qw w (hpl.trans (pl_w hb h10 h11 hs))
      refine zwX1_atom_4_112 ⟨14 * (n - b) + 14, 95 * (n - b) + 90, by omega, tx, n, b, u, g1.T t2 hT, r3, hbn, g1.fr, fun w' hw' => ?_, fun r0 hr0 => (by rw [hs] at hr0; cases hr0)⟩
      rw [hs] at hw'
      cases hw'
      exact ⟨⟨Nat.le_refl _, Nat.le_refl _⟩, fun S3 L3 P3 f3 u3 g3 e3 => ⟨by omega, by decide, q _ _ _ _ _ (g1.tr g3) e3⟩⟩
    | inr c =>
      have hc := suP_in hx b c hbn hs
      have w2 := suP_wl hx hbn hs
      have hb2 := p3_B (tx := tx) c.1 hc.2.1
      have bud : 24 * (c.1 + 2 - a) ≤ c_ ∧ 120 * (c.1 + 2 - a) ≤ s_ := by
        cases h60 : isSg tx n (rn (qB tx) n c.1) 60 with
        | true =>
          have h5 := (isSg_t.mp h60).1
          cases hs2 : suP tx n (rn (qB tx) n c.1 + 1) with
          | inl w =>
            obtain ⟨⟨b1, b2⟩, -⟩ := qw w (hpl.trans (pl_lw hb h10 h11 hs h60 hs2))
            omega
          | inr e =>
            have h6 := suP_in hx _ e (by omega) hs2
            obtain ⟨⟨b1, b2⟩, -⟩ := qr _ (hpl.trans (pl_lr hb h10 h11 hs h60 hs2))
            have b1 : 24 * (e.1 - a) ≤ c_ := b1
            have b2 : 120 * (e.1 - a) ≤ s_ := b2
            omega
        | false =>
          cases h62 : isSg tx n (rn (qB tx) n c.1) 62 with
          | true =>
            have h5 := (isSg_t.mp h62).1
            cases hs2 : suP tx n (rn (qB tx) n c.1 + 1) with
            | inl w =>
              obtain ⟨⟨b1, b2⟩, -⟩ := qw w (hpl.trans (pl_gw hb h10 h11 hs h60 h62 hs2))
              omega
            | inr e =>
              have h6 := suP_in hx _ e (by omega) hs2
              obtain ⟨⟨b1, b2⟩, -⟩ := qr _ (hpl.trans (pl_gr hb h10 h11 hs h60 h62 hs2))
              have b1 : 24 * (e.1 - a) ≤ c_ := b1
              have b2 : 120 * (e.1 - a) ≤ s_ := b2
              omega
          | false =>
            obtain ⟨⟨b1, b2⟩, -⟩ := qw _ (hpl.trans (pl_n hb h10 h11 hs h60 h62))
            omega
      refine zwX1_atom_4_112 ⟨14 * (c.1 - b), 95 * (c.1 - b), by omega, tx, n, b, u, g1.T t2 hT, r3, hbn, g1.fr, fun w' hw' => (by rw [hs] at hw'; cases hw'), fun r0 hr0 => ?_⟩
      rw [hs] at hr0
      cases hr0
      refine ⟨⟨Nat.le_refl _, Nat.le_refl _⟩, fun S3 L3 P3 f3 u3 x g3 e3 e6 hx3 => ?_⟩
      have g13 := g1.tr g3
      have uu3 := g3.le
      have u32 : 2000 ≤ u3 := by omega
      -- the other sum, and what is made of both
      have snd : ∀ (i j : Nat), rn (qB tx) n c.1 < n → ∀ (Y : Nat → (Nat → Nat → Int) → (Nat → Nat → Int) → (Nat → Nat → Option Nat) → (Nat → Nat × Nat) → Prop),
          (∀ w, suP tx n (rn (qB tx) n c.1 + 1) = .inl w → atP tx n 4 a = .inl w) →
          (∀ e, suP tx n (rn (qB tx) n c.1 + 1) = .inr e → 24 * (e.1 - a) ≤ c_ ∧ 120 * (e.1 - a) ≤ s_) →
          (∀ e, suP tx n (rn (qB tx) n c.1 + 1) = .inr e → ∀ (S6 L6 : Nat → Nat → Int) (P6 : Nat → Nat → Option Nat) (f6 : Nat → Nat × Nat) (u6 y : Nat), gr t u6 f S L P f6 S6 L6 P6 → S6 101 3 = (e.1 : Int) → S6 101 6 = 2 → f6 u3 = (1, 16) → u3 + 1 ≤ u6 → agR u u3 f3 S3 P3 f6 S6 P6 → SuT (u3 + 1) u6 f6 S6 P6 y e.2 → Y y S6 L6 P6 f6) →
          ∃ h4_ : Nat, (h4_ = u3 ∧ zfree ((2, f3), rS S3 i j, L3, P3) h4_) ∧ (uu + 14 * (c.1 - b) + 1 ≤ c_ ∧ vv + 95 * (c.1 - b) + 2 ≤ s_) ∧ (∃ c5 s5 : Nat, (uu + 14 * (c.1 - b) + 1 + c5 ≤ c_ ∧ vv + 95 * (c.1 - b) + 2 + s5 ≤ s_) ∧ (i = rn (qB tx) n c.1 + 1 → ∃ (tx_6 : Nat → Int) (n_6 a_6 t_6 : Nat), qT (zrw (rS S3 i j) h4_ (fun _ => 0)) tx_6 n_6 ∧ (zrw (rS S3 i j) h4_ (fun _ => 0)) 101 3 = (a_6 : Int) ∧ a_6 ≤ n_6 ∧ frF (zrw f3 h4_ (1, 16)) t_6 ∧ (∀ w_6 : Nat, suP tx_6 n_6 a_6 = .inl w_6 → (14 * (n_6 - a_6) + 14 ≤ c5 ∧ 95 * (n_6 - a_6) + 90 ≤ s5) ∧ ∀ (S_6 L_6 : Nat → Nat → Int) (P_6 : Nat → Nat → Option Nat) (f_6 : Nat → Nat × Nat) (u_6 : Nat), gr t_6 u_6 (zrw f3 h4_ (1, 16)) (zrw (rS S3 i j) h4_ (fun _ => 0)) (zrw L3 h4_ (fun _ => 0)) (zrw P3 h4_ (fun _ => none)) f_6 S_6 L_6 P_6 → S_6 101 4 = (w_6 : Int) → ((uu + 14 * (c.1 - b) + 1 + c5 ≤ c_ ∧ vv + 95 * (c.1 - b) + 2 + s5 ≤ s_) ∧ 0 ≤ 5 ∧ X 0 ((2, f_6), S_6, L_6, P_6))) ∧ (∀ r_6 : Nat × (Fc → Int), suP tx_6 n_6 a_6 = .inr r_6 → (14 * (r_6.1 - a_6) ≤ c5 ∧ 95 * (r_6.1 - a_6) ≤ s5) ∧ ∀ (S_6 L_6 : Nat → Nat → Int) (P_6 : Nat → Nat → Option Nat) (f_6 : Nat → Nat × Nat) (u_6 g_6 : Nat), gr t_6 u_6 (zrw f3 h4_ (1, 16)) (zrw (rS S3 i j) h4_ (fun _ => 0)) (zrw L3 h4_ (fun _ => 0)) (zrw P3 h4_ (fun _ => none)) f_6 S_6 L_6 P_6 → S_6 101 3 = (r_6.1 : Int) → S_6 101 6 = (zrw (rS S3 i j) h4_ (fun _ => 0)) 101 6 → SuT t_6 u_6 f_6 S_6 P_6 g_6 r_6.2 → ((uu + 14 * (c.1 - b) + 1 + c5 + 0 ≤ c_ ∧ vv + 95 * (c.1 - b) + 2 + s5 + 0 ≤ s_) ∧ (zsh ((2, f_6), S_6, L_6, P_6) h4_ = (1, 16) ∧ zfx ((2, f_6), S_6, L_6, P_6).1.1 h4_ 0 = false ∧ zfx ((2, f_6), S_6, L_6, P_6).1.1 h4_ 1 = false ∧ ((uu + 14 * (c.1 - b) + 1 + c5 + 0 ≤ c_ ∧ vv + 95 * (c.1 - b) + 2 + s5 + 0 ≤ s_) ∧ Y g_6 S_6 L_6 P_6 f_6)))))) := by
        intro i j hlt Y yw yb yr
        have gx : gr u3 (u3 + 1) f3 S3 L3 P3 (zrw f3 u3 (1, 16)) (zrw (rS S3 i j) u3 (fun _ => 0)) (zrw L3 u3 (fun _ => 0)) (zrw P3 u3 (fun _ => none)) := (gr.al g3.fr (fun j hj => zrw_n _ _ hj) (fun j hj => zrw_n _ _ hj)).ofS (fun h k hk => rdC_rS h k hk)
        have g1x := g13.tr gx
        refine ⟨u3, ⟨rfl, g3.fr.z (Nat.le_refl _)⟩, by omega, ?_⟩
        cases hs2 : suP tx n (rn (qB tx) n c.1 + 1) with
        | inl w =>
          obtain ⟨⟨b1, b2⟩, q⟩ := qw w (yw w hs2)
          refine ⟨14 * (n - (rn (qB tx) n c.1 + 1)) + 14, 95 * (n - (rn (qB tx) n c.1 + 1)) + 90, by omega, fun ei => ?_⟩
          subst ei
          refine ⟨tx, n, rn (qB tx) n c.1 + 1, u3 + 1, g1x.T t2 hT, by rw [zrw_n _ _ (by omega), rS_3], hlt, gx.fr, fun w' hw' => ?_, fun r0 hr0 => (by rw [hs2] at hr0; cases hr0)⟩
          rw [hs2] at hw'
          cases hw'
          exact ⟨⟨Nat.le_refl _, Nat.le_refl _⟩, fun S6 L6 P6 f6 u6 g6 e6 => ⟨by omega, by decide, q _ _ _ _ _ (g1x.tr g6) e6⟩⟩
        | inr e =>
          have h6 := suP_in hx _ e hlt hs2
          obtain ⟨b1, b2⟩ := yb e hs2
          refine ⟨14 * (e.1 - (rn (qB tx) n c.1 + 1)), 95 * (e.1 - (rn (qB tx) n c.1 + 1)), by omega, fun ei => ?_⟩
          subst ei
          refine ⟨tx, n, rn (qB tx) n c.1 + 1, u3 + 1, g1x.T t2 hT, by rw [zrw_n _ _ (by omega), rS_3], hlt, gx.fr, fun w' hw' => (by rw [hs2] at hw'; cases hw'), fun r0 hr0 => ?_⟩
          rw [hs2] at hr0
          cases hr0
          refine ⟨⟨Nat.le_refl _, Nat.le_refl _⟩, fun S6 L6 P6 f6 u6 y g6 k3 k6 hy => ⟨by omega, ?_, zfx_of (zfs_hi u32) 0, zfx_of (zfs_hi u32) 1, by omega, ?_⟩⟩
          · rw [zsh_hi u32, g6.2.1 u3 (by omega), zrw_s]
          · refine yr e hs2 S6 L6 P6 f6 u6 y (g1x.tr g6) k3 ?_ ?_ g6.le ?_ hy
            · rw [k6, zrw_n _ _ (by omega), rS_k _ _ _ (by decide) (by decide), e6, r6]
            · rw [g6.2.1 u3 (by omega), zrw_s]
            · exact (gx.tr g6).ag (by omega) (Nat.le_refl _)
      have r32 : ∀ (e : Nat × (Fc → Int)), suP tx n (rn (qB tx) n c.1 + 1) = .inr e → rn (qB tx) n c.1 + 1 ≤ n → ∀ F, bF F → R32 (c.2 F) ∧ R32 (e.2 F) := fun e he hle F hF => by
        have h1 := hc.2.2 F hF
        have h3 := suP_in hx _ e hle he
        have h2 := h3.2.2 F hF
        omega
      refine ⟨by decide, tx, n, c.1, _, g13.T t2 hT, e3, hc.2.1, rfl, fun sg => ?_, fun sg => ⟨by decide, tx, n, _, _, (g13.T t2 hT).r _ _, rS_3 _ _ _, hb2.2, rn_rn hc.2.1, fun sg2 => ?_, fun sg2 => ?_⟩⟩
      · have hlt := (isSg_t.mp sg).1
        have hk : ∀ e, suP tx n (rn (qB tx) n c.1 + 1) = .inr e → ∀ (S6 L6 : Nat → Nat → Int) (P6 : Nat → Nat → Option Nat) (f6 : Nat → Nat × Nat) (u6 y : Nat), gr t u6 f S L P f6 S6 L6 P6 → S6 101 3 = (e.1 : Int) → S6 101 6 = 2 → f6 u3 = (1, 16) → u3 + 1 ≤ u6 → agR u u3 f3 S3 P3 f6 S6 P6 → SuT (u3 + 1) u6 f6 S6 P6 y e.2 → Q (some (vr u3)) ((2, f6), S6, L6, mm_up (mm_up P6 u3 0 (some x)) u3 1 (some y)) := by
          intro e he S6 L6 P6 f6 u6 y g6 k3 k6 k16 le6 ag hy
          have hu : ∀ j, j ≠ u3 → mm_up (mm_up P6 u3 0 (some x)) u3 1 (some y) j = P6 j := fun j hj => by
            funext k
            rw [up_eq, if_neg (fun c => hj c.1), up_eq, if_neg (fun c => hj c.1)]
          refine (qr _ (hpl.trans (pl_lr hb h10 h11 hs sg he))).2 S6 L6 _ f6 u6 u3 (g6.toP fun j hj => hu j (by omega)) k3 k6 (coT.le (n := 0) ((leT_mk t2 tu uu3 hx3 ag hy le6 k16 (r32 e he hlt) hu).1 ?_ ?_) (Nat.zero_le _))
          · rw [up_eq, if_neg (by omega), up_eq, if_pos ⟨rfl, rfl⟩]
          · rw [up_eq, if_pos ⟨rfl, rfl⟩]
        obtain ⟨h4, ⟨e4, hz⟩, f1, c5, s5, f2, hq⟩ := snd (rn (qB tx) n c.1 + 1) (rn (qB tx) n c.1) hlt (fun y S6 L6 P6 f6 => Q (some (vr u3)) ((2, f6), S6, L6, mm_up (mm_up P6 u3 0 (some x)) u3 1 (some y))) (fun w hw => hpl.trans (pl_lw hb h10 h11 hs sg hw)) (fun e he => (qr _ (hpl.trans (pl_lr hb h10 h11 hs sg he))).1) hk
        subst e4
        exact ⟨h4, hz, f1, c5, s5, f2, hq rfl⟩
      · have hlt := (isSg_t.mp sg2).1
        rw [rS_rS]
        have hk : ∀ e, suP tx n (rn (qB tx) n c.1 + 1) = .inr e → ∀ (S6 L6 : Nat → Nat → Int) (P6 : Nat → Nat → Option Nat) (f6 : Nat → Nat × Nat) (u6 y : Nat), gr t u6 f S L P f6 S6 L6 P6 → S6 101 3 = (e.1 : Int) → S6 101 6 = 2 → f6 u3 = (1, 16) → u3 + 1 ≤ u6 → agR u u3 f3 S3 P3 f6 S6 P6 → SuT (u3 + 1) u6 f6 S6 P6 y e.2 → Q (some (vr u3)) ((2, f6), S6, L6, mm_up (mm_up P6 u3 0 (some y)) u3 1 (some x)) := by
          intro e he S6 L6 P6 f6 u6 y g6 k3 k6 k16 le6 ag hy
          have hu : ∀ j, j ≠ u3 → mm_up (mm_up P6 u3 0 (some y)) u3 1 (some x) j = P6 j := fun j hj => by
            funext k
            rw [up_eq, if_neg (fun c => hj c.1), up_eq, if_neg (fun c => hj c.1)]
          refine (qr _ (hpl.trans (pl_gr hb h10 h11 hs sg sg2 he))).2 S6 L6 _ f6 u6 u3 (g6.toP fun j hj => hu j (by omega)) k3 k6 (coT.le (n := 0) ((leT_mk t2 tu uu3 hx3 ag hy le6 k16 (r32 e he hlt) hu).2 ?_ ?_) (Nat.zero_le _))
          · rw [up_eq, if_neg (by omega), up_eq, if_pos ⟨rfl, rfl⟩]
          · rw [up_eq, if_pos ⟨rfl, rfl⟩]
        obtain ⟨h4, ⟨e4, hz⟩, f1, c5, s5, f2, hq⟩ := snd (rn (qB tx) n c.1 + 1) (rn (qB tx) n c.1) hlt (fun y S6 L6 P6 f6 => Q (some (vr u3)) ((2, f6), S6, L6, mm_up (mm_up P6 u3 0 (some y)) u3 1 (some x))) (fun w hw => hpl.trans (pl_gw hb h10 h11 hs sg sg2 hw)) (fun e he => (qr _ (hpl.trans (pl_gr hb h10 h11 hs sg sg2 he))).1) hk
        subst e4
        exact ⟨h4, hz, f1, c5, s5, f2, hq rfl⟩
      · obtain ⟨⟨b1, b2⟩, q⟩ := qw _ (hpl.trans (pl_n hb h10 h11 hs sg sg2))
        rw [rS_rS]
        exact ⟨by omega, u3, g3.fr, fun S7 L7 P7 f7 g7 e7 e8 => ⟨(zsh_hi u32).trans e8, by omega, by decide, q _ _ _ _ _ (g13.tr (g7.ofS fun h k hk => rdC_rS h k hk)) ((e7 4).trans (rS_4 _ _ _))⟩⟩
  have bud0 : hsW tx n b (wo 9) = false → isSg tx n b 40 = false → 27 ≤ c_ ∧ 72 + 15 * wl tx n b ≤ s_ := fun h9 h40 => by
    cases hs : atP tx n 4 a with
    | inl w =>
      obtain ⟨⟨b1, b2⟩, -⟩ := qw w hs
      omega
    | inr r0 =>
      obtain ⟨⟨b1, b2⟩, -⟩ := qr r0 hs
      have := pl_min hx han hb ((at_pl hb h9 h40 4).symm.trans hs)
      omega
  have isq : ∀ (v : Int) (k u : Nat) (c : Fc → Bool) (f' : Nat → Nat × Nat) (S' L' : Nat → Nat → Int) (P' : Nat → Nat → Option Nat), (v = 1 ∧ c = (fun F => decide (F 5 = 1)) ∨ v = 0 ∧ c = (fun F => decide (F 6 = 1))) → atP tx n 4 a = .inr (k, c) → gr t u f S L P f' S' L' P' → S' 101 3 = (k : Int) → S' 101 6 = 2 → Q (some (vr u)) ((2, zrw f' u (1, 13)), mm_up (zrw S' u (fun _ => 0)) u 0 v, zrw L' u (fun _ => 0), zrw P' u (fun _ => none)) := by
    intro v k u c f' S' L' P' hv e g1 r3 r6
    have tu := g1.le
    refine (qr _ e).2 _ _ _ _ (u + 1) u (g1.tr (gr.al g1.fr (fun j hj => ?_) (fun j hj => zrw_n _ _ hj))) ?_ ?_ (coT.le (n := 0) ⟨⟨t2, by omega, by omega⟩, Or.inl ⟨zrw_s _ _ _, ?_⟩⟩ (Nat.zero_le _))
    · funext x
      rw [up_eq, if_neg (fun c => hj c.1), zrw_n _ _ hj]
    · rw [up_eq, if_neg (by omega), zrw_n _ _ (by omega)]
      exact r3
    · rw [up_eq, if_neg (by omega), zrw_n _ _ (by omega)]
      exact r6
    · rw [up_eq, if_pos ⟨rfl, rfl⟩]
      exact hv
  have t93 : ∀ (u uu vv : Nat) (f' : Nat → Nat × Nat) (S' L' : Nat → Nat → Int) (P' : Nat → Nat → Option Nat), hsW tx n b (wo 9) = false → isSg tx n b 40 = false → hsW tx n b (wo 10) = false → gr t u f S L P f' S' L' P' → S' 101 3 = (b : Int) → S' 101 6 = 2 → uu ≤ 18 → vv ≤ 48 + 10 * wl tx n b → zz_J (zpX1_atom_4 c_ s_) (zz_retP Q X c_ s_) 93 [some (vr 100), some (vr 101), none] [] ((2, f'), S', L', P') (uu, vv) := by
    intro u uu vv f' S' L' P' h9 h40 h10 g1 r3 r6 hu hv
    have hpl := at_pl hb h9 h40 4
    obtain ⟨b1, b2⟩ := bud0 h9 h40
    refine zwX1_atom_4_93 ⟨9, 24 + 5 * wl tx n b, by omega, tx, n, b, b, 11, u, g1.T t2 hT, r3, hbn, hbb, ⟨rfl, by decide⟩, g1.fr, ⟨Nat.le_refl _, by rw [ewl]; exact Nat.le_refl _⟩, fun f2 S2 L2 P2 u2 g2 k4 k6 => ⟨fun h11 k3 => ?_, fun h11 k3 => ?_⟩⟩
    · have e := hpl.trans (pl_11 hb h10 h11)
      obtain ⟨⟨b3, b4⟩, -⟩ := qr _ e
      have b3 : 24 * (b + 3 - a) ≤ c_ := b3
      have b4 : 120 * (b + 3 - a) ≤ s_ := b4
      have l : (wo 11).length = 3 := rfl
      have hw := whs 11 h11
      have u22 : 2000 ≤ u2 := by have := g1.le; have := g2.le; omega
      exact ⟨u2, g2.fr.z (Nat.le_refl _), by omega, by omega, (zsh_hi u22).trans (zrw_s _ _ _), by decide, by omega, isq 0 (b + 3) u2 _ f2 S2 L2 P2 (Or.inr ⟨rfl, rfl⟩) e (g1.tr g2) k3 (by rw [k6]; exact r6)⟩
    · exact t112 u2 _ _ f2 S2 L2 P2 hpl h10 h11 (g1.tr g2) k3 (by rw [k6]; exact r6) (by omega) (by omega)
  have t74 : ∀ (u uu vv : Nat) (f' : Nat → Nat × Nat) (S' L' : Nat → Nat → Int) (P' : Nat → Nat → Option Nat), hsW tx n b (wo 9) = false → isSg tx n b 40 = false → gr t u f S L P f' S' L' P' → S' 101 3 = (b : Int) → S' 101 6 = 2 → uu ≤ 9 → vv ≤ 24 + 5 * wl tx n b → zz_J (zpX1_atom_4 c_ s_) (zz_retP Q X c_ s_) 74 [some (vr 100), some (vr 101), none] [] ((2, f'), S', L', P') (uu, vv) := by
    intro u uu vv f' S' L' P' h9 h40 g1 r3 r6 hu hv
    have hpl := at_pl hb h9 h40 4
    obtain ⟨b1, b2⟩ := bud0 h9 h40
    refine zwX1_atom_4_74 ⟨9, 24 + 5 * wl tx n b, by omega, tx, n, b, b, 10, u, g1.T t2 hT, r3, hbn, hbb, ⟨rfl, by decide⟩, g1.fr, ⟨Nat.le_refl _, by rw [ewl]; exact Nat.le_refl _⟩, fun f2 S2 L2 P2 u2 g2 k4 k6 => ⟨fun h10 k3 => ?_, fun h10 k3 => ?_⟩⟩
    · have e := hpl.trans (pl_10 hb h10)
      obtain ⟨⟨b3, b4⟩, -⟩ := qr _ e
      have b3 : 24 * (b + 7 - a) ≤ c_ := b3
      have b4 : 120 * (b + 7 - a) ≤ s_ := b4
      have l : (wo 10).length = 7 := rfl
      have hw := whs 10 h10
      have u22 : 2000 ≤ u2 := by have := g1.le; have := g2.le; omega
      exact ⟨u2, g2.fr.z (Nat.le_refl _), by omega, by omega, (zsh_hi u22).trans (zrw_s _ _ _), by decide, by omega, isq 1 (b + 7) u2 _ f2 S2 L2 P2 (Or.inl ⟨rfl, rfl⟩) e (g1.tr g2) k3 (by rw [k6]; exact r6)⟩
    · exact t93 u2 _ _ f2 S2 L2 P2 h9 h40 h10 (g1.tr g2) k3 (by rw [k6]; exact r6) (by omega) (by omega)
  have g0 : gr t t f S L P f (rS S b b) L P := (gr.rfl' hf).toS (fun h k hk => rdC_rS h k hk)
  have r60 : ∀ i j, rS S i j 101 6 = 2 := fun i j => by rw [rS_k _ _ _ (by decide) (by decide)]; exact h6
  have bud1 : isSg tx n b 40 = false → 9 + 1 ≤ c_ ∧ 24 + 5 * wl tx n b + 6 ≤ s_ := fun h40 => by
    cases h9 : hsW tx n b (wo 9) with
    | true =>
      have l : (wo 9).length = 3 := rfl
      have hw := whs 9 h9
      have hle := hsW_le hbn h9
      cases hp : atP tx n 3 (b + 3) with
      | inl w =>
        obtain ⟨⟨b1, b2⟩, -⟩ := qw w (at_nw hb h9 hp)
        omega
      | inr c =>
        have hc := (atP_ok hx (fun a w h e => ptP_w h e) 3 (b + 3) (by omega)).1 c hp
        obtain ⟨⟨b1, b2⟩, -⟩ := qr _ (at_nr hb h9 hp)
        have b1 : 24 * (c.1 - a) ≤ c_ := b1
        have b2 : 120 * (c.1 - a) ≤ s_ := b2
        omega
    | false =>
      have := bud0 h9 h40
      omega
  have u6 : ∀ (T : Nat → Nat → Int) (x : Int) (y : Int), T 101 6 = x → x + 1 = y → mm_up T 101 6 (T 101 6 + 1) 101 6 = y := fun T x y e1 e2 => by rw [up_eq, if_pos ⟨rfl, rfl⟩, e1, e2]
  have d6 : ∀ (T : Nat → Nat → Int) (x : Int) (y : Int), T 101 6 = x → x - 1 = y → mm_up T 101 6 (T 101 6 - 1) 101 6 = y := fun T x y e1 e2 => by rw [up_eq, if_pos ⟨rfl, rfl⟩, e1, e2]
  have o6 : ∀ (T : Nat → Nat → Int) (k : Nat) (v : Int), k ≠ 6 → mm_up T 101 6 v 101 k = T 101 k := fun T k v e => by rw [up_eq, if_neg (fun c => e c.2)]
  refine zwX1_atom_4_0 ⟨by decide, tx, n, a, b, hT, ha, han, hb, fun sg => ?_, fun sg => ?_⟩
  · have hbl := (isSg_t.mp sg).1
    have h9 := sg_hs (v := wo 9) hbn sg (by decide) (by decide)
    have gd : gr t t f S L P f (mm_up (rS S (b + 1) b) 101 6 (rS S (b + 1) b 101 6 + 1)) L P := ((gr.rfl' hf).toS (fun h k hk => rdC_rS h k hk)).toS (fun h k hk => rdC_up (Or.inr (Or.inr rfl)) h k hk)
    have so := soP_ok (tx := tx) (atP_ok hx (fun a w h e => ptP_w h e) 3) (b + 1) hbl
    have pre : 1 ≤ c_ ∧ 6 ≤ s_ := by
      cases hp : soP tx n (atP tx n 3) (b + 1) with
      | inl w =>
        obtain ⟨⟨b1, b2⟩, -⟩ := qw w (at_pw hb h9 sg hp)
        omega
      | inr c =>
        have hc := so.1 c hp
        have hb2 := p3_B (tx := tx) c.1 hc.2
        cases h41 : isSg tx n (rn (qB tx) n c.1) 41 with
        | true =>
          obtain ⟨⟨b1, b2⟩, -⟩ := qr _ (at_pr hb h9 sg hp h41)
          have b1 : 24 * (rn (qB tx) n c.1 + 1 - a) ≤ c_ := b1
          have b2 : 120 * (rn (qB tx) n c.1 + 1 - a) ≤ s_ := b2
          omega
        | false =>
          obtain ⟨⟨b1, b2⟩, -⟩ := qw _ (at_pn hb h9 sg hp h41)
          omega
    refine ⟨by omega, t, hf, by rw [r60]; decide, fun _ => ?_, fun c => absurd c (by rw [r60]; decide)⟩
    cases hp : soP tx n (atP tx n 3) (b + 1) with
    | inl w =>
      obtain ⟨⟨b1, b2⟩, q⟩ := qw w (at_pw hb h9 sg hp)
      refine ⟨24 * (n - (b + 1)) + 64, 120 * (n - (b + 1)) + 390, by omega, tx, n, b + 1, t, gd.T t2 hT, (o6 _ _ _ (by decide)).trans (rS_3 _ _ _), hbl, u6 _ _ _ (r60 _ _) (by decide), hf, fun w' hw' => ?_, fun r0 hr0 => (by rw [hp] at hr0; cases hr0)⟩
      rw [hp] at hw'
      cases hw'
      exact ⟨⟨Nat.le_refl _, Nat.le_refl _⟩, fun S4 L4 P4 f4 u4 g4 e4 => ⟨by omega, by decide, q _ _ _ _ _ (gd.tr g4) e4⟩⟩
    | inr c =>
      have hc := so.1 c hp
      have hb2 := p3_B (tx := tx) c.1 hc.2
      have wc := wl_le (tx := tx) hc.2
      have bud2 : 24 * (c.1 - (b + 1)) + 26 ≤ c_ ∧ 120 * (c.1 - (b + 1)) + 240 + 10 * wl tx n c.1 ≤ s_ ∧ True ∨ (isSg tx n (rn (qB tx) n c.1) 41 = true ∧ 24 * (c.1 - (b + 1)) + 26 ≤ c_ ∧ 120 * (c.1 - (b + 1)) + 234 + 10 * wl tx n c.1 ≤ s_) := by
        cases h41 : isSg tx n (rn (qB tx) n c.1) 41 with
        | true =>
          obtain ⟨⟨b1, b2⟩, -⟩ := qr _ (at_pr hb h9 sg hp h41)
          have b1 : 24 * (rn (qB tx) n c.1 + 1 - a) ≤ c_ := b1
          have b2 : 120 * (rn (qB tx) n c.1 + 1 - a) ≤ s_ := b2
          have := sg_wl hc.2 h41 (by decide)
          exact Or.inr ⟨rfl, by omega, by omega⟩
        | false =>
          obtain ⟨⟨b1, b2⟩, -⟩ := qw _ (at_pn hb h9 sg hp h41)
          exact Or.inl ⟨by omega, by omega, trivial⟩
      have bud3 : 24 * (c.1 - (b + 1)) + 26 ≤ c_ ∧ 120 * (c.1 - (b + 1)) + 234 + 10 * wl tx n c.1 ≤ s_ := by
        rcases bud2 with h | h
        · exact ⟨h.1, by have := h.2.1; omega⟩
        · exact h.2
      refine ⟨24 * (c.1 - (b + 1)) + 24, 120 * (c.1 - (b + 1)) + 228 + 10 * wl tx n c.1, by omega, tx, n, b + 1, t, gd.T t2 hT, (o6 _ _ _ (by decide)).trans (rS_3 _ _ _), hbl, u6 _ _ _ (r60 _ _) (by decide), hf, fun w' hw' => (by rw [hp] at hw'; cases hw'), fun r0 hr0 => ?_⟩
      rw [hp] at hr0
      cases hr0
      refine ⟨⟨Nat.le_refl _, Nat.le_refl _⟩, fun S4 L4 P4 f4 u4 x g4 k3 k6 hx4 => ?_⟩
      have g4' := gd.tr g4
      have gu : gr t u4 f S L P f4 (mm_up S4 101 6 (S4 101 6 - 1)) L4 P4 := g4'.toS (fun h k hk => rdC_up (Or.inr (Or.inr rfl)) h k hk)
      have u42 : 2000 ≤ u4 := by have := g4.le; omega
      refine ⟨by decide, tx, n, c.1, _, gu.T t2 hT, (o6 _ _ _ (by decide)).trans k3, hc.2, rfl, fun h41 => ?_, fun h41 => ?_⟩
      · refine ⟨by omega, (qr _ (at_pr hb h9 sg hp h41)).2 _ L4 P4 f4 u4 x (gu.toS fun h k hk => rdC_rS h k hk) (rS_3 _ _ _) ?_ ?_⟩
        · rw [rS_k _ _ _ (by decide) (by decide)]
          exact d6 _ _ _ k6 (by decide)
        · refine coT.fr (f := f4) (S := S4) (P := P4) (fun h h1 h2 => ⟨rfl, ?_, rfl⟩) hx4
          funext k
          have : h ≠ 101 := by omega
          rw [rS_o _ _ _ this, up_eq, if_neg (fun c => this c.1)]
      · obtain ⟨⟨b1, b2⟩, q⟩ := qw _ (at_pn hb h9 sg hp h41)
        exact ⟨by omega, u4, g4.fr, fun S7 L7 P7 f7 g7 e7 e8 => ⟨(zsh_hi u42).trans e8, by omega, by decide, q _ _ _ _ _ (gu.tr (g7.ofS fun h k hk => rdC_rS h k hk)) ((e7 4).trans (rS_4 _ _ _))⟩⟩
  · have bb := bud1 sg
    refine zwX1_atom_4_43 ⟨9, 24 + 5 * wl tx n b, by omega, tx, n, b, b, 9, t, hT.r b b, rfl, hbn, hbb, ⟨rfl, by decide⟩, hf, ⟨Nat.le_refl _, by rw [ewl]; exact Nat.le_refl _⟩, fun f2 S2 L2 P2 u2 g2 k4 k6 => ⟨fun h9 k3 => ?_, fun h9 k3 => ?_⟩⟩
    · have e6 : S2 101 6 = 2 := by rw [k6]; exact r60 _ _
      have l : (wo 9).length = 3 := rfl
      have hw := whs 9 h9
      have hle := hsW_le hbn h9
      rw [l] at k3 hle
      have g02 := g0.tr g2
      have gd : gr t u2 f S L P f2 (mm_up S2 101 6 (S2 101 6 + 1)) L2 P2 := g02.toS (fun h k hk => rdC_up (Or.inr (Or.inr rfl)) h k hk)
      refine ⟨by omega, u2, g2.fr, by rw [e6]; decide, fun _ => ?_, fun c => absurd c (by rw [e6]; decide)⟩
      cases hp : atP tx n 3 (b + 3) with
      | inl w =>
        obtain ⟨⟨b1, b2⟩, q⟩ := qw w (at_nw hb h9 hp)
        refine ⟨24 * (n - (b + 3)) + 60, 120 * (n - (b + 3)) + 300, by omega, tx, n, b + 3, u2, gd.T t2 hT, (o6 _ _ _ (by decide)).trans k3, hle, u6 _ _ _ e6 (by decide), g2.fr, fun w' hw' => ?_, fun r0 hr0 => (by rw [hp] at hr0; cases hr0)⟩
        rw [hp] at hw'
        cases hw'
        exact ⟨⟨Nat.le_refl _, Nat.le_refl _⟩, fun S4 L4 P4 f4 u4 g4 e4 => ⟨by omega, by decide, q _ _ _ _ _ (gd.tr g4) e4⟩⟩
      | inr c =>
        have hc := (atP_ok hx (fun a w h e => ptP_w h e) 3 (b + 3) hle).1 c hp
        obtain ⟨⟨b1, b2⟩, q⟩ := qr _ (at_nr hb h9 hp)
        have b1 : 24 * (c.1 - a) ≤ c_ := b1
        have b2 : 120 * (c.1 - a) ≤ s_ := b2
        refine ⟨24 * (c.1 - (b + 3)), 120 * (c.1 - (b + 3)), by omega, tx, n, b + 3, u2, gd.T t2 hT, (o6 _ _ _ (by decide)).trans k3, hle, u6 _ _ _ e6 (by decide), g2.fr, fun w' hw' => (by rw [hp] at hw'; cases hw'), fun r0 hr0 => ?_⟩
        rw [hp] at hr0
        cases hr0
        refine ⟨⟨Nat.le_refl _, Nat.le_refl _⟩, fun S4 L4 P4 f4 u4 x g4 m3 m6 hx4 => ?_⟩
        have gu : gr t u4 f S L P f4 (mm_up S4 101 6 (S4 101 6 - 1)) L4 P4 := (gd.tr g4).toS (fun h k hk => rdC_up (Or.inr (Or.inr rfl)) h k hk)
        have tu2 := g02.le
        have u42 : t ≤ u4 := gu.le
        refine ⟨u4, gu.fr.z (Nat.le_refl _), by omega, by omega, (zsh_hi (by omega)).trans (zrw_s _ _ _), zfx_of (zfs_hi (by omega)) 0, by omega, ?_⟩
        refine q _ _ _ _ (u4 + 1) u4 (gu.tr (gr.al gu.fr (fun j hj => zrw_n _ _ hj) (fun j hj => ?_))) ?_ ?_ (coT.le (n := 7) (Or.inr (Or.inl ⟨⟨t2, u42, by omega⟩, zrw_s _ _ _, x, c.2, by rw [up_eq, if_pos ⟨rfl, rfl⟩], ?_, rfl⟩)) (by decide))
        · funext k
          rw [up_eq, if_neg (fun c => hj c.1), zrw_n _ _ hj]
        · rw [zrw_n _ _ (by omega)]
          exact (o6 _ _ _ (by decide)).trans m3
        · rw [zrw_n _ _ (by omega)]
          exact d6 _ _ _ m6 (by decide)
        · refine coT.mo t2 tu2 (show u4 ≤ u4 + 1 by omega) (coT.fr (f := f4) (S := S4) (P := P4) (fun h h1 h2 => ⟨zrw_n _ _ (by omega), ?_, ?_⟩) hx4)
          · rw [zrw_n _ _ (by omega)]
            funext k
            rw [up_eq, if_neg (by omega)]
          · funext k
            rw [up_eq, if_neg (by omega), zrw_n _ _ (by omega)]
    · exact t74 u2 _ _ f2 S2 L2 P2 h9 sg (g0.tr g2) k3 (by rw [k6]; exact r60 _ _) (by omega) (by omega)
def zX1_allOf_4 (c_ s_ : Nat) : zz_Sp := fun as M Q X => match as with
  | [.inr (.inr (some h_))] => bif Nat.beq h_ 100 && Nat.beq M.1.1 2 then (∃ (tx_ : Nat → Int) (n_ a_ t_ : Nat), qT M.2.1 tx_ n_ ∧ M.2.1 101 3 = (a_ : Int) ∧ a_ ≤ n_ ∧ M.2.1 101 6 = 2 ∧ frF M.1.2 t_ ∧ (∀ w_ : Nat, evP tx_ n_ (atP tx_ n_ 4) a_ = .inl w_ → (24 * (n_ - a_) + 62 ≤ c_ ∧ 120 * (n_ - a_) + 345 ≤ s_) ∧ ∀ (S_ L_ : Nat → Nat → Int) (P_ : Nat → Nat → Option Nat) (f_ : Nat → Nat × Nat) (u_ : Nat), gr t_ u_ M.1.2 M.2.1 M.2.2.1 M.2.2.2 f_ S_ L_ P_ → S_ 101 4 = (w_ : Int) → X 0 ((2, f_), S_, L_, P_)) ∧ (∀ r_ : Nat × (Fc → Bool), evP tx_ n_ (atP tx_ n_ 4) a_ = .inr r_ → (24 * (r_.1 - a_) + 12 ≤ c_ ∧ 120 * (r_.1 - a_) + 114 + 5 * wl tx_ n_ r_.1 ≤ s_) ∧ ∀ (S_ L_ : Nat → Nat → Int) (P_ : Nat → Nat → Option Nat) (f_ : Nat → Nat × Nat) (u_ g_ : Nat), gr t_ u_ M.1.2 M.2.1 M.2.2.1 M.2.2.2 f_ S_ L_ P_ → S_ 101 3 = (r_.1 : Int) → S_ 101 6 = 2 → coT t_ u_ f_ S_ P_ 9 g_ r_.2 → Q (some (vr g_)) ((2, f_), S_, L_, P_))) else False
  | _ => False

def zpX1_allOf_4 (c_ s_ : Nat) : zz_P := [(0, zo_new (mm_rm 26 c_ s_) 3 11 2), (3, zo_dup 4), (4, zo_c 5 (vi 1)), (5, zo_ciF (mm_rm 26 c_ s_) 8 2 1 3 zX13_init), (8, zo_ast 9 1), (9, zo_ald 10 1), (10, zo_getr 13 11 1), (13, zo_ald 14 0), (14, zo_cvG (mm_rm 26 c_ s_) 17 1 0 zX1_atom_4), (17, zo_cvGp (mm_rm 26 c_ s_) 20 2 17 zJ2_add), (20, zo_pop 21), (21, zo_ald 22 0), (22, zo_get 25 0 2 2), (25, zo_c 28 (vr 1012)), (28, zo_cvG (mm_rm 26 c_ s_) 31 2 3 zX4_passes), (31, zo_zifne 34 9), (34, zo_ald 35 1), (35, zo_aret)]
theorem ztX1_allOf_4 (c_ s_ : Nat) {C : mm_C} (G : mm_G C RX1 cX1_allOf (some (.object "ChaseCourt$Cond")) 2 (mm_rm 26 c_ s_)) (hnh : mm_nh C) : zz_OKs C (zpX1_allOf_4 c_ s_) :=
  ⟨zz_of (ok_new G (ci := 11) (RX13, TX13, 2) rfl rfl q1148 q1149 q114 (by decide) dX1_allOf_0 rfl) (z_new _ _ _ _),
   zz_of (ok_dup G dX1_allOf_3 rfl) (z_dup _),
   zz_of (ok_iconst G (v := 1) dX1_allOf_4 (by decide) rfl) (z_cn 5 1),
   zz_of (ok_caliF G (hnh.q 5) (zmX13_init _ G.hst) q1150 q1151 q114 q1152 rfl (by decide +kernel) ⟨Nat.le_of_ble_eq_true rfl, Nat.le_of_ble_eq_true rfl⟩ dX1_allOf_5 rfl) (z_ciF _ _ _ _ _ _),
   zz_of (ok_astore_n G dX1_allOf_8 rfl rfl (by decide)) (z_ast _ _),
   zz_of (ok_aload_n G dX1_allOf_9 rfl rfl) (z_ald _ _),
   zz_of (ok_getN G (nx := 13) (ci := 11) (kd := 2) (k := 1) (RX13, TX13, 2) rfl (by decide) rfl q1158 dX1_allOf_10 rfl) (z_getr _ _ _),
   zz_of (ok_aload_n G dX1_allOf_13 rfl rfl) (z_ald _ _),
   zz_of (ok_calv G (hnh.q 14) (zmX1_atom_4 _ G.hst) (RX1, TX1, 19) rfl q1168 q1170 qs12 q82 q1171 (by decide +kernel) ⟨Nat.le_of_ble_eq_true rfl, Nat.le_of_ble_eq_true rfl⟩ dX1_allOf_14 rfl) (z_cvG _ _ _ _ _),
   zz_of (ok_calv G (hnh.q 17) (zmJ2_add _ G.hst) (RJ2, TJ2, 3) rfl q1256 q1257 q1258 q86 q1259 (by decide +kernel) ⟨Nat.le_of_ble_eq_true rfl, Nat.le_of_ble_eq_true rfl⟩ dX1_allOf_17 rfl) (z_cvGp _ _ _ _ _),
   zz_of (ok_pop G dX1_allOf_20 rfl) (z_pop _),
   zz_of (ok_aload_n G dX1_allOf_21 rfl rfl) (z_ald _ _),
   zz_of (ok_get G (nx := 25) (ci := 0) (kd := 2) (k := 2) (RX1, TX1, 19) rfl (by decide) rfl q404 dX1_allOf_22 rfl) (z_get _ _ _ _),
   zz_of (ok_ldsw G (tx := "and") (by decide +kernel) dX1_allOf_25 rfl) (z_cr 28 1012),
   zz_of (ok_calv G (hnh.q 28) (zmX4_passes _ G.hst) (RX4, TX4, 7) rfl q1138 q1139 q1140 q88 q1141 (by decide +kernel) ⟨Nat.le_of_ble_eq_true rfl, Nat.le_of_ble_eq_true rfl⟩ dX1_allOf_28 rfl) (z_cvG _ _ _ _ _),
   zz_of (ok_ifne G dX1_allOf_31 rfl rfl) (z_zifne _ _),
   zz_of (ok_aload_n G dX1_allOf_34 rfl rfl) (z_ald _ _),
   zz_of (ok_aret G (Or.inl ⟨_, rfl⟩) dX1_allOf_35) (z_aret), trivial⟩

theorem zwX1_allOf_4_0 {Q : Option zv → zz_M → Prop} {X : Nat → zz_M → Prop} {f : Nat → Nat × Nat} {S L : Nat → Nat → Int} {P : Nat → Nat → Option Nat} {c_ s_ : Nat}  (h : ∃ h1_ : Nat, zfree ((2, f), S, L, P) h1_ ∧ (0 + 1 ≤ c_ ∧ 0 + 2 ≤ s_) ∧ ((1 + 1 ≤ c_ ∧ 2 + 3 ≤ s_) ∧ (∃ b_2 : Nat, zsh ((2, zrw f h1_ (1, 11)), zrw S h1_ (fun _ => 0), zrw L h1_ (fun _ => 0), zrw P h1_ (fun _ => none)) h1_ = (1, 11) ∧ ((1 : Int) = 0 ∨ (1 : Int) = 1) ∧ zfx ((2, zrw f h1_ (1, 11)), zrw S h1_ (fun _ => 0), zrw L h1_ (fun _ => 0), zrw P h1_ (fun _ => none)).1.1 h1_ 1 = false ∧ zfree ((2, zrw f h1_ (1, 11)), zrw S h1_ (fun _ => 0), zrw L h1_ (fun _ => 0), zrw P h1_ (fun _ => none)) b_2 ∧ (∀ (S_2 : Nat → Nat → Int) (P_2 : Nat → Nat → Option Nat), (∀ j k, j ≠ b_2 → ¬ (j = h1_ ∧ k = 0) → S_2 j k = (zrw S h1_ (fun _ => 0)) j k) → S_2 h1_ 0 = (1 : Int) → (∀ j k, j ≠ b_2 → ¬ (j = h1_ ∧ k = 1) → P_2 j k = (zrw P h1_ (fun _ => none)) j k) → S_2 b_2 2 = 0 → P_2 b_2 1 = some 1300 → P_2 h1_ 1 = some b_2 → (zz_J (zpX1_allOf_4 c_ s_) (zz_retP Q X c_ s_) 9 [some (vr 100), some (vr h1_)] [] ((2, zrw (zrw f h1_ (1, 11)) b_2 (1, 17)), S_2, zrw (zrw L h1_ (fun _ => 0)) b_2 (fun _ => 0), P_2) (2, 5)))))) : zz_J (zpX1_allOf_4 c_ s_) (zz_retP Q X c_ s_) 0 [some (vr 100), none] [] ((2, f), S, L, P) (0, 0) := zz_J.go [(9, []), (21, [])] 400 h
theorem zwX1_allOf_4_9 {Q : Option zv → zz_M → Prop} {X : Nat → zz_M → Prop} {f : Nat → Nat × Nat} {S L : Nat → Nat → Int} {P : Nat → Nat → Option Nat} {c_ s_ : Nat} {u_ v_ : Nat} {h1 : Nat} (h : ∃ b1 : Nat, zsh ((2, f), S, L, P) h1 = (1, 11) ∧ zpt ((2, f), S, L, P) h1 1 = some b1 ∧ (∃ c2 s2 : Nat, (u_ + c2 ≤ c_ ∧ v_ + s2 ≤ s_) ∧ (∃ (tx_3 : Nat → Int) (n_3 a_3 t_3 : Nat), qT S tx_3 n_3 ∧ S 101 3 = (a_3 : Int) ∧ a_3 ≤ n_3 ∧ S 101 6 = 2 ∧ frF f t_3 ∧ (∀ w_3 : Nat, atP tx_3 n_3 4 a_3 = .inl w_3 → (24 * (n_3 - a_3) + 60 ≤ c2 ∧ 120 * (n_3 - a_3) + 300 ≤ s2) ∧ ∀ (S_3 L_3 : Nat → Nat → Int) (P_3 : Nat → Nat → Option Nat) (f_3 : Nat → Nat × Nat) (u_3 : Nat), gr t_3 u_3 f S L P f_3 S_3 L_3 P_3 → S_3 101 4 = (w_3 : Int) → ((u_ + c2 ≤ c_ ∧ v_ + s2 ≤ s_) ∧ 0 ≤ 5 ∧ X 0 ((2, f_3), S_3, L_3, P_3))) ∧ (∀ r_3 : Nat × (Fc → Bool), atP tx_3 n_3 4 a_3 = .inr r_3 → (24 * (r_3.1 - a_3) ≤ c2 ∧ 120 * (r_3.1 - a_3) ≤ s2) ∧ ∀ (S_3 L_3 : Nat → Nat → Int) (P_3 : Nat → Nat → Option Nat) (f_3 : Nat → Nat × Nat) (u_3 g_3 : Nat), gr t_3 u_3 f S L P f_3 S_3 L_3 P_3 → S_3 101 3 = (r_3.1 : Int) → S_3 101 6 = 2 → coT t_3 u_3 f_3 S_3 P_3 8 g_3 r_3.2 → ((zsh ((2, f_3), S_3, L_3, P_3) b1 = (1, 17) ∨ zsh ((2, f_3), S_3, L_3, P_3) b1 = (17, 17)) ∧ ∃ c4 s4 : Nat, (u_ + c2 + c4 ≤ c_ ∧ v_ + s2 + s4 ≤ s_) ∧ (∃ a_5 b_5 m_5 n_5 ci_5 : Nat, lsR ((2, f_3), S_3, L_3, P_3) b1 a_5 m_5 n_5 ∧ (zsh ((2, f_3), S_3, L_3, P_3) g_3 = (1, ci_5) ∧ mm_mem mm_obs ci_5 = true) ∧ (n_5 < m_5 → (∀ (S_5 : Nat → Nat → Int) (P_5 : Nat → Nat → Option Nat), (∀ j k, ¬ (j = b1 ∧ (k = 0 ∨ k = 2)) → S_5 j k = S_3 j k) → S_5 b1 2 = (n_5 : Int) + 1 → (∀ j k, ¬ (j = a_5 ∧ k = n_5) → P_5 j k = P_3 j k) → P_5 a_5 n_5 = some g_3 → (zz_J (zpX1_allOf_4 c_ s_) (zz_retP Q X c_ s_) 21 [some (vr 100), some (vr h1)] [] ((2, f_3), S_5, L_3, P_5) (u_ + c2 + c4, v_ + s2 + s4)))) ∧ (n_5 = m_5 → zfree ((2, f_3), S_3, L_3, P_3) b_5 ∧ (1 ≤ c4 ∧ lsN m_5 ≤ s4) ∧ (∀ (S_5 : Nat → Nat → Int) (P_5 : Nat → Nat → Option Nat), (∀ j k, ¬ (j = b1 ∧ (k = 0 ∨ k = 2)) → j ≠ b_5 → S_5 j k = S_3 j k) → S_5 b1 2 = (n_5 : Int) + 1 → (∀ j k, j ≠ b_5 → ¬ (j = b1 ∧ k = 1) → P_5 j k = P_3 j k) → P_5 b1 1 = some b_5 → (∀ i : Nat, i < m_5 → P_5 b_5 i = zpt ((2, f_3), S_3, L_3, P_3) a_5 i) → P_5 b_5 n_5 = some g_3 → (zz_J (zpX1_allOf_4 c_ s_) (zz_retP Q X c_ s_) 21 [some (vr 100), some (vr h1)] [] ((2, zrw f_3 b_5 (7, lsN m_5)), S_5, zrw L_3 b_5 (fun _ => 0), P_5) (u_ + c2 + c4, v_ + s2 + s4)))))))))) : zz_J (zpX1_allOf_4 c_ s_) (zz_retP Q X c_ s_) 9 [some (vr 100), some (vr h1)] [] ((2, f), S, L, P) (u_, v_) := zz_J.go [(9, []), (21, [])] 400 h
theorem zwX1_allOf_4_21 {Q : Option zv → zz_M → Prop} {X : Nat → zz_M → Prop} {f : Nat → Nat × Nat} {S L : Nat → Nat → Int} {P : Nat → Nat → Option Nat} {c_ s_ : Nat} {u_ v_ : Nat} {h1 : Nat} (h : ∃ c1 s1 : Nat, (u_ + c1 ≤ c_ ∧ v_ + s1 ≤ s_) ∧ (∃ (tx_2 : Nat → Int) (n_2 a_2 b_2 j_2 t_2 : Nat), qT S tx_2 n_2 ∧ S 101 3 = (a_2 : Int) ∧ a_2 ≤ n_2 ∧ rn (qB tx_2) n_2 a_2 = b_2 ∧ (1012 = 1000 + j_2 ∧ j_2 < 18) ∧ frF f t_2 ∧ (9 ≤ c1 ∧ 24 + 5 * (rn (qL tx_2) n_2 b_2 - b_2) ≤ s1) ∧ (∀ (f_2 : Nat → Nat × Nat) (S_2 L_2 : Nat → Nat → Int) (P_2 : Nat → Nat → Option Nat) (u_2 : Nat), gr t_2 u_2 f S L P f_2 S_2 L_2 P_2 → S_2 101 4 = (b_2 : Int) → S_2 101 6 = S 101 6 → (hsW tx_2 n_2 b_2 (wo j_2) = true → S_2 101 3 = ((b_2 + (wo j_2).length : Nat) : Int) → (zz_J (zpX1_allOf_4 c_ s_) (zz_retP Q X c_ s_) 9 [some (vr 100), some (vr h1)] [] ((2, f_2), S_2, L_2, P_2) (u_ + c1, v_ + s1))) ∧ (hsW tx_2 n_2 b_2 (wo j_2) = false → S_2 101 3 = (b_2 : Int) → ((u_ + c1 ≤ c_ ∧ v_ + s1 ≤ s_) ∧ (Q (some (vr h1)) ((2, f_2), S_2, L_2, P_2))))))) : zz_J (zpX1_allOf_4 c_ s_) (zz_retP Q X c_ s_) 21 [some (vr 100), some (vr h1)] [] ((2, f), S, L, P) (u_, v_) := zz_J.go [(9, []), (21, [])] 400 h

theorem zmX1_allOf_4 (l : Launch) (hl : l.stackTraces = false) (c_ s_ : Nat) : mm_Spec l yX1_allOf (ws_ yX1_allOf cX1_allOf 2 (some (.object "ChaseCourt$Cond"))) (mm_rm 26 c_ s_) (zE (zX1_allOf_4 c_ s_)) := by
  refine zz_Met.J hl (by decide) (fun C G hnh => ztX1_allOf_4 c_ s_ G hnh) ?_
  rintro as ⟨⟨t_, f⟩, S, L, P⟩ Q X h
  unfold zX1_allOf_4 at h
  split at h
  rotate_left
  · exact h.elim
  rename_i h_
  obtain ⟨e1_, e2_, h⟩ := mm_and2 h (fun q => q)
  cases mm_beq e1_
  cases mm_beq e2_
  try dsimp only at h
  refine ⟨rfl, ?_⟩
  refine zz_retP_J ?_
  obtain ⟨tx, n, a, t, hT, ha, han, h6, hf, qw, qr⟩ := h
  have n400 := hT.1
  have t2 := hf.1
  have hx := fun k hk => (hT.2.2 k hk).1
  have hok : pOK n (atP tx n 4) := atP_ok hx (fun a w h e => ptP_w h e) 4
  have p2 : ∀ a c, a ≤ n → atP tx n 4 a = .inr c → a ≤ c.1 ∧ c.1 ≤ n := fun a c h1 h2 => (hok a h1).1 c h2
  have p1 : ∀ a b, a ≤ n → spW tx n 12 a = some b → a < b ∧ b ≤ n := fun a b h1 h2 => spW_in (by decide) a b h1 h2
  have p3 : ∀ a, a ≤ n → a ≤ rn (qB tx) n a ∧ rn (qB tx) n a ≤ n := fun a h => ⟨rn_ge h, rn_le h⟩
  have hwo : (wo 12).length = 3 := rfl
  have t9 : ∀ (r a' u m uu vv : Nat) (l : List Nat) (gs : List (Fc → Bool)) (f' : Nat → Nat × Nat) (S' L' : Nat → Nat → Int) (P' : Nat → Nat → Option Nat), n - a' = r → a' ≤ n → gr t u f S L P f' S' L' P' → S' 101 3 = (a' : Int) → S' 101 6 = 2 → (f' t = (1, 11) ∧ S' t 0 = 1 ∧ P' t 1 = some (t + 1) ∧ t + 1 < u) → GL (fun lo hi f S P h c => coT lo hi f S P 8 h c) t u (t + 1) m f' S' P' l gs → m ≤ 8 + 2 * l.length → l.length ≤ a' → a ≤ a' → uu ≤ 24 * (a' - a) + 2 → vv + 10 * l.length ≤ 120 * (a' - a) + 5 + 4 * m → (∀ q, atP tx n 4 a' = q → evP tx n (atP tx n 4) a = (match q with | .inl w => .inl w | .inr c => lpP n (rn (qB tx) n) (spW tx n 12) (atP tx n 4) (fun g h F => g F && h F) c.1 (alB true (gs ++ [c.2])))) → zz_J (zpX1_allOf_4 c_ s_) (zz_retP Q X c_ s_) 9 [some (vr 100), some (vr t)] [] ((2, f'), S', L', P') (uu, vv) := by
    intro r
    induction r using Nat.strongRecOn with
    | ind r ih =>
      intro a' u m uu vv l gs f' S' L' P' hr ha' g1 r3 r6 ⟨o1, oS, o2, o3⟩ hG hm hk haa hu hv hst
      have hfu := g1.fr
      cases hp : atP tx n 4 a' with
      | inl w =>
        obtain ⟨⟨b1, b2⟩, q⟩ := qw w (hst _ hp)
        refine zwX1_allOf_4_9 ⟨t + 1, (zsh_hi t2).trans o1, (zpt_hi t2).trans o2, 24 * (n - a') + 60, 120 * (n - a') + 300, by omega, tx, n, a', u, g1.T t2 hT, r3, ha', r6, hfu, fun w' hw' => ?_, fun r3 hr3 => (by rw [hp] at hr3; cases hr3)⟩
        rw [hp] at hw'
        cases hw'
        exact ⟨⟨Nat.le_refl _, Nat.le_refl _⟩, fun S3 L3 P3 f3 u3 g3 e3 => ⟨by omega, by decide, q _ _ _ _ _ (g1.tr g3) e3⟩⟩
      | inr c =>
        have hc := p2 a' c ha' hp
        have hsu := hst _ hp
        simp only at hsu
        have hb := p3 c.1 hc.2
        have bud : 24 * (c.1 - a) + 12 ≤ c_ ∧ 120 * (c.1 - a) + 114 + 5 * wl tx n c.1 ≤ s_ := by
          cases hs : spW tx n 12 c.1 with
          | none =>
            rw [lpP_n hc.2 hs] at hsu
            obtain ⟨⟨b1, b2⟩, -⟩ := qr _ hsu
            have b1 : 24 * (rn (qB tx) n c.1 - a) + 12 ≤ c_ := b1
            have b2 : 120 * (rn (qB tx) n c.1 - a) + 114 + 5 * wl tx n (rn (qB tx) n c.1) ≤ s_ := b2
            rw [wl_rn hc.2] at b2
            omega
          | some b =>
            have hb1 := p1 _ _ hc.2 hs
            have ew : wl tx n c.1 = 3 := by
              unfold spW at hs
              split at hs
              · next e => exact (wl_hs e).trans hwo
              · cases hs
            have eb : b = rn (qB tx) n c.1 + 3 := by
              unfold spW at hs
              split at hs
              · cases hs; rfl
              · cases hs
            rw [ew]
            cases hp2 : atP tx n 4 b with
            | inl w =>
              rw [lpP_l hc.2 hs hp2] at hsu
              obtain ⟨⟨b1, b2⟩, -⟩ := qw w hsu
              omega
            | inr c2 =>
              have hc2 := p2 b c2 hb1.2 hp2
              rw [lpP_r p1 p2 hc.2 hs hp2] at hsu
              cases hs2 : evP tx n (atP tx n 4) a with
              | inl w =>
                obtain ⟨⟨b1, b2⟩, -⟩ := qw w hs2
                omega
              | inr r =>
                obtain ⟨⟨b1, b2⟩, -⟩ := qr r hs2
                rw [hs2] at hsu
                have := lpP_ge p1 p2 p3 hc2.2 hsu.symm
                omega
        have l4 := lsN_4 hG.2.2.2.2.2.1
        have hlm := hG.2.2.2.2.1
        have hs4 : ∃ s4 : Nat, (l.length < m ∧ s4 = 0) ∨ (l.length = m ∧ s4 = lsN m) := by
          by_cases h : l.length < m
          · exact ⟨0, Or.inl ⟨h, rfl⟩⟩
          · exact ⟨lsN m, Or.inr ⟨by omega, rfl⟩⟩
        obtain ⟨s4, hs4⟩ := hs4
        have hs4b : s4 ≤ 4 * m + 10 ∧ (s4 + 4 * m ≤ 40 + 8 * l.length) := by
          rcases hs4 with ⟨h1, h2⟩ | ⟨h1, h2⟩
          · omega
          · rcases hG.2.2.2.2.2.1 with z | z
            · have : lsN m = 10 := by rw [z]; rfl
              omega
            · have : lsN m ≤ m + m / 2 := by
                unfold lsN
                rw [if_neg (by omega), if_neg (by omega)]
                exact Nat.le_refl _
              omega
        refine zwX1_allOf_4_9 ⟨t + 1, (zsh_hi t2).trans o1, (zpt_hi t2).trans o2, 24 * (c.1 - a') + 0, 120 * (c.1 - a') + 0 + 0 * wl tx n c.1, by omega, tx, n, a', u, g1.T t2 hT, r3, ha', r6, hfu, fun w' hw' => (by rw [hp] at hw'; cases hw'), fun r0 hr0 => ?_⟩
        rw [hp] at hr0
        cases hr0
        refine ⟨⟨by omega, by omega⟩, fun S3 L3 P3 f3 u3 x g3 e3 e6 hx3 => ?_⟩
        have hG3 := hG.grm (coT.V 8) g3 (Nat.le_refl _)
        have g13 := g1.tr g3
        have o13 : f3 t = (1, 11) := (g3.2.1 t (by omega)).trans o1
        have oS3 : S3 t 0 = 1 := (g3.2.2.1 t 0 (by omega) (fun c => by have := c.1; omega)).trans oS
        have o23 : P3 t 1 = some (t + 1) := by rw [g3.2.2.2.2.1 t (by omega)]; exact o2
        refine ⟨Or.inl ((zsh_hi (by omega)).trans hG3.2.1), 1, s4, by omega, ?_⟩
        refine GL.add (R := fun f' S' L' P' => zz_J (zpX1_allOf_4 c_ s_) (zz_retP Q X c_ s_) 21 [some (vr 100), some (vr t)] [] ((2, f'), S', L', P') (uu + (24 * (c.1 - a') + 0) + 1, vv + (120 * (c.1 - a') + 0 + 0 * wl tx n c.1) + s4)) (coT.V 8) hG3 g3.fr g3.le hx3 (by omega) (hs4.imp (fun c => c.1) (fun c => ⟨Nat.le_refl _, by rw [c.2]; exact Nat.le_refl _⟩)) (fun f5 S5 L5 P5 u5 m5 g5 e5 k5 le5 hG5 hm5 => ?_)
        have g15 : gr t u5 f S L P f5 S5 L5 P5 := g13.tr2 g5
        obtain ⟨y1, y2, y3⟩ := k5 t (by have := g3.le; omega) (by omega) (by rw [o13]; intro c; cases c)
        have len : (l ++ [x]).length = l.length + 1 := by simp
        have hm5' : m5 ≤ 8 + 2 * (l.length + 1) ∧ s4 + 4 * m ≤ 4 * m5 := by
          rcases hm5 with ⟨h1, h2⟩ | ⟨h1, h2⟩
          · omega
          · rcases hG.2.2.2.2.2.1 with z | z
            · have : lsN m = 10 := by rw [z]; rfl
              omega
            · have : lsN m ≤ m + m / 2 := by
                unfold lsN
                rw [if_neg (by omega), if_neg (by omega)]
                exact Nat.le_refl _
              omega
        have wl0 := wl_le (tx := tx) hc.2
        refine zwX1_allOf_4_21 ⟨9, 24 + 5 * wl tx n c.1, by omega, tx, n, c.1, _, 12, u5, g15.T t2 hT, by rw [e5]; exact e3, hc.2, rfl, ⟨rfl, by decide⟩, g5.fr, ⟨Nat.le_refl _, Nat.le_refl _⟩, fun f6 S6 L6 P6 u6 g6 k4 k6 => ⟨fun hw e => ?_, fun hw e => ?_⟩⟩
        · have hs : spW tx n 12 c.1 = some (rn (qB tx) n c.1 + 3) := by unfold spW; rw [if_pos hw]; rfl
          have h1 := p1 _ _ hc.2 hs
          have ew : wl tx n c.1 = 3 := (wl_hs hw).trans hwo
          rw [hwo] at e
          refine ih (n - (rn (qB tx) n c.1 + 3)) (by omega) (rn (qB tx) n c.1 + 3) u6 m5 _ _ (l ++ [x]) (gs ++ [c.2]) f6 S6 L6 P6 rfl h1.2 (g15.tr g6) e ?_ ⟨?_, ?_, ?_, by have := g3.le; have := g6.le; omega⟩ ?_ (by omega) (by omega) (by omega) (by omega) (by omega) (fun q hq => ?_)
          · rw [k6, e5, e6]
          · rw [g6.2.1 t (by have := g3.le; omega), y1]; exact o13
          · rw [g6.2.2.1 t 0 (by have := g3.le; omega) (fun c => by have := c.1; omega), y2]; exact oS3
          · rw [g6.2.2.2.2.1 t (by have := g3.le; omega), y3]; exact o23
          · have := hG5.grm (coT.V 8) g6 (Nat.le_refl _)
            exact this.up g6.le
          · cases q with
            | inl w =>
              rw [hsu, lpP_l hc.2 hs hq]
            | inr c2 =>
              rw [hsu, lpP_r p1 p2 hc.2 hs hq]
              simp only
              rw [alB_and (gs ++ [c.2])]
        · have hs : spW tx n 12 c.1 = none := by unfold spW; rw [if_neg (by rw [hw]; decide)]
          rw [lpP_n hc.2 hs] at hsu
          obtain ⟨⟨b1, b2⟩, q⟩ := qr _ hsu
          have b1 : 24 * (rn (qB tx) n c.1 - a) + 12 ≤ c_ := b1
          have b2 : 120 * (rn (qB tx) n c.1 - a) + 114 + 5 * wl tx n (rn (qB tx) n c.1) ≤ s_ := b2
          rw [wl_rn hc.2] at b2
          obtain ⟨A1, A2, A3⟩ := hG5.ALT (coT.V 8) (by omega)
          have ag := g6.ag t2 (Nat.le_refl _)
          have tt : t < u6 := by have := g3.le; have := g6.le; omega
          refine ⟨by omega, q S6 L6 P6 f6 u6 t (g15.tr g6) e ?_ (Or.inr (Or.inr ⟨⟨t2, Nat.le_refl _, tt⟩, ?_, true, t + 1, l ++ [x], gs ++ [c.2], ?_, ?_, (A1.fr ag).mo t2 (Nat.le_refl _) g6.le, A2, fun i y g' h1 h2 => coT.mo t2 (Nat.le_refl _) g6.le (coT.fr ag (A3 i y g' h1 h2)), rfl⟩))⟩
          · rw [k6, e5, e6]
          · rw [g6.2.1 t (by have := g3.le; omega), y1]; exact o13
          · rw [g6.2.2.1 t 0 (by have := g3.le; omega) (fun c => by have := c.1; omega), y2]; exact oS3
          · rw [g6.2.2.2.2.1 t (by have := g3.le; omega), y3]; exact o23
  have bud : 12 ≤ c_ ∧ 114 ≤ s_ := by
    cases hs : evP tx n (atP tx n 4) a with
    | inl w =>
      obtain ⟨⟨b1, b2⟩, -⟩ := qw w hs
      omega
    | inr r =>
      obtain ⟨⟨b1, b2⟩, -⟩ := qr r hs
      omega
  refine zwX1_allOf_4_0 ⟨t, hf.z (Nat.le_refl _), by omega, by omega, t + 1, (zsh_hi t2).trans (zrw_s _ _ _), by decide, zfx_of (zfs_hi t2) 1, ⟨zfs_hi (by omega), by show (zrw f t (1, 11) (t + 1)).1 = 0; rw [zrw_n _ _ (by omega)]; exact hf.2 _ (by omega)⟩, fun S2 P2 e1 e0 e2 e3 e4 e5 => ?_⟩
  refine t9 (n - a) a (t + 2) 0 2 5 [] [] _ S2 _ P2 rfl han ⟨by omega, fun h hh => by rw [zrw_n _ _ (by omega), zrw_n _ _ (by omega)], fun h k hh _ => by rw [e1 h k (by omega) (by omega), zrw_n _ _ (by omega)], fun h hh => by rw [zrw_n _ _ (by omega), zrw_n _ _ (by omega)], fun h hh => ?_, by omega, fun h hh => by rw [zrw_n _ _ (by omega), zrw_n _ _ (by omega)]; exact hf.2 h (by omega)⟩ (by rw [e1 101 3 (by omega) (by omega), zrw_n _ _ (by omega)]; exact ha) (by rw [e1 101 6 (by omega) (by omega), zrw_n _ _ (by omega)]; exact h6) ⟨by rw [zrw_n _ _ (by omega), zrw_s], e0, e5, by omega⟩ (GL.nil ⟨t2, by omega, by omega⟩ (zrw_s _ _ _) e3 e4) (by decide) (by simp) (Nat.le_refl _) (by omega) (by simp) (fun q hq => ?_)
  · funext k
    rw [e2 h k (by omega) (by omega), zrw_n _ _ (by omega)]
  · show seqP tx n 12 _ (atP tx n 4) a = _
    cases q with
    | inl w => exact seqP_f hq
    | inr c =>
      rw [seqP_s hq]
      show lpP n _ _ _ _ c.1 c.2 = lpP n _ _ _ _ c.1 (alB _ [c.2])
      rw [alB_1]
def zX1_cond_4 (c_ s_ : Nat) : zz_Sp := fun as M Q X => match as with
  | [.inr (.inr (some h_))] => bif Nat.beq h_ 100 && Nat.beq M.1.1 2 then (∃ (tx_ : Nat → Int) (n_ a_ t_ : Nat), qT M.2.1 tx_ n_ ∧ M.2.1 101 3 = (a_ : Int) ∧ a_ ≤ n_ ∧ M.2.1 101 6 = 2 ∧ frF M.1.2 t_ ∧ (∀ w_ : Nat, soP tx_ n_ (atP tx_ n_ 4) a_ = .inl w_ → (24 * (n_ - a_) + 64 ≤ c_ ∧ 120 * (n_ - a_) + 390 ≤ s_) ∧ ∀ (S_ L_ : Nat → Nat → Int) (P_ : Nat → Nat → Option Nat) (f_ : Nat → Nat × Nat) (u_ : Nat), gr t_ u_ M.1.2 M.2.1 M.2.2.1 M.2.2.2 f_ S_ L_ P_ → S_ 101 4 = (w_ : Int) → X 0 ((2, f_), S_, L_, P_)) ∧ (∀ r_ : Nat × (Fc → Bool), soP tx_ n_ (atP tx_ n_ 4) a_ = .inr r_ → (24 * (r_.1 - a_) + 24 ≤ c_ ∧ 120 * (r_.1 - a_) + 228 + 10 * wl tx_ n_ r_.1 ≤ s_) ∧ ∀ (S_ L_ : Nat → Nat → Int) (P_ : Nat → Nat → Option Nat) (f_ : Nat → Nat × Nat) (u_ g_ : Nat), gr t_ u_ M.1.2 M.2.1 M.2.2.1 M.2.2.2 f_ S_ L_ P_ → S_ 101 3 = (r_.1 : Int) → S_ 101 6 = 2 → coT t_ u_ f_ S_ P_ 10 g_ r_.2 → Q (some (vr g_)) ((2, f_), S_, L_, P_))) else False
  | _ => False

def zpX1_cond_4 (c_ s_ : Nat) : zz_P := [(0, zo_new (mm_rm 27 c_ s_) 3 11 2), (3, zo_dup 4), (4, zo_c 5 (vi 0)), (5, zo_ciF (mm_rm 27 c_ s_) 8 2 1 3 zX13_init), (8, zo_ast 9 1), (9, zo_ald 10 1), (10, zo_getr 13 11 1), (13, zo_ald 14 0), (14, zo_cvG (mm_rm 27 c_ s_) 17 1 0 zX1_allOf_4), (17, zo_cvGp (mm_rm 27 c_ s_) 20 2 17 zJ2_add), (20, zo_pop 21), (21, zo_ald 22 0), (22, zo_get 25 0 2 2), (25, zo_c 28 (vr 1013)), (28, zo_cvG (mm_rm 27 c_ s_) 31 2 3 zX4_passes), (31, zo_zifne 34 9), (34, zo_ald 35 1), (35, zo_aret)]
theorem ztX1_cond_4 (c_ s_ : Nat) {C : mm_C} (G : mm_G C RX1 cX1_cond (some (.object "ChaseCourt$Cond")) 2 (mm_rm 27 c_ s_)) (hnh : mm_nh C) : zz_OKs C (zpX1_cond_4 c_ s_) :=
  ⟨zz_of (ok_new G (ci := 11) (RX13, TX13, 2) rfl rfl q1148 q1149 q114 (by decide) dX1_cond_0 rfl) (z_new _ _ _ _),
   zz_of (ok_dup G dX1_cond_3 rfl) (z_dup _),
   zz_of (ok_iconst G (v := 0) dX1_cond_4 (by decide) rfl) (z_cn 5 0),
   zz_of (ok_caliF G (hnh.q 5) (zmX13_init _ G.hst) q1150 q1151 q114 q1152 rfl (by decide +kernel) ⟨Nat.le_of_ble_eq_true rfl, Nat.le_of_ble_eq_true rfl⟩ dX1_cond_5 rfl) (z_ciF _ _ _ _ _ _),
   zz_of (ok_astore_n G dX1_cond_8 rfl rfl (by decide)) (z_ast _ _),
   zz_of (ok_aload_n G dX1_cond_9 rfl rfl) (z_ald _ _),
   zz_of (ok_getN G (nx := 13) (ci := 11) (kd := 2) (k := 1) (RX13, TX13, 2) rfl (by decide) rfl q1158 dX1_cond_10 rfl) (z_getr _ _ _),
   zz_of (ok_aload_n G dX1_cond_13 rfl rfl) (z_ald _ _),
   zz_of (ok_calv G (hnh.q 14) (zmX1_allOf_4 _ G.hst) (RX1, TX1, 19) rfl q1164 q1166 qs11 q82 q1167 (by decide +kernel) ⟨Nat.le_of_ble_eq_true rfl, Nat.le_of_ble_eq_true rfl⟩ dX1_cond_14 rfl) (z_cvG _ _ _ _ _),
   zz_of (ok_calv G (hnh.q 17) (zmJ2_add _ G.hst) (RJ2, TJ2, 3) rfl q1256 q1257 q1258 q86 q1259 (by decide +kernel) ⟨Nat.le_of_ble_eq_true rfl, Nat.le_of_ble_eq_true rfl⟩ dX1_cond_17 rfl) (z_cvGp _ _ _ _ _),
   zz_of (ok_pop G dX1_cond_20 rfl) (z_pop _),
   zz_of (ok_aload_n G dX1_cond_21 rfl rfl) (z_ald _ _),
   zz_of (ok_get G (nx := 25) (ci := 0) (kd := 2) (k := 2) (RX1, TX1, 19) rfl (by decide) rfl q404 dX1_cond_22 rfl) (z_get _ _ _ _),
   zz_of (ok_ldsw G (tx := "or") (by decide +kernel) dX1_cond_25 rfl) (z_cr 28 1013),
   zz_of (ok_calv G (hnh.q 28) (zmX4_passes _ G.hst) (RX4, TX4, 7) rfl q1138 q1139 q1140 q88 q1141 (by decide +kernel) ⟨Nat.le_of_ble_eq_true rfl, Nat.le_of_ble_eq_true rfl⟩ dX1_cond_28 rfl) (z_cvG _ _ _ _ _),
   zz_of (ok_ifne G dX1_cond_31 rfl rfl) (z_zifne _ _),
   zz_of (ok_aload_n G dX1_cond_34 rfl rfl) (z_ald _ _),
   zz_of (ok_aret G (Or.inl ⟨_, rfl⟩) dX1_cond_35) (z_aret), trivial⟩

theorem zwX1_cond_4_0 {Q : Option zv → zz_M → Prop} {X : Nat → zz_M → Prop} {f : Nat → Nat × Nat} {S L : Nat → Nat → Int} {P : Nat → Nat → Option Nat} {c_ s_ : Nat}  (h : ∃ h1_ : Nat, zfree ((2, f), S, L, P) h1_ ∧ (0 + 1 ≤ c_ ∧ 0 + 2 ≤ s_) ∧ ((1 + 1 ≤ c_ ∧ 2 + 3 ≤ s_) ∧ (∃ b_2 : Nat, zsh ((2, zrw f h1_ (1, 11)), zrw S h1_ (fun _ => 0), zrw L h1_ (fun _ => 0), zrw P h1_ (fun _ => none)) h1_ = (1, 11) ∧ ((0 : Int) = 0 ∨ (0 : Int) = 1) ∧ zfx ((2, zrw f h1_ (1, 11)), zrw S h1_ (fun _ => 0), zrw L h1_ (fun _ => 0), zrw P h1_ (fun _ => none)).1.1 h1_ 1 = false ∧ zfree ((2, zrw f h1_ (1, 11)), zrw S h1_ (fun _ => 0), zrw L h1_ (fun _ => 0), zrw P h1_ (fun _ => none)) b_2 ∧ (∀ (S_2 : Nat → Nat → Int) (P_2 : Nat → Nat → Option Nat), (∀ j k, j ≠ b_2 → ¬ (j = h1_ ∧ k = 0) → S_2 j k = (zrw S h1_ (fun _ => 0)) j k) → S_2 h1_ 0 = (0 : Int) → (∀ j k, j ≠ b_2 → ¬ (j = h1_ ∧ k = 1) → P_2 j k = (zrw P h1_ (fun _ => none)) j k) → S_2 b_2 2 = 0 → P_2 b_2 1 = some 1300 → P_2 h1_ 1 = some b_2 → (zz_J (zpX1_cond_4 c_ s_) (zz_retP Q X c_ s_) 9 [some (vr 100), some (vr h1_)] [] ((2, zrw (zrw f h1_ (1, 11)) b_2 (1, 17)), S_2, zrw (zrw L h1_ (fun _ => 0)) b_2 (fun _ => 0), P_2) (2, 5)))))) : zz_J (zpX1_cond_4 c_ s_) (zz_retP Q X c_ s_) 0 [some (vr 100), none] [] ((2, f), S, L, P) (0, 0) := zz_J.go [(9, []), (21, [])] 400 h
theorem zwX1_cond_4_9 {Q : Option zv → zz_M → Prop} {X : Nat → zz_M → Prop} {f : Nat → Nat × Nat} {S L : Nat → Nat → Int} {P : Nat → Nat → Option Nat} {c_ s_ : Nat} {u_ v_ : Nat} {h1 : Nat} (h : ∃ b1 : Nat, zsh ((2, f), S, L, P) h1 = (1, 11) ∧ zpt ((2, f), S, L, P) h1 1 = some b1 ∧ (∃ c2 s2 : Nat, (u_ + c2 ≤ c_ ∧ v_ + s2 ≤ s_) ∧ (∃ (tx_3 : Nat → Int) (n_3 a_3 t_3 : Nat), qT S tx_3 n_3 ∧ S 101 3 = (a_3 : Int) ∧ a_3 ≤ n_3 ∧ S 101 6 = 2 ∧ frF f t_3 ∧ (∀ w_3 : Nat, evP tx_3 n_3 (atP tx_3 n_3 4) a_3 = .inl w_3 → (24 * (n_3 - a_3) + 62 ≤ c2 ∧ 120 * (n_3 - a_3) + 345 ≤ s2) ∧ ∀ (S_3 L_3 : Nat → Nat → Int) (P_3 : Nat → Nat → Option Nat) (f_3 : Nat → Nat × Nat) (u_3 : Nat), gr t_3 u_3 f S L P f_3 S_3 L_3 P_3 → S_3 101 4 = (w_3 : Int) → ((u_ + c2 ≤ c_ ∧ v_ + s2 ≤ s_) ∧ 0 ≤ 5 ∧ X 0 ((2, f_3), S_3, L_3, P_3))) ∧ (∀ r_3 : Nat × (Fc → Bool), evP tx_3 n_3 (atP tx_3 n_3 4) a_3 = .inr r_3 → (24 * (r_3.1 - a_3) + 12 ≤ c2 ∧ 120 * (r_3.1 - a_3) + 114 + 5 * wl tx_3 n_3 r_3.1 ≤ s2) ∧ ∀ (S_3 L_3 : Nat → Nat → Int) (P_3 : Nat → Nat → Option Nat) (f_3 : Nat → Nat × Nat) (u_3 g_3 : Nat), gr t_3 u_3 f S L P f_3 S_3 L_3 P_3 → S_3 101 3 = (r_3.1 : Int) → S_3 101 6 = 2 → coT t_3 u_3 f_3 S_3 P_3 9 g_3 r_3.2 → ((zsh ((2, f_3), S_3, L_3, P_3) b1 = (1, 17) ∨ zsh ((2, f_3), S_3, L_3, P_3) b1 = (17, 17)) ∧ ∃ c4 s4 : Nat, (u_ + c2 + c4 ≤ c_ ∧ v_ + s2 + s4 ≤ s_) ∧ (∃ a_5 b_5 m_5 n_5 ci_5 : Nat, lsR ((2, f_3), S_3, L_3, P_3) b1 a_5 m_5 n_5 ∧ (zsh ((2, f_3), S_3, L_3, P_3) g_3 = (1, ci_5) ∧ mm_mem mm_obs ci_5 = true) ∧ (n_5 < m_5 → (∀ (S_5 : Nat → Nat → Int) (P_5 : Nat → Nat → Option Nat), (∀ j k, ¬ (j = b1 ∧ (k = 0 ∨ k = 2)) → S_5 j k = S_3 j k) → S_5 b1 2 = (n_5 : Int) + 1 → (∀ j k, ¬ (j = a_5 ∧ k = n_5) → P_5 j k = P_3 j k) → P_5 a_5 n_5 = some g_3 → (zz_J (zpX1_cond_4 c_ s_) (zz_retP Q X c_ s_) 21 [some (vr 100), some (vr h1)] [] ((2, f_3), S_5, L_3, P_5) (u_ + c2 + c4, v_ + s2 + s4)))) ∧ (n_5 = m_5 → zfree ((2, f_3), S_3, L_3, P_3) b_5 ∧ (1 ≤ c4 ∧ lsN m_5 ≤ s4) ∧ (∀ (S_5 : Nat → Nat → Int) (P_5 : Nat → Nat → Option Nat), (∀ j k, ¬ (j = b1 ∧ (k = 0 ∨ k = 2)) → j ≠ b_5 → S_5 j k = S_3 j k) → S_5 b1 2 = (n_5 : Int) + 1 → (∀ j k, j ≠ b_5 → ¬ (j = b1 ∧ k = 1) → P_5 j k = P_3 j k) → P_5 b1 1 = some b_5 → (∀ i : Nat, i < m_5 → P_5 b_5 i = zpt ((2, f_3), S_3, L_3, P_3) a_5 i) → P_5 b_5 n_5 = some g_3 → (zz_J (zpX1_cond_4 c_ s_) (zz_retP Q X c_ s_) 21 [some (vr 100), some (vr h1)] [] ((2, zrw f_3 b_5 (7, lsN m_5)), S_5, zrw L_3 b_5 (fun _ => 0), P_5) (u_ + c2 + c4, v_ + s2 + s4)))))))))) : zz_J (zpX1_cond_4 c_ s_) (zz_retP Q X c_ s_) 9 [some (vr 100), some (vr h1)] [] ((2, f), S, L, P) (u_, v_) := zz_J.go [(9, []), (21, [])] 400 h
theorem zwX1_cond_4_21 {Q : Option zv → zz_M → Prop} {X : Nat → zz_M → Prop} {f : Nat → Nat × Nat} {S L : Nat → Nat → Int} {P : Nat → Nat → Option Nat} {c_ s_ : Nat} {u_ v_ : Nat} {h1 : Nat} (h : ∃ c1 s1 : Nat, (u_ + c1 ≤ c_ ∧ v_ + s1 ≤ s_) ∧ (∃ (tx_2 : Nat → Int) (n_2 a_2 b_2 j_2 t_2 : Nat), qT S tx_2 n_2 ∧ S 101 3 = (a_2 : Int) ∧ a_2 ≤ n_2 ∧ rn (qB tx_2) n_2 a_2 = b_2 ∧ (1013 = 1000 + j_2 ∧ j_2 < 18) ∧ frF f t_2 ∧ (9 ≤ c1 ∧ 24 + 5 * (rn (qL tx_2) n_2 b_2 - b_2) ≤ s1) ∧ (∀ (f_2 : Nat → Nat × Nat) (S_2 L_2 : Nat → Nat → Int) (P_2 : Nat → Nat → Option Nat) (u_2 : Nat), gr t_2 u_2 f S L P f_2 S_2 L_2 P_2 → S_2 101 4 = (b_2 : Int) → S_2 101 6 = S 101 6 → (hsW tx_2 n_2 b_2 (wo j_2) = true → S_2 101 3 = ((b_2 + (wo j_2).length : Nat) : Int) → (zz_J (zpX1_cond_4 c_ s_) (zz_retP Q X c_ s_) 9 [some (vr 100), some (vr h1)] [] ((2, f_2), S_2, L_2, P_2) (u_ + c1, v_ + s1))) ∧ (hsW tx_2 n_2 b_2 (wo j_2) = false → S_2 101 3 = (b_2 : Int) → ((u_ + c1 ≤ c_ ∧ v_ + s1 ≤ s_) ∧ (Q (some (vr h1)) ((2, f_2), S_2, L_2, P_2))))))) : zz_J (zpX1_cond_4 c_ s_) (zz_retP Q X c_ s_) 21 [some (vr 100), some (vr h1)] [] ((2, f), S, L, P) (u_, v_) := zz_J.go [(9, []), (21, [])] 400 h

theorem zmX1_cond_4 (l : Launch) (hl : l.stackTraces = false) (c_ s_ : Nat) : mm_Spec l yX1_cond (ws_ yX1_cond cX1_cond 2 (some (.object "ChaseCourt$Cond"))) (mm_rm 27 c_ s_) (zE (zX1_cond_4 c_ s_)) := by
  refine zz_Met.J hl (by decide) (fun C G hnh => ztX1_cond_4 c_ s_ G hnh) ?_
  rintro as ⟨⟨t_, f⟩, S, L, P⟩ Q X h
  unfold zX1_cond_4 at h
  split at h
  rotate_left
  · exact h.elim
  rename_i h_
  obtain ⟨e1_, e2_, h⟩ := mm_and2 h (fun q => q)
  cases mm_beq e1_
  cases mm_beq e2_
  try dsimp only at h
  refine ⟨rfl, ?_⟩
  refine zz_retP_J ?_
  obtain ⟨tx, n, a, t, hT, ha, han, h6, hf, qw, qr⟩ := h
  have n400 := hT.1
  have t2 := hf.1
  have hx := fun k hk => (hT.2.2 k hk).1
  have hok : pOK n (evP tx n (atP tx n 4)) := evP_ok (atP_ok hx (fun a w h e => ptP_w h e) 4)
  have p2 : ∀ a c, a ≤ n → evP tx n (atP tx n 4) a = .inr c → a ≤ c.1 ∧ c.1 ≤ n := fun a c h1 h2 => (hok a h1).1 c h2
  have p1 : ∀ a b, a ≤ n → spW tx n 13 a = some b → a < b ∧ b ≤ n := fun a b h1 h2 => spW_in (by decide) a b h1 h2
  have p3 : ∀ a, a ≤ n → a ≤ rn (qB tx) n a ∧ rn (qB tx) n a ≤ n := fun a h => ⟨rn_ge h, rn_le h⟩
  have hwo : (wo 13).length = 2 := rfl
  have t9 : ∀ (r a' u m uu vv : Nat) (l : List Nat) (gs : List (Fc → Bool)) (f' : Nat → Nat × Nat) (S' L' : Nat → Nat → Int) (P' : Nat → Nat → Option Nat), n - a' = r → a' ≤ n → gr t u f S L P f' S' L' P' → S' 101 3 = (a' : Int) → S' 101 6 = 2 → (f' t = (1, 11) ∧ S' t 0 = 0 ∧ P' t 1 = some (t + 1) ∧ t + 1 < u) → GL (fun lo hi f S P h c => coT lo hi f S P 9 h c) t u (t + 1) m f' S' P' l gs → m ≤ 8 + 2 * l.length → l.length ≤ a' → a ≤ a' → uu ≤ 24 * (a' - a) + 2 → vv + 10 * l.length ≤ 120 * (a' - a) + 5 + 4 * m → (∀ q, evP tx n (atP tx n 4) a' = q → soP tx n (atP tx n 4) a = (match q with | .inl w => .inl w | .inr c => lpP n (rn (qB tx) n) (spW tx n 13) (evP tx n (atP tx n 4)) (fun g h F => g F || h F) c.1 (alB false (gs ++ [c.2])))) → zz_J (zpX1_cond_4 c_ s_) (zz_retP Q X c_ s_) 9 [some (vr 100), some (vr t)] [] ((2, f'), S', L', P') (uu, vv) := by
    intro r
    induction r using Nat.strongRecOn with
    | ind r ih =>
      intro a' u m uu vv l gs f' S' L' P' hr ha' g1 r3 r6 ⟨o1, oS, o2, o3⟩ hG hm hk haa hu hv hst
      have hfu := g1.fr
      cases hp : evP tx n (atP tx n 4) a' with
      | inl w =>
        obtain ⟨⟨b1, b2⟩, q⟩ := qw w (hst _ hp)
        refine zwX1_cond_4_9 ⟨t + 1, (zsh_hi t2).trans o1, (zpt_hi t2).trans o2, 24 * (n - a') + 62, 120 * (n - a') + 345, by omega, tx, n, a', u, g1.T t2 hT, r3, ha', r6, hfu, fun w' hw' => ?_, fun r3 hr3 => (by rw [hp] at hr3; cases hr3)⟩
        rw [hp] at hw'
        cases hw'
        exact ⟨⟨Nat.le_refl _, Nat.le_refl _⟩, fun S3 L3 P3 f3 u3 g3 e3 => ⟨by omega, by decide, q _ _ _ _ _ (g1.tr g3) e3⟩⟩
      | inr c =>
        have hc := p2 a' c ha' hp
        have hsu := hst _ hp
        simp only at hsu
        have hb := p3 c.1 hc.2
        have bud : 24 * (c.1 - a) + 24 ≤ c_ ∧ 120 * (c.1 - a) + 228 + 10 * wl tx n c.1 ≤ s_ := by
          cases hs : spW tx n 13 c.1 with
          | none =>
            rw [lpP_n hc.2 hs] at hsu
            obtain ⟨⟨b1, b2⟩, -⟩ := qr _ hsu
            have b1 : 24 * (rn (qB tx) n c.1 - a) + 24 ≤ c_ := b1
            have b2 : 120 * (rn (qB tx) n c.1 - a) + 228 + 10 * wl tx n (rn (qB tx) n c.1) ≤ s_ := b2
            rw [wl_rn hc.2] at b2
            omega
          | some b =>
            have hb1 := p1 _ _ hc.2 hs
            have ew : wl tx n c.1 = 2 := by
              unfold spW at hs
              split at hs
              · next e => exact (wl_hs e).trans hwo
              · cases hs
            have eb : b = rn (qB tx) n c.1 + 2 := by
              unfold spW at hs
              split at hs
              · cases hs; rfl
              · cases hs
            rw [ew]
            cases hp2 : evP tx n (atP tx n 4) b with
            | inl w =>
              rw [lpP_l hc.2 hs hp2] at hsu
              obtain ⟨⟨b1, b2⟩, -⟩ := qw w hsu
              omega
            | inr c2 =>
              have hc2 := p2 b c2 hb1.2 hp2
              rw [lpP_r p1 p2 hc.2 hs hp2] at hsu
              cases hs2 : soP tx n (atP tx n 4) a with
              | inl w =>
                obtain ⟨⟨b1, b2⟩, -⟩ := qw w hs2
                omega
              | inr r =>
                obtain ⟨⟨b1, b2⟩, -⟩ := qr r hs2
                rw [hs2] at hsu
                have := lpP_ge p1 p2 p3 hc2.2 hsu.symm
                omega
        have l4 := lsN_4 hG.2.2.2.2.2.1
        have hlm := hG.2.2.2.2.1
        have hs4 : ∃ s4 : Nat, (l.length < m ∧ s4 = 0) ∨ (l.length = m ∧ s4 = lsN m) := by
          by_cases h : l.length < m
          · exact ⟨0, Or.inl ⟨h, rfl⟩⟩
          · exact ⟨lsN m, Or.inr ⟨by omega, rfl⟩⟩
        obtain ⟨s4, hs4⟩ := hs4
        have hs4b : s4 ≤ 4 * m + 10 ∧ (s4 + 4 * m ≤ 40 + 8 * l.length) := by
          rcases hs4 with ⟨h1, h2⟩ | ⟨h1, h2⟩
          · omega
          · rcases hG.2.2.2.2.2.1 with z | z
            · have : lsN m = 10 := by rw [z]; rfl
              omega
            · have : lsN m ≤ m + m / 2 := by
                unfold lsN
                rw [if_neg (by omega), if_neg (by omega)]
                exact Nat.le_refl _
              omega
        refine zwX1_cond_4_9 ⟨t + 1, (zsh_hi t2).trans o1, (zpt_hi t2).trans o2, 24 * (c.1 - a') + 12, 120 * (c.1 - a') + 114 + 5 * wl tx n c.1, by omega, tx, n, a', u, g1.T t2 hT, r3, ha', r6, hfu, fun w' hw' => (by rw [hp] at hw'; cases hw'), fun r0 hr0 => ?_⟩
        rw [hp] at hr0
        cases hr0
        refine ⟨⟨by omega, by omega⟩, fun S3 L3 P3 f3 u3 x g3 e3 e6 hx3 => ?_⟩
        have hG3 := hG.grm (coT.V 9) g3 (Nat.le_refl _)
        have g13 := g1.tr g3
        have o13 : f3 t = (1, 11) := (g3.2.1 t (by omega)).trans o1
        have oS3 : S3 t 0 = 0 := (g3.2.2.1 t 0 (by omega) (fun c => by have := c.1; omega)).trans oS
        have o23 : P3 t 1 = some (t + 1) := by rw [g3.2.2.2.2.1 t (by omega)]; exact o2
        refine ⟨Or.inl ((zsh_hi (by omega)).trans hG3.2.1), 1, s4, by omega, ?_⟩
        refine GL.add (R := fun f' S' L' P' => zz_J (zpX1_cond_4 c_ s_) (zz_retP Q X c_ s_) 21 [some (vr 100), some (vr t)] [] ((2, f'), S', L', P') (uu + (24 * (c.1 - a') + 12) + 1, vv + (120 * (c.1 - a') + 114 + 5 * wl tx n c.1) + s4)) (coT.V 9) hG3 g3.fr g3.le hx3 (by omega) (hs4.imp (fun c => c.1) (fun c => ⟨Nat.le_refl _, by rw [c.2]; exact Nat.le_refl _⟩)) (fun f5 S5 L5 P5 u5 m5 g5 e5 k5 le5 hG5 hm5 => ?_)
        have g15 : gr t u5 f S L P f5 S5 L5 P5 := g13.tr2 g5
        obtain ⟨y1, y2, y3⟩ := k5 t (by have := g3.le; omega) (by omega) (by rw [o13]; intro c; cases c)
        have len : (l ++ [x]).length = l.length + 1 := by simp
        have hm5' : m5 ≤ 8 + 2 * (l.length + 1) ∧ s4 + 4 * m ≤ 4 * m5 := by
          rcases hm5 with ⟨h1, h2⟩ | ⟨h1, h2⟩
          · omega
          · rcases hG.2.2.2.2.2.1 with z | z
            · have : lsN m = 10 := by rw [z]; rfl
              omega
            · have : lsN m ≤ m + m / 2 := by
                unfold lsN
                rw [if_neg (by omega), if_neg (by omega)]
                exact Nat.le_refl _
              omega
        have wl0 := wl_le (tx := tx) hc.2
        refine zwX1_cond_4_21 ⟨9, 24 + 5 * wl tx n c.1, by omega, tx, n, c.1, _, 13, u5, g15.T t2 hT, by rw [e5]; exact e3, hc.2, rfl, ⟨rfl, by decide⟩, g5.fr, ⟨Nat.le_refl _, Nat.le_refl _⟩, fun f6 S6 L6 P6 u6 g6 k4 k6 => ⟨fun hw e => ?_, fun hw e => ?_⟩⟩
        · have hs : spW tx n 13 c.1 = some (rn (qB tx) n c.1 + 2) := by unfold spW; rw [if_pos hw]; rfl
          have h1 := p1 _ _ hc.2 hs
          have ew : wl tx n c.1 = 2 := (wl_hs hw).trans hwo
          rw [hwo] at e
          refine ih (n - (rn (qB tx) n c.1 + 2)) (by omega) (rn (qB tx) n c.1 + 2) u6 m5 _ _ (l ++ [x]) (gs ++ [c.2]) f6 S6 L6 P6 rfl h1.2 (g15.tr g6) e ?_ ⟨?_, ?_, ?_, by have := g3.le; have := g6.le; omega⟩ ?_ (by omega) (by omega) (by omega) (by omega) (by omega) (fun q hq => ?_)
          · rw [k6, e5, e6]
          · rw [g6.2.1 t (by have := g3.le; omega), y1]; exact o13
          · rw [g6.2.2.1 t 0 (by have := g3.le; omega) (fun c => by have := c.1; omega), y2]; exact oS3
          · rw [g6.2.2.2.2.1 t (by have := g3.le; omega), y3]; exact o23
          · have := hG5.grm (coT.V 9) g6 (Nat.le_refl _)
            exact this.up g6.le
          · cases q with
            | inl w =>
              rw [hsu, lpP_l hc.2 hs hq]
            | inr c2 =>
              rw [hsu, lpP_r p1 p2 hc.2 hs hq]
              simp only
              rw [alB_or (gs ++ [c.2])]
        · have hs : spW tx n 13 c.1 = none := by unfold spW; rw [if_neg (by rw [hw]; decide)]
          rw [lpP_n hc.2 hs] at hsu
          obtain ⟨⟨b1, b2⟩, q⟩ := qr _ hsu
          have b1 : 24 * (rn (qB tx) n c.1 - a) + 24 ≤ c_ := b1
          have b2 : 120 * (rn (qB tx) n c.1 - a) + 228 + 10 * wl tx n (rn (qB tx) n c.1) ≤ s_ := b2
          rw [wl_rn hc.2] at b2
          obtain ⟨A1, A2, A3⟩ := hG5.ALT (coT.V 9) (by omega)
          have ag := g6.ag t2 (Nat.le_refl _)
          have tt : t < u6 := by have := g3.le; have := g6.le; omega
          refine ⟨by omega, q S6 L6 P6 f6 u6 t (g15.tr g6) e ?_ (Or.inr (Or.inr ⟨⟨t2, Nat.le_refl _, tt⟩, ?_, false, t + 1, l ++ [x], gs ++ [c.2], ?_, ?_, (A1.fr ag).mo t2 (Nat.le_refl _) g6.le, A2, fun i y g' h1 h2 => coT.mo t2 (Nat.le_refl _) g6.le (coT.fr ag (A3 i y g' h1 h2)), rfl⟩))⟩
          · rw [k6, e5, e6]
          · rw [g6.2.1 t (by have := g3.le; omega), y1]; exact o13
          · rw [g6.2.2.1 t 0 (by have := g3.le; omega) (fun c => by have := c.1; omega), y2]; exact oS3
          · rw [g6.2.2.2.2.1 t (by have := g3.le; omega), y3]; exact o23
  have bud : 12 ≤ c_ ∧ 114 ≤ s_ := by
    cases hs : soP tx n (atP tx n 4) a with
    | inl w =>
      obtain ⟨⟨b1, b2⟩, -⟩ := qw w hs
      omega
    | inr r =>
      obtain ⟨⟨b1, b2⟩, -⟩ := qr r hs
      omega
  refine zwX1_cond_4_0 ⟨t, hf.z (Nat.le_refl _), by omega, by omega, t + 1, (zsh_hi t2).trans (zrw_s _ _ _), by decide, zfx_of (zfs_hi t2) 1, ⟨zfs_hi (by omega), by show (zrw f t (1, 11) (t + 1)).1 = 0; rw [zrw_n _ _ (by omega)]; exact hf.2 _ (by omega)⟩, fun S2 P2 e1 e0 e2 e3 e4 e5 => ?_⟩
  refine t9 (n - a) a (t + 2) 0 2 5 [] [] _ S2 _ P2 rfl han ⟨by omega, fun h hh => by rw [zrw_n _ _ (by omega), zrw_n _ _ (by omega)], fun h k hh _ => by rw [e1 h k (by omega) (by omega), zrw_n _ _ (by omega)], fun h hh => by rw [zrw_n _ _ (by omega), zrw_n _ _ (by omega)], fun h hh => ?_, by omega, fun h hh => by rw [zrw_n _ _ (by omega), zrw_n _ _ (by omega)]; exact hf.2 h (by omega)⟩ (by rw [e1 101 3 (by omega) (by omega), zrw_n _ _ (by omega)]; exact ha) (by rw [e1 101 6 (by omega) (by omega), zrw_n _ _ (by omega)]; exact h6) ⟨by rw [zrw_n _ _ (by omega), zrw_s], e0, e5, by omega⟩ (GL.nil ⟨t2, by omega, by omega⟩ (zrw_s _ _ _) e3 e4) (by decide) (by simp) (Nat.le_refl _) (by omega) (by simp) (fun q hq => ?_)
  · funext k
    rw [e2 h k (by omega) (by omega), zrw_n _ _ (by omega)]
  · show seqP tx n 13 _ (evP tx n (atP tx n 4)) a = _
    cases q with
    | inl w => exact seqP_f hq
    | inr c =>
      rw [seqP_s hq]
      show lpP n _ _ _ _ c.1 c.2 = lpP n _ _ _ _ c.1 (alB _ [c.2])
      rw [alB_1]
