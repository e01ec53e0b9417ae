/-! ===== the component's parser: the text of a rule ===== -/
set_option maxRecDepth 100000
def zX1_ruleText : zz_Sp := fun as M Q X => match as with
  | [.inr (.inr (some h_))] => bif Nat.beq h_ 100 && Nat.beq M.1.1 2 then (∃ (tx_ : Nat → Int) (n_ t_ : Nat), qT M.2.1 tx_ n_ ∧ M.2.1 101 3 = 0 ∧ M.2.1 101 6 = 0 ∧ frF M.1.2 t_ ∧ (∀ w_ : Nat, ruP tx_ n_ = .inl w_ → ∀ (S_ L_ : Nat → Nat → Int) (P_ : Nat → Nat → Option Nat) (f_ : Nat → Nat × Nat) (u_ : Nat), gr t_ u_ M.1.2 M.2.1 M.2.2.1 M.2.2.2 f_ S_ L_ P_ → S_ 101 4 = (w_ : Int) → X 0 ((2, f_), S_, L_, P_)) ∧ (∀ r_ : Nat × (Fc → Option Int), ruP tx_ n_ = .inr r_ → ∀ (S_ L_ : Nat → Nat → Int) (P_ : Nat → Nat → Option Nat) (f_ : Nat → Nat × Nat) (u_ g_ : Nat), gr t_ u_ M.1.2 M.2.1 M.2.2.1 M.2.2.2 f_ S_ L_ P_ → ruT t_ u_ f_ S_ P_ g_ r_.2 → Q (some (vr g_)) ((2, f_), S_, L_, P_))) else False
  | _ => False

def zpX1_ruleText : zz_P := [(0, zo_new (mm_rm 35 10100 57000) 3 9 1), (3, zo_dup 4), (4, zo_ciF (mm_rm 35 10100 57000) 7 1 1 3 zX11_init), (7, zo_ast 8 1), (8, zo_ald 9 0), (9, zo_get 12 0 2 2), (12, zo_callv 15 1 3 zX4_isOver), (15, zo_zifeq 18 20), (18, zo_ald 19 1), (19, zo_aret), (20, zo_ald 21 0), (21, zo_ald 22 1), (22, zo_getr 25 9 0), (25, zo_callvp 28 1 17 zJ2_sizeh), (28, zo_cvG (mm_rm 35 10100 57000) 31 2 0 zX1_noMore), (31, zo_ald 32 1), (32, zo_getr 35 9 0), (35, zo_ald 36 0), (36, zo_cvG (mm_rm 35 10100 57000) 39 1 0 zX1_ruleLine), (39, zo_cvGp (mm_rm 35 10100 57000) 42 2 17 zJ2_add), (42, zo_pop 43), (43, zo_ald 44 0), (44, zo_cvF (mm_rm 35 10100 57000) 47 1 0 1 6 zX1_goesOn), (47, zo_zifne 50 20), (50, zo_ald 51 1), (51, zo_aret)]
theorem ztX1_ruleText {C : mm_C} (G : mm_G C RX1 cX1_ruleText (some (.object "ChaseCourt$Rule")) 2 (mm_rm 35 10100 57000)) (hnh : mm_nh C) : zz_OKs C zpX1_ruleText :=
  ⟨zz_of (ok_new G (ci := 9) (RX11, TX11, 1) rfl rfl q1117 q1118 q112 (by decide) dX1_ruleText_0 rfl) (z_new _ _ _ _),
   zz_of (ok_dup G dX1_ruleText_3 rfl) (z_dup _),
   zz_of (ok_caliNF G (hnh.q 4) (zmX11_init _ G.hst) q1119 q1120 q112 q1121 rfl (by decide +kernel) ⟨Nat.le_of_ble_eq_true rfl, Nat.le_of_ble_eq_true rfl⟩ dX1_ruleText_4 rfl) (z_ciF _ _ _ _ _ _),
   zz_of (ok_astore_n G dX1_ruleText_7 rfl rfl (by decide)) (z_ast _ _),
   zz_of (ok_aload_n G dX1_ruleText_8 rfl rfl) (z_ald _ _),
   zz_of (ok_get G (nx := 12) (ci := 0) (kd := 2) (k := 2) (RX1, TX1, 19) rfl (by decide) rfl q404 dX1_ruleText_9 rfl) (z_get _ _ _ _),
   zz_of (ok_callv G hnh (zmX4_isOver _ G.hst) rfl rfl (RX4, TX4, 7) rfl q613 q614 q615 q88 q616 (by decide +kernel) ⟨by decide, by decide⟩ dX1_ruleText_12 rfl) (z_callv _ _ _ _),
   zz_of (ok_ifeq G dX1_ruleText_15 rfl rfl) (z_zifeq _ _),
   zz_of (ok_aload_n G dX1_ruleText_18 rfl rfl) (z_ald _ _),
   zz_of (ok_aret G (Or.inl ⟨_, rfl⟩) dX1_ruleText_19) (z_aret),
   zz_of (ok_aload_n G dX1_ruleText_20 rfl rfl) (z_ald _ _),
   zz_of (ok_aload_n G dX1_ruleText_21 rfl rfl) (z_ald _ _),
   zz_of (ok_getN G (nx := 25) (ci := 9) (kd := 2) (k := 0) (RX11, TX11, 1) rfl (by decide) rfl q1126 dX1_ruleText_22 rfl) (z_getr _ _ _),
   zz_of (ok_callv G hnh (zmJ2_sizeh _ G.hst) rfl rfl (RJ2, TJ2, 3) rfl q591 q592 q593 q86 q594 (by decide +kernel) ⟨by decide, by decide⟩ dX1_ruleText_25 rfl) (z_callvp _ _ _ _),
   zz_of (ok_calv G (hnh.q 28) (zmX1_noMore _ G.hst) (RX1, TX1, 19) rfl q625 q627 qs3 q82 q628 (by decide +kernel) ⟨Nat.le_of_ble_eq_true rfl, Nat.le_of_ble_eq_true rfl⟩ dX1_ruleText_28 rfl) (z_cvG _ _ _ _ _),
   zz_of (ok_aload_n G dX1_ruleText_31 rfl rfl) (z_ald _ _),
   zz_of (ok_getN G (nx := 35) (ci := 9) (kd := 2) (k := 0) (RX11, TX11, 1) rfl (by decide) rfl q1126 dX1_ruleText_32 rfl) (z_getr _ _ _),
   zz_of (ok_aload_n G dX1_ruleText_35 rfl rfl) (z_ald _ _),
   zz_of (ok_calv G (hnh.q 36) (zmX1_ruleLine _ G.hst) (RX1, TX1, 19) rfl q1130 q1132 qs9 q82 q1133 (by decide +kernel) ⟨Nat.le_of_ble_eq_true rfl, Nat.le_of_ble_eq_true rfl⟩ dX1_ruleText_36 rfl) (z_cvG _ _ _ _ _),
   zz_of (ok_calv G (hnh.q 39) (zmJ2_add _ G.hst) (RJ2, TJ2, 3) rfl q1256 q1257 q1258 q86 q1259 (by decide +kernel) ⟨Nat.le_of_ble_eq_true rfl, Nat.le_of_ble_eq_true rfl⟩ dX1_ruleText_39 rfl) (z_cvGp _ _ _ _ _),
   zz_of (ok_pop G dX1_ruleText_42 rfl) (z_pop _),
   zz_of (ok_aload_n G dX1_ruleText_43 rfl rfl) (z_ald _ _),
   zz_of (ok_calvF G (hnh.q 44) (zmX1_goesOn _ G.hst) (RX1, TX1, 19) rfl q1064 q1066 qs6 q82 q1067 (by decide +kernel) ⟨Nat.le_of_ble_eq_true rfl, Nat.le_of_ble_eq_true rfl⟩ dX1_ruleText_44 rfl) (z_cvF _ _ _ _ _ _ _),
   zz_of (ok_ifne G dX1_ruleText_47 rfl rfl) (z_zifne _ _),
   zz_of (ok_aload_n G dX1_ruleText_50 rfl rfl) (z_ald _ _),
   zz_of (ok_aret G (Or.inl ⟨_, rfl⟩) dX1_ruleText_51) (z_aret), trivial⟩

theorem zwX1_ruleText_0 {Q : Option zv → zz_M → Prop} {X : Nat → zz_M → Prop} {f : Nat → Nat × Nat} {S L : Nat → Nat → Int} {P : Nat → Nat → Option Nat}  (h : ∃ h1_ : Nat, zfree ((2, f), S, L, P) h1_ ∧ (0 + 1 ≤ 10100 ∧ 0 + 1 ≤ 57000) ∧ ((1 + 1 ≤ 10100 ∧ 1 + 3 ≤ 57000) ∧ (∃ b_2 : Nat, zsh ((2, zrw f h1_ (1, 9)), zrw S h1_ (fun _ => 0), zrw L h1_ (fun _ => 0), zrw P h1_ (fun _ => none)) h1_ = (1, 9) ∧ zfx ((2, zrw f h1_ (1, 9)), zrw S h1_ (fun _ => 0), zrw L h1_ (fun _ => 0), zrw P h1_ (fun _ => none)).1.1 h1_ 0 = false ∧ zfree ((2, zrw f h1_ (1, 9)), zrw S h1_ (fun _ => 0), zrw L h1_ (fun _ => 0), zrw P h1_ (fun _ => none)) b_2 ∧ (∀ (S_2 : Nat → Nat → Int) (P_2 : Nat → Nat → Option Nat), (∀ j, j ≠ b_2 → S_2 j = (zrw S h1_ (fun _ => 0)) j) → (∀ j k, j ≠ b_2 → ¬ (j = h1_ ∧ k = 0) → P_2 j k = (zrw P h1_ (fun _ => none)) j k) → S_2 b_2 2 = 0 → P_2 b_2 1 = some 1300 → P_2 h1_ 0 = some b_2 → ((∃ (tx_3 : Nat → Int) (n_3 a_3 b_3 : Nat), qT S_2 tx_3 n_3 ∧ S_2 101 3 = (a_3 : Int) ∧ a_3 ≤ n_3 ∧ (rn (qB tx_3) n_3 a_3 = b_3 ∧ (b_3 = n_3 → ((2 ≤ 10100 ∧ 4 ≤ 57000) ∧ (Q (some (vr h1_)) ((2, zrw (zrw f h1_ (1, 9)) b_2 (1, 17)), rS S_2 b_3 b_3, zrw (zrw L h1_ (fun _ => 0)) b_2 (fun _ => 0), P_2)))) ∧ (b_3 ≠ n_3 → (zz_J zpX1_ruleText (zz_retP Q X 10100 57000) 20 [some (vr 100), some (vr h1_)] [] ((2, zrw (zrw f h1_ (1, 9)) b_2 (1, 17)), rS S_2 b_3 b_3, zrw (zrw L h1_ (fun _ => 0)) b_2 (fun _ => 0), P_2) (2, 4)))))))))) : zz_J zpX1_ruleText (zz_retP Q X 10100 57000) 0 [some (vr 100), none] [] ((2, f), S, L, P) (0, 0) := zz_J.go [(20, []), (43, [])] 400 h
theorem zwX1_ruleText_20 {Q : Option zv → zz_M → Prop} {X : Nat → zz_M → Prop} {f : Nat → Nat × Nat} {S L : Nat → Nat → Int} {P : Nat → Nat → Option Nat} {u_ v_ : Nat} {h1 : Nat} (h : ∃ b1 : Nat, zsh ((2, f), S, L, P) h1 = (1, 9) ∧ zpt ((2, f), S, L, P) h1 0 = some b1 ∧ ((zsh ((2, f), S, L, P) b1 = (1, 17) ∨ zsh ((2, f), S, L, P) b1 = (17, 17)) ∧ (zsh ((2, f), S, L, P) b1 = (1, 17) ∧ (∃ c3 s3 : Nat, (u_ + c3 ≤ 10100 ∧ v_ + s3 ≤ 57000) ∧ (∃ (tx_4 : Nat → Int) (n_4 a_4 t_4 : Nat), qT S tx_4 n_4 ∧ S 101 3 = (a_4 : Int) ∧ a_4 ≤ n_4 ∧ frF f t_4 ∧ R32 (((2, f), S, L, P).2.1 b1 2) ∧ ((((2, f), S, L, P).2.1 b1 2) < 12 → (∃ b5 : Nat, zsh ((2, f), S, L, P) h1 = (1, 9) ∧ zpt ((2, f), S, L, P) h1 0 = some b5 ∧ (∃ c6 s6 : Nat, (u_ + c3 + c6 ≤ 10100 ∧ v_ + s3 + s6 ≤ 57000) ∧ (∃ (tx_7 : Nat → Int) (n_7 a_7 t_7 : Nat), qT S tx_7 n_7 ∧ S 101 3 = (a_7 : Int) ∧ a_7 ≤ n_7 ∧ S 101 6 = 0 ∧ frF f t_7 ∧ (∀ w_7 : Nat, rlP tx_7 n_7 a_7 = .inl w_7 → (24 * (n_7 - a_7) + 100 ≤ c6 ∧ 120 * (n_7 - a_7) + 500 ≤ s6) ∧ ∀ (S_7 L_7 : Nat → Nat → Int) (P_7 : Nat → Nat → Option Nat) (f_7 : Nat → Nat × Nat) (u_7 : Nat), gr t_7 u_7 f S L P f_7 S_7 L_7 P_7 → S_7 101 4 = (w_7 : Int) → ((u_ + c3 + c6 ≤ 10100 ∧ v_ + s3 + s6 ≤ 57000) ∧ 0 ≤ 5 ∧ X 0 ((2, f_7), S_7, L_7, P_7))) ∧ (∀ r_7 : Nat × (Fc → Option Int), rlP tx_7 n_7 a_7 = .inr r_7 → (24 * (r_7.1 - a_7) + 20 ≤ c6 ∧ 120 * (r_7.1 - a_7) + 200 + 10 * wl tx_7 n_7 r_7.1 ≤ s6) ∧ ∀ (S_7 L_7 : Nat → Nat → Int) (P_7 : Nat → Nat → Option Nat) (f_7 : Nat → Nat × Nat) (u_7 g_7 : Nat), gr t_7 u_7 f S L P f_7 S_7 L_7 P_7 → S_7 101 3 = (r_7.1 : Int) → S_7 101 6 = 0 → liT t_7 u_7 f_7 S_7 P_7 g_7 r_7.2 → ((zsh ((2, f_7), S_7, L_7, P_7) b5 = (1, 17) ∨ zsh ((2, f_7), S_7, L_7, P_7) b5 = (17, 17)) ∧ ∃ c8 s8 : Nat, (u_ + c3 + c6 + c8 ≤ 10100 ∧ v_ + s3 + s6 + s8 ≤ 57000) ∧ (∃ a_9 b_9 m_9 n_9 ci_9 : Nat, lsR ((2, f_7), S_7, L_7, P_7) b5 a_9 m_9 n_9 ∧ (zsh ((2, f_7), S_7, L_7, P_7) g_7 = (1, ci_9) ∧ mm_mem mm_obs ci_9 = true) ∧ (n_9 < m_9 → (∀ (S_9 : Nat → Nat → Int) (P_9 : Nat → Nat → Option Nat), (∀ j k, ¬ (j = b5 ∧ (k = 0 ∨ k = 2)) → S_9 j k = S_7 j k) → S_9 b5 2 = (n_9 : Int) + 1 → (∀ j k, ¬ (j = a_9 ∧ k = n_9) → P_9 j k = P_7 j k) → P_9 a_9 n_9 = some g_7 → (zz_J zpX1_ruleText (zz_retP Q X 10100 57000) 43 [some (vr 100), some (vr h1)] [] ((2, f_7), S_9, L_7, P_9) (u_ + c3 + c6 + c8, v_ + s3 + s6 + s8)))) ∧ (n_9 = m_9 → zfree ((2, f_7), S_7, L_7, P_7) b_9 ∧ (1 ≤ c8 ∧ lsN m_9 ≤ s8) ∧ (∀ (S_9 : Nat → Nat → Int) (P_9 : Nat → Nat → Option Nat), (∀ j k, ¬ (j = b5 ∧ (k = 0 ∨ k = 2)) → j ≠ b_9 → S_9 j k = S_7 j k) → S_9 b5 2 = (n_9 : Int) + 1 → (∀ j k, j ≠ b_9 → ¬ (j = b5 ∧ k = 1) → P_9 j k = P_7 j k) → P_9 b5 1 = some b_9 → (∀ i : Nat, i < m_9 → P_9 b_9 i = zpt ((2, f_7), S_7, L_7, P_7) a_9 i) → P_9 b_9 n_9 = some g_7 → (zz_J zpX1_ruleText (zz_retP Q X 10100 57000) 43 [some (vr 100), some (vr h1)] [] ((2, zrw f_7 b_9 (7, lsN m_9)), S_9, zrw L_7 b_9 (fun _ => 0), P_9) (u_ + c3 + c6 + c8, v_ + s3 + s6 + s8))))))))))) ∧ (12 ≤ (((2, f), S, L, P).2.1 b1 2) → (10 ≤ c3 ∧ 30 + 5 * wl tx_4 n_4 a_4 ≤ s3) ∧ ∀ (S_4 L_4 : Nat → Nat → Int) (P_4 : Nat → Nat → Option Nat) (f_4 : Nat → Nat × Nat) (u_4 : Nat), gr t_4 u_4 f S L P f_4 S_4 L_4 P_4 → S_4 101 4 = ((rn (qB tx_4) n_4 a_4 : Nat) : Int) → ((u_ + c3 ≤ 10100 ∧ v_ + s3 ≤ 57000) ∧ 0 ≤ 5 ∧ X 0 ((2, f_4), S_4, L_4, P_4)))))))) : zz_J zpX1_ruleText (zz_retP Q X 10100 57000) 20 [some (vr 100), some (vr h1)] [] ((2, f), S, L, P) (u_, v_) := zz_J.go [(20, []), (43, [])] 400 h
theorem zwX1_ruleText_43 {Q : Option zv → zz_M → Prop} {X : Nat → zz_M → Prop} {f : Nat → Nat × Nat} {S L : Nat → Nat → Int} {P : Nat → Nat → Option Nat} {u_ v_ : Nat} {h1 : Nat} (h : (u_ + 1 ≤ 10100 ∧ v_ + 6 ≤ 57000) ∧ (∃ (tx_1 : Nat → Int) (n_1 a_1 b_1 t_1 : Nat), qT S tx_1 n_1 ∧ S 101 3 = (a_1 : Int) ∧ a_1 ≤ n_1 ∧ frF f t_1 ∧ rn (qB tx_1) n_1 a_1 = b_1 ∧ (b_1 = n_1 → ((u_ + 1 ≤ 10100 ∧ v_ + 6 ≤ 57000) ∧ (Q (some (vr h1)) ((2, f), rS S b_1 b_1, L, P)))) ∧ (b_1 ≠ n_1 → isSg tx_1 n_1 b_1 59 = true → (zz_J zpX1_ruleText (zz_retP Q X 10100 57000) 20 [some (vr 100), some (vr h1)] [] ((2, f), rS S (b_1 + 1) b_1, L, P) (u_ + 1, v_ + 6))) ∧ (b_1 ≠ n_1 → isSg tx_1 n_1 b_1 59 = false → ∀ (S_1 L_1 : Nat → Nat → Int) (P_1 : Nat → Nat → Option Nat) (f_1 : Nat → Nat × Nat) (u_1 : Nat), gr t_1 u_1 f S L P f_1 S_1 L_1 P_1 → S_1 101 4 = (b_1 : Int) → ((u_ + 1 ≤ 10100 ∧ v_ + 6 ≤ 57000) ∧ 0 ≤ 5 ∧ X 0 ((2, f_1), S_1, L_1, P_1))))) : zz_J zpX1_ruleText (zz_retP Q X 10100 57000) 43 [some (vr 100), some (vr h1)] [] ((2, f), S, L, P) (u_, v_) := zz_J.go [(20, []), (43, [])] 400 h

def zX1_fails : zz_Sp := fun as M Q X => match as with
  | [.inr (.inr (some h_))] => bif Nat.beq h_ 100 && Nat.beq M.1.1 2 then (X 1 ((2, M.1.2), mm_up M.2.1 101 5 (M.2.1 101 4), M.2.2.1, M.2.2.2)) else False
  | _ => False

def zpX1_fails : zz_P := [(0, zo_ald 1 0), (1, zo_get 4 0 2 2), (4, zo_ald 5 0), (5, zo_get 8 0 2 2), (8, zo_get 11 3 0 4), (11, zo_puti 14 3 5), (14, zo_thr0L (mm_rm 8 1 6) 1), (17, zo_dup 18), (18, zo_bad), (21, zo_athr 20 0)]
theorem ztX1_fails {C : mm_C} (G : mm_G C RX1 cX1_fails none 1 (mm_rm 8 1 6)) (hnh : mm_nh C) : zz_OKs C zpX1_fails :=
  ⟨zz_of (ok_aload_n G dX1_fails_0 rfl rfl) (z_ald _ _),
   zz_of (ok_get G (nx := 4) (ci := 0) (kd := 2) (k := 2) (RX1, TX1, 19) rfl (by decide) rfl q404 dX1_fails_1 rfl) (z_get _ _ _ _),
   zz_of (ok_aload_n G dX1_fails_4 rfl rfl) (z_ald _ _),
   zz_of (ok_get G (nx := 8) (ci := 0) (kd := 2) (k := 2) (RX1, TX1, 19) rfl (by decide) rfl q404 dX1_fails_5 rfl) (z_get _ _ _ _),
   zz_of (ok_getN G (nx := 11) (ci := 3) (kd := 0) (k := 4) (RX4, TX4, 7) rfl (by decide) rfl q278 dX1_fails_8 rfl) (z_get _ _ _ _),
   zz_of (ok_puti G (nx := 14) (idx := 104) (ci := 3) (k := 5) (RX4, TX4, 7) rfl (by decide) rfl (mm_pwN G (ci := 3) (k := 5) (RX4, TX4, 7) rfl (by decide) rfl q280 dX1_fails_11) rfl) (z_puti _ _ _),
   zz_of (th_X1_IllegalArgumentException G (hnh.q 21) dX1_fails_14 dX1_fails_17 dX1_fails_18 dX1_fails_21) (z_thr0L _ _),
   zz_of (ok_dup G dX1_fails_17 rfl) (z_dup _),
   zz_of (ok_bad) (z_bad),
   zz_of (ok_athr G (ci := 20) (i := 0) (RX10, TX10, 6) rfl rfl (hnh.q 21) dX1_fails_21) (z_athr _ _), trivial⟩

theorem zwX1_fails_0 {Q : Option zv → zz_M → Prop} {X : Nat → zz_M → Prop} {f : Nat → Nat × Nat} {S L : Nat → Nat → Int} {P : Nat → Nat → Option Nat}  (h : X 1 ((2, f), mm_up S 101 5 (S 101 4), L, P)) : zz_J zpX1_fails (zz_ret Q X 1 6) 0 [some (vr 100)] [] ((2, f), S, L, P) (0, 0) := zz_J.go [] 400 h

theorem zmX1_fails (l : Launch) (hl : l.stackTraces = false) : mm_Spec l yX1_fails (ws_ yX1_fails cX1_fails 1 none) (mm_rm 8 1 6) (zE zX1_fails) := by
  refine zz_Met.J hl (by decide) (fun C G hnh => ztX1_fails G hnh) ?_
  rintro as ⟨⟨t_, f⟩, S, L, P⟩ Q X h
  unfold zX1_fails at h
  split at h
  rotate_left
  · exact h.elim
  rename_i h_
  obtain ⟨e1_, e2_, h⟩ := mm_and2 h (fun q => q)
  cases mm_beq e1_
  cases mm_beq e2_
  try dsimp only at h
  refine ⟨rfl, ?_⟩
  exact zwX1_fails_0 h
theorem liT.V : VOK liT := ⟨fun _ _ _ _ _ _ _ q => ⟨q.1, 10, q.2.1, by decide⟩, fun _ _ _ _ _ _ _ _ _ q a b c => q.mo a b c, fun _ _ _ _ _ _ _ _ _ _ q a => q.fr a⟩
theorem orL_app (gs : List (Fc → Option Int)) (g : Fc → Option Int) : orL (gs ++ [g]) = fun F => (orL gs F).or (g F) := by
  funext F
  induction gs with
  | nil =>
    show (g F).or none = (none : Option Int).or (g F)
    cases g F <;> rfl
  | cons h r ih =>
    show (h F).or (orL (r ++ [g]) F) = ((h F).or (orL r F)).or (g F)
    rw [ih]
    cases h F <;> rfl
theorem liF_rn {α : Type} {tx : Nat → Int} {n : Nat} {p : Nat → Pr α} {cb : α → α → α} (r : Nat) {a : Nat} (g : α) (ha : a ≤ n) : liF tx n p cb r (rn (qB tx) n a) g = liF tx n p cb r a g := by
  cases r with
  | zero => unfold liF; rw [rn_rn ha]
  | succ r => unfold liF; rw [rn_rn ha]
theorem rlP_rn {tx : Nat → Int} {n a : Nat} (ha : a ≤ n) : rlP tx n (rn (qB tx) n a) = rlP tx n a := by
  unfold rlP
  rw [rn_rn ha]
section
variable {α : Type} {tx : Nat → Int} {n a w r : Nat} {p : Nat → Pr α} {cb : α → α → α} {g : α} {c : Nat × α}
theorem li_w (h : p (rn (qB tx) n a) = .inl w) : liF tx n p cb (r + 1) a g = .inl w := by rw [liF, h]
theorem li_e (h : p (rn (qB tx) n a) = .inr c) (he : rn (qB tx) n c.1 = n) : liF tx n p cb (r + 1) a g = .inr (n, cb g c.2) := by
  rw [liF, h]
  simp only
  rw [if_pos he]
theorem li_s (h : p (rn (qB tx) n a) = .inr c) (he : rn (qB tx) n c.1 ≠ n) (hs : isSg tx n (rn (qB tx) n c.1) 59 = true) : liF tx n p cb (r + 1) a g = liF tx n p cb r (rn (qB tx) n c.1 + 1) (cb g c.2) := by
  rw [liF, h]
  simp only
  rw [if_neg he, if_pos hs]
theorem li_n (h : p (rn (qB tx) n a) = .inr c) (he : rn (qB tx) n c.1 ≠ n) (hs : isSg tx n (rn (qB tx) n c.1) 59 = false) : liF tx n p cb (r + 1) a g = .inl (rn (qB tx) n c.1) := by
  rw [liF, h]
  simp only
  rw [if_neg he, if_neg (by rw [hs]; decide)]
end
theorem zmX1_ruleText (l : Launch) (hl : l.stackTraces = false) : mm_Spec l yX1_ruleText (ws_ yX1_ruleText cX1_ruleText 2 (some (.object "ChaseCourt$Rule"))) (mm_rm 35 10100 57000) (zE zX1_ruleText) := by
  refine zz_Met.J hl (by decide) (fun C G hnh => ztX1_ruleText G hnh) ?_
  rintro as ⟨⟨t_, f⟩, S, L, P⟩ Q X h
  unfold zX1_ruleText at h
  split at h
  rotate_left
  · exact h.elim
  rename_i h_
  obtain ⟨e1_, e2_, h⟩ := mm_and2 h (fun q => q)
  cases mm_beq e1_
  cases mm_beq e2_
  try dsimp only at h
  refine ⟨rfl, ?_⟩
  refine zz_retP_J ?_
  obtain ⟨tx, n, t, hT, ha, h6, hf, qw, qr⟩ := h
  have n400 := hT.1
  have t2 := hf.1
  have hx := fun k hk => (hT.2.2 k hk).1
  have t20 : ∀ (j a' u m uu vv : Nat) (l : List Nat) (gs : List (Fc → Option Int)) (f' : Nat → Nat × Nat) (S' L' : Nat → Nat → Int) (P' : Nat → Nat → Option Nat), l.length + j = 12 → a' ≤ n → gr t u f S L P f' S' L' P' → S' 101 3 = (a' : Int) → S' 101 6 = 0 → (f' t = (1, 9) ∧ P' t 0 = some (t + 1) ∧ t + 1 < u) → GL liT t u (t + 1) m f' S' P' l gs → m ≤ 8 + 2 * l.length → uu ≤ 24 * a' + 22 * l.length + 2 → vv ≤ 120 * a' + 206 * l.length + 4 + 4 * m → ruP tx n = liF tx n (rlP tx n) (fun g h F => (g F).or (h F)) j a' (orL gs) → zz_J zpX1_ruleText (zz_retP Q X 10100 57000) 20 [some (vr 100), some (vr t)] [] ((2, f'), S', L', P') (uu, vv) := by
    intro j
    induction j with
    | zero =>
      intro a' u m uu vv l gs f' S' L' P' hj ha' g1 r3 r6 ⟨o1, o2, o3⟩ hG hm hu hv hst
      have w1 := wl_le (tx := tx) ha'
      have hlen : S' (t + 1) 2 = (l.length : Int) := hG.2.2.1
      refine zwX1_ruleText_20 ⟨t + 1, (zsh_hi t2).trans o1, (zpt_hi t2).trans o2, Or.inl ((zsh_hi (by omega)).trans hG.2.1), (zsh_hi (by omega)).trans hG.2.1, 10, 30 + 5 * wl tx n a', by omega, tx, n, a', u, g1.T t2 hT, r3, ha', g1.fr, ?_, fun c => ?_, fun c => ⟨⟨Nat.le_refl _, Nat.le_refl _⟩, fun S4 L4 P4 f4 u4 g4 e4 => ⟨by omega, by decide, qw _ hst _ _ _ _ _ (g1.tr g4) e4⟩⟩⟩
      · show R32 (S' (t + 1) 2)
        omega
      · have : S' (t + 1) 2 < 12 := c
        omega
    | succ j ih =>
      intro a' u m uu vv l gs f' S' L' P' hj ha' g1 r3 r6 ⟨o1, o2, o3⟩ hG hm hu hv hst
      have w1 := wl_le (tx := tx) ha'
      have hlen : S' (t + 1) 2 = (l.length : Int) := hG.2.2.1
      have hfu := g1.fr
      have erl := rlP_rn (tx := tx) ha'
      have lok := rlP_ok hx a' ha'
      cases hp : rlP tx n a' with
      | inl w =>
        have hs := hst.trans (li_w (by rw [erl, hp]))
        refine zwX1_ruleText_20 ⟨t + 1, (zsh_hi t2).trans o1, (zpt_hi t2).trans o2, Or.inl ((zsh_hi (by omega)).trans hG.2.1), (zsh_hi (by omega)).trans hG.2.1, 0, 0, by omega, tx, n, a', u, g1.T t2 hT, r3, ha', hfu, ?_, fun _ => ⟨t + 1, (zsh_hi t2).trans o1, (zpt_hi t2).trans o2, 24 * (n - a') + 100, 120 * (n - a') + 500, by omega, tx, n, a', u, g1.T t2 hT, r3, ha', r6, hfu, fun w' hw' => ?_, fun r0 hr0 => (by rw [hp] at hr0; cases hr0)⟩, fun c => ?_⟩
        · show R32 (S' (t + 1) 2)
          omega
        · rw [hp] at hw'
          cases hw'
          exact ⟨⟨Nat.le_refl _, Nat.le_refl _⟩, fun S3 L3 P3 f3 u3 g3 e3 => ⟨by omega, by decide, qw w hs _ _ _ _ _ (g1.tr g3) e3⟩⟩
        · have : 12 ≤ S' (t + 1) 2 := c
          omega
      | inr c =>
        have hc := lok.1 c hp
        have hcb := p3_B (tx := tx) c.1 hc.2
        have wc := wl_le (tx := tx) hc.2
        have l4 := lsN_4 hG.2.2.2.2.2.1
        have hlm := hG.2.2.2.2.1
        have hs4 : ∃ s4 : Nat, (l.length < m ∧ s4 = 0) ∨ (l.length = m ∧ s4 = lsN m) := by
          by_cases h : l.length < m
          · exact ⟨0, Or.inl ⟨h, rfl⟩⟩
          · exact ⟨lsN m, Or.inr ⟨by omega, rfl⟩⟩
        obtain ⟨s4, hs4⟩ := hs4
        have hs4b : s4 ≤ 4 * m + 10 ∧ (s4 + 4 * m ≤ 40 + 8 * l.length) := by
          rcases hs4 with ⟨h1, h2⟩ | ⟨h1, h2⟩
          · omega
          · rcases hG.2.2.2.2.2.1 with z | z
            · have : lsN m = 10 := by rw [z]; rfl
              omega
            · have : lsN m ≤ m + m / 2 := by
                unfold lsN
                rw [if_neg (by omega), if_neg (by omega)]
                exact Nat.le_refl _
              omega
        refine zwX1_ruleText_20 ⟨t + 1, (zsh_hi t2).trans o1, (zpt_hi t2).trans o2, Or.inl ((zsh_hi (by omega)).trans hG.2.1), (zsh_hi (by omega)).trans hG.2.1, 0, 0, by omega, tx, n, a', u, g1.T t2 hT, r3, ha', hfu, ?_, fun _ => ⟨t + 1, (zsh_hi t2).trans o1, (zpt_hi t2).trans o2, 24 * (c.1 - a') + 20, 120 * (c.1 - a') + 200 + 10 * wl tx n c.1, by omega, tx, n, a', u, g1.T t2 hT, r3, ha', r6, hfu, fun w' hw' => (by rw [hp] at hw'; cases hw'), fun r0 hr0 => ?_⟩, fun c => ?_⟩
        · show R32 (S' (t + 1) 2)
          omega
        · rw [hp] at hr0
          cases hr0
          refine ⟨⟨Nat.le_refl _, Nat.le_refl _⟩, fun S3 L3 P3 f3 u3 x g3 e3 e6 hx3 => ?_⟩
          have hG3 := hG.grm liT.V g3 (Nat.le_refl _)
          have g13 := g1.tr g3
          have le3 := g3.le
          have o13 : f3 t = (1, 9) := (g3.2.1 t (by omega)).trans o1
          have o23 : P3 t 0 = some (t + 1) := by rw [g3.2.2.2.2.1 t (by omega)]; exact o2
          refine ⟨Or.inl ((zsh_hi (by omega)).trans hG3.2.1), 1, s4, by omega, ?_⟩
          refine GL.add (R := fun f' S' L' P' => zz_J zpX1_ruleText (zz_retP Q X 10100 57000) 43 [some (vr 100), some (vr t)] [] ((2, f'), S', L', P') (uu + 0 + (24 * (c.1 - a') + 20) + 1, vv + 0 + (120 * (c.1 - a') + 200 + 10 * wl tx n c.1) + s4)) liT.V hG3 g3.fr g3.le hx3 (by omega) (hs4.imp (fun c => c.1) (fun c => ⟨Nat.le_refl _, by rw [c.2]; exact Nat.le_refl _⟩)) (fun f5 S5 L5 P5 u5 m5 g5 e5 k5 le5 hG5 hm5 => ?_)
          have g15 : gr t u5 f S L P f5 S5 L5 P5 := g13.tr2 g5
          obtain ⟨y1, y2, y3⟩ := k5 t (by omega) (by omega) (by rw [o13]; intro c; cases c)
          have len : (l ++ [x]).length = l.length + 1 := by simp
          have hm5' : m5 ≤ 8 + 2 * (l.length + 1) ∧ s4 + 4 * m ≤ 4 * m5 := by
            rcases hm5 with ⟨h1, h2⟩ | ⟨h1, h2⟩
            · omega
            · rcases hG.2.2.2.2.2.1 with z | z
              · have : lsN m = 10 := by rw [z]; rfl
                omega
              · have : lsN m ≤ m + m / 2 := by
                  unfold lsN
                  rw [if_neg (by omega), if_neg (by omega)]
                  exact Nat.le_refl _
                omega
          have hp' : rlP tx n (rn (qB tx) n a') = .inr c := by rw [erl, hp]
          refine zwX1_ruleText_43 ⟨by omega, tx, n, c.1, _, u5, g15.T t2 hT, by rw [e5]; exact e3, hc.2, g15.fr, rfl, fun en => ?_, fun ne sg => ?_, fun ne sg S4 L4 P4 f4 u4 g4 e4 => ?_⟩
          · have hs := hst.trans (li_e hp' en)
            obtain ⟨A1, A2, A3⟩ := hG5.ALT liT.V (by omega)
            refine ⟨by omega, qr _ hs _ L5 P5 f5 u5 t (g15.toS fun h k hk => rdC_rS h k hk) ⟨⟨t2, Nat.le_refl _, by omega⟩, by rw [y1]; exact o13, t + 1, l ++ [x], gs ++ [c.2], by rw [y3]; exact o23, A1.fr (agR_rS t2), A2, fun i y g' h1 h2 => (A3 i y g' h1 h2).fr (agR_rS t2), ?_⟩⟩
            show (fun F => (orL gs F).or (c.2 F)) = _
            rw [orL_app]
          · have hs := hst.trans (li_s hp' ne sg)
            have hlt := (isSg_t.mp sg).1
            have w0 := sg_wl hc.2 sg (by decide)
            refine ih (rn (qB tx) n c.1 + 1) u5 m5 _ _ (l ++ [x]) (gs ++ [c.2]) f5 _ L5 P5 (by omega) hlt (g15.toS fun h k hk => rdC_rS h k hk) (rS_3 _ _ _) ?_ ⟨by rw [y1]; exact o13, by rw [y3]; exact o23, by omega⟩ (hG5.rS liT.V) (by omega) (by omega) (by omega) ?_
            · rw [rS_k _ _ _ (by decide) (by decide), e5, e6]
            · rw [hs, orL_app]
          · exact ⟨by omega, by decide, qw _ (hst.trans (li_n hp' ne sg)) _ _ _ _ _ (g15.tr g4) e4⟩
        · have : 12 ≤ S' (t + 1) 2 := c
          omega
  refine zwX1_ruleText_0 ⟨t, hf.z (Nat.le_refl _), by decide, by decide, t + 1, (zsh_hi t2).trans (zrw_s _ _ _), zfx_of (zfs_hi t2) 0, ⟨zfs_hi (by omega), by show (zrw f t (1, 9) (t + 1)).1 = 0; rw [zrw_n _ _ (by omega)]; exact hf.2 _ (by omega)⟩, fun S2 P2 e1 e2 e3 e4 e5 => ?_⟩
  have g2 : gr t (t + 2) f S L P (zrw (zrw f t (1, 9)) (t + 1) (1, 17)) S2 (zrw (zrw L t (fun _ => 0)) (t + 1) (fun _ => 0)) P2 := by
    refine ⟨by omega, fun h hh => by rw [zrw_n _ _ (by omega), zrw_n _ _ (by omega)], fun h k hh _ => by rw [e1 h (by omega), zrw_n _ _ (by omega)], fun h hh => by rw [zrw_n _ _ (by omega), zrw_n _ _ (by omega)], fun h hh => ?_, by omega, fun h hh => by rw [zrw_n _ _ (by omega), zrw_n _ _ (by omega)]; exact hf.2 h (by omega)⟩
    funext k
    rw [e2 h k (by omega) (by omega), zrw_n _ _ (by omega)]
  have s3 : S2 101 3 = ((0 : Nat) : Int) := by rw [e1 101 (by omega), zrw_n _ _ (by omega)]; exact ha
  have s6 : S2 101 6 = 0 := by rw [e1 101 (by omega), zrw_n _ _ (by omega)]; exact h6
  have hG0 : GL liT t (t + 2) (t + 1) 0 (zrw (zrw f t (1, 9)) (t + 1) (1, 17)) S2 P2 [] [] := GL.nil ⟨t2, by omega, by omega⟩ (zrw_s _ _ _) e3 e4
  have oo : zrw (zrw f t (1, 9)) (t + 1) (1, 17) t = (1, 9) := by rw [zrw_n _ _ (by omega), zrw_s]
  have h0 := p3_B (tx := tx) 0 (Nat.zero_le n)
  refine ⟨tx, n, 0, _, g2.T t2 hT, s3, Nat.zero_le _, rfl, fun en => ?_, fun ne => ?_⟩
  · have hs : ruP tx n = .inr (n, fun _ => none) := by
      unfold ruP liP
      rw [if_pos en]
    obtain ⟨A1, A2, A3⟩ := hG0.ALT liT.V (by decide)
    exact ⟨by decide, qr _ hs _ _ P2 _ (t + 2) t (g2.toS fun h k hk => rdC_rS h k hk) ⟨⟨t2, Nat.le_refl _, by omega⟩, oo, t + 1, [], [], e5, A1.fr (agR_rS t2), rfl, fun i y g' h1 => (by rw [List.getElem?_nil] at h1; cases h1), rfl⟩⟩
  · refine t20 12 (rn (qB tx) n 0) (t + 2) 0 2 4 [] [] _ _ _ P2 rfl h0.2 (g2.toS fun h k hk => rdC_rS h k hk) (rS_3 _ _ _) ?_ ⟨oo, e5, by omega⟩ (hG0.rS liT.V) (by decide) (by omega) (by omega) ?_
    · rw [rS_k _ _ _ (by decide) (by decide)]
      exact s6
    · rw [liF_rn 12 _ (Nat.zero_le n)]
      unfold ruP liP
      rw [if_neg ne]
      rfl
