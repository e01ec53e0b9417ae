/-! ===== the component's reader: words ===== -/
set_option maxRecDepth 100000
/-- from t on all handles are free -/
def frF (f : Nat → Nat × Nat) (t : Nat) : Prop := 2000 ≤ t ∧ ∀ h, t ≤ h → (f h).1 = 0
/-- the reader's cells that go on -/
def rdC (h k : Nat) : Prop := h = 101 ∧ (k = 3 ∨ k = 4 ∨ k = 6)
/-- below t all is as it was, but for the reader; from u on all is free -/
def gr (t u : Nat) (f : Nat → Nat × Nat) (S L : Nat → Nat → Int) (P : Nat → Nat → Option Nat) (f' : Nat → Nat × Nat) (S' L' : Nat → Nat → Int) (P' : Nat → Nat → Option Nat) : Prop := t ≤ u ∧ (∀ h, h < t → f' h = f h) ∧ (∀ h k, h < t → ¬ rdC h k → S' h k = S h k) ∧ (∀ h, h < t → L' h = L h) ∧ (∀ h, h < t → P' h = P h) ∧ frF f' u
/-- a String of len signs -/
def stS (lo hi : Nat) (f : Nat → Nat × Nat) (S : Nat → Nat → Int) (P : Nat → Nat → Option Nat) (g len : Nat) (w : Nat → Int) : Prop := inR lo hi g ∧ f g = (1, 19) ∧ (S g 1 = 0 ∧ S g 2 = 0 ∧ S g 3 = 0) ∧ ∃ b, inR lo hi b ∧ P g 0 = some b ∧ f b = (4, len) ∧ ∀ i, i < len → S b i = w i
def zX4_word (c_ s_ : Nat) : zz_Sp := fun as M Q X => match as with
  | [.inr (.inr (some h_))] => bif Nat.beq h_ 101 && Nat.beq M.1.1 2 then (∃ (tx_ : Nat → Int) (n_ a_ b_ e_ t_ : Nat), qT M.2.1 tx_ n_ ∧ M.2.1 101 3 = (a_ : Int) ∧ a_ ≤ n_ ∧ rn (qB tx_) n_ a_ = b_ ∧ rn (qL tx_) n_ b_ = e_ ∧ frF M.1.2 t_ ∧ (9 ≤ c_ ∧ 24 + 5 * (e_ - b_) ≤ s_) ∧ (∀ (f_ : Nat → Nat × Nat) (S_ L_ : Nat → Nat → Int) (P_ : Nat → Nat → Option Nat) (g_ u_ : Nat), gr t_ u_ M.1.2 M.2.1 M.2.2.1 M.2.2.2 f_ S_ L_ P_ → S_ 101 3 = (e_ : Int) → S_ 101 4 = (b_ : Int) → S_ 101 6 = M.2.1 101 6 → stS t_ u_ f_ S_ P_ g_ (e_ - b_) (fun i => tx_ (b_ + i)) → Q (some (vr g_)) ((2, f_), S_, L_, P_))) else False
  | _ => False

def zpX4_word (c_ s_ : Nat) : zz_P := [(0, zo_ald 1 0), (1, zo_callv 4 1 3 zX4_blanks), (4, zo_ald 5 0), (5, zo_ald 6 0), (6, zo_get 9 3 0 3), (9, zo_callv 12 2 3 zX4_byteAt), (12, zo_c 14 (vi 97)), (14, zo_c 16 (vi 122)), (16, zo_calls 19 3 zX1_in), (19, zo_zifeq 22 35), (22, zo_ald 23 0), (23, zo_dup 24), (24, zo_get 27 3 0 3), (27, zo_c 28 (vi 1)), (28, zo_iadd 29), (29, zo_puti 32 3 3), (32, zo_goto 4), (35, zo_new (mm_rm 8 c_ s_) 38 18 4), (38, zo_dup 39), (39, zo_ciF (mm_rm 8 c_ s_) 42 1 1 16 zJ7_init), (42, zo_ast 43 1), (43, zo_ald 44 0), (44, zo_get 47 3 0 4), (47, zo_ist 48 2), (48, zo_ild 49 2), (49, zo_ald 50 0), (50, zo_get 53 3 0 3), (53, zo_cge false false 56 74), (56, zo_ald 57 1), (57, zo_ald 58 0), (58, zo_get 61 3 2 0), (61, zo_ild 62 2), (62, zo_bald 63), (63, zo_i2c 64), (64, zo_cvGp (mm_rm 8 c_ s_) 67 2 18 zJ7_append), (67, zo_pop 68), (68, zo_inc 71 2 1), (71, zo_goto 48), (74, zo_ald 75 1), (75, zo_cvGp (mm_rm 8 c_ s_) 78 1 18 zJ7_toString), (78, zo_aret)]
theorem ztX4_word (c_ s_ : Nat) {C : mm_C} (G : mm_G C RX4 cX4_word (some (.object "java/lang/String")) 3 (mm_rm 8 c_ s_)) (hnh : mm_nh C) : zz_OKs C (zpX4_word c_ s_) :=
  ⟨zz_of (ok_aload_n G dX4_word_0 rfl rfl) (z_ald _ _),
   zz_of (ok_callv G hnh (zmX4_blanks _ G.hst) rfl rfl (RX4, TX4, 7) rfl q617 q618 q619 q88 q620 (by decide +kernel) ⟨Nat.le_of_ble_eq_true rfl, Nat.le_of_ble_eq_true rfl⟩ dX4_word_1 rfl) (z_callv _ _ _ _),
   zz_of (ok_aload_n G dX4_word_4 rfl rfl) (z_ald _ _),
   zz_of (ok_aload_n G dX4_word_5 rfl rfl) (z_ald _ _),
   zz_of (ok_get G (nx := 9) (ci := 3) (kd := 0) (k := 3) (RX4, TX4, 7) rfl (by decide) rfl q276 dX4_word_6 rfl) (z_get _ _ _ _),
   zz_of (ok_callv G hnh (zmX4_byteAt _ G.hst) rfl rfl (RX4, TX4, 7) rfl q621 q623 qs2 q88 q624 (by decide +kernel) ⟨Nat.le_of_ble_eq_true rfl, Nat.le_of_ble_eq_true rfl⟩ dX4_word_9 rfl) (z_callv _ _ _ _),
   zz_of (ok_bipush G (v := 97) dX4_word_12 (by decide) rfl) (z_cn 14 97),
   zz_of (ok_bipush G (v := 122) dX4_word_14 (by decide) rfl) (z_cn 16 122),
   zz_of (ok_callsN G hnh (zmX1_in _ G.hst) rfl rfl q633 q634 q82 q635 (by decide +kernel) ⟨Nat.le_of_ble_eq_true rfl, Nat.le_of_ble_eq_true rfl⟩ dX4_word_16 rfl) (z_calls _ _ _),
   zz_of (ok_ifeq G dX4_word_19 rfl rfl) (z_zifeq _ _),
   zz_of (ok_aload_n G dX4_word_22 rfl rfl) (z_ald _ _),
   zz_of (ok_dup G dX4_word_23 rfl) (z_dup _),
   zz_of (ok_get G (nx := 27) (ci := 3) (kd := 0) (k := 3) (RX4, TX4, 7) rfl (by decide) rfl q276 dX4_word_24 rfl) (z_get _ _ _ _),
   zz_of (ok_iconst G (v := 1) dX4_word_27 (by decide) rfl) (z_cn 28 1),
   zz_of (ok_iadd G dX4_word_28 rfl) (z_iadd _),
   zz_of (ok_puti G (nx := 32) (idx := 25) (ci := 3) (k := 3) (RX4, TX4, 7) rfl (by decide) rfl (mm_pw G (ci := 3) (k := 3) (RX4, TX4, 7) rfl (by decide) rfl q276 dX4_word_29) rfl) (z_puti _ _ _),
   zz_of (ok_goto G dX4_word_32 rfl) (z_goto _),
   zz_of (ok_new G (ci := 18) (RJ7, TJ7, 4) rfl rfl q636 q637 q99 (by decide) dX4_word_35 rfl) (z_new _ _ _ _),
   zz_of (ok_dup G dX4_word_38 rfl) (z_dup _),
   zz_of (ok_caliF G (hnh.q 39) (zmJ7_init _ G.hst) q638 q639 q99 q640 rfl (by decide +kernel) ⟨Nat.le_of_ble_eq_true rfl, Nat.le_of_ble_eq_true rfl⟩ dX4_word_39 rfl) (z_ciF _ _ _ _ _ _),
   zz_of (ok_astore_n G dX4_word_42 rfl rfl (by decide)) (z_ast _ _),
   zz_of (ok_aload_n G dX4_word_43 rfl rfl) (z_ald _ _),
   zz_of (ok_get G (nx := 47) (ci := 3) (kd := 0) (k := 4) (RX4, TX4, 7) rfl (by decide) rfl q277 dX4_word_44 rfl) (z_get _ _ _ _),
   zz_of (ok_istore_n G dX4_word_47 rfl rfl (by decide)) (z_ist _ _),
   zz_of (ok_iload_n G dX4_word_48 rfl rfl) (z_ild _ _),
   zz_of (ok_aload_n G dX4_word_49 rfl rfl) (z_ald _ _),
   zz_of (ok_get G (nx := 53) (ci := 3) (kd := 0) (k := 3) (RX4, TX4, 7) rfl (by decide) rfl q276 dX4_word_50 rfl) (z_get _ _ _ _),
   zz_of (ok_cge G dX4_word_53 rfl rfl) (z_cge _ _ _ _),
   zz_of (ok_aload_n G dX4_word_56 rfl rfl) (z_ald _ _),
   zz_of (ok_aload_n G dX4_word_57 rfl rfl) (z_ald _ _),
   zz_of (ok_get G (nx := 61) (ci := 3) (kd := 2) (k := 0) (RX4, TX4, 7) rfl (by decide) rfl q271 dX4_word_58 rfl) (z_get _ _ _ _),
   zz_of (ok_iload_n G dX4_word_61 rfl rfl) (z_ild _ _),
   zz_of (ok_bald G dX4_word_62 rfl) (z_bald _),
   zz_of (ok_i2c G dX4_word_63 rfl) (z_i2c _),
   zz_of (ok_calv G (hnh.q 64) (zmJ7_append _ G.hst) (RJ7, TJ7, 4) rfl q667 q668 q669 q99 q670 (by decide +kernel) ⟨Nat.le_of_ble_eq_true rfl, Nat.le_of_ble_eq_true rfl⟩ dX4_word_64 rfl) (z_cvGp _ _ _ _ _),
   zz_of (ok_pop G dX4_word_67 rfl) (z_pop _),
   zz_of (ok_iinc G (v := 1) dX4_word_68 (by decide) rfl (by decide)) (z_incn 71 2 1),
   zz_of (ok_goto G dX4_word_71 rfl) (z_goto _),
   zz_of (ok_aload_n G dX4_word_74 rfl rfl) (z_ald _ _),
   zz_of (ok_calv G (hnh.q 75) (zmJ7_toString _ G.hst) (RJ7, TJ7, 4) rfl q747 q748 q749 q99 q750 (by decide +kernel) ⟨Nat.le_of_ble_eq_true rfl, Nat.le_of_ble_eq_true rfl⟩ dX4_word_75 rfl) (z_cvGp _ _ _ _ _),
   zz_of (ok_aret G (Or.inl ⟨_, rfl⟩) dX4_word_78) (z_aret), trivial⟩

theorem zwX4_word_0 {Q : Option zv → zz_M → Prop} {X : Nat → zz_M → Prop} {f : Nat → Nat × Nat} {S L : Nat → Nat → Int} {P : Nat → Nat → Option Nat} {c_ s_ : Nat}  (h : (∃ (tx_1 : Nat → Int) (n_1 a_1 b_1 : Nat), qT S tx_1 n_1 ∧ S 101 3 = (a_1 : Int) ∧ a_1 ≤ n_1 ∧ (rn (qB tx_1) n_1 a_1 = b_1 ∧ (zz_J (zpX4_word c_ s_) (zz_retP Q X c_ s_) 4 [some (vr 101), none, none] [] ((2, f), rS S b_1 b_1, L, P) (0, 0))))) : zz_J (zpX4_word c_ s_) (zz_retP Q X c_ s_) 0 [some (vr 101), none, none] [] ((2, f), S, L, P) (0, 0) := zz_J.go [(4, [1, 2]), (35, [1, 2]), (48, []), (74, [0, 2])] 400 h
theorem zwX4_word_4 {Q : Option zv → zz_M → Prop} {X : Nat → zz_M → Prop} {f : Nat → Nat × Nat} {S L : Nat → Nat → Int} {P : Nat → Nat → Option Nat} {c_ s_ : Nat}  (h : (∃ (tx_1 : Nat → Int) (n_1 i_1 : Nat), qT S tx_1 n_1 ∧ (S 101 3) = (i_1 : Int) ∧ i_1 ≤ n_1 ∧ ((R32 (if i_1 < n_1 then cby (tx_1 i_1) else -1) ∧ R32 (97 : Int) ∧ R32 (122 : Int) ∧ (((97 : Int) ≤ (if i_1 < n_1 then cby (tx_1 i_1) else -1) ∧ (if i_1 < n_1 then cby (tx_1 i_1) else -1) ≤ (122 : Int)) → (zz_J (zpX4_word c_ s_) (zz_retP Q X c_ s_) 4 [some (vr 101), none, none] [] ((2, f), mm_up S 101 3 ((S 101 3) + 1), L, P) (0, 0))) ∧ (¬ ((97 : Int) ≤ (if i_1 < n_1 then cby (tx_1 i_1) else -1) ∧ (if i_1 < n_1 then cby (tx_1 i_1) else -1) ≤ (122 : Int)) → (zz_J (zpX4_word c_ s_) (zz_retP Q X c_ s_) 35 [some (vr 101), none, none] [] ((2, f), S, L, P) (0, 0))))))) : zz_J (zpX4_word c_ s_) (zz_retP Q X c_ s_) 4 [some (vr 101), none, none] [] ((2, f), S, L, P) (0, 0) := zz_J.go [(4, [1, 2]), (35, [1, 2]), (48, []), (74, [0, 2])] 400 h
theorem zwX4_word_35 {Q : Option zv → zz_M → Prop} {X : Nat → zz_M → Prop} {f : Nat → Nat × Nat} {S L : Nat → Nat → Int} {P : Nat → Nat → Option Nat} {c_ s_ : Nat}  (h : ∃ h1_ : Nat, zfree ((2, f), S, L, P) h1_ ∧ (0 + 1 ≤ c_ ∧ 0 + 4 ≤ s_) ∧ ((1 + 1 ≤ c_ ∧ 4 + 16 ≤ s_) ∧ (∃ b_2 : Nat, zsh ((2, zrw f h1_ (1, 18)), zrw S h1_ (fun _ => 0), zrw L h1_ (fun _ => 0), zrw P h1_ (fun _ => none)) h1_ = (1, 18) ∧ zfx ((2, zrw f h1_ (1, 18)), zrw S h1_ (fun _ => 0), zrw L h1_ (fun _ => 0), zrw P h1_ (fun _ => none)).1.1 h1_ 0 = false ∧ zfree ((2, zrw f h1_ (1, 18)), zrw S h1_ (fun _ => 0), zrw L h1_ (fun _ => 0), zrw P h1_ (fun _ => none)) b_2 ∧ (∀ (S_2 : Nat → Nat → Int) (P_2 : Nat → Nat → Option Nat), (∀ j k, j ≠ b_2 → ¬ (j = h1_ ∧ k = 1) → S_2 j k = (zrw S h1_ (fun _ => 0)) j k) → S_2 h1_ 1 = 0 → (∀ i, S_2 b_2 i = 0) → (∀ j k, j ≠ b_2 → ¬ (j = h1_ ∧ k = 0) → P_2 j k = (zrw P h1_ (fun _ => none)) j k) → P_2 h1_ 0 = some b_2 → (zz_J (zpX4_word c_ s_) (zz_retP Q X c_ s_) 48 [some (vr 101), some (vr h1_), some (vi (S_2 101 4))] [] ((2, zrw (zrw f h1_ (1, 18)) b_2 (4, 16)), S_2, zrw (zrw L h1_ (fun _ => 0)) b_2 (fun _ => 0), P_2) (2, 20)))))) : zz_J (zpX4_word c_ s_) (zz_retP Q X c_ s_) 35 [some (vr 101), none, none] [] ((2, f), S, L, P) (0, 0) := zz_J.go [(4, [1, 2]), (35, [1, 2]), (48, []), (74, [0, 2])] 400 h
theorem zwX4_word_48 {Q : Option zv → zz_M → Prop} {X : Nat → zz_M → Prop} {f : Nat → Nat × Nat} {S L : Nat → Nat → Int} {P : Nat → Nat → Option Nat} {c_ s_ : Nat} {u_ v_ : Nat} {h1 : Nat} {x2 : Int} (h : R32 x2 ∧ (R32 (S 101 3) ∧ (((S 101 3) ≤ x2 → zz_J (zpX4_word c_ s_) (zz_retP Q X c_ s_) 74 [none, some (vr h1), none] [] ((2, f), S, L, P) (u_, v_)) ∧ (¬ (S 101 3) ≤ x2 → (0 ≤ x2 ∧ x2 < 400) ∧ ((zsh ((2, f), S, L, P) h1 = (1, 18) ∨ zsh ((2, f), S, L, P) h1 = (17, 18)) ∧ ∃ c1 s1 : Nat, (u_ + c1 ≤ c_ ∧ v_ + s1 ≤ s_) ∧ (∃ b_2 d_2 m_2 k_2 : Nat, sbR ((2, f), S, L, P) h1 d_2 m_2 k_2 ∧ (0 ≤ (zchar (S 102 x2.toNat)) ∧ (zchar (S 102 x2.toNat)) ≤ 127) ∧ (k_2 < m_2 → (∀ S_2 : Nat → Nat → Int, (∀ j k, ¬ (j = h1 ∧ k = 3) → ¬ (j = d_2 ∧ k = k_2) → S_2 j k = S j k) → S_2 h1 3 = (k_2 : Int) + 1 → S_2 d_2 k_2 = (zchar (S 102 x2.toNat)) → (zz_J (zpX4_word c_ s_) (zz_retP Q X c_ s_) 48 [some (vr 101), some (vr h1), some (vi (x2 + 1))] [] ((2, f), S_2, L, P) (u_ + c1, v_ + s1)))) ∧ (k_2 = m_2 → zfree ((2, f), S, L, P) b_2 ∧ (1 ≤ c1 ∧ 2 * m_2 + 2 ≤ s1) ∧ (∀ (S_2 : Nat → Nat → Int) (P_2 : Nat → Nat → Option Nat), (∀ j k, j ≠ b_2 → ¬ (j = h1 ∧ k = 3) → S_2 j k = S j k) → S_2 h1 3 = (k_2 : Int) + 1 → (∀ i : Nat, i < m_2 → S_2 b_2 i = S d_2 i) → S_2 b_2 k_2 = (zchar (S 102 x2.toNat)) → (∀ i : Nat, m_2 < i → S_2 b_2 i = 0) → (∀ j k, j ≠ b_2 → ¬ (j = h1 ∧ k = 0) → P_2 j k = P j k) → P_2 h1 0 = some b_2 → (zz_J (zpX4_word c_ s_) (zz_retP Q X c_ s_) 48 [some (vr 101), some (vr h1), some (vi (x2 + 1))] [] ((2, zrw f b_2 (4, 2 * m_2 + 2)), S_2, zrw L b_2 (fun _ => 0), P_2) (u_ + c1, v_ + s1)))))))))) : zz_J (zpX4_word c_ s_) (zz_retP Q X c_ s_) 48 [some (vr 101), some (vr h1), some (vi x2)] [] ((2, f), S, L, P) (u_, v_) := zz_J.go [(4, [1, 2]), (35, [1, 2]), (48, []), (74, [0, 2])] 400 h
theorem zwX4_word_74 {Q : Option zv → zz_M → Prop} {X : Nat → zz_M → Prop} {f : Nat → Nat × Nat} {S L : Nat → Nat → Int} {P : Nat → Nat → Option Nat} {c_ s_ : Nat} {u_ v_ : Nat} {h1 : Nat} (h : (zsh ((2, f), S, L, P) h1 = (1, 18) ∨ zsh ((2, f), S, L, P) h1 = (17, 18)) ∧ ∃ c1 s1 : Nat, (u_ + c1 ≤ c_ ∧ v_ + s1 ≤ s_) ∧ (∃ a_2 b_2 d_2 m_2 k_2 : Nat, sbR ((2, f), S, L, P) h1 d_2 m_2 k_2 ∧ zfree ((2, f), S, L, P) a_2 ∧ zfree ((2, f), S, L, P) b_2 ∧ a_2 ≠ b_2 ∧ (2 ≤ c1 ∧ 4 + k_2 ≤ s1) ∧ (∀ (S_2 L_2 : Nat → Nat → Int) (P_2 : Nat → Nat → Option Nat), (∀ j, j ≠ a_2 → j ≠ b_2 → S_2 j = S j) → (∀ i, S_2 a_2 i = 0) → (∀ i, i < k_2 → S_2 b_2 i = S d_2 i) → (∀ j, j ≠ a_2 → j ≠ b_2 → L_2 j = L j) → (∀ j, j ≠ a_2 → j ≠ b_2 → P_2 j = P j) → P_2 a_2 0 = some b_2 → ((u_ + c1 ≤ c_ ∧ v_ + s1 ≤ s_) ∧ (Q (some (vr a_2)) ((2, zrw (zrw f a_2 (1, 19)) b_2 (4, k_2)), S_2, L_2, P_2)))))) : zz_J (zpX4_word c_ s_) (zz_retP Q X c_ s_) 74 [none, some (vr h1), none] [] ((2, f), S, L, P) (u_, v_) := zz_J.go [(4, [1, 2]), (35, [1, 2]), (48, []), (74, [0, 2])] 400 h

theorem zchar_id {x : Int} (h0 : 0 ≤ x) (h1 : x ≤ 127) : zchar x = x := by
  obtain ⟨n, rfl⟩ : ∃ n : Nat, x = (n : Int) := ⟨x.toNat, by omega⟩
  have := (by decide +kernel : ∀ n : Fin 128, zchar ((n.val : Nat) : Int) = ((n.val : Nat) : Int)) ⟨n, by omega⟩
  exact this
theorem frF.z {f : Nat → Nat × Nat} {S L : Nat → Nat → Int} {P : Nat → Nat → Option Nat} {t h : Nat} (q : frF f t) (e : t ≤ h) : zfree ((2, f), S, L, P) h := ⟨zfs_hi (Nat.le_trans q.1 e), q.2 h e⟩
theorem sb_mk {f : Nat → Nat × Nat} {S L : Nat → Nat → Int} {P : Nat → Nat → Option Nat} {g d m k : Nat} (hg : 2000 ≤ g) (hd : 2000 ≤ d) (h1 : f g = (1, 18)) (h2 : P g 0 = some d) (h3 : S g 1 = 0) (h4 : S g 3 = (k : Int)) (h5 : f d = (4, m)) (h6 : k ≤ m) (h7 : 16 ≤ m ∧ m ≤ 100000) (h8 : ∀ i, i < m → -128 ≤ S d i ∧ S d i ≤ 127) : sbR ((2, f), S, L, P) g d m k :=
  ⟨(zsh_hi hg).trans h1, (zpt_hi hg).trans h2, zfx_of (zfs_hi hg) 0, h3, h4, (zsh_hi hd).trans h5, zfs_hi hd, h6, h7, h8⟩
/-- what the builder of a word is behind k of its signs -/
def wdI (t u b k : Nat) (tx : Nat → Int) (f : Nat → Nat × Nat) (S L : Nat → Nat → Int) (P : Nat → Nat → Option Nat) (f' : Nat → Nat × Nat) (S' L' : Nat → Nat → Int) (P' : Nat → Nat → Option Nat) (g d m q : Nat) : Prop :=
  gr t u f S L P f' S' L' P' ∧ (inR t u g ∧ inR t u d ∧ g ≠ d) ∧ (f' g = (1, 18) ∧ P' g 0 = some d ∧ S' g 1 = 0 ∧ S' g 3 = (k : Int)) ∧ (f' d = (4, m) ∧ k ≤ m ∧ 16 ≤ m ∧ m ≤ 900 ∧ (∀ i, i < k → S' d i = tx (b + i)) ∧ ∀ i, k ≤ i → S' d i = 0) ∧ (18 * 2 ^ q = m + 2 ∧ (m = 16 ∨ m ≤ 2 * k))
theorem pow_6 {q m : Nat} (h : 18 * 2 ^ q = m + 2) (hm : m ≤ 900) : q ≤ 5 := by
  apply Decidable.byContradiction
  intro hq
  have : 2 ^ 6 ≤ 2 ^ q := Nat.pow_le_pow_right (by decide) (by omega)
  omega
theorem stS.mo {lo hi lo' hi' : Nat} {f : Nat → Nat × Nat} {S : Nat → Nat → Int} {P : Nat → Nat → Option Nat} {g len : Nat} {w : Nat → Int} (q : stS lo hi f S P g len w) (a : 2000 ≤ lo') (b : lo' ≤ lo) (c : hi ≤ hi') : stS lo' hi' f S P g len w := by
  obtain ⟨q1, q2, q3, x, q4, q5⟩ := q
  exact ⟨q1.mo a b c, q2, q3, x, q4.mo a b c, q5⟩
theorem zmX4_word (l : Launch) (hl : l.stackTraces = false) (c_ s_ : Nat) : mm_Spec l yX4_word (ws_ yX4_word cX4_word 3 (some (.object "java/lang/String"))) (mm_rm 8 c_ s_) (zE (zX4_word c_ s_)) := by
  refine zz_Met.J hl (by decide) (fun C G hnh => ztX4_word c_ s_ G hnh) ?_
  rintro as ⟨⟨t_, f⟩, S, L, P⟩ Q X h
  unfold zX4_word at h
  split at h
  rotate_left
  · exact h.elim
  rename_i h_
  obtain ⟨e1_, e2_, h⟩ := mm_and2 h (fun q => q)
  cases mm_beq e1_
  cases mm_beq e2_
  try dsimp only at h
  refine ⟨rfl, ?_⟩
  refine zz_retP_J ?_
  obtain ⟨tx, n, a, b, e, t, hT, ha, han, hb, he, hfr, hcs, hq⟩ := h
  have hbn : b ≤ n := by rw [← hb]; exact rn_le han
  have hin := rn_in (q := qL tx) _ b rfl hbn
  rw [he] at hin
  obtain ⟨hbe, hen, hstop, hlet⟩ := hin
  have n400 := hT.1
  have let' : ∀ i, b ≤ i → i < e → 97 ≤ tx i ∧ tx i ≤ 122 := fun i h1 h2 => by
    have := hlet i h1 h2
    unfold qL at this
    rw [Bool.and_eq_true, decide_eq_true_eq, decide_eq_true_eq] at this
    exact this
  have t2 := hfr.1
  -- the end
  have t74 : ∀ (u g d m q v : Nat) (f' : Nat → Nat × Nat) (S' L' : Nat → Nat → Int) (P' : Nat → Nat → Option Nat), wdI t u b (e - b) tx f S L P f' S' L' P' g d m q → S' 101 3 = (e : Int) → S' 101 4 = (b : Int) → S' 101 6 = S 101 6 → v + 12 ≤ 2 * m → zz_J (zpX4_word c_ s_) (zz_retP Q X c_ s_) 74 [none, some (vr g), none] [] ((2, f'), S', L', P') (2 + q, v) := by
    intro u g d m q v f' S' L' P' ⟨⟨w1, w2, w3, w4, w5, w6⟩, ⟨g1, g2, g3⟩, ⟨g4, g5, g6, g7⟩, ⟨d1, d2, d3, d4, d5, d6⟩, p1, p2⟩ r3 r4 r6 hv
    have q5 := pow_6 p1 d4
    have by8 : ∀ i, i < m → -128 ≤ S' d i ∧ S' d i ≤ 127 := fun i hi => by
      by_cases hk : i < e - b
      · rw [d5 i hk]
        have := let' (b + i) (by omega) (by omega)
        omega
      · rw [d6 i (by omega)]
        decide
    have g0 := g1.le
    have d0 := g2.le
    have gu := g1.2.2
    have du := g2.2.2
    refine zwX4_word_74 ⟨Or.inl ((zsh_hi g0).trans g4), 2, 4 + (e - b), by omega, u, u + 1, d, m, e - b, sb_mk g0 d0 g4 g5 g6 g7 d1 d2 (by omega) by8, w6.z (Nat.le_refl _), w6.z (by omega), by omega, by omega, fun S2 L2 P2 e1 e2 e3 e4 e5 e6 => ?_⟩
    have nx : ∀ h, h < u → zrw (zrw f' u (1, 19)) (u + 1) (4, e - b) h = f' h := fun h hh => by rw [zrw_n _ _ (by omega), zrw_n _ _ (by omega)]
    refine ⟨by omega, hq _ S2 L2 P2 u (u + 2) ⟨by omega, fun h hh => by rw [nx h (by omega)]; exact w2 h hh, fun h x hh hx => by rw [e1 h (by omega) (by omega)]; exact w3 h x hh hx, fun h hh => by rw [e4 h (by omega) (by omega)]; exact w4 h hh, fun h hh => by rw [e5 h (by omega) (by omega)]; exact w5 h hh, by omega, fun h hh => ?_⟩ ?_ ?_ ?_ ?_⟩
    · rw [zrw_n _ _ (by omega), zrw_n _ _ (by omega)]
      exact w6.2 h (by omega)
    · rw [e1 101 (by omega) (by omega)]; exact r3
    · rw [e1 101 (by omega) (by omega)]; exact r4
    · rw [e1 101 (by omega) (by omega)]; exact r6
    · refine ⟨⟨by omega, by omega, by omega⟩, by rw [zrw_n _ _ (by omega), zrw_s], ⟨e2 1, e2 2, e2 3⟩, u + 1, ⟨by omega, by omega, by omega⟩, e6, zrw_s _ _ _, fun i hi => ?_⟩
      rw [e3 i hi]
      exact d5 i hi
  -- the signs are taken
  have t48 : ∀ (j k u g d m q v : Nat) (f' : Nat → Nat × Nat) (S' L' : Nat → Nat → Int) (P' : Nat → Nat → Option Nat), k + j = e - b → wdI t u b k tx f S L P f' S' L' P' g d m q → S' 101 3 = (e : Int) → S' 101 4 = (b : Int) → S' 101 6 = S 101 6 → v + 12 ≤ 2 * m → zz_J (zpX4_word c_ s_) (zz_retP Q X c_ s_) 48 [some (vr 101), some (vr g), some (vi ((b + k : Nat) : Int))] [] ((2, f'), S', L', P') (2 + q, v) := by
    intro j
    induction j with
    | zero =>
      intro k u g d m q v f' S' L' P' hk hI r3 r4 r6 hv
      have ek : k = e - b := by omega
      subst ek
      refine zwX4_word_48 ⟨by omega, by rw [r3]; omega, fun _ => t74 u g d m q v f' S' L' P' hI r3 r4 r6 hv, fun c => absurd (by rw [r3]; omega) c⟩
    | succ j ih =>
      intro k u g d m q v f' S' L' P' hk hI r3 r4 r6 hv
      obtain ⟨⟨w1, w2, w3, w4, w5, w6⟩, ⟨g1, g2, g3⟩, ⟨g4, g5, g6, g7⟩, ⟨d1, d2, d3, d4, d5, d6⟩, p1, p2⟩ := hI
      have q5 := pow_6 p1 d4
      have g0 := g1.le
      have d0 := g2.le
      have gu := g1.2.2
      have du := g2.2.2
      have gt := g1.2.1
      have dt := g2.2.1
      have hlt := let' (b + k) (by omega) (by omega)
      have by8 : ∀ i, i < m → -128 ≤ S' d i ∧ S' d i ≤ 127 := fun i hi => by
        by_cases hk : i < k
        · rw [d5 i hk]
          have := let' (b + i) (by omega) (by omega)
          omega
        · rw [d6 i (by omega)]
          decide
      have hc : zchar (S' 102 ((b + k : Nat) : Int).toNat) = tx (b + k) := by
        rw [Int.toNat_natCast, w3 102 (b + k) (by omega) (fun c => by have := c.1; omega), (hT.2.2 (b + k) (by omega)).2, cby_d (by omega)]
        exact zchar_id (by omega) (by omega)
      have hsb := sb_mk (L := L') g0 d0 g4 g5 g6 g7 d1 d2 (by omega) by8
      by_cases hkm : k < m
      · refine zwX4_word_48 ⟨by omega, by rw [r3]; omega, fun c => absurd c (by rw [r3]; omega), fun _ => ⟨by omega, Or.inl ((zsh_hi g0).trans g4), 0, 0, by omega, 0, d, m, k, hsb, by rw [hc]; omega, fun _ S2 e1 e2 e3 => ?_, fun c => by omega⟩⟩
        rw [hc] at e3
        have := ih (k + 1) u g d m q v f' S2 L' P' (by omega) ⟨⟨w1, w2, fun h x hh hx => by rw [e1 h x (by omega) (by omega)]; exact w3 h x hh hx, w4, w5, w6⟩, ⟨g1, g2, g3⟩, ⟨g4, g5, by rw [e1 g 1 (by omega) (by omega)]; exact g6, by rw [e2]; omega⟩, ⟨d1, by omega, d3, d4, fun i hi => ?_, fun i hi => ?_⟩, p1, by omega⟩ (by rw [e1 101 3 (by omega) (by omega)]; exact r3) (by rw [e1 101 4 (by omega) (by omega)]; exact r4) (by rw [e1 101 6 (by omega) (by omega)]; exact r6) hv
        · exact this
        · by_cases ei : i = k
          · rw [ei]; exact e3
          · rw [e1 d i (by omega) (by omega)]
            exact d5 i (by omega)
        · rw [e1 d i (by omega) (by omega)]
          exact d6 i (by omega)
      · have em : k = m := by omega
        subst em
        refine zwX4_word_48 ⟨by omega, by rw [r3]; omega, fun c => absurd c (by rw [r3]; omega), fun _ => ⟨by omega, Or.inl ((zsh_hi g0).trans g4), 1, 2 * k + 2, ?_, u, d, k, k, hsb, by rw [hc]; omega, fun c => by omega, fun _ => ⟨w6.z (Nat.le_refl _), by omega, fun S2 P2 e1 e2 e3 e4 e5 e6 e7 => ?_⟩⟩⟩
        · have q6 : 18 * 2 ^ (q + 1) = 2 * k + 4 := by rw [Nat.pow_succ]; omega
          have := pow_6 (q := q + 1) (m := 2 * k + 2) (by omega) (by omega)
          omega
        · rw [hc] at e4
          have p3 : 18 * 2 ^ (q + 1) = (2 * k + 2) + 2 := by rw [Nat.pow_succ]; omega
          have := ih (k + 1) (u + 1) g u (2 * k + 2) (q + 1) (v + (2 * k + 2)) (zrw f' u (4, 2 * k + 2)) S2 (zrw L' u (fun _ => 0)) P2 (by omega) ⟨⟨by omega, fun h hh => by rw [zrw_n _ _ (by omega)]; exact w2 h hh, fun h x hh hx => by rw [e1 h x (by omega) (by omega)]; exact w3 h x hh hx, fun h hh => by rw [zrw_n _ _ (by omega)]; exact w4 h hh, fun h hh => by
              rw [← w5 h hh]
              funext x
              exact e6 h x (by omega) (by omega), by omega, fun h hh => by rw [zrw_n _ _ (by omega)]; exact w6.2 h (by omega)⟩, ⟨⟨by omega, by omega, by omega⟩, ⟨by omega, by omega, by omega⟩, by omega⟩, ⟨by rw [zrw_n _ _ (by omega)]; exact g4, e7, by rw [e1 g 1 (by omega) (by omega)]; exact g6, by rw [e2]; omega⟩, ⟨zrw_s _ _ _, by omega, by omega, by omega, fun i hi => ?_, fun i hi => ?_⟩, p3, Or.inr (by omega)⟩ (by rw [e1 101 3 (by omega) (by omega)]; exact r3) (by rw [e1 101 4 (by omega) (by omega)]; exact r4) (by rw [e1 101 6 (by omega) (by omega)]; exact r6) (by omega)
          · exact this
          · by_cases ei : i = k
            · rw [ei]; exact e4
            · rw [e3 i (by omega)]
              exact d5 i (by omega)
          · exact e5 i (by omega)
  have t35 : zz_J (zpX4_word c_ s_) (zz_retP Q X c_ s_) 35 [some (vr 101), none, none] [] ((2, f), rS S e b, L, P) (0, 0) := by
    have z1 : zfree ((2, f), rS S e b, L, P) t := hfr.z (Nat.le_refl _)
    refine zwX4_word_35 ⟨t, z1, by omega, by omega, t + 1, by rw [zsh_al (M := ((2, f), rS S e b, L, P)) z1.1, if_pos rfl], zfx_of (zfs_hi t2) 0, ⟨zfs_hi (by omega), by show (zrw f t (1, 18) (t + 1)).1 = 0; rw [zrw_n _ _ (by omega)]; exact hfr.2 _ (by omega)⟩, fun S2 P2 e1 e2 e3 e4 e5 => ?_⟩
    have s2 : ∀ h x, h < t → S2 h x = rS S e b h x := fun h x hh => by rw [e1 h x (by omega) (by omega), zrw_n _ _ (by omega)]
    have r4 : S2 101 4 = (b : Int) := s2 101 4 (by omega)
    rw [r4]
    have := t48 (e - b) 0 (t + 2) t (t + 1) 16 0 20 (zrw (zrw f t (1, 18)) (t + 1) (4, 16)) S2 (zrw (zrw L t (fun _ => 0)) (t + 1) (fun _ => 0)) P2 (by omega) ⟨⟨by omega, fun h hh => by rw [zrw_n _ _ (by omega), zrw_n _ _ (by omega)], fun h x hh hx => ?_, fun h hh => by rw [zrw_n _ _ (by omega), zrw_n _ _ (by omega)], fun h hh => ?_, by omega, fun h hh => by rw [zrw_n _ _ (by omega), zrw_n _ _ (by omega)]; exact hfr.2 h (by omega)⟩, ⟨⟨by omega, by omega, by omega⟩, ⟨by omega, by omega, by omega⟩, by omega⟩, ⟨by rw [zrw_n _ _ (by omega), zrw_s], e5, e2, ?_⟩, ⟨zrw_s _ _ _, by omega, by decide, by decide, fun i hi => absurd hi (Nat.not_lt_zero _), fun i _ => e3 i⟩, by decide, Or.inl rfl⟩ (s2 101 3 (by omega)) r4 (s2 101 6 (by omega)) (by decide)
    · exact this
    · rw [s2 h x hh]
      unfold rS
      rw [if_neg (fun c => hx ⟨c.1, Or.inl c.2⟩), if_neg (fun c => hx ⟨c.1, Or.inr (Or.inl c.2)⟩)]
    · funext x
      rw [e4 h x (by omega) (by omega), zrw_n _ _ (by omega)]
    · rw [e1 t 3 (by omega) (by omega), zrw_s]
      rfl
  have t4 : ∀ (j i : Nat), i + j = e → b ≤ i → zz_J (zpX4_word c_ s_) (zz_retP Q X c_ s_) 4 [some (vr 101), none, none] [] ((2, f), rS S i b, L, P) (0, 0) := by
    intro j
    induction j with
    | zero =>
      intro i hi hbi
      have ei : i = e := by omega
      subst ei
      have ht : ¬ ((97 : Int) ≤ (if i < n then cby (tx i) else -1) ∧ (if i < n then cby (tx i) else -1) ≤ 122) := by
        by_cases hin : i < n
        · rw [if_pos hin, cby_i (hT.2.2 i hin).1 (by decide) (by decide)]
          have := hstop hin
          unfold qL at this
          intro c
          rw [decide_eq_true c.1, decide_eq_true c.2] at this
          cases this
        · rw [if_neg hin]
          decide
      have hR : R32 (if i < n then cby (tx i) else -1) := by
        split
        · next hin => have := cby_b (hT.2.2 i hin).1; omega
        · decide
      exact zwX4_word_4 ⟨tx, n, i, hT.r i b, rfl, hen, hR, by decide, by decide, fun c => absurd c ht, fun _ => t35⟩
    | succ j ih =>
      intro i hi hbi
      have hin : i < n := by omega
      have hl := let' i hbi (by omega)
      have ec : (if i < n then cby (tx i) else -1) = tx i := by rw [if_pos hin, cby_d (by omega)]
      have nx := ih (i + 1) (by omega) (by omega)
      refine zwX4_word_4 ⟨tx, n, i, hT.r i b, rfl, by omega, by rw [ec]; omega, by decide, by decide, fun _ => ?_, fun c => absurd (by rw [ec]; exact hl) c⟩
      have e3 : rS S i b 101 3 + 1 = ((i + 1 : Nat) : Int) := by
        rw [rS_3]
        omega
      rw [e3, rS_u3]
      exact nx
  refine zwX4_word_0 ⟨tx, n, a, b, hT, ha, han, hb, ?_⟩
  exact t4 (e - b) b (by omega) (Nat.le_refl _)
