/-! ===== the component's parser: parts, sums ===== -/
set_option maxRecDepth 100000
/-- how long the word is that comes next -/
def wl (tx : Nat → Int) (n a : Nat) : Nat := rn (qL tx) n (rn (qB tx) n a) - rn (qB tx) n a
def zX1_onePart (c_ s_ : Nat) : zz_Sp := fun as M Q X => match as with
  | [.inr (.inr (some h_))] => bif Nat.beq h_ 100 && Nat.beq M.1.1 2 then (∃ (tx_ : Nat → Int) (n_ a_ t_ : Nat), qT M.2.1 tx_ n_ ∧ M.2.1 101 3 = (a_ : Int) ∧ a_ ≤ n_ ∧ frF M.1.2 t_ ∧ (11 ≤ c_ ∧ 40 + 5 * wl tx_ n_ a_ ≤ s_) ∧ (∀ w_ : Nat, ptP tx_ n_ a_ = .inl w_ → ∀ (S_ L_ : Nat → Nat → Int) (P_ : Nat → Nat → Option Nat) (f_ : Nat → Nat × Nat) (u_ : Nat), gr t_ u_ M.1.2 M.2.1 M.2.2.1 M.2.2.2 f_ S_ L_ P_ → S_ 101 4 = (w_ : Int) → X 0 ((2, f_), S_, L_, P_)) ∧ (∀ r_ : Nat × (Fc → Int), ptP tx_ n_ a_ = .inr r_ → ∀ (S_ L_ : Nat → Nat → Int) (P_ : Nat → Nat → Option Nat) (f_ : Nat → Nat × Nat) (u_ g_ : Nat), gr t_ u_ M.1.2 M.2.1 M.2.2.1 M.2.2.2 f_ S_ L_ P_ → S_ 101 3 = (r_.1 : Int) → S_ 101 6 = M.2.1 101 6 → PaT t_ u_ f_ S_ P_ g_ r_.2 → Q (some (vr g_)) ((2, f_), S_, L_, P_))) else False
  | _ => False

def zpX1_onePart (c_ s_ : Nat) : zz_P := [(0, zo_ald 1 0), (1, zo_get 4 0 2 2), (4, zo_callv 7 1 3 zX4_isFigure), (7, zo_zifeq 10 30), (10, zo_new (mm_rm 11 c_ s_) 13 15 2), (13, zo_dup 14), (14, zo_ald 15 0), (15, zo_get 18 0 2 2), (18, zo_c 19 (vi 0)), (19, zo_c 22 (vi 999)), (22, zo_cvF (mm_rm 11 c_ s_) 25 3 3 1 6 zX4_number), (25, zo_c 26 vn), (26, zo_ciF (mm_rm 11 c_ s_) 29 3 0 0 zX17_init), (29, zo_aret), (30, zo_ald 31 0), (31, zo_get 34 0 2 2), (34, zo_cvG (mm_rm 11 c_ s_) 37 1 3 zX4_word), (37, zo_csF (mm_rm 11 c_ s_) 40 1 1 5 zX18_of), (40, zo_ast 41 1), (41, zo_ald 42 1), (42, zo_ifnonnull 45 53), (45, zo_ald 46 0), (46, zo_get 49 0 2 2), (49, zo_cvF (mm_rm 11 c_ s_) 52 1 3 1 6 zX4_wrong), (52, zo_athr 20 0), (53, zo_new (mm_rm 11 c_ s_) 56 15 2), (56, zo_dup 57), (57, zo_c 58 (vi 0)), (58, zo_ald 59 1), (59, zo_ciF (mm_rm 11 c_ s_) 62 3 0 0 zX17_init), (62, zo_aret)]
theorem ztX1_onePart (c_ s_ : Nat) {C : mm_C} (G : mm_G C RX1 cX1_onePart (some (.object "ChaseCourt$Part")) 2 (mm_rm 11 c_ s_)) (hnh : mm_nh C) : zz_OKs C (zpX1_onePart c_ s_) :=
  ⟨zz_of (ok_aload_n G dX1_onePart_0 rfl rfl) (z_ald _ _),
   zz_of (ok_get G (nx := 4) (ci := 0) (kd := 2) (k := 2) (RX1, TX1, 19) rfl (by decide) rfl q404 dX1_onePart_1 rfl) (z_get _ _ _ _),
   zz_of (ok_callv G hnh (zmX4_isFigure _ G.hst) rfl rfl (RX4, TX4, 7) rfl q1224 q1225 q1226 q88 q1227 (by decide +kernel) ⟨Nat.le_of_ble_eq_true rfl, Nat.le_of_ble_eq_true rfl⟩ dX1_onePart_4 rfl) (z_callv _ _ _ _),
   zz_of (ok_ifeq G dX1_onePart_7 rfl rfl) (z_zifeq _ _),
   zz_of (ok_new G (ci := 15) (RX17, TX17, 2) rfl rfl q1228 q1229 q118 (by decide) dX1_onePart_10 rfl) (z_new _ _ _ _),
   zz_of (ok_dup G dX1_onePart_13 rfl) (z_dup _),
   zz_of (ok_aload_n G dX1_onePart_14 rfl rfl) (z_ald _ _),
   zz_of (ok_get G (nx := 18) (ci := 0) (kd := 2) (k := 2) (RX1, TX1, 19) rfl (by decide) rfl q404 dX1_onePart_15 rfl) (z_get _ _ _ _),
   zz_of (ok_iconst G (v := 0) dX1_onePart_18 (by decide) rfl) (z_cn 19 0),
   zz_of (ok_sipush G (v := 999) dX1_onePart_19 (by decide) rfl) (z_cn 22 999),
   zz_of (ok_calvF G (hnh.q 22) (zmX4_number _ G.hst) (RX4, TX4, 7) rfl q1056 q1057 q1058 q88 q1059 (by decide +kernel) ⟨Nat.le_of_ble_eq_true rfl, Nat.le_of_ble_eq_true rfl⟩ dX1_onePart_22 rfl) (z_cvF _ _ _ _ _ _ _),
   zz_of (ok_null G dX1_onePart_25 rfl) (z_c0 26),
   zz_of (ok_caliF G (hnh.q 26) (zmX17_init _ G.hst) q1230 q1231 q118 q1232 rfl (by decide +kernel) ⟨Nat.le_of_ble_eq_true rfl, Nat.le_of_ble_eq_true rfl⟩ dX1_onePart_26 rfl) (z_ciF _ _ _ _ _ _),
   zz_of (ok_aret G (Or.inl ⟨_, rfl⟩) dX1_onePart_29) (z_aret),
   zz_of (ok_aload_n G dX1_onePart_30 rfl rfl) (z_ald _ _),
   zz_of (ok_get G (nx := 34) (ci := 0) (kd := 2) (k := 2) (RX1, TX1, 19) rfl (by decide) rfl q404 dX1_onePart_31 rfl) (z_get _ _ _ _),
   zz_of (ok_calv G (hnh.q 34) (zmX4_word _ G.hst) (RX4, TX4, 7) rfl q629 q630 q631 q88 q632 (by decide +kernel) ⟨Nat.le_of_ble_eq_true rfl, Nat.le_of_ble_eq_true rfl⟩ dX1_onePart_34 rfl) (z_cvG _ _ _ _ _),
   zz_of (ok_calsF G (hnh.q 37) (zmX18_of _ G.hst) q1241 q1242 q120 q1243 (by decide +kernel) ⟨Nat.le_of_ble_eq_true rfl, Nat.le_of_ble_eq_true rfl⟩ dX1_onePart_37 rfl) (z_csF _ _ _ _ _ _),
   zz_of (ok_astore_n G dX1_onePart_40 rfl rfl (by decide)) (z_ast _ _),
   zz_of (ok_aload_n G dX1_onePart_41 rfl rfl) (z_ald _ _),
   zz_of (ok_ifnonnull G dX1_onePart_42 rfl rfl) (z_ifnonnull _ _),
   zz_of (ok_aload_n G dX1_onePart_45 rfl rfl) (z_ald _ _),
   zz_of (ok_get G (nx := 49) (ci := 0) (kd := 2) (k := 2) (RX1, TX1, 19) rfl (by decide) rfl q404 dX1_onePart_46 rfl) (z_get _ _ _ _),
   zz_of (ok_calvF G (hnh.q 49) (zmX4_wrong _ G.hst) (RX4, TX4, 7) rfl q955 q956 q957 q88 q958 (by decide +kernel) ⟨Nat.le_of_ble_eq_true rfl, Nat.le_of_ble_eq_true rfl⟩ dX1_onePart_49 rfl) (z_cvF _ _ _ _ _ _ _),
   zz_of (ok_athr G (ci := 20) (i := 0) (RX10, TX10, 6) rfl rfl (hnh.q 52) dX1_onePart_52) (z_athr _ _),
   zz_of (ok_new G (ci := 15) (RX17, TX17, 2) rfl rfl q1228 q1229 q118 (by decide) dX1_onePart_53 rfl) (z_new _ _ _ _),
   zz_of (ok_dup G dX1_onePart_56 rfl) (z_dup _),
   zz_of (ok_iconst G (v := 0) dX1_onePart_57 (by decide) rfl) (z_cn 58 0),
   zz_of (ok_aload_n G dX1_onePart_58 rfl rfl) (z_ald _ _),
   zz_of (ok_caliF G (hnh.q 59) (zmX17_init _ G.hst) q1230 q1231 q118 q1232 rfl (by decide +kernel) ⟨Nat.le_of_ble_eq_true rfl, Nat.le_of_ble_eq_true rfl⟩ dX1_onePart_59 rfl) (z_ciF _ _ _ _ _ _),
   zz_of (ok_aret G (Or.inl ⟨_, rfl⟩) dX1_onePart_62) (z_aret), trivial⟩

theorem zwX1_onePart_0 {Q : Option zv → zz_M → Prop} {X : Nat → zz_M → Prop} {f : Nat → Nat × Nat} {S L : Nat → Nat → Int} {P : Nat → Nat → Option Nat} {c_ s_ : Nat}  (h : (∃ (tx_1 : Nat → Int) (n_1 a_1 b_1 : Nat), qT S tx_1 n_1 ∧ S 101 3 = (a_1 : Int) ∧ a_1 ≤ n_1 ∧ (rn (qB tx_1) n_1 a_1 = b_1 ∧ ((b_1 < n_1 ∧ qD tx_1 b_1 = true) → (∃ h2_ : Nat, zfree ((2, f), rS S b_1 b_1, L, P) h2_ ∧ (0 + 1 ≤ c_ ∧ 0 + 2 ≤ s_) ∧ ((1 + 1 ≤ c_ ∧ 2 + 6 ≤ s_) ∧ (∃ (tx_3 : Nat → Int) (n_3 a_3 t_3 : Nat), qT (zrw (rS S b_1 b_1) h2_ (fun _ => 0)) tx_3 n_3 ∧ (zrw (rS S b_1 b_1) h2_ (fun _ => 0)) 101 3 = (a_3 : Int) ∧ a_3 ≤ n_3 ∧ frF (zrw f h2_ (1, 15)) t_3 ∧ (R32 (0 : Int) ∧ R32 (999 : Int)) ∧ (∀ w_3 : Nat, nmP tx_3 n_3 (0 : Int) (999 : Int) a_3 = .inl w_3 → ∀ (S_3 L_3 : Nat → Nat → Int) (P_3 : Nat → Nat → Option Nat) (f_3 : Nat → Nat × Nat), gr t_3 (t_3 + 1) (zrw f h2_ (1, 15)) (zrw (rS S b_1 b_1) h2_ (fun _ => 0)) (zrw L h2_ (fun _ => 0)) (zrw P h2_ (fun _ => none)) f_3 S_3 L_3 P_3 → S_3 101 4 = (w_3 : Int) → ((2 ≤ c_ ∧ 8 ≤ s_) ∧ 0 ≤ 5 ∧ X 0 ((2, f_3), S_3, L_3, P_3))) ∧ (∀ r_3 : Nat × Int, nmP tx_3 n_3 (0 : Int) (999 : Int) a_3 = .inr r_3 → ((2 + 0 ≤ c_ ∧ 8 + 0 ≤ s_) ∧ (zsh ((2, zrw f h2_ (1, 15)), rS (zrw (rS S b_1 b_1) h2_ (fun _ => 0)) r_3.1 (rn (qB tx_3) n_3 a_3), zrw L h2_ (fun _ => 0), zrw P h2_ (fun _ => none)) h2_ = (1, 15) ∧ zfx ((2, zrw f h2_ (1, 15)), rS (zrw (rS S b_1 b_1) h2_ (fun _ => 0)) r_3.1 (rn (qB tx_3) n_3 a_3), zrw L h2_ (fun _ => 0), zrw P h2_ (fun _ => none)).1.1 h2_ 1 = false ∧ ((2 ≤ c_ ∧ 8 ≤ s_) ∧ (Q (some (vr h2_)) ((2, zrw f h2_ (1, 15)), mm_up (rS (zrw (rS S b_1 b_1) h2_ (fun _ => 0)) r_3.1 (rn (qB tx_3) n_3 a_3)) h2_ 0 r_3.2, zrw L h2_ (fun _ => 0), mm_up (zrw P h2_ (fun _ => none)) h2_ 1 (none : Option Nat))))))))))) ∧ (¬ (b_1 < n_1 ∧ qD tx_1 b_1 = true) → (∃ c5 s5 : Nat, (0 + c5 ≤ c_ ∧ 0 + s5 ≤ s_) ∧ (∃ (tx_6 : Nat → Int) (n_6 a_6 b_6 e_6 t_6 : Nat), qT (rS S b_1 b_1) tx_6 n_6 ∧ (rS S b_1 b_1) 101 3 = (a_6 : Int) ∧ a_6 ≤ n_6 ∧ rn (qB tx_6) n_6 a_6 = b_6 ∧ rn (qL tx_6) n_6 b_6 = e_6 ∧ frF f t_6 ∧ (9 ≤ c5 ∧ 24 + 5 * (e_6 - b_6) ≤ s5) ∧ (∀ (f_6 : Nat → Nat × Nat) (S_6 L_6 : Nat → Nat → Int) (P_6 : Nat → Nat → Option Nat) (g_6 u_6 : Nat), gr t_6 u_6 f (rS S b_1 b_1) L P f_6 S_6 L_6 P_6 → S_6 101 3 = (e_6 : Int) → S_6 101 4 = (b_6 : Int) → S_6 101 6 = (rS S b_1 b_1) 101 6 → stS t_6 u_6 f_6 S_6 P_6 g_6 (e_6 - b_6) (fun i => tx_6 (b_6 + i)) → ((0 + c5 + 1 ≤ c_ ∧ 0 + s5 + 5 ≤ s_) ∧ (∃ (t_7 x_7 n_7 : Nat), frF f_6 t_7 ∧ stK ((2, f_6), S_6, L_6, P_6) g_6 x_7 n_7 ∧ (g_6 < t_7 ∧ x_7 < t_7 ∧ 2000 ≤ g_6 ∧ 2000 ≤ x_7) ∧ (∀ (S_7 L_7 : Nat → Nat → Int) (P_7 : Nat → Nat → Option Nat) (f_7 : Nat → Nat × Nat), gr t_7 (t_7 + 1) f_6 S_6 L_6 P_6 f_7 S_7 L_7 P_7 → (∀ k, S_7 101 k = S_6 101 k) → (∀ j, j < 5 → eqK ((2, f_6), S_6, L_6, P_6) x_7 (mm_tf j + 100) n_7 (wo (mm_tf j - 1000)).length → (∃ h8_ : Nat, zfree ((2, f_7), S_7, L_7, P_7) h8_ ∧ (0 + c5 + 1 + 1 ≤ c_ ∧ 0 + s5 + 5 + 2 ≤ s_) ∧ ((0 + c5 + 1 + 1 + 0 ≤ c_ ∧ 0 + s5 + 5 + 2 + 0 ≤ s_) ∧ (zsh ((2, zrw f_7 h8_ (1, 15)), zrw S_7 h8_ (fun _ => 0), zrw L_7 h8_ (fun _ => 0), zrw P_7 h8_ (fun _ => none)) h8_ = (1, 15) ∧ zfx ((2, zrw f_7 h8_ (1, 15)), zrw S_7 h8_ (fun _ => 0), zrw L_7 h8_ (fun _ => 0), zrw P_7 h8_ (fun _ => none)).1.1 h8_ 1 = false ∧ ((0 + c5 + 1 + 1 + 0 ≤ c_ ∧ 0 + s5 + 5 + 2 + 0 ≤ s_) ∧ (Q (some (vr h8_)) ((2, zrw f_7 h8_ (1, 15)), mm_up (zrw S_7 h8_ (fun _ => 0)) h8_ 0 (0 : Int), zrw L_7 h8_ (fun _ => 0), mm_up (zrw P_7 h8_ (fun _ => none)) h8_ 1 (some (1200 + j))))))))) ∧ ((∀ j, j < 5 → ¬ eqK ((2, f_6), S_6, L_6, P_6) x_7 (mm_tf j + 100) n_7 (wo (mm_tf j - 1000)).length) → ((0 + c5 + 1 + 1 ≤ c_ ∧ 0 + s5 + 5 + 6 ≤ s_) ∧ (∃ t_10 : Nat, frF f_7 t_10 ∧ (∀ (S_10 L_10 : Nat → Nat → Int) (P_10 : Nat → Nat → Option Nat) (f_10 : Nat → Nat × Nat), gr t_10 (t_10 + 1) f_7 S_7 L_7 P_7 f_10 S_10 L_10 P_10 → (∀ k, S_10 101 k = S_7 101 k) → f_10 t_10 = (1, 20) → (zsh ((2, f_10), S_10, L_10, P_10) t_10 = (1, 20) ∧ (((0 + c5 + 1 + 1 ≤ c_ ∧ 0 + s5 + 5 + 6 ≤ s_) ∧ 0 ≤ 5 ∧ X 0 ((2, f_10), S_10, L_10, P_10)))))))))))))))))) : zz_J (zpX1_onePart c_ s_) (zz_retP Q X c_ s_) 0 [some (vr 100), none] [] ((2, f), S, L, P) (0, 0) := zz_J.go [] 400 h

theorem rS_zrw (S : Nat → Nat → Int) {a b x y t : Nat} {z : Nat → Int} (h : t ≠ 101) : rS (zrw (rS S a b) t z) x y = zrw (rS S x y) t z := by
  funext j k
  by_cases e : j = t
  · rw [e, zrw_s]
    unfold rS
    rw [if_neg (fun c => h c.1), if_neg (fun c => h c.1), zrw_s]
  · rw [zrw_n _ _ e]
    unfold rS
    by_cases c1 : j = 101 ∧ k = 3
    · rw [if_pos c1, if_pos c1]
    · rw [if_neg c1, if_neg c1]
      by_cases c2 : j = 101 ∧ k = 4
      · rw [if_pos c2, if_pos c2]
      · rw [if_neg c2, if_neg c2, zrw_n _ _ e, if_neg c1, if_neg c2]
theorem hsW_u {tx : Nat → Int} {n b : Nat} {v w : List Nat} (h1 : hsW tx n b v = true) (h2 : hsW tx n b w = true) : v = w := by
  obtain ⟨a1, a2⟩ := hsW_t.mp h1
  obtain ⟨b1, b2⟩ := hsW_t.mp h2
  refine List.ext_getElem (by omega) (fun i h3 h4 => ?_)
  have c1 := a2 i h3
  have c2 := b2 i h4
  rw [c1] at c2
  rw [List.getD_eq_getElem?_getD, List.getD_eq_getElem?_getD, List.getElem?_eq_getElem h3, List.getElem?_eq_getElem h4] at c2
  have : ((v[i] : Nat) : Int) = ((w[i] : Nat) : Int) := c2
  omega
theorem hsW_no {tx : Nat → Int} {n b i j : Nat} (h1 : hsW tx n b (wo i) = true) (h : wo j ≠ wo i) : ¬ hsW tx n b (wo j) = true := fun c => h (hsW_u c h1)
theorem ptP_fig {tx : Nat → Int} {n a : Nat} (ha : a ≤ n) (h : rn (qB tx) n a < n ∧ qD tx (rn (qB tx) n a) = true) : ptP tx n a = (match nmP tx n 0 999 (rn (qB tx) n a) with
    | .inl w => .inl w
    | .inr c => .inr (c.1, fun _ => c.2)) := by
  unfold ptP nmP
  rw [rn_rn ha, if_pos h]
  by_cases c : fgB tx n (rn (qB tx) n a) 0 999 = true
  · rw [if_pos c, if_pos c]
  · rw [if_neg c, if_neg c]
theorem ptP_wd {tx : Nat → Int} {n a j : Nat} (hj : j < 5) (hn : ¬ (rn (qB tx) n a < n ∧ qD tx (rn (qB tx) n a) = true)) (h : hsW tx n (rn (qB tx) n a) (wo (mm_tf j - 1000)) = true) : ptP tx n a = .inr (rn (qB tx) n a + (wo (mm_tf j - 1000)).length, fun F => F j) := by
  unfold ptP
  rw [if_neg hn]
  have : j = 0 ∨ j = 1 ∨ j = 2 ∨ j = 3 ∨ j = 4 := by omega
  rcases this with e | e | e | e | e <;> subst e
  · rw [if_pos (show hsW tx n (rn (qB tx) n a) (wo 14) = true from h)]; rfl
  · rw [if_neg (hsW_no h (by decide)), if_pos (show hsW tx n (rn (qB tx) n a) (wo 15) = true from h)]; rfl
  · rw [if_neg (hsW_no h (by decide)), if_neg (hsW_no h (by decide)), if_pos (show hsW tx n (rn (qB tx) n a) (wo 16) = true from h)]; rfl
  · rw [if_neg (hsW_no h (by decide)), if_neg (hsW_no h (by decide)), if_neg (hsW_no h (by decide)), if_pos (show hsW tx n (rn (qB tx) n a) (wo 17) = true from h)]; rfl
  · rw [if_neg (hsW_no h (by decide)), if_neg (hsW_no h (by decide)), if_neg (hsW_no h (by decide)), if_neg (hsW_no h (by decide)), if_pos (show hsW tx n (rn (qB tx) n a) (wo 1) = true from h)]; rfl
theorem ptP_no {tx : Nat → Int} {n a : Nat} (hn : ¬ (rn (qB tx) n a < n ∧ qD tx (rn (qB tx) n a) = true)) (h : ∀ j, j < 5 → ¬ hsW tx n (rn (qB tx) n a) (wo (mm_tf j - 1000)) = true) : ptP tx n a = .inl (rn (qB tx) n a) := by
  unfold ptP
  rw [if_neg hn, if_neg (show ¬ hsW tx n (rn (qB tx) n a) (wo 14) = true from h 0 (by decide)), if_neg (show ¬ hsW tx n (rn (qB tx) n a) (wo 15) = true from h 1 (by decide)), if_neg (show ¬ hsW tx n (rn (qB tx) n a) (wo 16) = true from h 2 (by decide)), if_neg (show ¬ hsW tx n (rn (qB tx) n a) (wo 17) = true from h 3 (by decide)), if_neg (show ¬ hsW tx n (rn (qB tx) n a) (wo 1) = true from h 4 (by decide))]
theorem zmX1_onePart (l : Launch) (hl : l.stackTraces = false) (c_ s_ : Nat) : mm_Spec l yX1_onePart (ws_ yX1_onePart cX1_onePart 2 (some (.object "ChaseCourt$Part"))) (mm_rm 11 c_ s_) (zE (zX1_onePart c_ s_)) := by
  refine zz_Met.J hl (by decide) (fun C G hnh => ztX1_onePart c_ s_ G hnh) ?_
  rintro as ⟨⟨t_, f⟩, S, L, P⟩ Q X h
  unfold zX1_onePart at h
  split at h
  rotate_left
  · exact h.elim
  rename_i h_
  obtain ⟨e1_, e2_, h⟩ := mm_and2 h (fun q => q)
  cases mm_beq e1_
  cases mm_beq e2_
  try dsimp only at h
  refine ⟨rfl, ?_⟩
  refine zz_retP_J ?_
  obtain ⟨tx, n, a, t, hT, ha, han, hf, hcs, qw, qr⟩ := h
  have n400 := hT.1
  have t2 := hf.1
  have hbn := rn_le (q := qB tx) han
  have hbb := rn_rn (q := qB tx) han
  have pf := ptP_fig (tx := tx) han
  have pw := fun j => ptP_wd (tx := tx) (n := n) (a := a) (j := j)
  have pn := ptP_no (tx := tx) (n := n) (a := a)
  unfold wl at hcs
  generalize hb : rn (qB tx) n a = b at *
  refine zwX1_onePart_0 ⟨tx, n, a, b, hT, ha, han, hb, fun hd => ?_, fun hd => ?_⟩
  · have pf := pf hd
    have g1 : gr t (t + 1) f S L P (zrw f t (1, 15)) (zrw (rS S b b) t (fun _ => 0)) (zrw L t (fun _ => 0)) (zrw P t (fun _ => none)) := (gr.al hf (fun j hj => zrw_n _ _ hj) (fun j hj => zrw_n _ _ hj)).ofS (fun h k hk => rdC_rS h k hk)
    refine ⟨t, hf.z (Nat.le_refl _), by omega, by omega, tx, n, b, t + 1, g1.T t2 hT, by rw [zrw_n _ _ (by omega)]; rfl, hbn, g1.fr, by decide, fun w hw S3 L3 P3 f3 g e => ⟨by omega, by decide, qw w (by rw [pf, hw]) _ _ _ _ _ (g1.tr g) e⟩, fun r hr => ⟨by omega, (zsh_hi t2).trans (zrw_s _ _ _), zfx_of (zfs_hi t2) 1, by omega, ?_⟩⟩
    have hv := nmP_v hr
    have hr' : ptP tx n a = .inr (r.1, fun _ => r.2) := by rw [pf, hr]
    rw [rS_zrw S (by omega)]
    refine qr _ hr' _ _ _ _ (t + 1) t ((gr.al (S := rS S r.1 (rn (qB tx) n b)) hf (fun j hj => ?_) (fun j hj => ?_)).ofS (fun h k hk => rdC_rS h k hk)) ?_ ?_ ⟨⟨t2, Nat.le_refl _, by omega⟩, zrw_s _ _ _, Or.inl ⟨?_, ?_, ?_⟩⟩
    · funext k
      rw [up_eq, if_neg (fun c => hj c.1), zrw_n _ _ hj]
    · funext k
      rw [up_eq, if_neg (fun c => hj c.1), zrw_n _ _ hj]
    · rw [up_eq, if_neg (by omega), zrw_n _ _ (by omega)]
      rfl
    · rw [up_eq, if_neg (by omega), zrw_n _ _ (by omega)]
      rfl
    · rw [up_eq, if_pos ⟨rfl, rfl⟩]
    · rw [up_eq, if_pos ⟨rfl, rfl⟩]
      exact hv
    · funext F
      rw [up_eq, if_pos ⟨rfl, rfl⟩]
  · have l1 := rn_ge (q := qL tx) hbn
    have l2 := rn_le (q := qL tx) hbn
    have lw := wd_R (tx := tx) hbn
    refine ⟨9, 24 + 5 * (rn (qL tx) n b - b), by omega, tx, n, b, b, _, t, hT.r b b, rfl, hbn, hbb, rfl, hf, ⟨Nat.le_refl _, Nat.le_refl _⟩, fun f6 S6 L6 P6 g6 u6 gg r3 r4 r6 hst => ?_⟩
    have gg := gg.ofS (S := S) (fun h k hk => rdC_rS h k hk)
    obtain ⟨x, x1, hk, hx⟩ := hst.k (L := L6) (by omega) (fun i hi => by have := lw i hi; omega)
    have tu := gg.le
    have u2 : 2000 ≤ u6 := by omega
    have key : ∀ j, j < 5 → (eqK ((2, f6), S6, L6, P6) x (mm_tf j + 100) (rn (qL tx) n b - b) (wo (mm_tf j - 1000)).length ↔ hsW tx n b (wo (mm_tf j - 1000)) = true) := by
      intro j hj
      obtain ⟨i, hi, ei⟩ := tf_txt j hj
      rw [ei, Nat.add_sub_cancel_left]
      exact eqK_hs hi (by omega) hx
    refine ⟨by omega, u6, x, _, gg.fr, hk, ⟨hst.1.2.2, x1.2.2, hst.1.le, x1.le⟩, fun S7 L7 P7 f7 g7 e7 => ⟨fun j hj heq => ?_, fun hne => ?_⟩⟩
    · have hw := (key j hj).mp heq
      have he := (hsW_t.mp hw).1
      have f7u := g7.fr
      refine ⟨u6 + 1, f7u.z (Nat.le_refl _), by omega, by omega, (zsh_hi (by omega)).trans (zrw_s _ _ _), zfx_of (zfs_hi (by omega)) 1, by omega, ?_⟩
      refine qr _ (pw j hj hd hw) _ _ _ _ (u6 + 2) (u6 + 1) ((gg.tr g7).tr (gr.al f7u (fun j hj => ?_) (fun j hj => ?_))) ?_ ?_ ⟨⟨t2, by omega, by omega⟩, zrw_s _ _ _, Or.inr ⟨j, hj, ?_, rfl⟩⟩
      · funext k
        rw [up_eq, if_neg (fun c => hj c.1), zrw_n _ _ hj]
      · funext k
        rw [up_eq, if_neg (fun c => hj c.1), zrw_n _ _ hj]
      · rw [up_eq, if_neg (by omega), zrw_n _ _ (by omega), e7, r3, he]
      · rw [up_eq, if_neg (by omega), zrw_n _ _ (by omega), e7, r6]
        rfl
      · rw [up_eq, if_pos ⟨rfl, rfl⟩]
    · refine ⟨by omega, u6 + 1, g7.fr, fun S10 L10 P10 f10 g10 e10 e11 => ⟨(zsh_hi (by omega)).trans e11, by omega, by decide, qw b (pn hd fun j hj c => hne j hj ((key j hj).mpr c)) _ _ _ _ _ ((gg.tr g7).tr g10) ?_⟩⟩
      rw [e10, e7, r4]
def zX1_sum (c_ s_ : Nat) : zz_Sp := fun as M Q X => match as with
  | [.inr (.inr (some h_))] => bif Nat.beq h_ 100 && Nat.beq M.1.1 2 then (∃ (tx_ : Nat → Int) (n_ a_ t_ : Nat), qT M.2.1 tx_ n_ ∧ M.2.1 101 3 = (a_ : Int) ∧ a_ ≤ n_ ∧ frF M.1.2 t_ ∧ (∀ w_ : Nat, suP tx_ n_ a_ = .inl w_ → (14 * (n_ - a_) + 14 ≤ c_ ∧ 95 * (n_ - a_) + 90 ≤ s_) ∧ ∀ (S_ L_ : Nat → Nat → Int) (P_ : Nat → Nat → Option Nat) (f_ : Nat → Nat × Nat) (u_ : Nat), gr t_ u_ M.1.2 M.2.1 M.2.2.1 M.2.2.2 f_ S_ L_ P_ → S_ 101 4 = (w_ : Int) → X 0 ((2, f_), S_, L_, P_)) ∧ (∀ r_ : Nat × (Fc → Int), suP tx_ n_ a_ = .inr r_ → (14 * (r_.1 - a_) ≤ c_ ∧ 95 * (r_.1 - a_) ≤ s_) ∧ ∀ (S_ L_ : Nat → Nat → Int) (P_ : Nat → Nat → Option Nat) (f_ : Nat → Nat × Nat) (u_ g_ : Nat), gr t_ u_ M.1.2 M.2.1 M.2.2.1 M.2.2.2 f_ S_ L_ P_ → S_ 101 3 = (r_.1 : Int) → S_ 101 6 = M.2.1 101 6 → SuT t_ u_ f_ S_ P_ g_ r_.2 → Q (some (vr g_)) ((2, f_), S_, L_, P_))) else False
  | _ => False

def zpX1_sum (c_ s_ : Nat) : zz_P := [(0, zo_new (mm_rm 12 c_ s_) 3 14 1), (3, zo_dup 4), (4, zo_ciF (mm_rm 12 c_ s_) 7 1 1 3 zX16_init), (7, zo_ast 8 1), (8, zo_ald 9 1), (9, zo_getr 12 14 0), (12, zo_ald 13 0), (13, zo_cvG (mm_rm 12 c_ s_) 16 1 0 zX1_onePart), (16, zo_cvGp (mm_rm 12 c_ s_) 19 2 17 zJ2_add), (19, zo_pop 20), (20, zo_ald 21 0), (21, zo_get 24 0 2 2), (24, zo_c 26 (vi 43)), (26, zo_callv 29 2 3 zX4_sign), (29, zo_zifne 32 8), (32, zo_ald 33 1), (33, zo_aret)]
theorem ztX1_sum (c_ s_ : Nat) {C : mm_C} (G : mm_G C RX1 cX1_sum (some (.object "ChaseCourt$Sum")) 2 (mm_rm 12 c_ s_)) (hnh : mm_nh C) : zz_OKs C (zpX1_sum c_ s_) :=
  ⟨zz_of (ok_new G (ci := 14) (RX16, TX16, 1) rfl rfl q1207 q1208 q117 (by decide) dX1_sum_0 rfl) (z_new _ _ _ _),
   zz_of (ok_dup G dX1_sum_3 rfl) (z_dup _),
   zz_of (ok_caliNF G (hnh.q 4) (zmX16_init _ G.hst) q1209 q1210 q117 q1211 rfl (by decide +kernel) ⟨Nat.le_of_ble_eq_true rfl, Nat.le_of_ble_eq_true rfl⟩ dX1_sum_4 rfl) (z_ciF _ _ _ _ _ _),
   zz_of (ok_astore_n G dX1_sum_7 rfl rfl (by decide)) (z_ast _ _),
   zz_of (ok_aload_n G dX1_sum_8 rfl rfl) (z_ald _ _),
   zz_of (ok_getN G (nx := 12) (ci := 14) (kd := 2) (k := 0) (RX16, TX16, 1) rfl (by decide) rfl q1216 dX1_sum_9 rfl) (z_getr _ _ _),
   zz_of (ok_aload_n G dX1_sum_12 rfl rfl) (z_ald _ _),
   zz_of (ok_calv G (hnh.q 13) (zmX1_onePart _ G.hst) (RX1, TX1, 19) rfl q1220 q1222 qs14 q82 q1223 (by decide +kernel) ⟨Nat.le_of_ble_eq_true rfl, Nat.le_of_ble_eq_true rfl⟩ dX1_sum_13 rfl) (z_cvG _ _ _ _ _),
   zz_of (ok_calv G (hnh.q 16) (zmJ2_add _ G.hst) (RJ2, TJ2, 3) rfl q1256 q1257 q1258 q86 q1259 (by decide +kernel) ⟨Nat.le_of_ble_eq_true rfl, Nat.le_of_ble_eq_true rfl⟩ dX1_sum_16 rfl) (z_cvGp _ _ _ _ _),
   zz_of (ok_pop G dX1_sum_19 rfl) (z_pop _),
   zz_of (ok_aload_n G dX1_sum_20 rfl rfl) (z_ald _ _),
   zz_of (ok_get G (nx := 24) (ci := 0) (kd := 2) (k := 2) (RX1, TX1, 19) rfl (by decide) rfl q404 dX1_sum_21 rfl) (z_get _ _ _ _),
   zz_of (ok_bipush G (v := 43) dX1_sum_24 (by decide) rfl) (z_cn 26 43),
   zz_of (ok_callv G hnh (zmX4_sign _ G.hst) rfl rfl (RX4, TX4, 7) rfl q1068 q1069 q1070 q88 q1071 (by decide +kernel) ⟨Nat.le_of_ble_eq_true rfl, Nat.le_of_ble_eq_true rfl⟩ dX1_sum_26 rfl) (z_callv _ _ _ _),
   zz_of (ok_ifne G dX1_sum_29 rfl rfl) (z_zifne _ _),
   zz_of (ok_aload_n G dX1_sum_32 rfl rfl) (z_ald _ _),
   zz_of (ok_aret G (Or.inl ⟨_, rfl⟩) dX1_sum_33) (z_aret), trivial⟩

theorem zwX1_sum_0 {Q : Option zv → zz_M → Prop} {X : Nat → zz_M → Prop} {f : Nat → Nat × Nat} {S L : Nat → Nat → Int} {P : Nat → Nat → Option Nat} {c_ s_ : Nat}  (h : ∃ h1_ : Nat, zfree ((2, f), S, L, P) h1_ ∧ (0 + 1 ≤ c_ ∧ 0 + 1 ≤ s_) ∧ ((1 + 1 ≤ c_ ∧ 1 + 3 ≤ s_) ∧ (∃ b_2 : Nat, zsh ((2, zrw f h1_ (1, 14)), zrw S h1_ (fun _ => 0), zrw L h1_ (fun _ => 0), zrw P h1_ (fun _ => none)) h1_ = (1, 14) ∧ zfx ((2, zrw f h1_ (1, 14)), zrw S h1_ (fun _ => 0), zrw L h1_ (fun _ => 0), zrw P h1_ (fun _ => none)).1.1 h1_ 0 = false ∧ zfree ((2, zrw f h1_ (1, 14)), zrw S h1_ (fun _ => 0), zrw L h1_ (fun _ => 0), zrw P h1_ (fun _ => none)) b_2 ∧ (∀ (S_2 : Nat → Nat → Int) (P_2 : Nat → Nat → Option Nat), (∀ j, j ≠ b_2 → S_2 j = (zrw S h1_ (fun _ => 0)) j) → (∀ j k, j ≠ b_2 → ¬ (j = h1_ ∧ k = 0) → P_2 j k = (zrw P h1_ (fun _ => none)) j k) → S_2 b_2 2 = 0 → P_2 b_2 1 = some 1300 → P_2 h1_ 0 = some b_2 → (zz_J (zpX1_sum c_ s_) (zz_retP Q X c_ s_) 8 [some (vr 100), some (vr h1_)] [] ((2, zrw (zrw f h1_ (1, 14)) b_2 (1, 17)), S_2, zrw (zrw L h1_ (fun _ => 0)) b_2 (fun _ => 0), P_2) (2, 4)))))) : zz_J (zpX1_sum c_ s_) (zz_retP Q X c_ s_) 0 [some (vr 100), none] [] ((2, f), S, L, P) (0, 0) := zz_J.go [(8, []), (20, [])] 400 h
theorem zwX1_sum_8 {Q : Option zv → zz_M → Prop} {X : Nat → zz_M → Prop} {f : Nat → Nat × Nat} {S L : Nat → Nat → Int} {P : Nat → Nat → Option Nat} {c_ s_ : Nat} {u_ v_ : Nat} {h1 : Nat} (h : ∃ b1 : Nat, zsh ((2, f), S, L, P) h1 = (1, 14) ∧ zpt ((2, f), S, L, P) h1 0 = some b1 ∧ (∃ c2 s2 : Nat, (u_ + c2 ≤ c_ ∧ v_ + s2 ≤ s_) ∧ (∃ (tx_3 : Nat → Int) (n_3 a_3 t_3 : Nat), qT S tx_3 n_3 ∧ S 101 3 = (a_3 : Int) ∧ a_3 ≤ n_3 ∧ frF f t_3 ∧ (11 ≤ c2 ∧ 40 + 5 * wl tx_3 n_3 a_3 ≤ s2) ∧ (∀ w_3 : Nat, ptP tx_3 n_3 a_3 = .inl w_3 → ∀ (S_3 L_3 : Nat → Nat → Int) (P_3 : Nat → Nat → Option Nat) (f_3 : Nat → Nat × Nat) (u_3 : Nat), gr t_3 u_3 f S L P f_3 S_3 L_3 P_3 → S_3 101 4 = (w_3 : Int) → ((u_ + c2 ≤ c_ ∧ v_ + s2 ≤ s_) ∧ 0 ≤ 5 ∧ X 0 ((2, f_3), S_3, L_3, P_3))) ∧ (∀ r_3 : Nat × (Fc → Int), ptP tx_3 n_3 a_3 = .inr r_3 → ∀ (S_3 L_3 : Nat → Nat → Int) (P_3 : Nat → Nat → Option Nat) (f_3 : Nat → Nat × Nat) (u_3 g_3 : Nat), gr t_3 u_3 f S L P f_3 S_3 L_3 P_3 → S_3 101 3 = (r_3.1 : Int) → S_3 101 6 = S 101 6 → PaT t_3 u_3 f_3 S_3 P_3 g_3 r_3.2 → ((zsh ((2, f_3), S_3, L_3, P_3) b1 = (1, 17) ∨ zsh ((2, f_3), S_3, L_3, P_3) b1 = (17, 17)) ∧ ∃ c4 s4 : Nat, (u_ + c2 + c4 ≤ c_ ∧ v_ + s2 + s4 ≤ s_) ∧ (∃ a_5 b_5 m_5 n_5 ci_5 : Nat, lsR ((2, f_3), S_3, L_3, P_3) b1 a_5 m_5 n_5 ∧ (zsh ((2, f_3), S_3, L_3, P_3) g_3 = (1, ci_5) ∧ mm_mem mm_obs ci_5 = true) ∧ (n_5 < m_5 → (∀ (S_5 : Nat → Nat → Int) (P_5 : Nat → Nat → Option Nat), (∀ j k, ¬ (j = b1 ∧ (k = 0 ∨ k = 2)) → S_5 j k = S_3 j k) → S_5 b1 2 = (n_5 : Int) + 1 → (∀ j k, ¬ (j = a_5 ∧ k = n_5) → P_5 j k = P_3 j k) → P_5 a_5 n_5 = some g_3 → (zz_J (zpX1_sum c_ s_) (zz_retP Q X c_ s_) 20 [some (vr 100), some (vr h1)] [] ((2, f_3), S_5, L_3, P_5) (u_ + c2 + c4, v_ + s2 + s4)))) ∧ (n_5 = m_5 → zfree ((2, f_3), S_3, L_3, P_3) b_5 ∧ (1 ≤ c4 ∧ lsN m_5 ≤ s4) ∧ (∀ (S_5 : Nat → Nat → Int) (P_5 : Nat → Nat → Option Nat), (∀ j k, ¬ (j = b1 ∧ (k = 0 ∨ k = 2)) → j ≠ b_5 → S_5 j k = S_3 j k) → S_5 b1 2 = (n_5 : Int) + 1 → (∀ j k, j ≠ b_5 → ¬ (j = b1 ∧ k = 1) → P_5 j k = P_3 j k) → P_5 b1 1 = some b_5 → (∀ i : Nat, i < m_5 → P_5 b_5 i = zpt ((2, f_3), S_3, L_3, P_3) a_5 i) → P_5 b_5 n_5 = some g_3 → (zz_J (zpX1_sum c_ s_) (zz_retP Q X c_ s_) 20 [some (vr 100), some (vr h1)] [] ((2, zrw f_3 b_5 (7, lsN m_5)), S_5, zrw L_3 b_5 (fun _ => 0), P_5) (u_ + c2 + c4, v_ + s2 + s4)))))))))) : zz_J (zpX1_sum c_ s_) (zz_retP Q X c_ s_) 8 [some (vr 100), some (vr h1)] [] ((2, f), S, L, P) (u_, v_) := zz_J.go [(8, []), (20, [])] 400 h
theorem zwX1_sum_20 {Q : Option zv → zz_M → Prop} {X : Nat → zz_M → Prop} {f : Nat → Nat × Nat} {S L : Nat → Nat → Int} {P : Nat → Nat → Option Nat} {c_ s_ : Nat} {u_ v_ : Nat} {h1 : Nat} (h : ((0 ≤ (43 : Int) ∧ (43 : Int) ≤ 127) ∧ ∃ (tx_1 : Nat → Int) (n_1 a_1 b_1 : Nat), qT S tx_1 n_1 ∧ S 101 3 = (a_1 : Int) ∧ a_1 ≤ n_1 ∧ (rn (qB tx_1) n_1 a_1 = b_1 ∧ (isSg tx_1 n_1 b_1 (43 : Int) = true → (zz_J (zpX1_sum c_ s_) (zz_retP Q X c_ s_) 8 [some (vr 100), some (vr h1)] [] ((2, f), rS S (b_1 + 1) b_1, L, P) (u_, v_))) ∧ (isSg tx_1 n_1 b_1 (43 : Int) = false → ((u_ ≤ c_ ∧ v_ ≤ s_) ∧ (Q (some (vr h1)) ((2, f), rS S b_1 b_1, L, P))))))) : zz_J (zpX1_sum c_ s_) (zz_retP Q X c_ s_) 20 [some (vr 100), some (vr h1)] [] ((2, f), S, L, P) (u_, v_) := zz_J.go [(8, []), (20, [])] 400 h

theorem PaT.V : VOK PaT := ⟨fun _ _ _ _ _ _ _ q => ⟨q.1, 15, q.2.1, by decide⟩, fun _ _ _ _ _ _ _ _ _ q a b c => q.mo a b c, fun _ _ _ _ _ _ _ _ _ _ q a => q.fr a⟩
theorem lpF_ge {α : Type} {n : Nat} {sk : Nat → Nat} {sep : Nat → Option Nat} {p : Nat → Pr α} {cb : α → α → α} (h1 : ∀ a b, a ≤ n → sep a = some b → a < b ∧ b ≤ n) (h2 : ∀ a c, a ≤ n → p a = .inr c → a ≤ c.1 ∧ c.1 ≤ n) (h3 : ∀ a, a ≤ n → a ≤ sk a ∧ sk a ≤ n) : ∀ (f a : Nat) (g : α) (c : Nat × α), a ≤ n → lpF sk sep p cb f a g = .inr c → a ≤ c.1 ∧ c.1 ≤ n
  | 0, a, g, c, ha, h => by
    unfold lpF at h
    cases h
    exact ⟨Nat.le_refl _, ha⟩
  | f + 1, a, g, c, ha, h => by
    unfold lpF at h
    cases hs : sep a with
    | none =>
      rw [hs] at h
      cases h
      exact h3 a ha
    | some b =>
      have hb := h1 a b ha hs
      rw [hs] at h
      simp only at h
      cases hp : p b with
      | inl w => rw [hp] at h; cases h
      | inr e =>
        have he := h2 b e hb.2 hp
        rw [hp] at h
        simp only at h
        have := lpF_ge h1 h2 h3 f e.1 _ c he.2 h
        exact ⟨by omega, this.2⟩
theorem lpP_ge {α : Type} {n : Nat} {sk : Nat → Nat} {sep : Nat → Option Nat} {p : Nat → Pr α} {cb : α → α → α} (h1 : ∀ a b, a ≤ n → sep a = some b → a < b ∧ b ≤ n) (h2 : ∀ a c, a ≤ n → p a = .inr c → a ≤ c.1 ∧ c.1 ≤ n) (h3 : ∀ a, a ≤ n → a ≤ sk a ∧ sk a ≤ n) {a : Nat} {g : α} {c : Nat × α} (ha : a ≤ n) (h : lpP n sk sep p cb a g = .inr c) : a ≤ c.1 ∧ c.1 ≤ n := lpF_ge h1 h2 h3 _ _ _ _ ha h
theorem ptP_wl {tx : Nat → Int} {n a : Nat} {c : Nat × (Fc → Int)} (ha : a ≤ n) (h : ptP tx n a = .inr c) : a + wl tx n a ≤ c.1 := by
  have h2 := rn_ge (q := qB tx) ha
  have h3 := rn_le (q := qB tx) ha
  unfold wl
  have hw : ∀ j, hsW tx n (rn (qB tx) n a) (wo j) = true → rn (qL tx) n (rn (qB tx) n a) = rn (qB tx) n a + (wo j).length := fun j e => (hsW_t.mp e).1
  unfold ptP at h
  generalize rn (qB tx) n a = b at h h2 h3 hw
  split at h
  · next e =>
    have e1 : rn (qL tx) n b = b := rn_f (fun _ => by
      have := e.2
      unfold qD at this
      rw [Bool.and_eq_true, decide_eq_true_eq, decide_eq_true_eq] at this
      unfold qL
      rw [decide_eq_false (by omega)]
      rfl)
    rw [e1]
    have := rn_ge (q := qD tx) h3
    split at h
    · cases h
    · cases h
      show a + (b - b) ≤ rn (qD tx) n b
      omega
  · split at h
    · next e => cases h; have := hw _ e; have l : (wo 14).length = 4 := rfl; show a + _ ≤ b + 4; omega
    · split at h
      · next e => cases h; have := hw _ e; have l : (wo 15).length = 3 := rfl; show a + _ ≤ b + 3; omega
      · split at h
        · next e => cases h; have := hw _ e; have l : (wo 16).length = 4 := rfl; show a + _ ≤ b + 4; omega
        · split at h
          · next e => cases h; have := hw _ e; have l : (wo 17).length = 6 := rfl; show a + _ ≤ b + 6; omega
          · split at h
            · next e => cases h; have := hw _ e; have l : (wo 1).length = 5 := rfl; show a + _ ≤ b + 5; omega
            · cases h
theorem wl_le {tx : Nat → Int} {n a : Nat} (ha : a ≤ n) : wl tx n a ≤ n - a := by
  have h2 := rn_ge (q := qB tx) ha
  have h3 := rn_le (q := qB tx) ha
  have h4 := rn_le (q := qL tx) h3
  unfold wl
  omega
theorem sumG_app (gs : List (Fc → Int)) (g : Fc → Int) : sumG (gs ++ [g]) = fun F => sumG gs F + g F := by
  funext F
  induction gs with
  | nil =>
    show g F + 0 = 0 + g F
    omega
  | cons h r ih =>
    show h F + sumG (r ++ [g]) F = h F + sumG r F + g F
    rw [ih]
    omega
theorem zmX1_sum (l : Launch) (hl : l.stackTraces = false) (c_ s_ : Nat) : mm_Spec l yX1_sum (ws_ yX1_sum cX1_sum 2 (some (.object "ChaseCourt$Sum"))) (mm_rm 12 c_ s_) (zE (zX1_sum c_ s_)) := by
  refine zz_Met.J hl (by decide) (fun C G hnh => ztX1_sum c_ s_ G hnh) ?_
  rintro as ⟨⟨t_, f⟩, S, L, P⟩ Q X h
  unfold zX1_sum at h
  split at h
  rotate_left
  · exact h.elim
  rename_i h_
  obtain ⟨e1_, e2_, h⟩ := mm_and2 h (fun q => q)
  cases mm_beq e1_
  cases mm_beq e2_
  try dsimp only at h
  refine ⟨rfl, ?_⟩
  refine zz_retP_J ?_
  obtain ⟨tx, n, a, t, hT, ha, han, hf, qw, qr⟩ := h
  have n400 := hT.1
  have t2 := hf.1
  have hx := fun k hk => (hT.2.2 k hk).1
  have p2 : ∀ a c, a ≤ n → ptP tx n a = .inr c → a ≤ c.1 ∧ c.1 ≤ n := fun a c h1 h2 => ⟨Nat.le_of_lt (ptP_in hx a c h1 h2).1, (ptP_in hx a c h1 h2).2.1⟩
  have p1 : ∀ a b, a ≤ n → spS tx n 43 a = some b → a < b ∧ b ≤ n := fun a b h1 h2 => spS_in a b h1 h2
  have p3 : ∀ a, a ≤ n → a ≤ rn (qB tx) n a ∧ rn (qB tx) n a ≤ n := fun a h => ⟨rn_ge h, rn_le h⟩
  have t8 : ∀ (r a' u m uu vv : Nat) (l : List Nat) (gs : List (Fc → Int)) (f' : Nat → Nat × Nat) (S' L' : Nat → Nat → Int) (P' : Nat → Nat → Option Nat), n - a' = r → a' ≤ n → gr t u f S L P f' S' L' P' → S' 101 3 = (a' : Int) → S' 101 6 = S 101 6 → (f' t = (1, 14) ∧ P' t 0 = some (t + 1) ∧ t + 1 < u) → GL PaT t u (t + 1) m f' S' P' l gs → m ≤ 8 + 2 * l.length → a + 2 * l.length ≤ a' → uu ≤ 2 + 12 * l.length → vv + 40 * l.length ≤ 95 * (a' - a) + 4 + 4 * m → (∀ q, ptP tx n a' = q → suP tx n a = (match q with | .inl w => .inl w | .inr c => lpP n (rn (qB tx) n) (spS tx n 43) (ptP tx n) (fun g h F => g F + h F) c.1 (sumG (gs ++ [c.2])))) → zz_J (zpX1_sum c_ s_) (zz_retP Q X c_ s_) 8 [some (vr 100), some (vr t)] [] ((2, f'), S', L', P') (uu, vv) := by
    intro r
    induction r using Nat.strongRecOn with
    | ind r ih =>
      intro a' u m uu vv l gs f' S' L' P' hr ha' g1 r3 r6 ⟨o1, o2, o3⟩ hG hm hk hu hv hst
      have w1 := wl_le (tx := tx) ha'
      have hfu := g1.fr
      cases hp : ptP tx n a' with
      | inl w =>
        obtain ⟨⟨b1, b2⟩, q⟩ := qw w (hst _ hp)
        refine zwX1_sum_8 ⟨t + 1, (zsh_hi t2).trans o1, (zpt_hi t2).trans o2, 11, 40 + 5 * wl tx n a', by omega, tx, n, a', u, g1.T t2 hT, r3, ha', hfu, ⟨Nat.le_refl _, Nat.le_refl _⟩, fun w' hw' S3 L3 P3 f3 u3 g3 e3 => ⟨by omega, by decide, ?_⟩, fun r3 hr3 => (by rw [hp] at hr3; cases hr3)⟩
        rw [hp] at hw'
        cases hw'
        exact q _ _ _ _ _ (g1.tr g3) e3
      | inr c =>
        have hc := ptP_in hx a' c ha' hp
        have w2 := ptP_wl ha' hp
        have hsu := hst _ hp
        simp only at hsu
        have bud : 14 * (c.1 - a) ≤ c_ ∧ 95 * (c.1 - a) ≤ s_ := by
          cases hs : suP tx n a with
          | inl w =>
            obtain ⟨⟨b1, b2⟩, -⟩ := qw w hs
            omega
          | inr r =>
            obtain ⟨⟨b1, b2⟩, -⟩ := qr r hs
            rw [hs] at hsu
            have := lpP_ge p1 p2 p3 hc.2.1 hsu.symm
            omega
        have l4 := lsN_4 hG.2.2.2.2.2.1
        have hlm := hG.2.2.2.2.1
        have hs4 : ∃ s4 : Nat, (l.length < m ∧ s4 = 0) ∨ (l.length = m ∧ s4 = lsN m) := by
          by_cases h : l.length < m
          · exact ⟨0, Or.inl ⟨h, rfl⟩⟩
          · exact ⟨lsN m, Or.inr ⟨by omega, rfl⟩⟩
        obtain ⟨s4, hs4⟩ := hs4
        refine zwX1_sum_8 ⟨t + 1, (zsh_hi t2).trans o1, (zpt_hi t2).trans o2, 11, 40 + 5 * wl tx n a', by omega, tx, n, a', u, g1.T t2 hT, r3, ha', hfu, ⟨Nat.le_refl _, Nat.le_refl _⟩, fun w' hw' => (by rw [hp] at hw'; cases hw'), fun r0 hr0 S3 L3 P3 f3 u3 x g3 e3 e6 hx3 => ?_⟩
        rw [hp] at hr0
        cases hr0
        have hG3 := hG.grm PaT.V g3 (Nat.le_refl _)
        have g13 := g1.tr g3
        have o13 : f3 t = (1, 14) := (g3.2.1 t (by omega)).trans o1
        have o23 : P3 t 0 = some (t + 1) := by rw [g3.2.2.2.2.1 t (by omega)]; exact o2
        refine ⟨Or.inl ((zsh_hi (by omega)).trans hG3.2.1), 1, s4, ?_, ?_⟩
        · rcases hs4 with ⟨h1, h2⟩ | ⟨h1, h2⟩
          · omega
          · rcases hG.2.2.2.2.2.1 with z | z
            · have : lsN m = 10 := by rw [z]; rfl
              omega
            · have := l4.2.2 z
              omega
        · refine GL.add (R := fun f' S' L' P' => zz_J (zpX1_sum c_ s_) (zz_retP Q X c_ s_) 20 [some (vr 100), some (vr t)] [] ((2, f'), S', L', P') (uu + 11 + 1, vv + (40 + 5 * wl tx n a') + s4)) PaT.V hG3 g3.fr g3.le hx3 (by omega) (hs4.imp (fun c => c.1) (fun c => ⟨Nat.le_refl _, by rw [c.2]; exact Nat.le_refl _⟩)) (fun f5 S5 L5 P5 u5 m5 g5 e5 k5 le5 hG5 hm5 => ?_)
          have g15 : gr t u5 f S L P f5 S5 L5 P5 := g13.tr2 g5
          obtain ⟨y1, y2, y3⟩ := k5 t (by have := g3.le; omega) (by omega) (by rw [o13]; intro c; cases c)
          have len : (l ++ [x]).length = l.length + 1 := by simp
          have hb := p3 c.1 hc.2.1
          have hm5' : m5 ≤ 8 + 2 * (l.length + 1) ∧ s4 + 4 * m ≤ 4 * m5 := by
            rcases hm5 with ⟨h1, h2⟩ | ⟨h1, h2⟩
            · omega
            · rcases hG.2.2.2.2.2.1 with z | z
              · have : lsN m = 10 := by rw [z]; rfl
                omega
              · have := l4.2.2 z
                have : lsN m ≤ m + m / 2 := by
                  unfold lsN
                  rw [if_neg (by omega), if_neg (by omega)]
                  exact Nat.le_refl _
                omega
          refine zwX1_sum_20 ⟨by decide, tx, n, c.1, _, g15.T t2 hT, by rw [e5]; exact e3, hc.2.1, rfl, fun sg => ?_, fun sg => ?_⟩
          · have hs : spS tx n 43 c.1 = some (rn (qB tx) n c.1 + 1) := by unfold spS; rw [if_pos sg]
            have h1 := p1 _ _ hc.2.1 hs
            refine ih (n - (rn (qB tx) n c.1 + 1)) (by omega) (rn (qB tx) n c.1 + 1) u5 m5 _ _ (l ++ [x]) (gs ++ [c.2]) f5 _ L5 P5 rfl h1.2 (g15.toS fun h k hk => rdC_rS h k hk) (rS_3 _ _ _) ?_ ⟨by rw [y1]; exact o13, by rw [y3]; exact o23, by have := g3.le; omega⟩ (hG5.rS PaT.V) (by omega) (by omega) (by omega) (by omega) (fun q hq => ?_)
            · rw [rS_k _ _ _ (by decide) (by decide), e5, e6]
              exact r6
            · cases q with
              | inl w =>
                rw [hsu, lpP_l hc.2.1 hs hq]
              | inr c2 =>
                rw [hsu, lpP_r p1 p2 hc.2.1 hs hq]
                simp only
                rw [sumG_app (gs ++ [c.2])]
          · have hs : spS tx n 43 c.1 = none := by unfold spS; rw [if_neg (by rw [sg]; decide)]
            rw [lpP_n hc.2.1 hs] at hsu
            obtain ⟨⟨b1, b2⟩, q⟩ := qr _ hsu
            have b1 : 14 * (rn (qB tx) n c.1 - a) ≤ c_ := b1
            have b2 : 95 * (rn (qB tx) n c.1 - a) ≤ s_ := b2
            obtain ⟨A1, A2, A3⟩ := hG5.ALT PaT.V (by omega)
            refine ⟨by omega, q _ L5 P5 f5 u5 t (g15.toS fun h k hk => rdC_rS h k hk) (rS_3 _ _ _) ?_ ⟨⟨t2, Nat.le_refl _, by have := g3.le; omega⟩, by rw [y1]; exact o13, t + 1, l ++ [x], gs ++ [c.2], by rw [y3]; exact o23, A1.fr (agR_rS t2), A2, fun i y g' h1 h2 => (A3 i y g' h1 h2).fr (agR_rS t2), rfl⟩⟩
            rw [rS_k _ _ _ (by decide) (by decide), e5, e6]
            exact r6
  have bud : 14 ≤ c_ ∧ 90 ≤ s_ := by
    cases hs : suP tx n a with
    | inl w =>
      obtain ⟨⟨b1, b2⟩, -⟩ := qw w hs
      omega
    | inr r =>
      obtain ⟨⟨b1, b2⟩, -⟩ := qr r hs
      have := (suP_in hx a r han hs).1
      omega
  refine zwX1_sum_0 ⟨t, hf.z (Nat.le_refl _), by omega, by omega, t + 1, (zsh_hi t2).trans (zrw_s _ _ _), zfx_of (zfs_hi t2) 0, ⟨zfs_hi (by omega), by show (zrw f t (1, 14) (t + 1)).1 = 0; rw [zrw_n _ _ (by omega)]; exact hf.2 _ (by omega)⟩, fun S2 P2 e1 e2 e3 e4 e5 => ?_⟩
  refine t8 (n - a) a (t + 2) 0 2 4 [] [] _ S2 _ P2 rfl han ⟨by omega, fun h hh => by rw [zrw_n _ _ (by omega), zrw_n _ _ (by omega)], fun h k hh _ => by rw [e1 h (by omega), zrw_n _ _ (by omega)], fun h hh => by rw [zrw_n _ _ (by omega), zrw_n _ _ (by omega)], fun h hh => ?_, by omega, fun h hh => by rw [zrw_n _ _ (by omega), zrw_n _ _ (by omega)]; exact hf.2 h (by omega)⟩ (by rw [e1 101 (by omega), zrw_n _ _ (by omega)]; exact ha) (by rw [e1 101 (by omega), zrw_n _ _ (by omega)]) ⟨by rw [zrw_n _ _ (by omega), zrw_s], e5, by omega⟩ (GL.nil ⟨t2, by omega, by omega⟩ (zrw_s _ _ _) e3 e4) (by decide) (by simp) (by decide) (by simp) (fun q hq => ?_)
  · funext k
    rw [e2 h k (by omega) (by omega), zrw_n _ _ (by omega)]
  · unfold suP
    rw [hq]
    cases q with
    | inl w => rfl
    | inr c =>
      show lpP n _ _ _ _ c.1 c.2 = lpP n _ _ _ _ c.1 (fun F => c.2 F + 0)
      congr 1
      funext F
      omega
