/-! ===== the component's parser: lines of rules, rules ===== -/
set_option maxRecDepth 100000
def zX1_noMore (c_ s_ : Nat) : zz_Sp := fun as M Q X => match as with
  | [.inr (.inr (some h_)), .inl k] => bif Nat.beq h_ 100 && Nat.beq M.1.1 2 then (∃ (tx_ : Nat → Int) (n_ a_ t_ : Nat), qT M.2.1 tx_ n_ ∧ M.2.1 101 3 = (a_ : Int) ∧ a_ ≤ n_ ∧ frF M.1.2 t_ ∧ R32 k ∧ (k < 12 → Q none ((2, M.1.2), M.2.1, M.2.2.1, M.2.2.2)) ∧ (12 ≤ k → (10 ≤ c_ ∧ 30 + 5 * wl tx_ n_ a_ ≤ s_) ∧ ∀ (S_ L_ : Nat → Nat → Int) (P_ : Nat → Nat → Option Nat) (f_ : Nat → Nat × Nat) (u_ : Nat), gr t_ u_ M.1.2 M.2.1 M.2.2.1 M.2.2.2 f_ S_ L_ P_ → S_ 101 4 = ((rn (qB tx_) n_ a_ : Nat) : Int) → X 0 ((2, f_), S_, L_, P_))) else False
  | _ => False

def zpX1_noMore (c_ s_ : Nat) : zz_P := [(0, zo_ild 1 1), (1, zo_c 3 (vi 12)), (3, zo_cge false true 6 7), (6, zo_vret), (7, zo_ald 8 0), (8, zo_get 11 0 2 2), (11, zo_cvG (mm_rm 9 c_ s_) 14 1 3 zX4_word), (14, zo_pop 15), (15, zo_ald 16 0), (16, zo_get 19 0 2 2), (19, zo_cvF (mm_rm 9 c_ s_) 22 1 3 1 6 zX4_wrong), (22, zo_athr 20 0)]
theorem ztX1_noMore (c_ s_ : Nat) {C : mm_C} (G : mm_G C RX1 cX1_noMore none 2 (mm_rm 9 c_ s_)) (hnh : mm_nh C) : zz_OKs C (zpX1_noMore c_ s_) :=
  ⟨zz_of (ok_iload_n G dX1_noMore_0 rfl rfl) (z_ild _ _),
   zz_of (ok_bipush G (v := 12) dX1_noMore_1 (by decide) rfl) (z_cn 3 12),
   zz_of (ok_cge G dX1_noMore_3 rfl rfl) (z_cge _ _ _ _),
   zz_of (ok_vret G dX1_noMore_6) (z_vret),
   zz_of (ok_aload_n G dX1_noMore_7 rfl rfl) (z_ald _ _),
   zz_of (ok_get G (nx := 11) (ci := 0) (kd := 2) (k := 2) (RX1, TX1, 19) rfl (by decide) rfl q404 dX1_noMore_8 rfl) (z_get _ _ _ _),
   zz_of (ok_calv G (hnh.q 11) (zmX4_word _ G.hst) (RX4, TX4, 7) rfl q629 q630 q631 q88 q632 (by decide +kernel) ⟨Nat.le_of_ble_eq_true rfl, Nat.le_of_ble_eq_true rfl⟩ dX1_noMore_11 rfl) (z_cvG _ _ _ _ _),
   zz_of (ok_pop G dX1_noMore_14 rfl) (z_pop _),
   zz_of (ok_aload_n G dX1_noMore_15 rfl rfl) (z_ald _ _),
   zz_of (ok_get G (nx := 19) (ci := 0) (kd := 2) (k := 2) (RX1, TX1, 19) rfl (by decide) rfl q404 dX1_noMore_16 rfl) (z_get _ _ _ _),
   zz_of (ok_calvF G (hnh.q 19) (zmX4_wrong _ G.hst) (RX4, TX4, 7) rfl q955 q956 q957 q88 q958 (by decide +kernel) ⟨Nat.le_of_ble_eq_true rfl, Nat.le_of_ble_eq_true rfl⟩ dX1_noMore_19 rfl) (z_cvF _ _ _ _ _ _ _),
   zz_of (ok_athr G (ci := 20) (i := 0) (RX10, TX10, 6) rfl rfl (hnh.q 22) dX1_noMore_22) (z_athr _ _), trivial⟩

theorem zwX1_noMore_0 {Q : Option zv → zz_M → Prop} {X : Nat → zz_M → Prop} {f : Nat → Nat × Nat} {S L : Nat → Nat → Int} {P : Nat → Nat → Option Nat} {c_ s_ : Nat} {k : Int} (h : R32 k ∧ ((12 ≤ k → ∃ c1 s1 : Nat, (0 + c1 ≤ c_ ∧ 0 + s1 ≤ s_) ∧ (∃ (tx_2 : Nat → Int) (n_2 a_2 b_2 e_2 t_2 : Nat), qT S tx_2 n_2 ∧ S 101 3 = (a_2 : Int) ∧ a_2 ≤ n_2 ∧ rn (qB tx_2) n_2 a_2 = b_2 ∧ rn (qL tx_2) n_2 b_2 = e_2 ∧ frF f t_2 ∧ (9 ≤ c1 ∧ 24 + 5 * (e_2 - b_2) ≤ s1) ∧ (∀ (f_2 : Nat → Nat × Nat) (S_2 L_2 : Nat → Nat → Int) (P_2 : Nat → Nat → Option Nat) (g_2 u_2 : Nat), gr t_2 u_2 f S L P f_2 S_2 L_2 P_2 → S_2 101 3 = (e_2 : Int) → S_2 101 4 = (b_2 : Int) → S_2 101 6 = S 101 6 → stS t_2 u_2 f_2 S_2 P_2 g_2 (e_2 - b_2) (fun i => tx_2 (b_2 + i)) → ((0 + c1 + 1 ≤ c_ ∧ 0 + s1 + 6 ≤ s_) ∧ (∃ t_3 : Nat, frF f_2 t_3 ∧ (∀ (S_3 L_3 : Nat → Nat → Int) (P_3 : Nat → Nat → Option Nat) (f_3 : Nat → Nat × Nat), gr t_3 (t_3 + 1) f_2 S_2 L_2 P_2 f_3 S_3 L_3 P_3 → (∀ k, S_3 101 k = S_2 101 k) → f_3 t_3 = (1, 20) → (zsh ((2, f_3), S_3, L_3, P_3) t_3 = (1, 20) ∧ (((0 + c1 + 1 ≤ c_ ∧ 0 + s1 + 6 ≤ s_) ∧ 0 ≤ 5 ∧ X 0 ((2, f_3), S_3, L_3, P_3)))))))))) ∧ (¬ 12 ≤ k → (0 ≤ c_ ∧ 0 ≤ s_) ∧ (Q none ((2, f), S, L, P))))) : zz_J (zpX1_noMore c_ s_) (zz_retP Q X c_ s_) 0 [some (vr 100), some (vi k)] [] ((2, f), S, L, P) (0, 0) := zz_J.go [] 400 h

theorem zmX1_noMore (l : Launch) (hl : l.stackTraces = false) (c_ s_ : Nat) : mm_Spec l yX1_noMore (ws_ yX1_noMore cX1_noMore 2 none) (mm_rm 9 c_ s_) (zE (zX1_noMore c_ s_)) := by
  refine zz_Met.J hl (by decide) (fun C G hnh => ztX1_noMore c_ s_ G hnh) ?_
  rintro as ⟨⟨t_, f⟩, S, L, P⟩ Q X h
  unfold zX1_noMore at h
  split at h
  rotate_left
  · exact h.elim
  rename_i h_ k
  obtain ⟨e1_, e2_, h⟩ := mm_and2 h (fun q => q)
  cases mm_beq e1_
  cases mm_beq e2_
  try dsimp only at h
  refine ⟨rfl, ?_⟩
  refine zz_retP_J ?_
  obtain ⟨tx, n, a, t, hT, ha, han, hf, hk, q1, q0⟩ := h
  have n400 := hT.1
  have t2 := hf.1
  refine zwX1_noMore_0 ⟨hk, fun c => ?_, fun c => ⟨by omega, q1 (by omega)⟩⟩
  obtain ⟨⟨b1, b2⟩, q⟩ := q0 c
  unfold wl at b2
  exact ⟨9, 24 + 5 * (rn (qL tx) n (rn (qB tx) n a) - rn (qB tx) n a), by omega, tx, n, a, _, _, t, hT, ha, han, rfl, rfl, hf, ⟨Nat.le_refl _, Nat.le_refl _⟩, fun f2 S2 L2 P2 g2 u2 gg r3 r4 r6 hst => ⟨by omega, u2, gg.fr, fun S3 L3 P3 f3 g3 e3 e4 => ⟨(zsh_hi (by have := gg.le; omega)).trans e4, by omega, by decide, q _ _ _ _ _ (gg.tr g3) ((e3 4).trans r4)⟩⟩⟩
def zX1_goesOn : zz_Sp := fun as M Q X => match as with
  | [.inr (.inr (some h_))] => bif Nat.beq h_ 100 && Nat.beq M.1.1 2 then (∃ (tx_ : Nat → Int) (n_ a_ b_ t_ : Nat), qT M.2.1 tx_ n_ ∧ M.2.1 101 3 = (a_ : Int) ∧ a_ ≤ n_ ∧ frF M.1.2 t_ ∧ rn (qB tx_) n_ a_ = b_ ∧ (b_ = n_ → Q (some (vi 0)) ((2, M.1.2), rS M.2.1 b_ b_, M.2.2.1, M.2.2.2)) ∧ (b_ ≠ n_ → isSg tx_ n_ b_ 59 = true → Q (some (vi 1)) ((2, M.1.2), rS M.2.1 (b_ + 1) b_, M.2.2.1, M.2.2.2)) ∧ (b_ ≠ n_ → isSg tx_ n_ b_ 59 = false → ∀ (S_ L_ : Nat → Nat → Int) (P_ : Nat → Nat → Option Nat) (f_ : Nat → Nat × Nat) (u_ : Nat), gr t_ u_ M.1.2 M.2.1 M.2.2.1 M.2.2.2 f_ S_ L_ P_ → S_ 101 4 = (b_ : Int) → X 0 ((2, f_), S_, L_, P_))) else False
  | _ => False

def zpX1_goesOn : zz_P := [(0, zo_ald 1 0), (1, zo_get 4 0 2 2), (4, zo_callv 7 1 3 zX4_isOver), (7, zo_zifeq 10 12), (10, zo_c 11 (vi 0)), (11, zo_zret true), (12, zo_ald 13 0), (13, zo_get 16 0 2 2), (16, zo_c 18 (vi 59)), (18, zo_callv 21 2 3 zX4_sign), (21, zo_zifeq 24 26), (24, zo_c 25 (vi 1)), (25, zo_zret true), (26, zo_ald 27 0), (27, zo_get 30 0 2 2), (30, zo_cvL (mm_rm 9 1 6) 33 1 3 1 6 zX4_wrong), (33, zo_athr 20 0)]
theorem ztX1_goesOn {C : mm_C} (G : mm_G C RX1 cX1_goesOn (some .boolean) 1 (mm_rm 9 1 6)) (hnh : mm_nh C) : zz_OKs C zpX1_goesOn :=
  ⟨zz_of (ok_aload_n G dX1_goesOn_0 rfl rfl) (z_ald _ _),
   zz_of (ok_get G (nx := 4) (ci := 0) (kd := 2) (k := 2) (RX1, TX1, 19) rfl (by decide) rfl q404 dX1_goesOn_1 rfl) (z_get _ _ _ _),
   zz_of (ok_callv G hnh (zmX4_isOver _ G.hst) rfl rfl (RX4, TX4, 7) rfl q613 q614 q615 q88 q616 (by decide +kernel) ⟨by decide, by decide⟩ dX1_goesOn_4 rfl) (z_callv _ _ _ _),
   zz_of (ok_ifeq G dX1_goesOn_7 rfl rfl) (z_zifeq _ _),
   zz_of (ok_iconst G (v := 0) dX1_goesOn_10 (by decide) rfl) (z_cn 11 0),
   zz_of (ok_zret G dX1_goesOn_11) (z_zret _),
   zz_of (ok_aload_n G dX1_goesOn_12 rfl rfl) (z_ald _ _),
   zz_of (ok_get G (nx := 16) (ci := 0) (kd := 2) (k := 2) (RX1, TX1, 19) rfl (by decide) rfl q404 dX1_goesOn_13 rfl) (z_get _ _ _ _),
   zz_of (ok_bipush G (v := 59) dX1_goesOn_16 (by decide) rfl) (z_cn 18 59),
   zz_of (ok_callv G hnh (zmX4_sign _ G.hst) rfl rfl (RX4, TX4, 7) rfl q1068 q1069 q1070 q88 q1071 (by decide +kernel) ⟨by decide, by decide⟩ dX1_goesOn_18 rfl) (z_callv _ _ _ _),
   zz_of (ok_ifeq G dX1_goesOn_21 rfl rfl) (z_zifeq _ _),
   zz_of (ok_iconst G (v := 1) dX1_goesOn_24 (by decide) rfl) (z_cn 25 1),
   zz_of (ok_zret G dX1_goesOn_25) (z_zret _),
   zz_of (ok_aload_n G dX1_goesOn_26 rfl rfl) (z_ald _ _),
   zz_of (ok_get G (nx := 30) (ci := 0) (kd := 2) (k := 2) (RX1, TX1, 19) rfl (by decide) rfl q404 dX1_goesOn_27 rfl) (z_get _ _ _ _),
   zz_of (ok_calvF G (hnh.q 30) (zmX4_wrong _ G.hst) (RX4, TX4, 7) rfl q955 q956 q957 q88 q958 (by decide +kernel) ⟨Nat.le_of_ble_eq_true rfl, Nat.le_of_ble_eq_true rfl⟩ dX1_goesOn_30 rfl) (z_cvL _ _ _ _ _ _ _),
   zz_of (ok_athr G (ci := 20) (i := 0) (RX10, TX10, 6) rfl rfl (hnh.q 33) dX1_goesOn_33) (z_athr _ _), trivial⟩

theorem zwX1_goesOn_0 {Q : Option zv → zz_M → Prop} {X : Nat → zz_M → Prop} {f : Nat → Nat × Nat} {S L : Nat → Nat → Int} {P : Nat → Nat → Option Nat}  (h : (∃ (tx_1 : Nat → Int) (n_1 a_1 b_1 : Nat), qT S tx_1 n_1 ∧ S 101 3 = (a_1 : Int) ∧ a_1 ≤ n_1 ∧ (rn (qB tx_1) n_1 a_1 = b_1 ∧ (b_1 = n_1 → (Q (some (vi 0)) ((2, f), rS S b_1 b_1, L, P))) ∧ (b_1 ≠ n_1 → (((0 ≤ (59 : Int) ∧ (59 : Int) ≤ 127) ∧ ∃ (tx_2 : Nat → Int) (n_2 a_2 b_2 : Nat), qT (rS S b_1 b_1) tx_2 n_2 ∧ (rS S b_1 b_1) 101 3 = (a_2 : Int) ∧ a_2 ≤ n_2 ∧ (rn (qB tx_2) n_2 a_2 = b_2 ∧ (isSg tx_2 n_2 b_2 (59 : Int) = true → (Q (some (vi 1)) ((2, f), rS (rS S b_1 b_1) (b_2 + 1) b_2, L, P))) ∧ (isSg tx_2 n_2 b_2 (59 : Int) = false → ((∃ t_3 : Nat, frF f t_3 ∧ (∀ (S_3 L_3 : Nat → Nat → Int) (P_3 : Nat → Nat → Option Nat) (f_3 : Nat → Nat × Nat), gr t_3 (t_3 + 1) f (rS (rS S b_1 b_1) b_2 b_2) L P f_3 S_3 L_3 P_3 → (∀ k, S_3 101 k = (rS (rS S b_1 b_1) b_2 b_2) 101 k) → f_3 t_3 = (1, 20) → (zsh ((2, f_3), S_3, L_3, P_3) t_3 = (1, 20) ∧ (X 0 ((2, f_3), S_3, L_3, P_3)))))))))))))) : zz_J zpX1_goesOn (zz_ret Q X 1 6) 0 [some (vr 100)] [] ((2, f), S, L, P) (0, 0) := zz_J.go [] 400 h

theorem zmX1_goesOn (l : Launch) (hl : l.stackTraces = false) : mm_Spec l yX1_goesOn (ws_ yX1_goesOn cX1_goesOn 1 (some .boolean)) (mm_rm 9 1 6) (zE zX1_goesOn) := by
  refine zz_Met.J hl (by decide) (fun C G hnh => ztX1_goesOn G hnh) ?_
  rintro as ⟨⟨t_, f⟩, S, L, P⟩ Q X h
  unfold zX1_goesOn at h
  split at h
  rotate_left
  · exact h.elim
  rename_i h_
  obtain ⟨e1_, e2_, h⟩ := mm_and2 h (fun q => q)
  cases mm_beq e1_
  cases mm_beq e2_
  try dsimp only at h
  refine ⟨rfl, ?_⟩
  obtain ⟨tx, n, a, b, t, hT, ha, han, hf, hb, q0, q1, qw⟩ := h
  have n400 := hT.1
  have t2 := hf.1
  have hbn : b ≤ n := by rw [← hb]; exact rn_le han
  have hbb : rn (qB tx) n b = b := by rw [← hb]; exact rn_rn han
  refine zwX1_goesOn_0 ⟨tx, n, a, b, hT, ha, han, hb, q0, fun ne => ⟨by decide, tx, n, b, b, hT.r b b, rfl, hbn, hbb, fun sg => ?_, fun sg => ⟨t, hf, fun S3 L3 P3 f3 g3 e3 e4 => ⟨(zsh_hi t2).trans e4, qw ne sg _ _ _ _ _ ((g3.ofS fun h k hk => rdC_rS h k hk).ofS fun h k hk => rdC_rS h k hk) ((e3 4).trans (rS_4 _ _ _))⟩⟩⟩⟩
  rw [rS_rS]
  exact q1 ne sg
def zX1_ruleLine (c_ s_ : Nat) : zz_Sp := fun as M Q X => match as with
  | [.inr (.inr (some h_))] => bif Nat.beq h_ 100 && Nat.beq M.1.1 2 then (∃ (tx_ : Nat → Int) (n_ a_ t_ : Nat), qT M.2.1 tx_ n_ ∧ M.2.1 101 3 = (a_ : Int) ∧ a_ ≤ n_ ∧ M.2.1 101 6 = 0 ∧ frF M.1.2 t_ ∧ (∀ w_ : Nat, rlP tx_ n_ a_ = .inl w_ → (24 * (n_ - a_) + 100 ≤ c_ ∧ 120 * (n_ - a_) + 500 ≤ s_) ∧ ∀ (S_ L_ : Nat → Nat → Int) (P_ : Nat → Nat → Option Nat) (f_ : Nat → Nat × Nat) (u_ : Nat), gr t_ u_ M.1.2 M.2.1 M.2.2.1 M.2.2.2 f_ S_ L_ P_ → S_ 101 4 = (w_ : Int) → X 0 ((2, f_), S_, L_, P_)) ∧ (∀ r_ : Nat × (Fc → Option Int), rlP tx_ n_ a_ = .inr r_ → (24 * (r_.1 - a_) + 20 ≤ c_ ∧ 120 * (r_.1 - a_) + 200 + 10 * wl tx_ n_ r_.1 ≤ s_) ∧ ∀ (S_ L_ : Nat → Nat → Int) (P_ : Nat → Nat → Option Nat) (f_ : Nat → Nat × Nat) (u_ g_ : Nat), gr t_ u_ M.1.2 M.2.1 M.2.2.1 M.2.2.2 f_ S_ L_ P_ → S_ 101 3 = (r_.1 : Int) → S_ 101 6 = 0 → liT t_ u_ f_ S_ P_ g_ r_.2 → Q (some (vr g_)) ((2, f_), S_, L_, P_))) else False
  | _ => False

def zpX1_ruleLine (c_ s_ : Nat) : zz_P := [(0, zo_ald 1 0), (1, zo_get 4 0 2 2), (4, zo_cvG (mm_rm 34 c_ s_) 7 1 3 zX4_word), (7, zo_c 10 (vr 1007)), (10, zo_callvp 13 2 19 zJ8_equals_k), (13, zo_zifne 16 24), (16, zo_ald 17 0), (17, zo_get 20 0 2 2), (20, zo_cvF (mm_rm 34 c_ s_) 23 1 3 1 6 zX4_wrong), (23, zo_athr 20 0), (24, zo_ald 25 0), (25, zo_get 28 0 2 2), (28, zo_c 29 (vi 0)), (29, zo_c 30 (vi 3)), (30, zo_cvF (mm_rm 34 c_ s_) 33 3 3 1 6 zX4_number), (33, zo_ist 34 1), (34, zo_new (mm_rm 34 c_ s_) 37 10 2), (37, zo_dup 38), (38, zo_ild 39 1), (39, zo_ald 40 0), (40, zo_get 43 0 2 2), (43, zo_c 46 (vr 1008)), (46, zo_cvG (mm_rm 34 c_ s_) 49 2 3 zX4_passes), (49, zo_zifeq 52 59), (52, zo_ald 53 0), (53, zo_cvG (mm_rm 34 c_ s_) 56 1 0 zX1_cond_6), (56, zo_goto 60), (59, zo_c 60 vn), (60, zo_ciF (mm_rm 34 c_ s_) 63 3 0 0 zX12_init), (63, zo_aret)]
theorem ztX1_ruleLine (c_ s_ : Nat) {C : mm_C} (G : mm_G C RX1 cX1_ruleLine (some (.object "ChaseCourt$Line")) 2 (mm_rm 34 c_ s_)) (hnh : mm_nh C) : zz_OKs C (zpX1_ruleLine c_ s_) :=
  ⟨zz_of (ok_aload_n G dX1_ruleLine_0 rfl rfl) (z_ald _ _),
   zz_of (ok_get G (nx := 4) (ci := 0) (kd := 2) (k := 2) (RX1, TX1, 19) rfl (by decide) rfl q404 dX1_ruleLine_1 rfl) (z_get _ _ _ _),
   zz_of (ok_calv G (hnh.q 4) (zmX4_word _ G.hst) (RX4, TX4, 7) rfl q629 q630 q631 q88 q632 (by decide +kernel) ⟨Nat.le_of_ble_eq_true rfl, Nat.le_of_ble_eq_true rfl⟩ dX1_ruleLine_4 rfl) (z_cvG _ _ _ _ _),
   zz_of (ok_ldsw G (tx := "style") (by decide +kernel) dX1_ruleLine_7 rfl) (z_cr 10 1007),
   zz_of (ok_callv G hnh (zmJ8_equals_k _ G.hst) rfl rfl (RJ8, TJ8, 4) rfl q1045 q1046 q1047 q100 q1048 (by decide +kernel) ⟨Nat.le_of_ble_eq_true rfl, Nat.le_of_ble_eq_true rfl⟩ dX1_ruleLine_10 rfl) (z_callvp _ _ _ _),
   zz_of (ok_ifne G dX1_ruleLine_13 rfl rfl) (z_zifne _ _),
   zz_of (ok_aload_n G dX1_ruleLine_16 rfl rfl) (z_ald _ _),
   zz_of (ok_get G (nx := 20) (ci := 0) (kd := 2) (k := 2) (RX1, TX1, 19) rfl (by decide) rfl q404 dX1_ruleLine_17 rfl) (z_get _ _ _ _),
   zz_of (ok_calvF G (hnh.q 20) (zmX4_wrong _ G.hst) (RX4, TX4, 7) rfl q955 q956 q957 q88 q958 (by decide +kernel) ⟨Nat.le_of_ble_eq_true rfl, Nat.le_of_ble_eq_true rfl⟩ dX1_ruleLine_20 rfl) (z_cvF _ _ _ _ _ _ _),
   zz_of (ok_athr G (ci := 20) (i := 0) (RX10, TX10, 6) rfl rfl (hnh.q 23) dX1_ruleLine_23) (z_athr _ _),
   zz_of (ok_aload_n G dX1_ruleLine_24 rfl rfl) (z_ald _ _),
   zz_of (ok_get G (nx := 28) (ci := 0) (kd := 2) (k := 2) (RX1, TX1, 19) rfl (by decide) rfl q404 dX1_ruleLine_25 rfl) (z_get _ _ _ _),
   zz_of (ok_iconst G (v := 0) dX1_ruleLine_28 (by decide) rfl) (z_cn 29 0),
   zz_of (ok_iconst G (v := 3) dX1_ruleLine_29 (by decide) rfl) (z_cn 30 3),
   zz_of (ok_calvF G (hnh.q 30) (zmX4_number _ G.hst) (RX4, TX4, 7) rfl q1056 q1057 q1058 q88 q1059 (by decide +kernel) ⟨Nat.le_of_ble_eq_true rfl, Nat.le_of_ble_eq_true rfl⟩ dX1_ruleLine_30 rfl) (z_cvF _ _ _ _ _ _ _),
   zz_of (ok_istore_n G dX1_ruleLine_33 rfl rfl (by decide)) (z_ist _ _),
   zz_of (ok_new G (ci := 10) (RX12, TX12, 2) rfl rfl q1135 q1136 q113 (by decide) dX1_ruleLine_34 rfl) (z_new _ _ _ _),
   zz_of (ok_dup G dX1_ruleLine_37 rfl) (z_dup _),
   zz_of (ok_iload_n G dX1_ruleLine_38 rfl rfl) (z_ild _ _),
   zz_of (ok_aload_n G dX1_ruleLine_39 rfl rfl) (z_ald _ _),
   zz_of (ok_get G (nx := 43) (ci := 0) (kd := 2) (k := 2) (RX1, TX1, 19) rfl (by decide) rfl q404 dX1_ruleLine_40 rfl) (z_get _ _ _ _),
   zz_of (ok_ldsw G (tx := "if") (by decide +kernel) dX1_ruleLine_43 rfl) (z_cr 46 1008),
   zz_of (ok_calv G (hnh.q 46) (zmX4_passes _ G.hst) (RX4, TX4, 7) rfl q1138 q1139 q1140 q88 q1141 (by decide +kernel) ⟨Nat.le_of_ble_eq_true rfl, Nat.le_of_ble_eq_true rfl⟩ dX1_ruleLine_46 rfl) (z_cvG _ _ _ _ _),
   zz_of (ok_ifeq G dX1_ruleLine_49 rfl rfl) (z_zifeq _ _),
   zz_of (ok_aload_n G dX1_ruleLine_52 rfl rfl) (z_ald _ _),
   zz_of (ok_calv G (hnh.q 53) (zmX1_cond_6 _ G.hst) (RX1, TX1, 19) rfl q1144 q1146 qs10 q82 q1147 (by decide +kernel) ⟨Nat.le_of_ble_eq_true rfl, Nat.le_of_ble_eq_true rfl⟩ dX1_ruleLine_53 rfl) (z_cvG _ _ _ _ _),
   zz_of (ok_goto G dX1_ruleLine_56 rfl) (z_goto _),
   zz_of (ok_null G dX1_ruleLine_59 rfl) (z_c0 60),
   zz_of (ok_caliF G (hnh.q 60) (zmX12_init _ G.hst) q1283 q1284 q113 q1285 rfl (by decide +kernel) ⟨Nat.le_of_ble_eq_true rfl, Nat.le_of_ble_eq_true rfl⟩ dX1_ruleLine_60 rfl) (z_ciF _ _ _ _ _ _),
   zz_of (ok_aret G (Or.inl ⟨_, rfl⟩) dX1_ruleLine_63) (z_aret), trivial⟩

theorem zwX1_ruleLine_0 {Q : Option zv → zz_M → Prop} {X : Nat → zz_M → Prop} {f : Nat → Nat × Nat} {S L : Nat → Nat → Int} {P : Nat → Nat → Option Nat} {c_ s_ : Nat}  (h : ∃ c1 s1 : Nat, (0 + c1 ≤ c_ ∧ 0 + s1 ≤ s_) ∧ (∃ (tx_2 : Nat → Int) (n_2 a_2 b_2 e_2 t_2 : Nat), qT S tx_2 n_2 ∧ S 101 3 = (a_2 : Int) ∧ a_2 ≤ n_2 ∧ rn (qB tx_2) n_2 a_2 = b_2 ∧ rn (qL tx_2) n_2 b_2 = e_2 ∧ frF f t_2 ∧ (9 ≤ c1 ∧ 24 + 5 * (e_2 - b_2) ≤ s1) ∧ (∀ (f_2 : Nat → Nat × Nat) (S_2 L_2 : Nat → Nat → Int) (P_2 : Nat → Nat → Option Nat) (g_2 u_2 : Nat), gr t_2 u_2 f S L P f_2 S_2 L_2 P_2 → S_2 101 3 = (e_2 : Int) → S_2 101 4 = (b_2 : Int) → S_2 101 6 = S 101 6 → stS t_2 u_2 f_2 S_2 P_2 g_2 (e_2 - b_2) (fun i => tx_2 (b_2 + i)) → ((zsh ((2, f_2), S_2, L_2, P_2) g_2 = (1, 19) ∨ zsh ((2, f_2), S_2, L_2, P_2) g_2 = (17, 19)) ∧ (∃ x_3 n_3 m_3 : Nat, stK ((2, f_2), S_2, L_2, P_2) g_2 x_3 n_3 ∧ ctK ((2, f_2), S_2, L_2, P_2) 1007 m_3 ∧ (eqK ((2, f_2), S_2, L_2, P_2) x_3 (1007 + 100) n_3 m_3 → ((0 + c1 + 1 ≤ c_ ∧ 0 + s1 + 6 ≤ s_) ∧ (∃ (tx_4 : Nat → Int) (n_4 a_4 t_4 : Nat), qT S_2 tx_4 n_4 ∧ S_2 101 3 = (a_4 : Int) ∧ a_4 ≤ n_4 ∧ frF f_2 t_4 ∧ (R32 (0 : Int) ∧ R32 (3 : Int)) ∧ (∀ w_4 : Nat, nmP tx_4 n_4 (0 : Int) (3 : Int) a_4 = .inl w_4 → ∀ (S_4 L_4 : Nat → Nat → Int) (P_4 : Nat → Nat → Option Nat) (f_4 : Nat → Nat × Nat), gr t_4 (t_4 + 1) f_2 S_2 L_2 P_2 f_4 S_4 L_4 P_4 → S_4 101 4 = (w_4 : Int) → ((0 + c1 + 1 ≤ c_ ∧ 0 + s1 + 6 ≤ s_) ∧ 0 ≤ 5 ∧ X 0 ((2, f_4), S_4, L_4, P_4))) ∧ (∀ r_4 : Nat × Int, nmP tx_4 n_4 (0 : Int) (3 : Int) a_4 = .inr r_4 → (∃ h5_ : Nat, zfree ((2, f_2), rS S_2 r_4.1 (rn (qB tx_4) n_4 a_4), L_2, P_2) h5_ ∧ (0 + c1 + 1 + 1 ≤ c_ ∧ 0 + s1 + 6 + 2 ≤ s_) ∧ (∃ c6 s6 : Nat, (0 + c1 + 1 + 1 + c6 ≤ c_ ∧ 0 + s1 + 6 + 2 + s6 ≤ s_) ∧ (∃ (tx_7 : Nat → Int) (n_7 a_7 b_7 j_7 t_7 : Nat), qT (zrw (rS S_2 r_4.1 (rn (qB tx_4) n_4 a_4)) h5_ (fun _ => 0)) tx_7 n_7 ∧ (zrw (rS S_2 r_4.1 (rn (qB tx_4) n_4 a_4)) h5_ (fun _ => 0)) 101 3 = (a_7 : Int) ∧ a_7 ≤ n_7 ∧ rn (qB tx_7) n_7 a_7 = b_7 ∧ (1008 = 1000 + j_7 ∧ j_7 < 18) ∧ frF (zrw f_2 h5_ (1, 10)) t_7 ∧ (9 ≤ c6 ∧ 24 + 5 * (rn (qL tx_7) n_7 b_7 - b_7) ≤ s6) ∧ (∀ (f_7 : Nat → Nat × Nat) (S_7 L_7 : Nat → Nat → Int) (P_7 : Nat → Nat → Option Nat) (u_7 : Nat), gr t_7 u_7 (zrw f_2 h5_ (1, 10)) (zrw (rS S_2 r_4.1 (rn (qB tx_4) n_4 a_4)) h5_ (fun _ => 0)) (zrw L_2 h5_ (fun _ => 0)) (zrw P_2 h5_ (fun _ => none)) f_7 S_7 L_7 P_7 → S_7 101 4 = (b_7 : Int) → S_7 101 6 = (zrw (rS S_2 r_4.1 (rn (qB tx_4) n_4 a_4)) h5_ (fun _ => 0)) 101 6 → (hsW tx_7 n_7 b_7 (wo j_7) = true → S_7 101 3 = ((b_7 + (wo j_7).length : Nat) : Int) → (∃ c8 s8 : Nat, (0 + c1 + 1 + 1 + c6 + c8 ≤ c_ ∧ 0 + s1 + 6 + 2 + s6 + s8 ≤ s_) ∧ (∃ (tx_9 : Nat → Int) (n_9 a_9 t_9 : Nat), qT S_7 tx_9 n_9 ∧ S_7 101 3 = (a_9 : Int) ∧ a_9 ≤ n_9 ∧ S_7 101 6 = 0 ∧ frF f_7 t_9 ∧ (∀ w_9 : Nat, soP tx_9 n_9 (atP tx_9 n_9 6) a_9 = .inl w_9 → (24 * (n_9 - a_9) + 64 ≤ c8 ∧ 120 * (n_9 - a_9) + 390 ≤ s8) ∧ ∀ (S_9 L_9 : Nat → Nat → Int) (P_9 : Nat → Nat → Option Nat) (f_9 : Nat → Nat × Nat) (u_9 : Nat), gr t_9 u_9 f_7 S_7 L_7 P_7 f_9 S_9 L_9 P_9 → S_9 101 4 = (w_9 : Int) → ((0 + c1 + 1 + 1 + c6 + c8 ≤ c_ ∧ 0 + s1 + 6 + 2 + s6 + s8 ≤ s_) ∧ 0 ≤ 5 ∧ X 0 ((2, f_9), S_9, L_9, P_9))) ∧ (∀ r_9 : Nat × (Fc → Bool), soP tx_9 n_9 (atP tx_9 n_9 6) a_9 = .inr r_9 → (24 * (r_9.1 - a_9) + 24 ≤ c8 ∧ 120 * (r_9.1 - a_9) + 228 + 10 * wl tx_9 n_9 r_9.1 ≤ s8) ∧ ∀ (S_9 L_9 : Nat → Nat → Int) (P_9 : Nat → Nat → Option Nat) (f_9 : Nat → Nat × Nat) (u_9 g_9 : Nat), gr t_9 u_9 f_7 S_7 L_7 P_7 f_9 S_9 L_9 P_9 → S_9 101 3 = (r_9.1 : Int) → S_9 101 6 = 0 → coT t_9 u_9 f_9 S_9 P_9 14 g_9 r_9.2 → ((0 + c1 + 1 + 1 + c6 + c8 + 0 ≤ c_ ∧ 0 + s1 + 6 + 2 + s6 + s8 + 0 ≤ s_) ∧ (zsh ((2, f_9), S_9, L_9, P_9) h5_ = (1, 10) ∧ zfx ((2, f_9), S_9, L_9, P_9).1.1 h5_ 1 = false ∧ ((0 + c1 + 1 + 1 + c6 + c8 + 0 ≤ c_ ∧ 0 + s1 + 6 + 2 + s6 + s8 + 0 ≤ s_) ∧ (Q (some (vr h5_)) ((2, f_9), mm_up S_9 h5_ 0 r_4.2, L_9, mm_up P_9 h5_ 1 (some g_9)))))))))) ∧ (hsW tx_7 n_7 b_7 (wo j_7) = false → S_7 101 3 = (b_7 : Int) → ((0 + c1 + 1 + 1 + c6 + 0 ≤ c_ ∧ 0 + s1 + 6 + 2 + s6 + 0 ≤ s_) ∧ (zsh ((2, f_7), S_7, L_7, P_7) h5_ = (1, 10) ∧ zfx ((2, f_7), S_7, L_7, P_7).1.1 h5_ 1 = false ∧ ((0 + c1 + 1 + 1 + c6 + 0 ≤ c_ ∧ 0 + s1 + 6 + 2 + s6 + 0 ≤ s_) ∧ (Q (some (vr h5_)) ((2, f_7), mm_up S_7 h5_ 0 r_4.2, L_7, mm_up P_7 h5_ 1 (none : Option Nat))))))))))))))) ∧ (¬ eqK ((2, f_2), S_2, L_2, P_2) x_3 (1007 + 100) n_3 m_3 → ((0 + c1 + 1 ≤ c_ ∧ 0 + s1 + 6 ≤ s_) ∧ (∃ t_12 : Nat, frF f_2 t_12 ∧ (∀ (S_12 L_12 : Nat → Nat → Int) (P_12 : Nat → Nat → Option Nat) (f_12 : Nat → Nat × Nat), gr t_12 (t_12 + 1) f_2 S_2 L_2 P_2 f_12 S_12 L_12 P_12 → (∀ k, S_12 101 k = S_2 101 k) → f_12 t_12 = (1, 20) → (zsh ((2, f_12), S_12, L_12, P_12) t_12 = (1, 20) ∧ (((0 + c1 + 1 ≤ c_ ∧ 0 + s1 + 6 ≤ s_) ∧ 0 ≤ 5 ∧ X 0 ((2, f_12), S_12, L_12, P_12))))))))))))) : zz_J (zpX1_ruleLine c_ s_) (zz_retP Q X c_ s_) 0 [some (vr 100), none] [] ((2, f), S, L, P) (0, 0) := zz_J.go [] 400 h

theorem rlx_0 {tx : Nat → Int} {n a b : Nat} (hb : rn (qB tx) n a = b) (h : hsW tx n b (wo 7) = false) : rlP tx n a = .inl b := by
  rw [rlP, hb, if_neg (by rw [h]; decide)]
theorem rlx_w {tx : Nat → Int} {n a b w : Nat} (hb : rn (qB tx) n a = b) (h : hsW tx n b (wo 7) = true) (h2 : nmP tx n 0 3 (b + 5) = .inl w) : rlP tx n a = .inl w := by
  rw [rlP, hb, if_pos h, h2]
theorem rlx_n {tx : Nat → Int} {n a b : Nat} {c : Nat × Int} (hb : rn (qB tx) n a = b) (h : hsW tx n b (wo 7) = true) (h2 : nmP tx n 0 3 (b + 5) = .inr c) (h8 : hsW tx n (rn (qB tx) n c.1) (wo 8) = false) : rlP tx n a = .inr (rn (qB tx) n c.1, fun _ => some c.2) := by
  rw [rlP, hb, if_pos h, h2]
  simp only
  rw [if_neg (by rw [h8]; decide)]
theorem rlx_iw {tx : Nat → Int} {n a b w : Nat} {c : Nat × Int} (hb : rn (qB tx) n a = b) (h : hsW tx n b (wo 7) = true) (h2 : nmP tx n 0 3 (b + 5) = .inr c) (h8 : hsW tx n (rn (qB tx) n c.1) (wo 8) = true) (h3 : soP tx n (atP tx n 6) (rn (qB tx) n c.1 + 2) = .inl w) : rlP tx n a = .inl w := by
  rw [rlP, hb, if_pos h, h2]
  simp only
  rw [if_pos h8, h3]
theorem rlx_ir {tx : Nat → Int} {n a b : Nat} {c : Nat × Int} {e : Nat × (Fc → Bool)} (hb : rn (qB tx) n a = b) (h : hsW tx n b (wo 7) = true) (h2 : nmP tx n 0 3 (b + 5) = .inr c) (h8 : hsW tx n (rn (qB tx) n c.1) (wo 8) = true) (h3 : soP tx n (atP tx n 6) (rn (qB tx) n c.1 + 2) = .inr e) : rlP tx n a = .inr (e.1, fun F => bif e.2 F then some c.2 else none) := by
  rw [rlP, hb, if_pos h, h2]
  simp only
  rw [if_pos h8, h3]
theorem zmX1_ruleLine (l : Launch) (hl : l.stackTraces = false) (c_ s_ : Nat) : mm_Spec l yX1_ruleLine (ws_ yX1_ruleLine cX1_ruleLine 2 (some (.object "ChaseCourt$Line"))) (mm_rm 34 c_ s_) (zE (zX1_ruleLine c_ s_)) := by
  refine zz_Met.J hl (by decide) (fun C G hnh => ztX1_ruleLine c_ s_ G hnh) ?_
  rintro as ⟨⟨t_, f⟩, S, L, P⟩ Q X h
  unfold zX1_ruleLine at h
  split at h
  rotate_left
  · exact h.elim
  rename_i h_
  obtain ⟨e1_, e2_, h⟩ := mm_and2 h (fun q => q)
  cases mm_beq e1_
  cases mm_beq e2_
  try dsimp only at h
  refine ⟨rfl, ?_⟩
  refine zz_retP_J ?_
  obtain ⟨tx, n, a, t, hT, ha, han, h6, hf, qw, qr⟩ := h
  have n400 := hT.1
  have t2 := hf.1
  have hx := fun k hk => (hT.2.2 k hk).1
  obtain ⟨b, hb⟩ : ∃ b, rn (qB tx) n a = b := ⟨_, rfl⟩
  have hbn : b ≤ n := by rw [← hb]; exact rn_le han
  have hab : a ≤ b := by rw [← hb]; exact rn_ge han
  have hbb : rn (qB tx) n b = b := by rw [← hb]; exact rn_rn han
  have wlb := wl_le (tx := tx) hbn
  have ewl : rn (qL tx) n b - b = wl tx n b := by unfold wl; rw [hbb]
  have l1 := rn_ge (q := qL tx) hbn
  have l2 := rn_le (q := qL tx) hbn
  have lw := wd_R (tx := tx) hbn
  have bud0 : 10 ≤ c_ ∧ 30 + 5 * wl tx n b ≤ s_ := by
    cases h7 : hsW tx n b (wo 7) with
    | false =>
      obtain ⟨⟨b1, b2⟩, -⟩ := qw _ (rlx_0 hb h7)
      omega
    | true =>
      have e7 : wl tx n b = 5 := wl_hs (by rw [hbb]; exact h7)
      cases hs : rlP tx n a with
      | inl w =>
        obtain ⟨⟨b1, b2⟩, -⟩ := qw w hs
        omega
      | inr r0 =>
        obtain ⟨⟨b1, b2⟩, -⟩ := qr r0 hs
        omega
  refine zwX1_ruleLine_0 ⟨9, 24 + 5 * wl tx n b, by omega, tx, n, a, b, _, t, hT, ha, han, hb, rfl, hf, ⟨Nat.le_refl _, by rw [ewl]; exact Nat.le_refl _⟩, fun f2 S2 L2 P2 g u2 gg r3 r4 r6 hst => ?_⟩
  obtain ⟨x, x1, hk, hxs⟩ := hst.k (L := L2) (by omega) (fun i hi => by have := lw i hi; omega)
  have key := eqK_hs (M := ((2, f2), S2, L2, P2)) (x := x) (n := n) (len := rn (qL tx) n b - b) (j := 7) (by decide) (by omega) hxs
  have tu := gg.le
  refine ⟨Or.inl hk.1, x, _, _, hk, ct_of (j := 7) (by decide), fun e => ?_, fun e => ?_⟩
  · have h7 := key.mp e
    have e7 : wl tx n b = 5 := wl_hs (by rw [hbb]; exact h7)
    have hle := hsW_le hbn h7
    have l7 : (wo 7).length = 5 := rfl
    rw [l7] at hle
    have p5 : rn (qL tx) n b = b + 5 := by omega
    rw [p5] at r3
    refine ⟨by omega, tx, n, b + 5, u2, gg.T t2 hT, r3, hle, gg.fr, by decide, fun w hw S4 L4 P4 f4 g4 e4 => ?_, fun c hc => ?_⟩
    · exact ⟨by omega, by decide, (qw w (rlx_w hb h7 hw)).2 _ _ _ _ _ (gg.tr g4) e4⟩
    · have hc1 := (nmP_ok (tx := tx) (n := n) (lo := 0) (hi := 3) _ hle).1 c hc
      have hcv := nmP_v hc
      have hcb := p3_B (tx := tx) c.1 hc1.2
      have wc := wl_le (tx := tx) hc1.2
      have ewc : rn (qL tx) n (rn (qB tx) n c.1) - rn (qB tx) n c.1 = wl tx n c.1 := rfl
      have gx : gr u2 (u2 + 1) f2 S2 L2 P2 (zrw f2 u2 (1, 10)) (zrw (rS S2 c.1 (rn (qB tx) n (b + 5))) u2 (fun _ => 0)) (zrw L2 u2 (fun _ => 0)) (zrw P2 u2 (fun _ => none)) := (gr.al gg.fr (fun j hj => zrw_n _ _ hj) (fun j hj => zrw_n _ _ hj)).ofS (fun h k hk => rdC_rS h k hk)
      have g1x := gg.tr gx
      have u22 : 2000 ≤ u2 := by omega
      have bud1 : 20 ≤ c_ ∧ 100 + 5 * wl tx n c.1 ≤ s_ := by
        cases h8 : hsW tx n (rn (qB tx) n c.1) (wo 8) with
        | false =>
          obtain ⟨⟨b1, b2⟩, -⟩ := qr _ (rlx_n hb h7 hc h8)
          have b1 : 24 * (rn (qB tx) n c.1 - a) + 20 ≤ c_ := b1
          have b2 : 120 * (rn (qB tx) n c.1 - a) + 200 + 10 * wl tx n (rn (qB tx) n c.1) ≤ s_ := b2
          rw [wl_rn hc1.2] at b2
          omega
        | true =>
          have e8 : wl tx n c.1 = 2 := wl_hs h8
          cases hs : rlP tx n a with
          | inl w =>
            obtain ⟨⟨b1, b2⟩, -⟩ := qw w hs
            omega
          | inr r0 =>
            obtain ⟨⟨b1, b2⟩, -⟩ := qr r0 hs
            omega
      -- what is in the line
      have fin : ∀ (S5 L5 : Nat → Nat → Int) (P5 : Nat → Nat → Option Nat) (f5 : Nat → Nat × Nat) (u5 k : Nat) (o : Option Nat) (q : Fc → Option Int), rlP tx n a = .inr (k, q) → gr (u2 + 1) u5 (zrw f2 u2 (1, 10)) (zrw (rS S2 c.1 (rn (qB tx) n (b + 5))) u2 (fun _ => 0)) (zrw L2 u2 (fun _ => 0)) (zrw P2 u2 (fun _ => none)) f5 S5 L5 P5 → S5 101 3 = (k : Int) → S5 101 6 = 0 → ((o = none ∧ q = fun _ => some c.2) ∨ ∃ (y : Nat) (cd : Fc → Bool) (v : Nat), o = some y ∧ u2 + 1 ≤ v ∧ coT v u5 f5 S5 P5 14 y cd ∧ q = fun F => bif cd F then some c.2 else none) → Q (some (vr u2)) ((2, f5), mm_up S5 u2 0 c.2, L5, mm_up P5 u2 1 o) := by
        intro S5 L5 P5 f5 u5 k o q he g5 k3 k6 ho
        have hS : ∀ j, j ≠ u2 → mm_up S5 u2 0 c.2 j = S5 j := fun j hj => by
          funext x
          rw [up_eq, if_neg (fun c => hj c.1)]
        have hP : ∀ j, j ≠ u2 → mm_up P5 u2 1 o j = P5 j := fun j hj => by
          funext x
          rw [up_eq, if_neg (fun c => hj c.1)]
        have le5 := g5.le
        have s0 : mm_up S5 u2 0 c.2 u2 0 = c.2 := by rw [up_eq, if_pos ⟨rfl, rfl⟩]
        have gfin : gr t u5 f S L P f5 (mm_up S5 u2 0 c.2) L5 (mm_up P5 u2 1 o) := by
          obtain ⟨a0, a1, a2, a3, a4, a5⟩ := g1x.tr g5
          exact ⟨a0, a1, fun h k hh hk => by rw [hS h (by omega)]; exact a2 h k hh hk, a3, fun h hh => by rw [hP h (by omega)]; exact a4 h hh, a5⟩
        refine (qr _ he).2 _ _ _ _ u5 u2 gfin (by rw [hS 101 (by omega)]; exact k3) (by rw [hS 101 (by omega)]; exact k6) ⟨⟨t2, tu, by omega⟩, ?_, ?_, ?_⟩
        · rw [g5.2.1 u2 (by omega), zrw_s]
        · rw [s0]
          exact hcv
        · rw [s0]
          rcases ho with ⟨o1, o2⟩ | ⟨y, cd, v, o1, o2, o3, o4⟩
          · exact Or.inl ⟨by rw [up_eq, if_pos ⟨rfl, rfl⟩]; exact o1, o2⟩
          · refine Or.inr ⟨y, cd, by rw [up_eq, if_pos ⟨rfl, rfl⟩]; exact o1, coT.mo t2 (by omega) (Nat.le_refl _) (coT.fr (fun h h1 h2 => ⟨rfl, hS h (by omega), hP h (by omega)⟩) o3), o4⟩
      have k60 : (zrw (rS S2 c.1 (rn (qB tx) n (b + 5))) u2 (fun _ => 0)) 101 6 = 0 := by
        rw [zrw_n _ _ (by omega), rS_k _ _ _ (by decide) (by decide), r6]
        exact h6
      refine ⟨u2, gg.fr.z (Nat.le_refl _), by omega, 9, 24 + 5 * wl tx n c.1, by omega, tx, n, c.1, _, 8, u2 + 1, g1x.T t2 hT, by rw [zrw_n _ _ (by omega), rS_3], hc1.2, rfl, ⟨rfl, by decide⟩, gx.fr, ⟨Nat.le_refl _, by rw [ewc]; exact Nat.le_refl _⟩, fun f5 S5 L5 P5 u5 g5 k4 k6 => ⟨fun h8 k3 => ?_, fun h8 k3 => ?_⟩⟩
      · have e8 : wl tx n c.1 = 2 := wl_hs h8
        have l8 : (wo 8).length = 2 := rfl
        have hle8 := hsW_le hcb.2 h8
        rw [l8] at k3 hle8
        have g15 := g1x.tr g5
        have so := soP_ok (tx := tx) (atP_ok hx (fun a w h e => ptP_w h e) 6) (rn (qB tx) n c.1 + 2) hle8
        cases hp : soP tx n (atP tx n 6) (rn (qB tx) n c.1 + 2) with
        | inl w =>
          obtain ⟨⟨b1, b2⟩, q⟩ := qw w (rlx_iw hb h7 hc h8 hp)
          refine ⟨24 * (n - (rn (qB tx) n c.1 + 2)) + 64, 120 * (n - (rn (qB tx) n c.1 + 2)) + 390, by omega, tx, n, rn (qB tx) n c.1 + 2, u5, g15.T t2 hT, k3, hle8, by rw [k6]; exact k60, g5.fr, fun w' hw' => ?_, fun r0 hr0 => (by rw [hp] at hr0; cases hr0)⟩
          rw [hp] at hw'
          cases hw'
          exact ⟨⟨Nat.le_refl _, Nat.le_refl _⟩, fun S4 L4 P4 f4 u4 g4 e4 => ⟨by omega, by decide, q _ _ _ _ _ (g15.tr g4) e4⟩⟩
        | inr e =>
          have he := so.1 e hp
          have hr := rlx_ir hb h7 hc h8 hp
          obtain ⟨⟨b1, b2⟩, q⟩ := qr _ hr
          have b1 : 24 * (e.1 - a) + 20 ≤ c_ := b1
          have b2 : 120 * (e.1 - a) + 200 + 10 * wl tx n e.1 ≤ s_ := b2
          refine ⟨24 * (e.1 - (rn (qB tx) n c.1 + 2)) + 24, 120 * (e.1 - (rn (qB tx) n c.1 + 2)) + 228 + 10 * wl tx n e.1, by omega, tx, n, rn (qB tx) n c.1 + 2, u5, g15.T t2 hT, k3, hle8, by rw [k6]; exact k60, g5.fr, fun w' hw' => (by rw [hp] at hw'; cases hw'), fun r0 hr0 => ?_⟩
          rw [hp] at hr0
          cases hr0
          refine ⟨⟨Nat.le_refl _, Nat.le_refl _⟩, fun S4 L4 P4 f4 u4 y g4 m3 m6 hy => ⟨by omega, ?_, zfx_of (zfs_hi u22) 1, by omega, fin S4 L4 P4 f4 u4 e.1 (some y) _ hr (g5.tr g4) m3 m6 (Or.inr ⟨y, e.2, u5, rfl, g5.le, hy, rfl⟩)⟩⟩
          rw [zsh_hi u22, (g5.tr g4).2.1 u2 (by omega), zrw_s]
      · have hr := rlx_n hb h7 hc h8
        refine ⟨by omega, ?_, zfx_of (zfs_hi u22) 1, by omega, fin S5 L5 P5 f5 u5 _ none _ hr g5 k3 (by rw [k6]; exact k60) (Or.inl ⟨rfl, rfl⟩)⟩
        rw [zsh_hi u22, g5.2.1 u2 (by omega), zrw_s]
  · have h7 : hsW tx n b (wo 7) = false := by
      cases c : hsW tx n b (wo 7)
      · rfl
      · exact absurd (key.mpr c) e
    refine ⟨by omega, u2, gg.fr, fun S3 L3 P3 f3 g3 e3 e4 => ⟨(zsh_hi (by omega)).trans e4, by omega, by decide, (qw _ (rlx_0 hb h7)).2 _ _ _ _ _ (gg.tr g3) ((e3 4).trans r4)⟩⟩
