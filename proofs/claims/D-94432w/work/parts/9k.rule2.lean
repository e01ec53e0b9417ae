/-! ===== the component: a rule is told ===== -/
set_option maxRecDepth 100000
def zX1_rule : zz_Sp := fun as M Q X => match as with
  | [.inr (.inr (some h_))] => bif Nat.beq h_ 100 && Nat.beq M.1.1 2 then (∃ (tx_ : Nat → Int) (n_ top_ e_ m_ : Nat) (rs_ : List (Fc → Option Int)), tpT M.2.1 tx_ n_ ∧ rlG 202 e_ m_ top_ M.1.2 M.2.1 M.2.2.2 rs_ ∧ frF M.1.2 top_ ∧ (∀ w_ : Nat, ruP tx_ n_ = .inl w_ → ∀ (S_ L_ : Nat → Nat → Int) (P_ : Nat → Nat → Option Nat) (f_ : Nat → Nat × Nat) (u_ : Nat), top_ ≤ u_ → frF f_ u_ → rdE top_ e_ M.1.2 M.2.1 M.2.2.1 M.2.2.2 f_ S_ L_ P_ → rlG 202 e_ m_ u_ f_ S_ P_ rs_ → S_ 101 1 = 0 → S_ 101 5 = (w_ : Int) → X 1 ((2, f_), S_, L_, P_)) ∧ (∀ r_ : Nat × (Fc → Option Int), ruP tx_ n_ = .inr r_ → (rs_.length = 6 → ∀ (S_ L_ : Nat → Nat → Int) (P_ : Nat → Nat → Option Nat) (f_ : Nat → Nat × Nat) (u_ : Nat), top_ ≤ u_ → frF f_ u_ → rdE top_ e_ M.1.2 M.2.1 M.2.2.1 M.2.2.2 f_ S_ L_ P_ → rlG 202 e_ m_ u_ f_ S_ P_ rs_ → S_ 101 1 = 0 → S_ 101 5 = -1 → X 2 ((2, f_), S_, L_, P_)) ∧ (rs_.length < 6 → ∀ (S_ L_ : Nat → Nat → Int) (P_ : Nat → Nat → Option Nat) (f_ : Nat → Nat × Nat) (u_ y_ k_ : Nat), top_ ≤ u_ → (y_ = e_ ∨ top_ ≤ y_) → frF f_ u_ → rdE top_ e_ M.1.2 M.2.1 M.2.2.1 M.2.2.2 f_ S_ L_ P_ → rlG 202 y_ k_ u_ f_ S_ P_ (rs_ ++ [r_.2]) → S_ 101 1 = 0 → S_ 101 5 = -1 → Q (some (vi (rs_.length : Int))) ((2, f_), S_, L_, P_)))) else False
  | _ => False

theorem hcX1_rule_10 : ∀ q ∈ ([(0, 26, 2)] : mm_H), ∀ E, mm_ex[q.1]? = some E → mm_ct RX1 cX1_rule 3 [((9), (22), (25), (194))] 10 E q.2.1 q.2.2 := by
  intro q hq E hE
  simp only [List.mem_cons, List.not_mem_nil, or_false] at hq
  rcases hq with rfl
  · cases hE
    exact ⟨[], ⟨9, 22, 25, 194⟩, [], rfl, fun z hz => absurd hz List.not_mem_nil, by decide, by decide, q604, q961, by decide, Or.inl ⟨2, rfl, dX1_rule_25, rfl⟩, by decide⟩
def zpX1_rule : zz_P := [(0, zo_ald 1 0), (1, zo_get 4 0 2 2), (4, zo_cvF (mm_rm 36 10110 57020) 7 1 3 0 0 zX4_begins), (7, zo_c 8 vn), (8, zo_ast 9 1), (9, zo_ald 10 0), (10, zo_cvFH (mm_rm 36 10110 57020) 13 1 0 10100 57000 [(0, 26, 2)] zX1_ruleText), (13, zo_ast 14 1), (14, zo_ald 15 0), (15, zo_get 18 0 2 2), (18, zo_c 19 (vi (-1))), (19, zo_puti 22 3 5), (22, zo_goto 30), (26, zo_ald 27 0), (27, zo_cvF (mm_rm 36 10110 57020) 30 1 0 1 6 zX1_fails), (30, zo_ald 31 0), (31, zo_get 34 0 2 0), (34, zo_get 37 1 2 7), (37, zo_cvF (mm_rm 36 10110 57020) 40 1 17 0 0 zJ2_size), (40, zo_c 42 (vi 6)), (42, zo_cne false true 45 53), (45, zo_thr0 (mm_rm 36 10110 57020) 2), (48, zo_dup 49), (49, zo_bad), (52, zo_athr 20 0), (53, zo_ald 54 0), (54, zo_get 57 0 2 0), (57, zo_get 60 1 2 7), (60, zo_ald 61 1), (61, zo_cvG (mm_rm 36 10110 57020) 64 2 17 zJ2_add), (64, zo_pop 65), (65, zo_ald 66 0), (66, zo_get 69 0 2 0), (69, zo_get 72 1 2 7), (72, zo_cvF (mm_rm 36 10110 57020) 75 1 17 0 0 zJ2_size), (75, zo_c 76 (vi 1)), (76, zo_isub 77), (77, zo_iret)]
theorem ztX1_rule {C : mm_C} (G : mm_G C RX1 cX1_rule (some .int) 3 (mm_rm 36 10110 57020)) (hhd : mm_hd C [((9), (22), (25), (194))]) : zz_OKs C zpX1_rule :=
  ⟨zz_of (ok_aload_n G dX1_rule_0 rfl rfl) (z_ald _ _),
   zz_of (ok_get G (nx := 4) (ci := 0) (kd := 2) (k := 2) (RX1, TX1, 19) rfl (by decide) rfl q404 dX1_rule_1 rfl) (z_get _ _ _ _),
   zz_of (ok_calvF G (hhd.q (pc := 4) (by decide +kernel)) (zmX4_begins _ G.hst) (RX4, TX4, 7) rfl q605 q606 q607 q88 q608 (by decide +kernel) ⟨Nat.le_of_ble_eq_true rfl, Nat.le_of_ble_eq_true rfl⟩ dX1_rule_4 rfl) (z_cvF _ _ _ _ _ _ _),
   zz_of (ok_null G dX1_rule_7 rfl) (z_c0 8),
   zz_of (ok_astore_n G dX1_rule_8 rfl rfl (by decide)) (z_ast _ _),
   zz_of (ok_aload_n G dX1_rule_9 rfl rfl) (z_ald _ _),
   zz_of (ok_calvFH G hhd (hs := [(0, 26, 2)]) (pc := 10) hcX1_rule_10 (zmX1_ruleText _ G.hst) (RX1, TX1, 19) rfl q1113 q1115 qs8 q82 q1116 (by decide +kernel) ⟨Nat.le_of_ble_eq_true rfl, Nat.le_of_ble_eq_true rfl⟩ dX1_rule_10 rfl) (z_cvFH _ _ _ _ _ _ _ _),
   zz_of (ok_astore_n G dX1_rule_13 rfl rfl (by decide)) (z_ast _ _),
   zz_of (ok_aload_n G dX1_rule_14 rfl rfl) (z_ald _ _),
   zz_of (ok_get G (nx := 18) (ci := 0) (kd := 2) (k := 2) (RX1, TX1, 19) rfl (by decide) rfl q404 dX1_rule_15 rfl) (z_get _ _ _ _),
   zz_of (ok_iconst G (v := (zI (-1))) dX1_rule_18 (by decide) rfl) (z_cz 19 (-1)),
   zz_of (ok_puti G (nx := 22) (idx := 104) (ci := 3) (k := 5) (RX4, TX4, 7) rfl (by decide) rfl (mm_pwN G (ci := 3) (k := 5) (RX4, TX4, 7) rfl (by decide) rfl q280 dX1_rule_19) rfl) (z_puti _ _ _),
   zz_of (ok_goto G dX1_rule_22 rfl) (z_goto _),
   zz_of (ok_aload_n G dX1_rule_26 rfl rfl) (z_ald _ _),
   zz_of (ok_calvF G (hhd.q (pc := 27) (by decide +kernel)) (zmX1_fails _ G.hst) (RX1, TX1, 19) rfl q1076 q1078 qs7 q82 q1079 (by decide +kernel) ⟨Nat.le_of_ble_eq_true rfl, Nat.le_of_ble_eq_true rfl⟩ dX1_rule_27 rfl) (z_cvF _ _ _ _ _ _ _),
   zz_of (ok_aload_n G dX1_rule_30 rfl rfl) (z_ald _ _),
   zz_of (ok_get G (nx := 34) (ci := 0) (kd := 2) (k := 0) (RX1, TX1, 19) rfl (by decide) rfl q399 dX1_rule_31 rfl) (z_get _ _ _ _),
   zz_of (ok_getN G (nx := 37) (ci := 1) (kd := 2) (k := 7) (RX2, TX2, 11) rfl (by decide) rfl q236 dX1_rule_34 rfl) (z_get _ _ _ _),
   zz_of (ok_calvF G (hhd.q (pc := 37) (by decide +kernel)) (zmJ2_size _ G.hst) (RJ2, TJ2, 3) rfl q591 q592 q593 q86 q594 (by decide +kernel) ⟨Nat.le_of_ble_eq_true rfl, Nat.le_of_ble_eq_true rfl⟩ dX1_rule_37 rfl) (z_cvF _ _ _ _ _ _ _),
   zz_of (ok_bipush G (v := 6) dX1_rule_40 (by decide) rfl) (z_cn 42 6),
   zz_of (ok_cne G dX1_rule_42 rfl rfl) (z_cne _ _ _ _),
   zz_of (th_X1_UnsupportedOperationException G (hhd.q (pc := 52) (by decide +kernel)) dX1_rule_45 dX1_rule_48 dX1_rule_49 dX1_rule_52) (z_thr0 _ _),
   zz_of (ok_dup G dX1_rule_48 rfl) (z_dup _),
   zz_of (ok_bad) (z_bad),
   zz_of (ok_athr G (ci := 20) (i := 0) (RX10, TX10, 6) rfl rfl (hhd.q (pc := 52) (by decide +kernel)) dX1_rule_52) (z_athr _ _),
   zz_of (ok_aload_n G dX1_rule_53 rfl rfl) (z_ald _ _),
   zz_of (ok_get G (nx := 57) (ci := 0) (kd := 2) (k := 0) (RX1, TX1, 19) rfl (by decide) rfl q399 dX1_rule_54 rfl) (z_get _ _ _ _),
   zz_of (ok_getN G (nx := 60) (ci := 1) (kd := 2) (k := 7) (RX2, TX2, 11) rfl (by decide) rfl q236 dX1_rule_57 rfl) (z_get _ _ _ _),
   zz_of (ok_aload_n G dX1_rule_60 rfl rfl) (z_ald _ _),
   zz_of (ok_calv G (hhd.q (pc := 61) (by decide +kernel)) (zmJ2_add _ G.hst) (RJ2, TJ2, 3) rfl q1256 q1257 q1258 q86 q1259 (by decide +kernel) ⟨Nat.le_of_ble_eq_true rfl, Nat.le_of_ble_eq_true rfl⟩ dX1_rule_61 rfl) (z_cvG _ _ _ _ _),
   zz_of (ok_pop G dX1_rule_64 rfl) (z_pop _),
   zz_of (ok_aload_n G dX1_rule_65 rfl rfl) (z_ald _ _),
   zz_of (ok_get G (nx := 69) (ci := 0) (kd := 2) (k := 0) (RX1, TX1, 19) rfl (by decide) rfl q399 dX1_rule_66 rfl) (z_get _ _ _ _),
   zz_of (ok_getN G (nx := 72) (ci := 1) (kd := 2) (k := 7) (RX2, TX2, 11) rfl (by decide) rfl q236 dX1_rule_69 rfl) (z_get _ _ _ _),
   zz_of (ok_calvF G (hhd.q (pc := 72) (by decide +kernel)) (zmJ2_size _ G.hst) (RJ2, TJ2, 3) rfl q591 q592 q593 q86 q594 (by decide +kernel) ⟨Nat.le_of_ble_eq_true rfl, Nat.le_of_ble_eq_true rfl⟩ dX1_rule_72 rfl) (z_cvF _ _ _ _ _ _ _),
   zz_of (ok_iconst G (v := 1) dX1_rule_75 (by decide) rfl) (z_cn 76 1),
   zz_of (ok_isub G dX1_rule_76 rfl) (z_isub _),
   zz_of (ok_iret G dX1_rule_77) (z_iret), trivial⟩

theorem zwX1_rule_0 {Q : Option zv → zz_M → Prop} {X : Nat → zz_M → Prop} {f : Nat → Nat × Nat} {S L : Nat → Nat → Int} {P : Nat → Nat → Option Nat}  (h : (0 + 0 ≤ 10110 ∧ 0 + 0 ≤ 57020) ∧ (((0 + 10100 ≤ 10110 ∧ 0 + 57000 ≤ 57020) ∧ (∃ (tx_2 : Nat → Int) (n_2 t_2 : Nat), qT (mm_up (mm_up (mm_up (mm_up S 101 2 (S 101 1)) 101 1 0) 101 3 0) 101 6 0) tx_2 n_2 ∧ (mm_up (mm_up (mm_up (mm_up S 101 2 (S 101 1)) 101 1 0) 101 3 0) 101 6 0) 101 3 = 0 ∧ (mm_up (mm_up (mm_up (mm_up S 101 2 (S 101 1)) 101 1 0) 101 3 0) 101 6 0) 101 6 = 0 ∧ frF f t_2 ∧ (∀ w_2 : Nat, ruP tx_2 n_2 = .inl w_2 → ∀ (S_2 L_2 : Nat → Nat → Int) (P_2 : Nat → Nat → Option Nat) (f_2 : Nat → Nat × Nat) (u_2 : Nat), gr t_2 u_2 f (mm_up (mm_up (mm_up (mm_up S 101 2 (S 101 1)) 101 1 0) 101 3 0) 101 6 0) L P f_2 S_2 L_2 P_2 → S_2 101 4 = (w_2 : Int) → ((10100 + 1 ≤ 10110 ∧ 57000 + 6 ≤ 57020) ∧ (((10101 ≤ 10110 ∧ 57006 ≤ 57020) ∧ 1 ≤ 5 ∧ X 1 ((2, f_2), mm_up S_2 101 5 (S_2 101 4), L_2, P_2))))) ∧ (∀ r_2 : Nat × (Fc → Option Int), ruP tx_2 n_2 = .inr r_2 → ∀ (S_2 L_2 : Nat → Nat → Int) (P_2 : Nat → Nat → Option Nat) (f_2 : Nat → Nat × Nat) (u_2 g_2 : Nat), gr t_2 u_2 f (mm_up (mm_up (mm_up (mm_up S 101 2 (S 101 1)) 101 1 0) 101 3 0) 101 6 0) L P f_2 S_2 L_2 P_2 → ruT t_2 u_2 f_2 S_2 P_2 g_2 r_2.2 → ((10100 + 0 ≤ 10110 ∧ 57000 + 0 ≤ 57020) ∧ ((R32 ((mm_up S_2 101 5 (-1)) 202 2) ∧ ((¬ ((mm_up S_2 101 5 (-1)) 202 2) = 6 → ∃ c5 s5 : Nat, (10100 + c5 ≤ 10110 ∧ 57000 + s5 ≤ 57020) ∧ (∃ a_6 b_6 m_6 n_6 ci_6 : Nat, lsR ((2, f_2), mm_up S_2 101 5 (-1), L_2, P_2) 202 a_6 m_6 n_6 ∧ (zsh ((2, f_2), mm_up S_2 101 5 (-1), L_2, P_2) g_2 = (1, ci_6) ∧ mm_mem mm_obs ci_6 = true) ∧ (n_6 < m_6 → (∀ (S_6 : Nat → Nat → Int) (P_6 : Nat → Nat → Option Nat), (∀ j k, ¬ (j = 202 ∧ (k = 0 ∨ k = 2)) → S_6 j k = (mm_up S_2 101 5 (-1)) j k) → S_6 202 2 = (n_6 : Int) + 1 → (∀ j k, ¬ (j = a_6 ∧ k = n_6) → P_6 j k = P_2 j k) → P_6 a_6 n_6 = some g_2 → ((10100 + c5 + 0 ≤ 10110 ∧ 57000 + s5 + 0 ≤ 57020) ∧ (((10100 + c5 + 0 ≤ 10110 ∧ 57000 + s5 + 0 ≤ 57020) ∧ (Q (some (vi ((S_6 202 2) - 1))) ((2, f_2), S_6, L_2, P_6))))))) ∧ (n_6 = m_6 → zfree ((2, f_2), mm_up S_2 101 5 (-1), L_2, P_2) b_6 ∧ (1 ≤ c5 ∧ lsN m_6 ≤ s5) ∧ (∀ (S_6 : Nat → Nat → Int) (P_6 : Nat → Nat → Option Nat), (∀ j k, ¬ (j = 202 ∧ (k = 0 ∨ k = 2)) → j ≠ b_6 → S_6 j k = (mm_up S_2 101 5 (-1)) j k) → S_6 202 2 = (n_6 : Int) + 1 → (∀ j k, j ≠ b_6 → ¬ (j = 202 ∧ k = 1) → P_6 j k = P_2 j k) → P_6 202 1 = some b_6 → (∀ i : Nat, i < m_6 → P_6 b_6 i = zpt ((2, f_2), mm_up S_2 101 5 (-1), L_2, P_2) a_6 i) → P_6 b_6 n_6 = some g_2 → ((10100 + c5 + 0 ≤ 10110 ∧ 57000 + s5 + 0 ≤ 57020) ∧ (((10100 + c5 + 0 ≤ 10110 ∧ 57000 + s5 + 0 ≤ 57020) ∧ (Q (some (vi ((S_6 202 2) - 1))) ((2, zrw f_2 b_6 (7, lsN m_6)), S_6, zrw L_2 b_6 (fun _ => 0), P_6))))))))) ∧ (((mm_up S_2 101 5 (-1)) 202 2) = 6 → (10100 + 1 ≤ 10110 ∧ 57000 + 6 ≤ 57020) ∧ (((10101 ≤ 10110 ∧ 57006 ≤ 57020) ∧ 2 ≤ 5 ∧ X 2 ((2, f_2), mm_up S_2 101 5 (-1), L_2, P_2))))))))))))) : zz_J zpX1_rule (zz_retP Q X 10110 57020) 0 [some (vr 100), none, none] [] ((2, f), S, L, P) (0, 0) := zz_J.go [] 400 h

theorem zmX1_rule (l : Launch) (hl : l.stackTraces = false) : mm_Spec l yX1_rule (wsW_ yX1_rule cX1_rule 3 (some .int) [((9), (22), (25), (194))]) (mm_rm 36 10110 57020) (zE zX1_rule) := by
  refine zz_Met.JHN hl (by decide) (fun C G hhd => ztX1_rule G hhd) ?_
  rintro as ⟨⟨t_, f⟩, S, L, P⟩ Q X h
  unfold zX1_rule at h
  split at h
  rotate_left
  · exact h.elim
  rename_i h_
  obtain ⟨e1_, e2_, h⟩ := mm_and2 h (fun q => q)
  cases mm_beq e1_
  cases mm_beq e2_
  try dsimp only at h
  refine ⟨rfl, ?_⟩
  refine zz_retP_J ?_
  obtain ⟨tx, n, top, e, m, rs, ⟨n400, hlen, htx⟩, hG, hf, qw, qr⟩ := h
  have t2 := hf.1
  obtain ⟨S0, hS0⟩ : ∃ S0, mm_up (mm_up (mm_up (mm_up S 101 2 (S 101 1)) 101 1 0) 101 3 0) 101 6 0 = S0 := ⟨_, rfl⟩
  have so : ∀ h, h ≠ 101 → S0 h = S h := fun h hh => by
    rw [← hS0]
    funext k
    simp only [up_eq, hh, false_and, if_false]
  have s1 : S0 101 1 = 0 := by rw [← hS0]; simp [up_eq]
  have s2 : S0 101 2 = (n : Int) := by rw [← hS0]; simp [up_eq, hlen]
  have s3 : S0 101 3 = 0 := by rw [← hS0]; simp [up_eq]
  have s6 : S0 101 6 = 0 := by rw [← hS0]; simp [up_eq]
  have hT : qT S0 tx n := ⟨n400, s2, fun k hk => ⟨(htx k hk).1, by rw [so 102 (by decide)]; exact (htx k hk).2⟩⟩
  -- what the text's reading leaves
  have base : ∀ (S2 L2 : Nat → Nat → Int) (P2 : Nat → Nat → Option Nat) (f2 : Nat → Nat × Nat) (u : Nat) (v : Int), gr top u f S0 L P f2 S2 L2 P2 → rdE top e f S L P f2 (mm_up S2 101 5 v) L2 P2 ∧ rlG 202 e m u f2 (mm_up S2 101 5 v) P2 rs ∧ mm_up S2 101 5 v 101 1 = 0 ∧ mm_up S2 101 5 v 101 5 = v := by
    intro S2 L2 P2 f2 u v g
    have sx : ∀ h k, h < top → h ≠ 101 → mm_up S2 101 5 v h k = S h k := fun h k hh h1 => by
      rw [up_eq, if_neg (fun c => h1 c.1), g.2.2.1 h k hh (fun c => h1 c.1), so h h1]
    refine ⟨⟨g.2.1, fun h k hh h1 _ => sx h k hh h1, g.2.2.2.1, fun h k hh _ _ => by rw [g.2.2.2.2.1 h hh]⟩, hG.fr g.le (sx 202 2 (by omega) (by decide)) (by rw [g.2.2.2.2.1 202 (by omega)]) (fun h h1 h2 => ⟨g.2.1 h h2, ?_, g.2.2.2.2.1 h h2⟩), ?_, ?_⟩
    · funext k
      exact sx h k h2 (by omega)
    · rw [up_eq, if_neg (by decide), g.2.2.1 101 1 (by omega) (fun c => by have := c.2; omega)]
      exact s1
    · rw [up_eq, if_pos ⟨rfl, rfl⟩]
  refine zwX1_rule_0 ⟨by decide, by decide, tx, n, top, ?_⟩
  rw [hS0]
  refine ⟨hT, s3, s6, hf, fun w hw S2 L2 P2 f2 u g k4 => ⟨by decide, by decide, by decide, ?_⟩, fun r hr S2 L2 P2 f2 u x g hx => ⟨by decide, ?_⟩⟩
  · obtain ⟨b1, b2, b3, b4⟩ := base S2 L2 P2 f2 u (S2 101 4) g
    exact qw w hw _ _ _ _ u g.le g.fr b1 b2 b3 (b4.trans k4)
  · obtain ⟨b1, b2, b3, b4⟩ := base S2 L2 P2 f2 u (-1) g
    obtain ⟨q6, q5⟩ := qr r hr
    have hl : mm_up S2 101 5 (-1) 202 2 = (rs.length : Int) := b2.2.1
    have h6 := hG.2.2.1
    rw [hl]
    refine ⟨by omega, fun ne => ?_, fun eq => ⟨by decide, by decide, by decide, q6 (by omega) _ _ _ _ u g.le g.fr b1 b2 b3 b4⟩⟩
    have le := g.le
    have hx' : ruT top u f2 (mm_up S2 101 5 (-1)) P2 x r.2 := ruT.V.2.2 _ _ _ _ _ _ _ _ _ _ hx (fun h h1 h2 => ⟨rfl, by funext k; rw [up_eq, if_neg (by omega)], rfl⟩)
    have hG2 : rlG 202 e m top f2 (mm_up S2 101 5 (-1)) P2 rs := by
      refine hG.fr (Nat.le_refl _) ?_ (by rw [g.2.2.2.2.1 202 (by omega)]) (fun h h1 h2 => ⟨g.2.1 h h2, ?_, g.2.2.2.2.1 h h2⟩)
      · rw [up_eq, if_neg (by decide), g.2.2.1 202 2 (by omega) (fun c => by have := c.1; omega), so 202 (by decide)]
      · funext k
        exact b1.2.1 h k h2 (by omega) (fun c => by have := c.1; omega)
    refine ⟨1, 10, by decide, ?_⟩
    refine rlG.add (R := fun f' S' L' P' => (10100 + 1 + 0 ≤ 10110 ∧ 57000 + 10 + 0 ≤ 57020) ∧ (10100 + 1 + 0 ≤ 10110 ∧ 57000 + 10 + 0 ≤ 57020) ∧ Q (some (vi (S' 202 2 - 1))) ((2, f'), S', L', P')) hG2 g.fr le hx' (by omega) ⟨by decide, by decide⟩ (fun f' S' L' P' u' e' m' a1 a0 a2 a3 a4 a5 a6 a7 a8 => ⟨by decide, by decide, ?_⟩)
    rw [a8, show (rs.length : Int) + 1 - 1 = rs.length by omega]
    refine q5 (by omega) S' L' P' f' u' e' m' (by omega) (a0.imp id (fun z => by omega)) a2 ⟨fun h hh => (a3 h (by omega)).trans (b1.1 h hh), fun h k hh h1 hk => (a4 h k (by omega) hk).trans (b1.2.1 h k hh h1 hk), fun h hh => (a5 h (by omega)).trans (b1.2.2.1 h hh), fun h k hh hk he => (a6 h k (by omega) hk he).trans (b1.2.2.2 h k hh hk he)⟩ a7 ?_ ?_
    · rw [a4 101 1 (by omega) (fun c => by have := c.1; omega)]
      exact b3
    · rw [a4 101 5 (by omega) (fun c => by have := c.1; omega)]
      exact b4
