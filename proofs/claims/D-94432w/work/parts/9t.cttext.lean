/-! ===== the component's parser: a text of the court ===== -/
set_option maxRecDepth 100000
def zX1_courtText : zz_Sp := fun as M Q X => match as with
  | [.inr (.inr (some h_)), .inr (.inr (some d))] => bif Nat.beq h_ 100 && Nat.beq M.1.1 2 then (∃ (tx_ w_ : Nat → Int) (n_ t_ : Nat), qT M.2.1 tx_ n_ ∧ M.2.1 101 3 = 0 ∧ frF M.1.2 t_ ∧ (2000 ≤ d ∧ d + 26 ≤ t_) ∧ drS ((2, M.1.2), M.2.1, M.2.2.1, M.2.2.2) d ∧ drW M.2.1 d w_ ∧ cG w_ ∧ (∀ v_ : Nat, ctW tx_ n_ w_ = .inl v_ → ∀ (y_ : Nat → Int) (S_ L_ : Nat → Nat → Int) (P_ : Nat → Nat → Option Nat) (f_ : Nat → Nat × Nat) (u_ : Nat), gr t_ u_ M.1.2 (drU M.2.1 d y_) M.2.2.1 M.2.2.2 f_ S_ L_ P_ → S_ 101 4 = (v_ : Int) → X 0 ((2, f_), S_, L_, P_)) ∧ (∀ r_ : Nat → Int, ctW tx_ n_ w_ = .inr r_ → ∀ (S_ L_ : Nat → Nat → Int) (P_ : Nat → Nat → Option Nat) (f_ : Nat → Nat × Nat) (u_ : Nat), gr t_ u_ M.1.2 (drU M.2.1 d r_) M.2.2.1 M.2.2.2 f_ S_ L_ P_ → Q none ((2, f_), S_, L_, P_))) else False
  | _ => False

def zpX1_courtText : zz_P := [(0, zo_ald 1 0), (1, zo_get 4 0 2 2), (4, zo_callv 7 1 3 zX4_isOver), (7, zo_zifne 10 32), (10, zo_c 11 (vi 0)), (11, zo_ist 12 2), (12, zo_ald 13 0), (13, zo_ild 14 2), (14, zo_cvG (mm_rm 11 312 28600) 17 2 0 zX1_noMore), (17, zo_ald 18 0), (18, zo_ald 19 1), (19, zo_cvF (mm_rm 11 312 28600) 22 2 0 24 2200 zX1_courtLine), (22, zo_inc 25 2 1), (25, zo_ald 26 0), (26, zo_cvF (mm_rm 11 312 28600) 29 1 0 1 6 zX1_goesOn), (29, zo_zifne 32 12), (32, zo_ald 33 1), (33, zo_callvp 36 1 1 zX2_isWhole), (36, zo_zifne 39 47), (39, zo_ald 40 0), (40, zo_get 43 0 2 2), (43, zo_cvF (mm_rm 11 312 28600) 46 1 3 1 6 zX4_wrong), (46, zo_athr 20 0), (47, zo_vret)]
theorem ztX1_courtText {C : mm_C} (G : mm_G C RX1 cX1_courtText none 3 (mm_rm 11 312 28600)) (hnh : mm_nh C) : zz_OKs C zpX1_courtText :=
  ⟨zz_of (ok_aload_n G dX1_courtText_0 rfl rfl) (z_ald _ _),
   zz_of (ok_get G (nx := 4) (ci := 0) (kd := 2) (k := 2) (RX1, TX1, 19) rfl (by decide) rfl q404 dX1_courtText_1 rfl) (z_get _ _ _ _),
   zz_of (ok_callv G hnh (zmX4_isOver _ G.hst) rfl rfl (RX4, TX4, 7) rfl q613 q614 q615 q88 q616 (by decide +kernel) ⟨by decide, by decide⟩ dX1_courtText_4 rfl) (z_callv _ _ _ _),
   zz_of (ok_ifne G dX1_courtText_7 rfl rfl) (z_zifne _ _),
   zz_of (ok_iconst G (v := 0) dX1_courtText_10 (by decide) rfl) (z_cn 11 0),
   zz_of (ok_istore_n G dX1_courtText_11 rfl rfl (by decide)) (z_ist _ _),
   zz_of (ok_aload_n G dX1_courtText_12 rfl rfl) (z_ald _ _),
   zz_of (ok_iload_n G dX1_courtText_13 rfl rfl) (z_ild _ _),
   zz_of (ok_calv G (hnh.q 14) (zmX1_noMore _ G.hst) (RX1, TX1, 19) rfl q625 q627 qs3 q82 q628 (by decide +kernel) ⟨Nat.le_of_ble_eq_true rfl, Nat.le_of_ble_eq_true rfl⟩ dX1_courtText_14 rfl) (z_cvG _ _ _ _ _),
   zz_of (ok_aload_n G dX1_courtText_17 rfl rfl) (z_ald _ _),
   zz_of (ok_aload_n G dX1_courtText_18 rfl rfl) (z_ald _ _),
   zz_of (ok_calvF G (hnh.q 19) (zmX1_courtLine _ G.hst) (RX1, TX1, 19) rfl q979 q981 qs5 q82 q982 (by decide +kernel) ⟨Nat.le_of_ble_eq_true rfl, Nat.le_of_ble_eq_true rfl⟩ dX1_courtText_19 rfl) (z_cvF _ _ _ _ _ _ _),
   zz_of (ok_iinc G (v := 1) dX1_courtText_22 (by decide) rfl (by decide)) (z_incn 25 2 1),
   zz_of (ok_aload_n G dX1_courtText_25 rfl rfl) (z_ald _ _),
   zz_of (ok_calvF G (hnh.q 26) (zmX1_goesOn _ G.hst) (RX1, TX1, 19) rfl q1064 q1066 qs6 q82 q1067 (by decide +kernel) ⟨Nat.le_of_ble_eq_true rfl, Nat.le_of_ble_eq_true rfl⟩ dX1_courtText_26 rfl) (z_cvF _ _ _ _ _ _ _),
   zz_of (ok_ifne G dX1_courtText_29 rfl rfl) (z_zifne _ _),
   zz_of (ok_aload_n G dX1_courtText_32 rfl rfl) (z_ald _ _),
   zz_of (ok_callv G hnh (zmX2_isWhole _ G.hst) rfl rfl (RX2, TX2, 11) rfl q1072 q1073 q1074 q83 q1075 (by decide +kernel) ⟨by decide, by decide⟩ dX1_courtText_33 rfl) (z_callvp _ _ _ _),
   zz_of (ok_ifne G dX1_courtText_36 rfl rfl) (z_zifne _ _),
   zz_of (ok_aload_n G dX1_courtText_39 rfl rfl) (z_ald _ _),
   zz_of (ok_get G (nx := 43) (ci := 0) (kd := 2) (k := 2) (RX1, TX1, 19) rfl (by decide) rfl q404 dX1_courtText_40 rfl) (z_get _ _ _ _),
   zz_of (ok_calvF G (hnh.q 43) (zmX4_wrong _ G.hst) (RX4, TX4, 7) rfl q955 q956 q957 q88 q958 (by decide +kernel) ⟨Nat.le_of_ble_eq_true rfl, Nat.le_of_ble_eq_true rfl⟩ dX1_courtText_43 rfl) (z_cvF _ _ _ _ _ _ _),
   zz_of (ok_athr G (ci := 20) (i := 0) (RX10, TX10, 6) rfl rfl (hnh.q 46) dX1_courtText_46) (z_athr _ _),
   zz_of (ok_vret G dX1_courtText_47) (z_vret), trivial⟩

theorem zwX1_courtText_0 {Q : Option zv → zz_M → Prop} {X : Nat → zz_M → Prop} {f : Nat → Nat × Nat} {S L : Nat → Nat → Int} {P : Nat → Nat → Option Nat} {d : Nat} (h : (∃ (tx_1 : Nat → Int) (n_1 a_1 b_1 : Nat), qT S tx_1 n_1 ∧ S 101 3 = (a_1 : Int) ∧ a_1 ≤ n_1 ∧ (rn (qB tx_1) n_1 a_1 = b_1 ∧ (b_1 = n_1 → (zz_J zpX1_courtText (zz_retP Q X 312 28600) 32 [some (vr 100), some (vr d), none] [] ((2, f), rS S b_1 b_1, L, P) (0, 0))) ∧ (b_1 ≠ n_1 → (zz_J zpX1_courtText (zz_retP Q X 312 28600) 12 [some (vr 100), some (vr d), some (vi 0)] [] ((2, f), rS S b_1 b_1, L, P) (0, 0)))))) : zz_J zpX1_courtText (zz_retP Q X 312 28600) 0 [some (vr 100), some (vr d), none] [] ((2, f), S, L, P) (0, 0) := zz_J.go [(12, []), (32, [2])] 400 h
theorem zwX1_courtText_12 {Q : Option zv → zz_M → Prop} {X : Nat → zz_M → Prop} {f : Nat → Nat × Nat} {S L : Nat → Nat → Int} {P : Nat → Nat → Option Nat} {u_ v_ : Nat} {h1 : Nat} {x2 : Int} (h : ∃ c1 s1 : Nat, (u_ + c1 ≤ 312 ∧ v_ + s1 ≤ 28600) ∧ (∃ (tx_2 : Nat → Int) (n_2 a_2 t_2 : Nat), qT S tx_2 n_2 ∧ S 101 3 = (a_2 : Int) ∧ a_2 ≤ n_2 ∧ frF f t_2 ∧ R32 x2 ∧ (x2 < 12 → ((u_ + c1 + 24 ≤ 312 ∧ v_ + s1 + 2200 ≤ 28600) ∧ (∃ (tx_3 w_3 : Nat → Int) (n_3 a_3 t_3 : Nat), qT S tx_3 n_3 ∧ S 101 3 = (a_3 : Int) ∧ a_3 ≤ n_3 ∧ frF f t_3 ∧ (2000 ≤ h1 ∧ h1 + 26 ≤ t_3) ∧ drS ((2, f), S, L, P) h1 ∧ drW S h1 w_3 ∧ (∀ v_3 : Nat, coP tx_3 n_3 a_3 = .inl v_3 → ∀ (S_3 L_3 : Nat → Nat → Int) (P_3 : Nat → Nat → Option Nat) (f_3 : Nat → Nat × Nat) (u_3 : Nat), gr t_3 u_3 f S L P f_3 S_3 L_3 P_3 → S_3 101 4 = (v_3 : Int) → ((u_ + c1 + 24 ≤ 312 ∧ v_ + s1 + 2200 ≤ 28600) ∧ 0 ≤ 5 ∧ X 0 ((2, f_3), S_3, L_3, P_3))) ∧ (∀ r_3 : Nat × Rw, coP tx_3 n_3 a_3 = .inr r_3 → ∀ (S_3 L_3 : Nat → Nat → Int) (P_3 : Nat → Nat → Option Nat) (f_3 : Nat → Nat × Nat) (u_3 : Nat), gr t_3 u_3 f (drU S h1 (r_3.2 w_3)) L P f_3 S_3 L_3 P_3 → S_3 101 3 = (r_3.1 : Int) → ((u_ + c1 + 24 + 1 ≤ 312 ∧ v_ + s1 + 2200 + 6 ≤ 28600) ∧ (∃ (tx_4 : Nat → Int) (n_4 a_4 b_4 t_4 : Nat), qT S_3 tx_4 n_4 ∧ S_3 101 3 = (a_4 : Int) ∧ a_4 ≤ n_4 ∧ frF f_3 t_4 ∧ rn (qB tx_4) n_4 a_4 = b_4 ∧ (b_4 = n_4 → (zz_J zpX1_courtText (zz_retP Q X 312 28600) 32 [some (vr 100), some (vr h1), none] [] ((2, f_3), rS S_3 b_4 b_4, L_3, P_3) (u_ + c1 + 24 + 1, v_ + s1 + 2200 + 6))) ∧ (b_4 ≠ n_4 → isSg tx_4 n_4 b_4 59 = true → (zz_J zpX1_courtText (zz_retP Q X 312 28600) 12 [some (vr 100), some (vr h1), some (vi (x2 + 1))] [] ((2, f_3), rS S_3 (b_4 + 1) b_4, L_3, P_3) (u_ + c1 + 24 + 1, v_ + s1 + 2200 + 6))) ∧ (b_4 ≠ n_4 → isSg tx_4 n_4 b_4 59 = false → ∀ (S_4 L_4 : Nat → Nat → Int) (P_4 : Nat → Nat → Option Nat) (f_4 : Nat → Nat × Nat) (u_4 : Nat), gr t_4 u_4 f_3 S_3 L_3 P_3 f_4 S_4 L_4 P_4 → S_4 101 4 = (b_4 : Int) → ((u_ + c1 + 24 + 1 ≤ 312 ∧ v_ + s1 + 2200 + 6 ≤ 28600) ∧ 0 ≤ 5 ∧ X 0 ((2, f_4), S_4, L_4, P_4))))))))) ∧ (12 ≤ x2 → (10 ≤ c1 ∧ 30 + 5 * wl tx_2 n_2 a_2 ≤ s1) ∧ ∀ (S_2 L_2 : Nat → Nat → Int) (P_2 : Nat → Nat → Option Nat) (f_2 : Nat → Nat × Nat) (u_2 : Nat), gr t_2 u_2 f S L P f_2 S_2 L_2 P_2 → S_2 101 4 = ((rn (qB tx_2) n_2 a_2 : Nat) : Int) → ((u_ + c1 ≤ 312 ∧ v_ + s1 ≤ 28600) ∧ 0 ≤ 5 ∧ X 0 ((2, f_2), S_2, L_2, P_2))))) : zz_J zpX1_courtText (zz_retP Q X 312 28600) 12 [some (vr 100), some (vr h1), some (vi x2)] [] ((2, f), S, L, P) (u_, v_) := zz_J.go [(12, []), (32, [2])] 400 h
theorem zwX1_courtText_32 {Q : Option zv → zz_M → Prop} {X : Nat → zz_M → Prop} {f : Nat → Nat × Nat} {S L : Nat → Nat → Int} {P : Nat → Nat → Option Nat} {u_ v_ : Nat} {h1 : Nat} (h : (zsh ((2, f), S, L, P) h1 = (1, 1) ∨ zsh ((2, f), S, L, P) h1 = (17, 1)) ∧ (∃ w_1 : Nat → Int, drS ((2, f), S, L, P) h1 ∧ drW S h1 w_1 ∧ cG w_1 ∧ (whB w_1 16 = true → ((u_ ≤ 312 ∧ v_ ≤ 28600) ∧ (Q none ((2, f), S, L, P)))) ∧ (whB w_1 16 = false → ((u_ + 1 ≤ 312 ∧ v_ + 6 ≤ 28600) ∧ (∃ t_2 : Nat, frF f t_2 ∧ (∀ (S_2 L_2 : Nat → Nat → Int) (P_2 : Nat → Nat → Option Nat) (f_2 : Nat → Nat × Nat), gr t_2 (t_2 + 1) f S L P f_2 S_2 L_2 P_2 → (∀ k, S_2 101 k = S 101 k) → f_2 t_2 = (1, 20) → (zsh ((2, f_2), S_2, L_2, P_2) t_2 = (1, 20) ∧ (((u_ + 1 ≤ 312 ∧ v_ + 6 ≤ 28600) ∧ 0 ≤ 5 ∧ X 0 ((2, f_2), S_2, L_2, P_2)))))))))) : zz_J zpX1_courtText (zz_retP Q X 312 28600) 32 [some (vr 100), some (vr h1), none] [] ((2, f), S, L, P) (u_, v_) := zz_J.go [(12, []), (32, [2])] 400 h

theorem coP_rn {tx : Nat → Int} {n a : Nat} (ha : a ≤ n) : coP tx n (rn (qB tx) n a) = coP tx n a := by
  unfold coP
  rw [rn_rn ha]
theorem drU_cg {S T : Nat → Nat → Int} {d h k : Nat} {w : Nat → Int} (e : T h k = S h k) : drU T d w h k = drU S d w h k := by
  unfold drU
  rw [e]
theorem gr_dr {t u v d : Nat} {f f1 f2 : Nat → Nat × Nat} {S S1 S2 L L1 L2 : Nat → Nat → Int} {P P1 P2 : Nat → Nat → Option Nat} {w1 w2 : Nat → Int} (g1 : gr t u f (drU S d w1) L P f1 S1 L1 P1) (g2 : gr u v f1 (drU S1 d w2) L1 P1 f2 S2 L2 P2) : gr t v f (drU S d w2) L P f2 S2 L2 P2 := by
  have le1 := g1.1
  have le2 := g2.1
  refine ⟨by omega, fun h hh => (g2.2.1 h (by omega)).trans (g1.2.1 h hh), fun h k hh hk => ?_, fun h hh => (g2.2.2.2.1 h (by omega)).trans (g1.2.2.2.1 h hh), fun h hh => (g2.2.2.2.2.1 h (by omega)).trans (g1.2.2.2.2.1 h hh), g2.2.2.2.2.2⟩
  rw [g2.2.2.1 h k (by omega) hk, drU_cg (g1.2.2.1 h k hh hk), drU_U]
theorem gr_dW {t u d : Nat} {f f1 : Nat → Nat × Nat} {S S1 L L1 : Nat → Nat → Int} {P P1 : Nat → Nat → Option Nat} {w : Nat → Int} (d2 : 2000 ≤ d) (dt : d + 26 ≤ t) (g : gr t u f (drU S d w) L P f1 S1 L1 P1) : drW S1 d w := by
  obtain ⟨h1, h2, h3, h4⟩ := drW_U (S := S) (d := d) (w := w)
  have e : ∀ h k, d ≤ h → h < d + 26 → S1 h k = drU S d w h k := fun h k a b => g.2.2.1 h k (by omega) (fun c => by have := c.1; omega)
  exact ⟨fun i k hi hk => (e _ _ (by omega) (by omega)).trans (h1 i k hi hk), (e _ _ (by omega) (by omega)).trans h2, (e _ _ (by omega) (by omega)).trans h3, (e _ _ (by omega) (by omega)).trans h4⟩
theorem gr_dT {t u d n : Nat} {tx : Nat → Int} {f f1 : Nat → Nat × Nat} {S S1 L L1 : Nat → Nat → Int} {P P1 : Nat → Nat → Option Nat} {w : Nat → Int} (d2 : 2000 ≤ d) (t2 : 2000 ≤ t) (g : gr t u f (drU S d w) L P f1 S1 L1 P1) (hT : qT S tx n) : qT S1 tx n := by
  refine g.T t2 ⟨hT.1, ?_, fun k hk => ⟨(hT.2.2 k hk).1, ?_⟩⟩
  · rw [drU_o (by omega)]; exact hT.2.1
  · rw [drU_o (by omega)]; exact (hT.2.2 k hk).2
theorem zmX1_courtText (l : Launch) (hl : l.stackTraces = false) : mm_Spec l yX1_courtText (ws_ yX1_courtText cX1_courtText 3 none) (mm_rm 11 312 28600) (zE zX1_courtText) := by
  refine zz_Met.J hl (by decide) (fun C G hnh => ztX1_courtText G hnh) ?_
  rintro as ⟨⟨t_, f⟩, S, L, P⟩ Q X h
  unfold zX1_courtText at h
  split at h
  rotate_left
  · exact h.elim
  rename_i h_ d
  obtain ⟨e1_, e2_, h⟩ := mm_and2 h (fun q => q)
  cases mm_beq e1_
  cases mm_beq e2_
  try dsimp only at h
  refine ⟨rfl, ?_⟩
  refine zz_retP_J ?_
  obtain ⟨tx, w, n, t, hT, ha, hf, ⟨d2, dt⟩, hD, hW, hG, qw, qr⟩ := h
  have n400 := hT.1
  have t2 := hf.1
  have dr : ∀ {u : Nat} {y : Nat → Int} {f' : Nat → Nat × Nat} {S' L' : Nat → Nat → Int} {P' : Nat → Nat → Option Nat} (S2 L2 : Nat → Nat → Int), gr t u f (drU S d y) L P f' S' L' P' → drS ((2, f'), S2, L2, P') d := fun S2 L2 g => hD.fr d2 (fun h h1 h2 => ⟨g.2.1 h (by omega), g.2.2.2.2.1 h (by omega)⟩)
  -- behind the lines
  have t32 : ∀ (u m uu vv : Nat) (g : Rw) (f' : Nat → Nat × Nat) (S' L' : Nat → Nat → Int) (P' : Nat → Nat → Option Nat), gr t u f (drU S d (g w)) L P f' S' L' P' → S' 101 4 = (n : Int) → ctP tx n = .inr (m, g) → cG (g w) → uu ≤ 311 → vv ≤ 28594 → zz_J zpX1_courtText (zz_retP Q X 312 28600) 32 [some (vr 100), some (vr d), none] [] ((2, f'), S', L', P') (uu, vv) := by
    intro u m uu vv g f' S' L' P' g1 r4 hst hg hu hv
    refine zwX1_courtText_32 ⟨Or.inl (dr S' L' g1).1, g w, dr _ _ g1, gr_dW d2 dt g1, hg, fun hb => ⟨by omega, ?_⟩, fun hb => ⟨by omega, u, g1.fr, fun S2 L2 P2 f2 g2 e2 e3 => ⟨(zsh_hi (by have := g1.le; omega)).trans e3, by omega, by decide, ?_⟩⟩⟩
    · refine qr (g w) ?_ _ _ _ _ u g1
      unfold ctW
      rw [hst]
      exact if_pos hb
    · refine qw n ?_ (g w) _ _ _ _ _ (g1.tr g2) ((e2 4).trans r4)
      unfold ctW
      rw [hst]
      exact if_neg (by rw [hb]; decide)
  have bad : ∀ v : Nat, ctP tx n = .inl v → ctW tx n w = .inl v := fun v h => by
    unfold ctW
    rw [h]
  have t12 : ∀ (j k a' u uu vv : Nat) (g : Rw) (f' : Nat → Nat × Nat) (S' L' : Nat → Nat → Int) (P' : Nat → Nat → Option Nat), k + j = 12 → a' ≤ n → gr t u f (drU S d (g w)) L P f' S' L' P' → S' 101 3 = (a' : Int) → cG (g w) → uu ≤ 25 * k → vv ≤ 2206 * k → ctP tx n = liF tx n (coP tx n) (fun g h w => h (g w)) j a' g → zz_J zpX1_courtText (zz_retP Q X 312 28600) 12 [some (vr 100), some (vr d), some (vi (k : Int))] [] ((2, f'), S', L', P') (uu, vv) := by
    intro j
    induction j with
    | zero =>
      intro k a' u uu vv g f' S' L' P' hj ha' g1 r3 hg hu hv hst
      have w1 := wl_le (tx := tx) ha'
      exact zwX1_courtText_12 ⟨10, 30 + 5 * wl tx n a', by omega, tx, n, a', u, gr_dT d2 t2 g1 hT, r3, ha', g1.fr, by omega, fun c => absurd c (by omega), fun _ => ⟨⟨Nat.le_refl _, Nat.le_refl _⟩, fun S4 L4 P4 f4 u4 g4 e4 => ⟨by omega, by decide, qw _ (bad _ hst) (g w) _ _ _ _ _ (g1.tr g4) e4⟩⟩⟩
    | succ j ih =>
      intro k a' u uu vv g f' S' L' P' hj ha' g1 r3 hg hu hv hst
      have erl := coP_rn (tx := tx) ha'
      have lok := coP_ok (tx := tx) a' ha'
      have hT1 := gr_dT d2 t2 g1 hT
      have le1 := g1.le
      refine zwX1_courtText_12 ⟨0, 0, by omega, tx, n, a', u, hT1, r3, ha', g1.fr, by omega, fun _ => ⟨by omega, tx, g w, n, a', u, hT1, r3, ha', g1.fr, ⟨d2, by omega⟩, dr _ _ g1, gr_dW d2 dt g1, fun v hv S3 L3 P3 f3 u3 g3 e3 => ⟨by omega, by decide, qw v (bad _ (hst.trans (li_w (by rw [erl, hv])))) (g w) _ _ _ _ _ (g1.tr g3) e3⟩, fun c hc S3 L3 P3 f3 u3 g3 e3 => ?_⟩, fun c => absurd c (by omega)⟩
      have hc1 := lok.1 c hc
      have hcb := p3_B (tx := tx) c.1 hc1.2
      have g13 := gr_dr g1 g3
      have hT3 := gr_dT d2 t2 g13 hT
      have hp' : coP tx n (rn (qB tx) n a') = .inr c := by rw [erl, hc]
      have hgc := (coP_cW hc).1 _ hg
      refine ⟨by omega, tx, n, c.1, _, u3, hT3, e3, hc1.2, g3.fr, rfl, fun en => ?_, fun ne sg => ?_, fun ne sg S4 L4 P4 f4 u4 g4 e4 => ⟨by omega, by decide, ?_⟩⟩
      · exact t32 u3 n _ _ (fun w => c.2 (g w)) f3 _ L3 P3 (g13.toS fun h k hk => rdC_rS h k hk) (by rw [rS_4, en]) (hst.trans (li_e hp' en)) hgc (by omega) (by omega)
      · have hlt := (isSg_t.mp sg).1
        exact ih (k + 1) (rn (qB tx) n c.1 + 1) u3 _ _ (fun w => c.2 (g w)) f3 _ L3 P3 (by omega) hlt (g13.toS fun h k hk => rdC_rS h k hk) (rS_3 _ _ _) hgc (by omega) (by omega) (hst.trans (li_s hp' ne sg))
      · exact qw _ (bad _ (hst.trans (li_n hp' ne sg))) _ _ _ _ _ _ (g13.tr g4) e4
  have g0 : gr t t f (drU S d w) L P f S L P := by
    rw [drU_id hW]
    exact gr.rfl' hf
  have h0 := p3_B (tx := tx) 0 (Nat.zero_le n)
  refine zwX1_courtText_0 ⟨tx, n, 0, _, hT, ha, Nat.zero_le _, rfl, fun en => ?_, fun ne => ?_⟩
  · refine t32 t n 0 0 (fun w => w) f _ L P (g0.toS fun h k hk => rdC_rS h k hk) (by rw [rS_4, en]) ?_ hG (by decide) (by decide)
    unfold ctP liP
    rw [if_pos en]
  · refine t12 12 0 (rn (qB tx) n 0) t 0 0 (fun w => w) f _ L P rfl h0.2 (g0.toS fun h k hk => rdC_rS h k hk) (rS_3 _ _ _) hG (by decide) (by decide) ?_
    rw [liF_rn 12 _ (Nat.zero_le n)]
    unfold ctP liP
    rw [if_neg ne]
