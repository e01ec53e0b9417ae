/-! ===== the component's best, worth ===== -/
set_option maxRecDepth 100000
def zX1_best : zz_Sp := fun as M Q X => match as with
  | [.inr (.inr (some h_)), .inl p, .inl n, .inl st] => bif Nat.beq h_ 100 && Nat.beq M.1.1 2 then (R32 p ∧ R32 n ∧ (st = 0 ∨ st = 1) ∧ ∃ (w_ : Nat → Int) (rs_ : List (Fc → Option Int)) (top_ : Nat), cO M.1.2 M.2.1 M.2.2.2 w_ rs_ top_ ∧ (rfR w_ (nwW w_) p n = 1 → X 3 ((2, M.1.2), M.2.1, M.2.2.1, M.2.2.2)) ∧ (rfR w_ (nwW w_) p n = 2 → X 1 ((2, M.1.2), M.2.1, M.2.2.1, M.2.2.2)) ∧ (rfR w_ (nwW w_) p n = 3 → X 5 ((2, M.1.2), M.2.1, M.2.2.1, M.2.2.2)) ∧ (rfR w_ (nwW w_) p n = 0 → ∀ (S_ : Nat → Nat → Int) (P_ : Nat → Nat → Option Nat), cZ M.2.1 M.2.2.2 w_ S_ P_ → (st = 0 → Q (some (vi (bsT w_ (stT w_) p.toNat n.toNat (nuR (nwW w_)).toNat))) ((2, M.1.2), S_, M.2.2.1, P_)) ∧ (st = 1 → Q (some (vi (fdR w_ (stT w_) p.toNat (nuR (nwW w_)).toNat n.toNat))) ((2, M.1.2), S_, M.2.2.1, P_)))) else False
  | _ => False

def zpX1_best : zz_P := [(0, zo_ild 1 1), (1, zo_csL (mm_rm 24 3 18) 4 1 1 6 zX1_player), (4, zo_ild 5 2), (5, zo_csL (mm_rm 24 3 18) 8 1 1 6 zX1_some), (8, zo_ald 9 0), (9, zo_cvL (mm_rm 24 3 18) 12 1 0 1 6 zX1_goesYet), (12, zo_ald 13 0), (13, zo_callv 16 1 0 zX1_stylesAll), (16, zo_ald 17 0), (17, zo_get 20 0 2 0), (20, zo_get 23 1 2 9), (23, zo_callv 26 1 2 zX3_code_204), (26, zo_ist 28 4), (28, zo_ald 29 0), (29, zo_get 32 0 2 11), (32, zo_ild 33 1), (33, zo_callv 36 2 5 zX6_wins_116), (36, zo_ild 37 1), (37, zo_callv 40 2 5 zX6_begins_116), (40, zo_pop 41), (41, zo_ild 42 3), (42, zo_ifne false 45 59), (45, zo_ald 46 0), (46, zo_get 49 0 2 11), (49, zo_ild 50 2), (50, zo_callv 53 2 5 zX6_after_116), (53, zo_ild 55 4), (55, zo_callv 58 2 5 zX6_at_116), (58, zo_iret), (59, zo_ild 60 2), (60, zo_ifne false 63 67), (63, zo_c 64 (vi (-1))), (64, zo_goto 82), (67, zo_ald 68 0), (68, zo_get 71 0 2 11), (71, zo_ild 72 2), (72, zo_c 73 (vi 1)), (73, zo_isub 74), (74, zo_callv 77 2 5 zX6_after_116), (77, zo_ild 79 4), (79, zo_callv 82 2 5 zX6_bestStyle_116), (82, zo_iret)]
theorem ztX1_best {C : mm_C} (G : mm_G C RX1 cX1_best (some .int) 5 (mm_rm 24 3 18)) (hnh : mm_nh C) : zz_OKs C zpX1_best :=
  ⟨zz_of (ok_iload_n G dX1_best_0 rfl rfl) (z_ild _ _),
   zz_of (ok_calsF G (hnh.q 1) (zmX1_player _ G.hst) q1367 q1368 q82 q1369 (by decide +kernel) ⟨Nat.le_of_ble_eq_true rfl, Nat.le_of_ble_eq_true rfl⟩ dX1_best_1 rfl) (z_csL _ _ _ _ _ _),
   zz_of (ok_iload_n G dX1_best_4 rfl rfl) (z_ild _ _),
   zz_of (ok_calsF G (hnh.q 5) (zmX1_some _ G.hst) q1575 q1576 q82 q1577 (by decide +kernel) ⟨Nat.le_of_ble_eq_true rfl, Nat.le_of_ble_eq_true rfl⟩ dX1_best_5 rfl) (z_csL _ _ _ _ _ _),
   zz_of (ok_aload_n G dX1_best_8 rfl rfl) (z_ald _ _),
   zz_of (ok_calvF G (hnh.q 9) (zmX1_goesYet _ G.hst) (RX1, TX1, 19) rfl q1518 q1520 qs19 q82 q1521 (by decide +kernel) ⟨Nat.le_of_ble_eq_true rfl, Nat.le_of_ble_eq_true rfl⟩ dX1_best_9 rfl) (z_cvL _ _ _ _ _ _ _),
   zz_of (ok_aload_n G dX1_best_12 rfl rfl) (z_ald _ _),
   zz_of (ok_callv G hnh (zmX1_stylesAll _ G.hst) rfl rfl (RX1, TX1, 19) rfl q1578 q1580 qs23 q82 q1581 (by decide +kernel) ⟨by decide, by decide⟩ dX1_best_13 rfl) (z_callv _ _ _ _),
   zz_of (ok_aload_n G dX1_best_16 rfl rfl) (z_ald _ _),
   zz_of (ok_get G (nx := 20) (ci := 0) (kd := 2) (k := 0) (RX1, TX1, 19) rfl (by decide) rfl q399 dX1_best_17 rfl) (z_get _ _ _ _),
   zz_of (ok_getN G (nx := 23) (ci := 1) (kd := 2) (k := 9) (RX2, TX2, 11) rfl (by decide) rfl q240 dX1_best_20 rfl) (z_get _ _ _ _),
   zz_of (ok_callv G hnh (zmX3_code_204 _ G.hst) rfl rfl (RX3, TX3, 7) rfl q1597 q1598 q1599 q87 q1600 (by decide +kernel) ⟨by decide, by decide⟩ dX1_best_23 rfl) (z_callv _ _ _ _),
   zz_of (ok_istore G dX1_best_26 rfl (by decide)) (z_ist _ _),
   zz_of (ok_aload_n G dX1_best_28 rfl rfl) (z_ald _ _),
   zz_of (ok_get G (nx := 32) (ci := 0) (kd := 2) (k := 11) (RX1, TX1, 19) rfl (by decide) rfl q421 dX1_best_29 rfl) (z_get _ _ _ _),
   zz_of (ok_iload_n G dX1_best_32 rfl rfl) (z_ild _ _),
   zz_of (ok_callv G hnh (zmX6_wins_116 _ G.hst) rfl rfl (RX6, TX6, 5) rfl q1605 q1606 q1607 q90 q1608 (by decide +kernel) ⟨by decide, by decide⟩ dX1_best_33 rfl) (z_callv _ _ _ _),
   zz_of (ok_iload_n G dX1_best_36 rfl rfl) (z_ild _ _),
   zz_of (ok_callv G hnh (zmX6_begins_116 _ G.hst) rfl rfl (RX6, TX6, 5) rfl q1654 q1611 q1612 q90 q1613 (by decide +kernel) ⟨by decide, by decide⟩ dX1_best_37 rfl) (z_callv _ _ _ _),
   zz_of (ok_pop G dX1_best_40 rfl) (z_pop _),
   zz_of (ok_iload_n G dX1_best_41 rfl rfl) (z_ild _ _),
   zz_of (ok_ifne G dX1_best_42 rfl rfl) (z_ifne _ _ _),
   zz_of (ok_aload_n G dX1_best_45 rfl rfl) (z_ald _ _),
   zz_of (ok_get G (nx := 49) (ci := 0) (kd := 2) (k := 11) (RX1, TX1, 19) rfl (by decide) rfl q421 dX1_best_46 rfl) (z_get _ _ _ _),
   zz_of (ok_iload_n G dX1_best_49 rfl rfl) (z_ild _ _),
   zz_of (ok_callv G hnh (zmX6_after_116 _ G.hst) rfl rfl (RX6, TX6, 5) rfl q1617 q1618 q1619 q90 q1620 (by decide +kernel) ⟨by decide, by decide⟩ dX1_best_50 rfl) (z_callv _ _ _ _),
   zz_of (ok_iload G dX1_best_53 rfl) (z_ild _ _),
   zz_of (ok_callv G hnh (zmX6_at_116 _ G.hst) rfl rfl (RX6, TX6, 5) rfl q1646 q1634 q1635 q90 q1636 (by decide +kernel) ⟨by decide, by decide⟩ dX1_best_55 rfl) (z_callv _ _ _ _),
   zz_of (ok_iret G dX1_best_58) (z_iret),
   zz_of (ok_iload_n G dX1_best_59 rfl rfl) (z_ild _ _),
   zz_of (ok_ifne G dX1_best_60 rfl rfl) (z_ifne _ _ _),
   zz_of (ok_iconst G (v := (zI (-1))) dX1_best_63 (by decide) rfl) (z_cz 64 (-1)),
   zz_of (ok_goto G dX1_best_64 rfl) (z_goto _),
   zz_of (ok_aload_n G dX1_best_67 rfl rfl) (z_ald _ _),
   zz_of (ok_get G (nx := 71) (ci := 0) (kd := 2) (k := 11) (RX1, TX1, 19) rfl (by decide) rfl q421 dX1_best_68 rfl) (z_get _ _ _ _),
   zz_of (ok_iload_n G dX1_best_71 rfl rfl) (z_ild _ _),
   zz_of (ok_iconst G (v := 1) dX1_best_72 (by decide) rfl) (z_cn 73 1),
   zz_of (ok_isub G dX1_best_73 rfl) (z_isub _),
   zz_of (ok_callv G hnh (zmX6_after_116 _ G.hst) rfl rfl (RX6, TX6, 5) rfl q1617 q1618 q1619 q90 q1620 (by decide +kernel) ⟨by decide, by decide⟩ dX1_best_74 rfl) (z_callv _ _ _ _),
   zz_of (ok_iload G dX1_best_77 rfl) (z_ild _ _),
   zz_of (ok_callv G hnh (zmX6_bestStyle_116 _ G.hst) rfl rfl (RX6, TX6, 5) rfl q1655 q1639 q1640 q90 q1641 (by decide +kernel) ⟨by decide, by decide⟩ dX1_best_79 rfl) (z_callv _ _ _ _),
   zz_of (ok_iret G dX1_best_82) (z_iret), trivial⟩

theorem zwX1_best_0 {Q : Option zv → zz_M → Prop} {X : Nat → zz_M → Prop} {f : Nat → Nat × Nat} {S L : Nat → Nat → Int} {P : Nat → Nat → Option Nat} {p : Int} {n : Int} {st : Int} (h : (R32 p ∧ ((0 ≤ p ∧ p < 2) → ((R32 n ∧ ((0 ≤ n ∧ n ≤ 30) → ((scb (cx S 204) ∧ R32 (S 200 1) ∧ (ovR (S 200 1) (cx S 204) = false → ((∃ (w_4 : Nat → Int) (rs_4 : List (Fc → Option Int)) (top_4 : Nat), wRel S w_4 ∧ wV w_4 ∧ (S 100 8 = 0 ∨ (S 100 8 = 1 ∧ lT S w_4)) ∧ rlI f S P top_4 rs_4 ∧ ruR w_4 rs_4 ∧ (∀ p_4, p_4 < 2 → prI S rs_4 p_4) ∧ (cx S 204 6 = 0 ∨ cx S 204 6 = 1) ∧ cx S 204 7 = w_4 208 ∧ cx S 204 8 = w_4 209 ∧ (0 ≤ w_4 208 ∧ w_4 208 ≤ 6) ∧ (0 ≤ w_4 209 ∧ w_4 209 ≤ 6) ∧ (∀ (S_4 : Nat → Nat → Int) (P_4 : Nat → Nat → Option Nat), syE S S_4 → scnP P P_4 → S_4 100 8 = 1 → lT S_4 w_4 → styE S_4 (stT w_4) → ((scV (cx S_4 204) ∧ (((p = 0 ∨ p = 1) ∧ ∃ a_6 : Nat, cN P_4 116 a_6 ∧ (∀ S_6 : Nat → Nat → Int, (∀ h k, h ≠ a_6 → ¬ (h = 116 ∧ k = 3) → ¬ (h = 119 ∧ k < 4) → S_6 h k = S_4 h k) → S_6 116 3 = -1 → enE S_6 116 p (-1) → (∀ k, k < 15488 → S_6 a_6 k = 0) → ((∃ a_7 : Nat, cN P_4 116 a_7 ∧ (∀ S_7 : Nat → Nat → Int, (∀ h k, h ≠ a_7 → ¬ (h = 116 ∧ k = 3) → S_7 h k = S_6 h k) → S_7 116 3 = p → (∀ k, k < 15488 → S_7 a_7 k = 0) → (R32 st ∧ ((¬ st = 0 → R32 n ∧ ((¬ n = 0 → ((0 ≤ (n - 1) ∧ (n - 1) ≤ 1000) ∧ ∃ (w_8 st_8 : Nat → Int) (a_8 i_8 : Nat) (p_8 th_8 ch_8 : Int), chI S_7 P_4 116 w_8 st_8 a_8 p_8 th_8 ch_8 i_8 ∧ (∀ (S_8 : Nat → Nat → Int) (P_8 : Nat → Nat → Option Nat) (b_8 : Nat), (∀ h, h ≠ 117 → h ≠ 118 → S_8 h = S_7 h) → (∀ h k, ¬ (h = 116 ∧ k < 2) → P_8 h k = P_4 h k) → chI S_8 P_8 116 w_8 st_8 b_8 p_8 th_8 ch_8 (i_8 + (n - 1).toNat) → (((0 ≤ (nuR (cx S_4 204)) ∧ (nuR (cx S_4 204)) < 15488) ∧ cbR (nuR (cx S_4 204)) = true ∧ ∃ (w_9 tb_9 st_9 : Nat → Int) (a_9 p_9 : Nat), p_9 < 2 ∧ S_8 116 3 = p_9 ∧ styE S_8 st_9 ∧ stG st_9 ∧ cN P_8 116 a_9 ∧ tbE S_8 a_9 tb_9 ∧ tbG tb_9 ∧ enE S_8 116 p_9 (-1) ∧ rwE S_8 w_9 ∧ lT S_8 w_9 ∧ mG w_9 ∧ whB w_9 16 = true ∧ (Q (some (vi ((bsF tb_9 w_9 st_9 (nuR (cx S_4 204)).toNat p_9 4).2))) ((2, f), S_8, L, P_8))))))) ∧ (n = 0 → Q (some (vi (-1))) ((2, f), S_7, L, P_4)))) ∧ (st = 0 → ((0 ≤ n ∧ n ≤ 1000) ∧ ∃ (w_10 st_10 : Nat → Int) (a_10 i_10 : Nat) (p_10 th_10 ch_10 : Int), chI S_7 P_4 116 w_10 st_10 a_10 p_10 th_10 ch_10 i_10 ∧ (∀ (S_10 : Nat → Nat → Int) (P_10 : Nat → Nat → Option Nat) (b_10 : Nat), (∀ h, h ≠ 117 → h ≠ 118 → S_10 h = S_7 h) → (∀ h k, ¬ (h = 116 ∧ k < 2) → P_10 h k = P_4 h k) → chI S_10 P_10 116 w_10 st_10 b_10 p_10 th_10 ch_10 (i_10 + n.toNat) → ((∃ a_11 : Nat, cN P_10 116 a_11 ∧ ((nuR (cx S_4 204)) < 0 → -4 ≤ (nuR (cx S_4 204)) ∧ (Q (some (vi (S_10 119 (-1 - (nuR (cx S_4 204))).toNat))) ((2, f), S_10, L, P_10))) ∧ (0 ≤ (nuR (cx S_4 204)) → (nuR (cx S_4 204)) < 15488 ∧ (Q (some (vi (S_10 a_11 (nuR (cx S_4 204)).toNat))) ((2, f), S_10, L, P_10)))))))))))))))))))))) ∧ (ovR (S 200 1) (cx S 204) = true → X 5 ((2, f), S, L, P))))) ∧ (¬ (0 ≤ n ∧ n ≤ 30) → X 1 ((2, f), S, L, P))))) ∧ (¬ (0 ≤ p ∧ p < 2) → X 3 ((2, f), S, L, P)))) : zz_J zpX1_best (zz_ret Q X 3 18) 0 [some (vr 100), some (vi p), some (vi n), some (vi st), none] [] ((2, f), S, L, P) (0, 0) := zz_J.go [] 400 h

theorem zmX1_best (l : Launch) (hl : l.stackTraces = false) : mm_Spec l yX1_best (ws_ yX1_best cX1_best 5 (some .int)) (mm_rm 24 3 18) (zE zX1_best) := by
  refine zz_Met.J hl (by decide) (fun C G hnh => ztX1_best G hnh) ?_
  rintro as ⟨⟨t_, f⟩, S, L, P⟩ Q X h
  unfold zX1_best at h
  split at h
  rotate_left
  · exact h.elim
  rename_i h_ p n st
  obtain ⟨e1_, e2_, h⟩ := mm_and2 h (fun q => q)
  cases mm_beq e1_
  cases mm_beq e2_
  try dsimp only at h
  refine ⟨rfl, ?_⟩
  obtain ⟨hp, hn, hst, w, rs, top, hc, q1, q2, q3, q0⟩ := h
  obtain ⟨b1, b2, b3, b4, b5⟩ := hc.bx
  obtain ⟨r1, r2, r3, r0⟩ := @rf_go w (nwW w) p n
  refine zwX1_best_0 ⟨hp, fun c => ⟨hn, fun d => ⟨b1, b3, fun o => hc.sty fun T PT z y => ?_, fun o => q3 (r3.mpr ⟨by omega, d, by rw [← b5]; exact o⟩)⟩, fun d => q2 (r2.mpr ⟨by omega, d⟩)⟩, fun c => q1 (r1.mpr (by omega))⟩
  have q0 := q0 (r0.mpr ⟨by omega, d, by rw [← b5]; exact o⟩)
  have y' := y
  obtain ⟨yo, yk, yl, ys⟩ := y
  have yo' := yo
  obtain ⟨h1, ⟨h2, h2b⟩, h3, h456, ⟨h7, h8, h8b⟩, ⟨a, h9⟩, ⟨b', h10⟩, ⟨c', h11⟩⟩ := yo
  have a2 := h9.1
  have hnu := nuR_in h8
  have hcb : cbR (nuR (nwW w)) = true := nuR_cb h8
  have hcb' : cbR (((nuR (nwW w)).toNat : Nat) : Int) = true := by rw [Int.toNat_of_nonneg hnu.1]; exact hcb
  have e1 : nuR (cx T 204) = nuR (nwW w) := nuR_xE h8 h7
  rw [e1]
  refine ⟨scV_xE h8 h7, by omega, a, h9, fun S1 s1 s2 s3 s4 => ⟨a, h9, fun S2 t1 t2 t3 => ⟨by omega, fun c1 => ⟨by omega, fun c2 => ?_, fun c2 => ?_⟩, fun c1 => ?_⟩⟩⟩
  all_goals
    have fr2 : ∀ h k, ¬ (116 ≤ h ∧ h ≤ 119) → S2 h k = T h k := fun h k hh => by rw [t1 h k (by omega) (by omega), s1 h k (by omega) (by omega) (by omega)]
    obtain ⟨f1, f2, f3⟩ := fr_ch ys h1.2.2.2.2.2 yl (T := S2) (fun h k hh => fr2 h k (by omega))
    have hI : chI S2 PT 116 w (stT w) a p (-1) p 0 := ⟨⟨t2, Or.inr ⟨rfl, rfl⟩, by omega⟩, f1, stT_G w, h9, fun c hc _ => by
        rw [t3 c hc]
        unfold kT
        rw [if_neg (by omega)]
        rfl, fun j hj => by rw [t1 119 j (by omega) (by omega)]; exact s3 j hj, f2, f3, h2, h2b⟩
    have zz : ∀ (S3 : Nat → Nat → Int) (P3 : Nat → Nat → Option Nat), (∀ h k, ¬ (116 ≤ h ∧ h ≤ 119) → S3 h k = T h k) → (∀ h k, ¬ (h = 116 ∧ k < 2) → P3 h k = PT h k) → (∃ a, cN P3 116 a) → lT S3 w → cZ S P w S3 P3 := fun S3 P3 u1 u2 u3 u4 => z.tr ⟨⟨sck_o fun h k a _ => u1 h k (by omega), spk_o fun h k _ a => u2 h k (by omega)⟩, Or.inr ⟨by rw [u1 100 8 (by omega)]; exact yk, u4⟩, u3, ⟨b', h10.fr (u2 120 0 (by omega)) (u2 120 1 (by omega))⟩, ⟨c', h11.fr (u2 124 0 (by omega)) (u2 124 1 (by omega))⟩⟩
  · refine ⟨by omega, w, stT w, a, 0, p, -1, p, hI, fun S3 P3 b u1 u2 u3 => ⟨hnu, hcb, w, kT w (stT w) p (-1) p (n - 1).toNat, stT w, b, p.toNat, by omega, ?_⟩⟩
    rw [Nat.zero_add] at u3
    have u3' := u3
    obtain ⟨⟨g1, -, g3⟩, g4, g5, g6, g7, g8, g9, g10, g11, g12⟩ := u3
    have ep : ((p.toNat : Nat) : Int) = p := by omega
    rw [ep]
    refine ⟨g1, g4, g5, g6, g7, kT_G g3 g11 g12 g5 _, g8, g9, g10, g11, g12, ?_⟩
    have q := (q0 S3 P3 (zz S3 P3 (fun h k hh => by rw [u1 h (by omega) (by omega)]; exact fr2 h k hh) u2 ⟨b, g6⟩ g10)).2 (by omega)
    obtain ⟨m, hm⟩ : ∃ m : Nat, n = (m : Int) + 1 := ⟨(n - 1).toNat, by omega⟩
    have en : n.toNat = m + 1 := by omega
    have en2 : (n - 1).toNat = m := by omega
    rw [en] at q
    rw [en2]
    have ek : kT w (stT w) p (-1) p m = bsT w (stT w) p.toNat m := by
      unfold kT
      rw [if_neg (by omega)]
    rw [ek]
    exact q
  · have q := (q0 S2 PT (zz S2 PT fr2 (fun _ _ _ => rfl) ⟨a, h9⟩ f3)).2 (by omega)
    rw [c2] at q
    exact q
  · refine ⟨by omega, w, stT w, a, 0, p, -1, p, hI, fun S3 P3 b u1 u2 u3 => ?_⟩
    rw [Nat.zero_add] at u3
    refine ⟨b, u3.2.2.2.1, fun d => by omega, fun _ => ⟨hnu.2, ?_⟩⟩
    have hv := u3.2.2.2.2.1 (nuR (nwW w)).toNat (by omega) hcb'
    rw [hv]
    have ek : kT w (stT w) p (-1) p n.toNat = bsT w (stT w) p.toNat n.toNat := by
      unfold kT
      rw [if_neg (by omega)]
    rw [ek]
    exact (q0 S3 P3 (zz S3 P3 (fun h k hh => by rw [u1 h (by omega) (by omega)]; exact fr2 h k hh) u2 ⟨b, u3.2.2.2.1⟩ u3.2.2.2.2.2.2.2.1)).1 c1
def zX1_worth : zz_Sp := fun as M Q X => match as with
  | [.inr (.inr (some h_)), .inl p, .inl line, .inl n] => bif Nat.beq h_ 100 && Nat.beq M.1.1 2 then (R32 p ∧ R32 line ∧ R32 n ∧ ∃ (w_ : Nat → Int) (rs_ : List (Fc → Option Int)) (top_ : Nat), cO M.1.2 M.2.1 M.2.2.2 w_ rs_ top_ ∧ (woT w_ (nwW w_) p line n = 1 → X 3 ((2, M.1.2), M.2.1, M.2.2.1, M.2.2.2)) ∧ (woT w_ (nwW w_) p line n = 2 → X 1 ((2, M.1.2), M.2.1, M.2.2.1, M.2.2.2)) ∧ (woT w_ (nwW w_) p line n = 3 → X 5 ((2, M.1.2), M.2.1, M.2.2.1, M.2.2.2)) ∧ (woT w_ (nwW w_) p line n = 0 → ∀ (S_ : Nat → Nat → Int) (P_ : Nat → Nat → Option Nat), cZ M.2.1 M.2.2.2 w_ S_ P_ → (nwW w_ 6 = 1 → Q (some (vi (-2000000000))) ((2, M.1.2), S_, M.2.2.1, P_)) ∧ (nwW w_ 6 = 0 → Q (some (vi (tbR w_ (stT w_) p (-1) n.toNat (nuR (rlR w_ (nwW w_) (2 + line))).toNat - tbR w_ (stT w_) p (-1) n.toNat (nuR (nwW w_)).toNat))) ((2, M.1.2), S_, M.2.2.1, P_)))) else False
  | _ => False

def zpX1_worth : zz_P := [(0, zo_ild 1 1), (1, zo_csL (mm_rm 24 4 24) 4 1 1 6 zX1_player), (4, zo_ild 5 2), (5, zo_c 7 (vi 10)), (7, zo_csL (mm_rm 24 4 24) 10 2 1 6 zX1_there), (10, zo_ild 11 3), (11, zo_csL (mm_rm 24 4 24) 14 1 1 6 zX1_some), (14, zo_ald 15 0), (15, zo_cvL (mm_rm 24 4 24) 18 1 0 1 6 zX1_goesYet), (18, zo_ald 19 0), (19, zo_get 22 0 2 0), (22, zo_get 25 1 2 9), (25, zo_get 28 2 0 5), (28, zo_ifeq false 31 35), (31, zo_c 34 (vi (-2000000000))), (34, zo_iret), (35, zo_ald 36 0), (36, zo_callv 39 1 0 zX1_stylesAll), (39, zo_ald 40 0), (40, zo_ild 41 1), (41, zo_ild 42 3), (42, zo_callv 45 3 0 zX1_chanceOf), (45, zo_ist 47 4), (47, zo_ald 48 0), (48, zo_get 51 0 2 11), (51, zo_ald 52 0), (52, zo_get 55 0 2 4), (55, zo_c 57 (vi 12)), (57, zo_ald 58 0), (58, zo_get 61 0 2 0), (61, zo_get 64 1 2 9), (64, zo_callv 67 1 2 zX3_code_204), (67, zo_imul 68), (68, zo_c 69 (vi 2)), (69, zo_iadd 70), (70, zo_ild 71 2), (71, zo_iadd 72), (72, zo_iald 73), (73, zo_callv 76 2 5 zX6_at_116), (76, zo_ild 78 4), (78, zo_isub 79), (79, zo_iret)]
theorem ztX1_worth {C : mm_C} (G : mm_G C RX1 cX1_worth (some .int) 5 (mm_rm 24 4 24)) (hnh : mm_nh C) : zz_OKs C zpX1_worth :=
  ⟨zz_of (ok_iload_n G dX1_worth_0 rfl rfl) (z_ild _ _),
   zz_of (ok_calsF G (hnh.q 1) (zmX1_player _ G.hst) q1367 q1368 q82 q1369 (by decide +kernel) ⟨Nat.le_of_ble_eq_true rfl, Nat.le_of_ble_eq_true rfl⟩ dX1_worth_1 rfl) (z_csL _ _ _ _ _ _),
   zz_of (ok_iload_n G dX1_worth_4 rfl rfl) (z_ild _ _),
   zz_of (ok_bipush G (v := 10) dX1_worth_5 (by decide) rfl) (z_cn 7 10),
   zz_of (ok_calsF G (hnh.q 7) (zmX1_there _ G.hst) q1323 q1324 q82 q1325 (by decide +kernel) ⟨Nat.le_of_ble_eq_true rfl, Nat.le_of_ble_eq_true rfl⟩ dX1_worth_7 rfl) (z_csL _ _ _ _ _ _),
   zz_of (ok_iload_n G dX1_worth_10 rfl rfl) (z_ild _ _),
   zz_of (ok_calsF G (hnh.q 11) (zmX1_some _ G.hst) q1575 q1576 q82 q1577 (by decide +kernel) ⟨Nat.le_of_ble_eq_true rfl, Nat.le_of_ble_eq_true rfl⟩ dX1_worth_11 rfl) (z_csL _ _ _ _ _ _),
   zz_of (ok_aload_n G dX1_worth_14 rfl rfl) (z_ald _ _),
   zz_of (ok_calvF G (hnh.q 15) (zmX1_goesYet _ G.hst) (RX1, TX1, 19) rfl q1518 q1520 qs19 q82 q1521 (by decide +kernel) ⟨Nat.le_of_ble_eq_true rfl, Nat.le_of_ble_eq_true rfl⟩ dX1_worth_15 rfl) (z_cvL _ _ _ _ _ _ _),
   zz_of (ok_aload_n G dX1_worth_18 rfl rfl) (z_ald _ _),
   zz_of (ok_get G (nx := 22) (ci := 0) (kd := 2) (k := 0) (RX1, TX1, 19) rfl (by decide) rfl q399 dX1_worth_19 rfl) (z_get _ _ _ _),
   zz_of (ok_getN G (nx := 25) (ci := 1) (kd := 2) (k := 9) (RX2, TX2, 11) rfl (by decide) rfl q240 dX1_worth_22 rfl) (z_get _ _ _ _),
   zz_of (ok_getN G (nx := 28) (ci := 2) (kd := 0) (k := 5) (RX3, TX3, 7) rfl (by decide) rfl q197 dX1_worth_25 rfl) (z_get _ _ _ _),
   zz_of (ok_ifeq G dX1_worth_28 rfl rfl) (z_ifeq _ _ _),
   zz_of (ok_ldcw G (v := (-2000000000)) q1688 dX1_worth_31 rfl) (z_c (congrArg Value.int (by decide))),
   zz_of (ok_iret G dX1_worth_34) (z_iret),
   zz_of (ok_aload_n G dX1_worth_35 rfl rfl) (z_ald _ _),
   zz_of (ok_callv G hnh (zmX1_stylesAll _ G.hst) rfl rfl (RX1, TX1, 19) rfl q1578 q1580 qs23 q82 q1581 (by decide +kernel) ⟨by decide, by decide⟩ dX1_worth_36 rfl) (z_callv _ _ _ _),
   zz_of (ok_aload_n G dX1_worth_39 rfl rfl) (z_ald _ _),
   zz_of (ok_iload_n G dX1_worth_40 rfl rfl) (z_ild _ _),
   zz_of (ok_iload_n G dX1_worth_41 rfl rfl) (z_ild _ _),
   zz_of (ok_callv G hnh (zmX1_chanceOf _ G.hst) rfl rfl (RX1, TX1, 19) rfl q1601 q1603 qs26 q82 q1604 (by decide +kernel) ⟨by decide, by decide⟩ dX1_worth_42 rfl) (z_callv _ _ _ _),
   zz_of (ok_istore G dX1_worth_45 rfl (by decide)) (z_ist _ _),
   zz_of (ok_aload_n G dX1_worth_47 rfl rfl) (z_ald _ _),
   zz_of (ok_get G (nx := 51) (ci := 0) (kd := 2) (k := 11) (RX1, TX1, 19) rfl (by decide) rfl q421 dX1_worth_48 rfl) (z_get _ _ _ _),
   zz_of (ok_aload_n G dX1_worth_51 rfl rfl) (z_ald _ _),
   zz_of (ok_get G (nx := 55) (ci := 0) (kd := 2) (k := 4) (RX1, TX1, 19) rfl (by decide) rfl q406 dX1_worth_52 rfl) (z_get _ _ _ _),
   zz_of (ok_bipush G (v := 12) dX1_worth_55 (by decide) rfl) (z_cn 57 12),
   zz_of (ok_aload_n G dX1_worth_57 rfl rfl) (z_ald _ _),
   zz_of (ok_get G (nx := 61) (ci := 0) (kd := 2) (k := 0) (RX1, TX1, 19) rfl (by decide) rfl q399 dX1_worth_58 rfl) (z_get _ _ _ _),
   zz_of (ok_getN G (nx := 64) (ci := 1) (kd := 2) (k := 9) (RX2, TX2, 11) rfl (by decide) rfl q240 dX1_worth_61 rfl) (z_get _ _ _ _),
   zz_of (ok_callv G hnh (zmX3_code_204 _ G.hst) rfl rfl (RX3, TX3, 7) rfl q1597 q1598 q1599 q87 q1600 (by decide +kernel) ⟨by decide, by decide⟩ dX1_worth_64 rfl) (z_callv _ _ _ _),
   zz_of (ok_imul G dX1_worth_67 rfl) (z_imul _),
   zz_of (ok_iconst G (v := 2) dX1_worth_68 (by decide) rfl) (z_cn 69 2),
   zz_of (ok_iadd G dX1_worth_69 rfl) (z_iadd _),
   zz_of (ok_iload_n G dX1_worth_70 rfl rfl) (z_ild _ _),
   zz_of (ok_iadd G dX1_worth_71 rfl) (z_iadd _),
   zz_of (ok_iald G dX1_worth_72 rfl) (z_iald _),
   zz_of (ok_callv G hnh (zmX6_at_116 _ G.hst) rfl rfl (RX6, TX6, 5) rfl q1646 q1634 q1635 q90 q1636 (by decide +kernel) ⟨by decide, by decide⟩ dX1_worth_73 rfl) (z_callv _ _ _ _),
   zz_of (ok_iload G dX1_worth_76 rfl) (z_ild _ _),
   zz_of (ok_isub G dX1_worth_78 rfl) (z_isub _),
   zz_of (ok_iret G dX1_worth_79) (z_iret), trivial⟩

theorem zwX1_worth_0 {Q : Option zv → zz_M → Prop} {X : Nat → zz_M → Prop} {f : Nat → Nat × Nat} {S L : Nat → Nat → Int} {P : Nat → Nat → Option Nat} {p : Int} {line : Int} {n : Int} (h : (R32 p ∧ ((0 ≤ p ∧ p < 2) → ((R32 line ∧ (-1000 ≤ (10 : Int) ∧ (10 : Int) ≤ 1000) ∧ ((0 ≤ line ∧ line < (10 : Int)) → ((R32 n ∧ ((0 ≤ n ∧ n ≤ 30) → ((scb (cx S 204) ∧ R32 (S 200 1) ∧ (ovR (S 200 1) (cx S 204) = false → (R32 (S 204 5) ∧ (((S 204 5) = 0 → (∃ (w_5 : Nat → Int) (rs_5 : List (Fc → Option Int)) (top_5 : Nat), wRel S w_5 ∧ wV w_5 ∧ (S 100 8 = 0 ∨ (S 100 8 = 1 ∧ lT S w_5)) ∧ rlI f S P top_5 rs_5 ∧ ruR w_5 rs_5 ∧ (∀ p_5, p_5 < 2 → prI S rs_5 p_5) ∧ (cx S 204 6 = 0 ∨ cx S 204 6 = 1) ∧ cx S 204 7 = w_5 208 ∧ cx S 204 8 = w_5 209 ∧ (0 ≤ w_5 208 ∧ w_5 208 ≤ 6) ∧ (0 ≤ w_5 209 ∧ w_5 209 ≤ 6) ∧ (∀ (S_5 : Nat → Nat → Int) (P_5 : Nat → Nat → Option Nat), syE S S_5 → scnP P P_5 → S_5 100 8 = 1 → lT S_5 w_5 → styE S_5 (stT w_5) → (((p = 0 ∨ p = 1) ∧ (0 ≤ n ∧ n ≤ 30) ∧ ∃ (w_6 : Nat → Int) (a_6 : Nat), cN P_5 116 a_6 ∧ styE S_5 (stT w_6) ∧ rwE S_5 w_6 ∧ lT S_5 w_6 ∧ mG w_6 ∧ whB w_6 16 = true ∧ xE (cx S_5 204) (nwW w_6) ∧ scV (nwW w_6) ∧ (∀ (S_6 : Nat → Nat → Int) (P_6 : Nat → Nat → Option Nat) (b_6 : Nat), (∀ h k, ¬ (116 ≤ h ∧ h ≤ 119) → S_6 h k = S_5 h k) → (∀ h k, ¬ (h = 116 ∧ k < 2) → P_6 h k = P_5 h k) → chI S_6 P_6 116 w_6 (stT w_6) b_6 p (-1) (-1) n.toNat → ((scV (cx S_6 204) ∧ ((0 ≤ (((12 * (nuR (cx S_6 204))) + 2) + line) ∧ (((12 * (nuR (cx S_6 204))) + 2) + line) < 185856) ∧ ((∃ a_8 : Nat, cN P_6 116 a_8 ∧ ((S_6 104 ((((12 * (nuR (cx S_6 204))) + 2) + line).toNat)) < 0 → -4 ≤ (S_6 104 ((((12 * (nuR (cx S_6 204))) + 2) + line).toNat)) ∧ (Q (some (vi ((S_6 119 (-1 - (S_6 104 ((((12 * (nuR (cx S_6 204))) + 2) + line).toNat))).toNat) - (tbR w_6 (stT w_6) p (-1) n.toNat (nuR (nwW w_6)).toNat)))) ((2, f), S_6, L, P_6))) ∧ (0 ≤ (S_6 104 ((((12 * (nuR (cx S_6 204))) + 2) + line).toNat)) → (S_6 104 ((((12 * (nuR (cx S_6 204))) + 2) + line).toNat)) < 15488 ∧ (Q (some (vi ((S_6 a_8 (S_6 104 ((((12 * (nuR (cx S_6 204))) + 2) + line).toNat)).toNat) - (tbR w_6 (stT w_6) p (-1) n.toNat (nuR (nwW w_6)).toNat)))) ((2, f), S_6, L, P_6)))))))))))))) ∧ (¬ (S 204 5) = 0 → Q (some (vi (-2000000000))) ((2, f), S, L, P))))) ∧ (ovR (S 200 1) (cx S 204) = true → X 5 ((2, f), S, L, P))))) ∧ (¬ (0 ≤ n ∧ n ≤ 30) → X 1 ((2, f), S, L, P))))) ∧ (¬ (0 ≤ line ∧ line < (10 : Int)) → X 3 ((2, f), S, L, P))))) ∧ (¬ (0 ≤ p ∧ p < 2) → X 3 ((2, f), S, L, P)))) : zz_J zpX1_worth (zz_ret Q X 4 24) 0 [some (vr 100), some (vi p), some (vi line), some (vi n), none] [] ((2, f), S, L, P) (0, 0) := zz_J.go [] 400 h

theorem un_of {w x : Nat → Int} {k c : Int} (b0 : -3 ≤ x 0 ∧ x 0 ≤ 4) (b1 : -3 ≤ x 1 ∧ x 1 ≤ 4) (h2 : x 2 = 0 ∨ x 2 = 1) (hc : 0 ≤ c ∧ c ≤ 120) (ek : k = ((x 0 + 3) * 8 + (x 1 + 3)) * 242 + 121 * x 2 + c) : scX w k 0 = x 0 ∧ scX w k 1 = x 1 ∧ scX w k 2 = x 2 ∧ k % 121 = c := by
  have e0 : scX w k 0 = k / 1936 - 3 := rfl
  have e1 : scX w k 1 = k / 242 % 8 - 3 := rfl
  have e2 : scX w k 2 = k / 121 % 2 := rfl
  rw [e0, e1, e2]
  omega
theorem sc_nu {w x : Nat → Int} (hV : scV x) (h7 : x 7 = w 208) (h8 : x 8 = w 209) : xE (scX w (nuR x)) x := by
  obtain ⟨hp, h2, hh⟩ := hV
  unfold pV at hp
  have e3 : scX w (nuR x) 3 = if nuR x % 121 = 0 then 0 else if nuR x % 121 < 21 then 1 else 2 := rfl
  have e4 : scX w (nuR x) 4 = if nuR x % 121 = 0 then 0 else if nuR x % 121 < 11 then nuR x % 121 - 1 else if nuR x % 121 < 21 then nuR x % 121 - 11 else (nuR x % 121 - 21) / 10 := rfl
  have e5 : scX w (nuR x) 5 = if nuR x % 121 < 21 then 0 else (nuR x % 121 - 21) % 10 := rfl
  have e6 : scX w (nuR x) 6 = if 10 < nuR x % 121 then 1 else 0 := rfl
  have e7 : scX w (nuR x) 7 = w 208 := rfl
  have e8 : scX w (nuR x) 8 = w 209 := rfl
  obtain ⟨c, hc, ek, hm⟩ : ∃ c : Int, (0 ≤ c ∧ c ≤ 120) ∧ nuR x = ((x 0 + 3) * 8 + (x 1 + 3)) * 242 + 121 * x 2 + c ∧ ((c = 0 ∧ x 3 = 0 ∧ x 6 = 0) ∨ (c = 1 + x 4 ∧ x 3 = 1 ∧ x 6 = 0 ∧ 0 ≤ x 4 ∧ x 4 ≤ 9) ∨ (c = 11 + x 4 ∧ x 3 = 1 ∧ x 6 = 1 ∧ 0 ≤ x 4 ∧ x 4 ≤ 9) ∨ (c = 21 + 10 * x 4 + x 5 ∧ x 3 = 2 ∧ x 6 = 1 ∧ 0 ≤ x 4 ∧ x 4 ≤ 9 ∧ 0 ≤ x 5 ∧ x 5 ≤ 9)) := by
    rcases hh with ⟨a, b⟩ | ⟨a, b | b, d, e⟩ | ⟨a, b, d, e, g, h⟩
    · refine ⟨0, by omega, ?_, Or.inl ⟨rfl, a, b⟩⟩
      unfold nuR nuC
      rw [if_pos a]
      omega
    · refine ⟨1 + x 4, by omega, ?_, Or.inr (Or.inl ⟨rfl, a, b, d, e⟩)⟩
      unfold nuR nuC
      rw [if_neg (by omega), if_neg (by omega), if_neg (by omega)]
      omega
    · refine ⟨11 + x 4, by omega, ?_, Or.inr (Or.inr (Or.inl ⟨rfl, a, b, d, e⟩))⟩
      unfold nuR nuC
      rw [if_neg (by omega), if_neg (by omega), if_pos b]
      omega
    · refine ⟨21 + 10 * x 4 + x 5, by omega, ?_, Or.inr (Or.inr (Or.inr ⟨rfl, a, b, d, e, g, h⟩))⟩
      unfold nuR nuC
      rw [if_neg (by omega), if_pos a]
      omega
  obtain ⟨u0, u1, u2, u3⟩ := un_of (w := w) (by omega) (by omega) h2 hc ek
  rw [u3] at e3 e4 e5 e6
  refine ⟨u0, u1, u2, ?_, fun g => ?_, fun g => ?_, ?_, by rw [e7]; exact h7.symm, by rw [e8]; exact h8.symm⟩
  · rw [e3]
    split
    · omega
    · split <;> omega
  · rw [e4]
    split
    · omega
    · split
      · omega
      · split <;> omega
  · rw [e5]
    split <;> omega
  · rw [e6]
    split <;> omega
/-- what comes behind a chase more -/
theorem bh_dead {w : Nat → Int} {line : Int} (hw : wV w) (hV : scV (nwW w)) (h6 : nwW w 6 = 0) (hl : 0 ≤ line ∧ line ≤ 9) : bhV w (nuR (nwW w)) (2 + line) = nuR (rlR w (nwW w) (2 + line)) := by
  have hx := sc_nu (w := w) hV rfl rfl
  obtain ⟨-, r2, r3⟩ := rl_xE (w := w) (how := 2 + line) hV hx
  rw [bhV_at _ (nuR_in hV).1, r2]
  have e1 : rlW w (nwW w) (2 + line) = -1 := by
    unfold rlW
    rw [if_neg (by omega), if_neg (by omega), if_pos h6]
  have e2 : rlN w (nwW w) (2 + line) = -1 := by
    unfold rlN
    rw [e1, if_pos (by decide)]
  rw [if_pos e2]
  exact nuR_xE (rlR_V hw hV (by omega) (by omega) (fun _ => by omega)) r3
theorem wo_go {w x : Nat → Int} {p line n : Int} : (woT w x p line n = 1 ↔ ¬ ((0 ≤ p ∧ p ≤ 1) ∧ (0 ≤ line ∧ line ≤ 9))) ∧ (woT w x p line n = 2 ↔ (0 ≤ p ∧ p ≤ 1) ∧ (0 ≤ line ∧ line ≤ 9) ∧ ¬ (0 ≤ n ∧ n ≤ 30)) ∧ (woT w x p line n = 3 ↔ (0 ≤ p ∧ p ≤ 1) ∧ (0 ≤ line ∧ line ≤ 9) ∧ (0 ≤ n ∧ n ≤ 30) ∧ ovR (w 194) x = true) ∧ (woT w x p line n = 0 ↔ (0 ≤ p ∧ p ≤ 1) ∧ (0 ≤ line ∧ line ≤ 9) ∧ (0 ≤ n ∧ n ≤ 30) ∧ ovR (w 194) x = false) := by
  obtain ⟨r1, r2, r3, r0⟩ := @rf_go w x p n
  unfold woT
  split
  · simp; omega
  · rw [r1, r2, r3, r0]
    cases ovR (w 194) x <;> simp <;> omega
theorem zmX1_worth (l : Launch) (hl : l.stackTraces = false) : mm_Spec l yX1_worth (ws_ yX1_worth cX1_worth 5 (some .int)) (mm_rm 24 4 24) (zE zX1_worth) := by
  refine zz_Met.J hl (by decide) (fun C G hnh => ztX1_worth G hnh) ?_
  rintro as ⟨⟨t_, f⟩, S, L, P⟩ Q X h
  unfold zX1_worth at h
  split at h
  rotate_left
  · exact h.elim
  rename_i h_ p line n
  obtain ⟨e1_, e2_, h⟩ := mm_and2 h (fun q => q)
  cases mm_beq e1_
  cases mm_beq e2_
  try dsimp only at h
  refine ⟨rfl, ?_⟩
  obtain ⟨hp, hli, hn, w, rs, top, hc, q1, q2, q3, q0⟩ := h
  obtain ⟨b1, b2, b3, b4, b5⟩ := hc.bx
  obtain ⟨r1, r2, r3, r0⟩ := @wo_go w (nwW w) p line n
  have e6 : S 204 5 = nwW w 6 := hc.2.2.2.2.1.1.2.2.2.2.2.2.1
  refine zwX1_worth_0 ⟨hp, fun c => ⟨hli, by decide, fun cl => ⟨hn, fun d => ⟨b1, b3, fun o => ?_, fun o => q3 (r3.mpr ⟨by omega, by omega, d, by rw [← b5]; exact o⟩)⟩, fun d => q2 (r2.mpr ⟨by omega, by omega, d⟩)⟩, fun cl => q1 (r1.mpr (by omega))⟩, fun c => q1 (r1.mpr (by omega))⟩
  have q0 := q0 (r0.mpr ⟨by omega, by omega, d, by rw [← b5]; exact o⟩)
  have h8 : scV (nwW w) := hc.2.2.2.2.1.2.1
  have hnw6 : nwW w 6 = 0 ∨ nwW w 6 = 1 := by
    rcases h8.2.2 with ⟨-, e⟩ | ⟨-, e, -⟩ | ⟨-, e, -⟩ <;> omega
  rw [e6]
  refine ⟨by omega, fun c6 => hc.sty fun T PT z y => y.ch (p := p) (n := n) (by omega) d fun S' P' b z2 y2 hI => ?_, fun c6 => (q0 S P hc.zr).1 (by omega)⟩
  obtain ⟨yo, yk, yl, ys⟩ := y2
  have h7 := yo.2.2.2.2.1.1
  have hnu := nuR_in h8
  have hcb : cbR (nuR (nwW w)) = true := nuR_cb h8
  have e1 : nuR (cx S' 204) = nuR (nwW w) := nuR_xE h8 h7
  obtain ⟨k, hk⟩ : ∃ k : Nat, nuR (nwW w) = (k : Int) := ⟨(nuR (nwW w)).toNat, by omega⟩
  obtain ⟨l, hl⟩ : ∃ l : Nat, line = (l : Int) := ⟨line.toNat, by omega⟩
  have w194 := yo.2.1.1.2.1
  have hrv := rlR_V w194 h8 (how := 2 + line) (by omega) (by omega) (fun _ => by omega)
  have hnr := nuR_in hrv
  have hcr : cbR (nuR (rlR w (nwW w) (2 + line))) = true := nuR_cb hrv
  have hbh : S' 104 (12 * k + (2 + l)) = nuR (rlR w (nwW w) (2 + line)) := by
    have := ((yl k (by omega)).2 (by rw [← hk]; exact hcb)).1 (2 + l) (by omega)
    rw [this, ← hk, ← bh_dead w194 h8 c6 (by omega)]
    congr 1
    omega
  have ei : (((12 * (nuR (nwW w))) + 2) + line).toNat = 12 * k + (2 + l) := by omega
  rw [e1, ei, hbh]
  refine ⟨scV_xE h8 h7, by omega, b, hI.2.2.2.1, fun e => by omega, fun _ => ⟨hnr.2, ?_⟩⟩
  have hv := hI.2.2.2.2.1 (nuR (rlR w (nwW w) (2 + line))).toNat (by omega) (by rw [Int.toNat_of_nonneg hnr.1]; exact hcr)
  rw [hv]
  exact (q0 S' P' (z.tr z2)).2 c6
