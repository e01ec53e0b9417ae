/-! ===== the component's bisques ===== -/
set_option maxRecDepth 100000
def zX1_saves : zz_Sp := fun as M Q X => match as with
  | [.inr (.inr (some h_)), .inl p, .inl n, .inl what] => bif Nat.beq h_ 100 && Nat.beq M.1.1 2 then (R32 p ∧ R32 n ∧ R32 what ∧ ∃ (w_ : Nat → Int) (rs_ : List (Fc → Option Int)) (top_ : Nat), cO M.1.2 M.2.1 M.2.2.2 w_ rs_ top_ ∧ (svTh w_ (nwW w_) p n what = 1 → X 3 ((2, M.1.2), M.2.1, M.2.2.1, M.2.2.2)) ∧ (svTh w_ (nwW w_) p n what = 2 → X 1 ((2, M.1.2), M.2.1, M.2.2.1, M.2.2.2)) ∧ (svTh w_ (nwW w_) p n what = 3 → X 5 ((2, M.1.2), M.2.1, M.2.2.1, M.2.2.2)) ∧ (svTh w_ (nwW w_) p n what = 4 → X 4 ((2, M.1.2), M.2.1, M.2.2.1, M.2.2.2)) ∧ (svTh w_ (nwW w_) p n what = 0 → ∀ (S_ : Nat → Nat → Int) (P_ : Nat → Nat → Option Nat), cZ M.2.1 M.2.2.2 w_ S_ P_ → (what = 0 → Q (some (vi (svT w_ (stT w_) p.toNat n.toNat (nuR (nwW w_)).toNat))) ((2, M.1.2), S_, M.2.2.1, P_)) ∧ (what = 1 → Q (some (vi (svK w_ (stT w_) p.toNat (nuR (nwW w_)).toNat n.toNat))) ((2, M.1.2), S_, M.2.2.1, P_)) ∧ (what = 2 → Q (some (vi (svT w_ (stT w_) p.toNat n.toNat (nuR (nwW w_)).toNat - tbR w_ (stT w_) p (-1) n.toNat (nuR (nwW w_)).toNat))) ((2, M.1.2), S_, M.2.2.1, P_)))) else False
  | _ => False

def zpX1_saves : zz_P := [(0, zo_ild 1 1), (1, zo_csL (mm_rm 24 4 24) 4 1 1 6 zX1_player), (4, zo_ild 5 2), (5, zo_csL (mm_rm 24 4 24) 8 1 1 6 zX1_some), (8, zo_ald 9 0), (9, zo_cvL (mm_rm 24 4 24) 12 1 0 1 6 zX1_goesYet), (12, zo_ild 13 3), (13, zo_c 14 (vi 2)), (14, zo_csL (mm_rm 24 4 24) 17 2 1 6 zX1_asked), (17, zo_ald 18 0), (18, zo_callv 21 1 0 zX1_stylesAll), (21, zo_ald 22 0), (22, zo_get 25 0 2 0), (25, zo_get 28 1 2 9), (28, zo_callv 31 1 2 zX3_code_204), (31, zo_ist 33 4), (33, zo_ald 34 0), (34, zo_get 37 0 2 13), (37, zo_ild 38 1), (38, zo_ild 39 2), (39, zo_ild 41 4), (41, zo_callv 44 4 6 zX7_goes), (44, zo_ist 46 5), (46, zo_ild 47 3), (47, zo_ifne false 50 55), (50, zo_ild 52 5), (52, zo_goto 87), (55, zo_ild 56 3), (56, zo_c 57 (vi 1)), (57, zo_cne false true 60 78), (60, zo_ald 61 0), (61, zo_get 64 0 2 13), (64, zo_get 67 6 0 2), (67, zo_ifeq false 70 74), (70, zo_c 71 (vi 1)), (71, zo_goto 87), (74, zo_c 75 (vi 0)), (75, zo_goto 87), (78, zo_ild 80 5), (80, zo_ald 81 0), (81, zo_ild 82 1), (82, zo_ild 83 2), (83, zo_callv 86 3 0 zX1_chanceOf), (86, zo_isub 87), (87, zo_iret)]
theorem ztX1_saves {C : mm_C} (G : mm_G C RX1 cX1_saves (some .int) 6 (mm_rm 24 4 24)) (hnh : mm_nh C) : zz_OKs C zpX1_saves :=
  ⟨zz_of (ok_iload_n G dX1_saves_0 rfl rfl) (z_ild _ _),
   zz_of (ok_calsF G (hnh.q 1) (zmX1_player _ G.hst) q1367 q1368 q82 q1369 (by decide +kernel) ⟨Nat.le_of_ble_eq_true rfl, Nat.le_of_ble_eq_true rfl⟩ dX1_saves_1 rfl) (z_csL _ _ _ _ _ _),
   zz_of (ok_iload_n G dX1_saves_4 rfl rfl) (z_ild _ _),
   zz_of (ok_calsF G (hnh.q 5) (zmX1_some _ G.hst) q1575 q1576 q82 q1577 (by decide +kernel) ⟨Nat.le_of_ble_eq_true rfl, Nat.le_of_ble_eq_true rfl⟩ dX1_saves_5 rfl) (z_csL _ _ _ _ _ _),
   zz_of (ok_aload_n G dX1_saves_8 rfl rfl) (z_ald _ _),
   zz_of (ok_calvF G (hnh.q 9) (zmX1_goesYet _ G.hst) (RX1, TX1, 19) rfl q1518 q1520 qs19 q82 q1521 (by decide +kernel) ⟨Nat.le_of_ble_eq_true rfl, Nat.le_of_ble_eq_true rfl⟩ dX1_saves_9 rfl) (z_cvL _ _ _ _ _ _ _),
   zz_of (ok_iload_n G dX1_saves_12 rfl rfl) (z_ild _ _),
   zz_of (ok_iconst G (v := 2) dX1_saves_13 (by decide) rfl) (z_cn 14 2),
   zz_of (ok_calsF G (hnh.q 14) (zmX1_asked _ G.hst) q1342 q1343 q82 q1344 (by decide +kernel) ⟨Nat.le_of_ble_eq_true rfl, Nat.le_of_ble_eq_true rfl⟩ dX1_saves_14 rfl) (z_csL _ _ _ _ _ _),
   zz_of (ok_aload_n G dX1_saves_17 rfl rfl) (z_ald _ _),
   zz_of (ok_callv G hnh (zmX1_stylesAll _ G.hst) rfl rfl (RX1, TX1, 19) rfl q1578 q1580 qs23 q82 q1581 (by decide +kernel) ⟨by decide, by decide⟩ dX1_saves_18 rfl) (z_callv _ _ _ _),
   zz_of (ok_aload_n G dX1_saves_21 rfl rfl) (z_ald _ _),
   zz_of (ok_get G (nx := 25) (ci := 0) (kd := 2) (k := 0) (RX1, TX1, 19) rfl (by decide) rfl q399 dX1_saves_22 rfl) (z_get _ _ _ _),
   zz_of (ok_getN G (nx := 28) (ci := 1) (kd := 2) (k := 9) (RX2, TX2, 11) rfl (by decide) rfl q240 dX1_saves_25 rfl) (z_get _ _ _ _),
   zz_of (ok_callv G hnh (zmX3_code_204 _ G.hst) rfl rfl (RX3, TX3, 7) rfl q1597 q1598 q1599 q87 q1600 (by decide +kernel) ⟨by decide, by decide⟩ dX1_saves_28 rfl) (z_callv _ _ _ _),
   zz_of (ok_istore G dX1_saves_31 rfl (by decide)) (z_ist _ _),
   zz_of (ok_aload_n G dX1_saves_33 rfl rfl) (z_ald _ _),
   zz_of (ok_get G (nx := 37) (ci := 0) (kd := 2) (k := 13) (RX1, TX1, 19) rfl (by decide) rfl q424 dX1_saves_34 rfl) (z_get _ _ _ _),
   zz_of (ok_iload_n G dX1_saves_37 rfl rfl) (z_ild _ _),
   zz_of (ok_iload_n G dX1_saves_38 rfl rfl) (z_ild _ _),
   zz_of (ok_iload G dX1_saves_39 rfl) (z_ild _ _),
   zz_of (ok_callv G hnh (zmX7_goes _ G.hst) rfl rfl (RX7, TX7, 4) rfl q1663 q1664 q1665 q91 q1666 (by decide +kernel) ⟨by decide, by decide⟩ dX1_saves_41 rfl) (z_callv _ _ _ _),
   zz_of (ok_istore G dX1_saves_44 rfl (by decide)) (z_ist _ _),
   zz_of (ok_iload_n G dX1_saves_46 rfl rfl) (z_ild _ _),
   zz_of (ok_ifne G dX1_saves_47 rfl rfl) (z_ifne _ _ _),
   zz_of (ok_iload G dX1_saves_50 rfl) (z_ild _ _),
   zz_of (ok_goto G dX1_saves_52 rfl) (z_goto _),
   zz_of (ok_iload_n G dX1_saves_55 rfl rfl) (z_ild _ _),
   zz_of (ok_iconst G (v := 1) dX1_saves_56 (by decide) rfl) (z_cn 57 1),
   zz_of (ok_cne G dX1_saves_57 rfl rfl) (z_cne _ _ _ _),
   zz_of (ok_aload_n G dX1_saves_60 rfl rfl) (z_ald _ _),
   zz_of (ok_get G (nx := 64) (ci := 0) (kd := 2) (k := 13) (RX1, TX1, 19) rfl (by decide) rfl q424 dX1_saves_61 rfl) (z_get _ _ _ _),
   zz_of (ok_getN G (nx := 67) (ci := 6) (kd := 0) (k := 2) (RX7, TX7, 4) rfl (by decide) rfl q352 dX1_saves_64 rfl) (z_get _ _ _ _),
   zz_of (ok_ifeq G dX1_saves_67 rfl rfl) (z_ifeq _ _ _),
   zz_of (ok_iconst G (v := 1) dX1_saves_70 (by decide) rfl) (z_cn 71 1),
   zz_of (ok_goto G dX1_saves_71 rfl) (z_goto _),
   zz_of (ok_iconst G (v := 0) dX1_saves_74 (by decide) rfl) (z_cn 75 0),
   zz_of (ok_goto G dX1_saves_75 rfl) (z_goto _),
   zz_of (ok_iload G dX1_saves_78 rfl) (z_ild _ _),
   zz_of (ok_aload_n G dX1_saves_80 rfl rfl) (z_ald _ _),
   zz_of (ok_iload_n G dX1_saves_81 rfl rfl) (z_ild _ _),
   zz_of (ok_iload_n G dX1_saves_82 rfl rfl) (z_ild _ _),
   zz_of (ok_callv G hnh (zmX1_chanceOf _ G.hst) rfl rfl (RX1, TX1, 19) rfl q1601 q1603 qs26 q82 q1604 (by decide +kernel) ⟨by decide, by decide⟩ dX1_saves_83 rfl) (z_callv _ _ _ _),
   zz_of (ok_isub G dX1_saves_86 rfl) (z_isub _),
   zz_of (ok_iret G dX1_saves_87) (z_iret), trivial⟩

theorem zwX1_saves_0 {Q : Option zv → zz_M → Prop} {X : Nat → zz_M → Prop} {f : Nat → Nat × Nat} {S L : Nat → Nat → Int} {P : Nat → Nat → Option Nat} {p : Int} {n : Int} {what : Int} (h : (R32 p ∧ ((0 ≤ p ∧ p < 2) → ((R32 n ∧ ((0 ≤ n ∧ n ≤ 30) → ((scb (cx S 204) ∧ R32 (S 200 1) ∧ (ovR (S 200 1) (cx S 204) = false → ((R32 what ∧ (0 ≤ (2 : Int) ∧ (2 : Int) ≤ 1000) ∧ ((0 ≤ what ∧ what ≤ (2 : Int)) → ((∃ (w_5 : Nat → Int) (rs_5 : List (Fc → Option Int)) (top_5 : Nat), wRel S w_5 ∧ wV w_5 ∧ (S 100 8 = 0 ∨ (S 100 8 = 1 ∧ lT S w_5)) ∧ rlI f S P top_5 rs_5 ∧ ruR w_5 rs_5 ∧ (∀ p_5, p_5 < 2 → prI S rs_5 p_5) ∧ (cx S 204 6 = 0 ∨ cx S 204 6 = 1) ∧ cx S 204 7 = w_5 208 ∧ cx S 204 8 = w_5 209 ∧ (0 ≤ w_5 208 ∧ w_5 208 ≤ 6) ∧ (0 ≤ w_5 209 ∧ w_5 209 ≤ 6) ∧ (∀ (S_5 : Nat → Nat → Int) (P_5 : Nat → Nat → Option Nat), syE S S_5 → scnP P P_5 → S_5 100 8 = 1 → lT S_5 w_5 → styE S_5 (stT w_5) → ((scV (cx S_5 204) ∧ (((p = 0 ∨ p = 1) ∧ (0 ≤ n ∧ n ≤ 30) ∧ (0 ≤ (nuR (cx S_5 204)) ∧ (nuR (cx S_5 204)) < 15488) ∧ cbR (nuR (cx S_5 204)) = true ∧ ∃ (w_7 st_7 : Nat → Int) (a_7 b_7 : Nat), cN P_5 124 a_7 ∧ cN P_5 120 b_7 ∧ styE S_5 st_7 ∧ stG st_7 ∧ rwE S_5 w_7 ∧ lT S_5 w_7 ∧ mG w_7 ∧ whB w_7 16 = true ∧ (∀ (S_7 : Nat → Nat → Int) (P_7 : Nat → Nat → Option Nat), (∀ h k, svk h k = false → S_7 h k = S_5 h k) → (∀ h k, ¬ ((h = 120 ∨ h = 124) ∧ k < 2) → P_7 h k = P_5 h k) → S_7 124 2 = svK w_7 st_7 p.toNat (nuR (cx S_5 204)).toNat n.toNat → (∃ c_7, cN P_7 124 c_7) → (∃ c_7, cN P_7 120 c_7) → (R32 what ∧ ((¬ what = 0 → R32 what ∧ ((¬ what = 1 → ((p = 0 ∨ p = 1) ∧ (0 ≤ n ∧ n ≤ 30) ∧ ∃ (w_8 : Nat → Int) (a_8 : Nat), cN P_7 116 a_8 ∧ styE S_7 (stT w_8) ∧ rwE S_7 w_8 ∧ lT S_7 w_8 ∧ mG w_8 ∧ whB w_8 16 = true ∧ xE (cx S_7 204) (nwW w_8) ∧ scV (nwW w_8) ∧ (∀ (S_8 : Nat → Nat → Int) (P_8 : Nat → Nat → Option Nat) (b_8 : Nat), (∀ h k, ¬ (116 ≤ h ∧ h ≤ 119) → S_8 h k = S_7 h k) → (∀ h k, ¬ (h = 116 ∧ k < 2) → P_8 h k = P_7 h k) → chI S_8 P_8 116 w_8 (stT w_8) b_8 p (-1) (-1) n.toNat → (Q (some (vi ((svT w_7 st_7 p.toNat n.toNat (nuR (cx S_5 204)).toNat) - (tbR w_8 (stT w_8) p (-1) n.toNat (nuR (nwW w_8)).toNat)))) ((2, f), S_8, L, P_8))))) ∧ (what = 1 → R32 (S_7 124 2) ∧ (((S_7 124 2) = 0 → Q (some (vi 0)) ((2, f), S_7, L, P_7)) ∧ (¬ (S_7 124 2) = 0 → Q (some (vi 1)) ((2, f), S_7, L, P_7)))))) ∧ (what = 0 → Q (some (vi (svT w_7 st_7 p.toNat n.toNat (nuR (cx S_5 204)).toNat))) ((2, f), S_7, L, P_7))))))))))))) ∧ (¬ (0 ≤ what ∧ what ≤ (2 : Int)) → X 4 ((2, f), S, L, P))))) ∧ (ovR (S 200 1) (cx S 204) = true → X 5 ((2, f), S, L, P))))) ∧ (¬ (0 ≤ n ∧ n ≤ 30) → X 1 ((2, f), S, L, P))))) ∧ (¬ (0 ≤ p ∧ p < 2) → X 3 ((2, f), S, L, P)))) : zz_J zpX1_saves (zz_ret Q X 4 24) 0 [some (vr 100), some (vi p), some (vi n), some (vi what), none, none] [] ((2, f), S, L, P) (0, 0) := zz_J.go [] 400 h

theorem svK_01 (w st : Nat → Int) (p k n : Nat) : svK w st p k n = 0 ∨ svK w st p k n = 1 := by
  cases n with
  | zero => exact Or.inl rfl
  | succ n =>
    have : ∀ (c : Prop) [Decidable c], (if c then (1 : Int) else 0) = 0 ∨ (if c then (1 : Int) else 0) = 1 := fun c _ => by by_cases h : c <;> simp [h]
    exact this _
theorem sv_go {w x : Nat → Int} {p n k : Int} : (rfR w x p n ≠ 0 → svTh w x p n k = rfR w x p n) ∧ (rfR w x p n = 0 → ¬ (0 ≤ k ∧ k ≤ 2) → svTh w x p n k = 4) ∧ (rfR w x p n = 0 → (0 ≤ k ∧ k ≤ 2) → svTh w x p n k = 0) := by
  unfold svTh
  refine ⟨fun h => by rw [if_neg (fun c => h c.1)], fun h h2 => by rw [if_pos ⟨h, h2⟩], fun h h2 => by rw [if_neg (fun c => c.2 h2)]; exact h⟩
theorem zmX1_saves (l : Launch) (hl : l.stackTraces = false) : mm_Spec l yX1_saves (ws_ yX1_saves cX1_saves 6 (some .int)) (mm_rm 24 4 24) (zE zX1_saves) := by
  refine zz_Met.J hl (by decide) (fun C G hnh => ztX1_saves G hnh) ?_
  rintro as ⟨⟨t_, f⟩, S, L, P⟩ Q X h
  unfold zX1_saves at h
  split at h
  rotate_left
  · exact h.elim
  rename_i h_ p n what
  obtain ⟨e1_, e2_, h⟩ := mm_and2 h (fun q => q)
  cases mm_beq e1_
  cases mm_beq e2_
  try dsimp only at h
  refine ⟨rfl, ?_⟩
  obtain ⟨hp, hn, hk, w, rs, top, hc, q1, q2, q3, q4, q0⟩ := h
  obtain ⟨b1, b2, b3, b4, b5⟩ := hc.bx
  obtain ⟨r1, r2, r3, r0⟩ := @rf_go w (nwW w) p n
  obtain ⟨s1, s4, s0⟩ := @sv_go w (nwW w) p n what
  have er : ∀ j : Int, j ≠ 0 → rfR w (nwW w) p n = j → svTh w (nwW w) p n what = j := fun j hj e => by rw [s1 (by rw [e]; exact hj), e]
  refine zwX1_saves_0 ⟨hp, fun c => ⟨hn, fun d => ⟨b1, b3, fun o => ⟨hk, by decide, fun e => hc.sty fun T PT z y => ?_, fun e => q4 (s4 (r0.mpr ⟨by omega, d, by rw [← b5]; exact o⟩) e)⟩, fun o => q3 (er 3 (by decide) (r3.mpr ⟨by omega, d, by rw [← b5]; exact o⟩))⟩, fun d => q2 (er 2 (by decide) (r2.mpr ⟨by omega, d⟩))⟩, fun c => q1 (er 1 (by decide) (r1.mpr (by omega)))⟩
  have q0 := q0 (s0 (r0.mpr ⟨by omega, d, by rw [← b5]; exact o⟩) e)
  have y' := y
  obtain ⟨yo, yk, yl, ys⟩ := y
  obtain ⟨h1, ⟨h2, h2b⟩, h3, h456, ⟨h7, h8, h8b⟩, ⟨a, h9⟩, ⟨b', h10⟩, ⟨c', h11⟩⟩ := yo
  have hnu := nuR_in h8
  have hcb : cbR (nuR (nwW w)) = true := nuR_cb h8
  have e1 : nuR (cx T 204) = nuR (nwW w) := nuR_xE h8 h7
  rw [e1]
  refine ⟨scV_xE h8 h7, by omega, d, hnu, hcb, w, stT w, c', b', h11, h10, ys, stT_G w, h1.2.2.2.2.2, yl, h2, h2b, fun U PU u1 u2 u3 u4 u5 => ?_⟩
  have fr : ∀ h k, ¬ (120 ≤ h ∧ h ≤ 126) → U h k = T h k := fun h k g => u1 h k (by
    unfold svk
    rw [decide_eq_false (by omega : ¬ (h = 120 ∧ k = 3)), decide_eq_false (by omega : ¬ (121 ≤ h ∧ h ≤ 123)), decide_eq_false (by omega : ¬ (h = 124 ∧ k = 2)), decide_eq_false (by omega : ¬ (h = 125 ∨ h = 126))]
    rfl)
  have lU : lT U w := yl.w rfl rfl fun h hh k => fr h k (by omega)
  have zU : cZ T PT w U PU := ⟨⟨sck_o fun h k g _ => fr h k (by omega), spk_o fun h k _ g => u2 h k (by omega)⟩, Or.inr ⟨by rw [fr 100 8 (by omega)]; exact yk, lU⟩, ⟨a, h9.fr (u2 116 0 (by omega)) (u2 116 1 (by omega))⟩, u5, u4⟩
  have q := q0 U PU (z.tr zU)
  have k01 := svK_01 w (stT w) p.toNat (nuR (nwW w)).toNat n.toNat
  refine ⟨by omega, fun c1 => ⟨by omega, fun c2 => ?_, fun c2 => ?_⟩, fun c1 => q.1 c1⟩
  · have yU : cY f U PU w rs top := ⟨y'.1.z zU, by rw [fr 100 8 (by omega)]; exact yk, lU, fun c hc hcb => by rw [fr 107 c (by omega)]; exact ys c hc hcb⟩
    exact yU.ch (p := p) (n := n) (by omega) d fun S' P' b z2 _ _ => (q0 S' P' ((z.tr zU).tr z2)).2.2 (by omega)
  · have q1 := q.2.1 c2
    rw [u3]
    refine ⟨by rcases k01 with e | e <;> rw [e] <;> decide, fun e => ?_, fun e => ?_⟩
    · rw [e] at q1
      exact q1
    · rw [k01.resolve_left e] at q1
      exact q1
