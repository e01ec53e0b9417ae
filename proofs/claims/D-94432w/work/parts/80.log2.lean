/-! ===== the component's log ===== -/
set_option maxRecDepth 100000
def lgC (S S' : Nat → Nat → Int) : Prop := (∀ h k, h ≠ 132 → h ≠ 133 → ¬ (108 ≤ h ∧ h ≤ 111) → ¬ (h = 101 ∧ (k = 1 ∨ k = 2 ∨ k = 3 ∨ k = 6)) → S' h k = S h k) ∧ S' 101 1 = 0
theorem tdR_xE {x z : Nat → Int} {k : Int} (h : xE x z) (hk : 0 ≤ k ∧ k ≤ 9) : tdR x k = tdR z k := by
  obtain ⟨h0, h1, h2, h3, h4, h5, h6, h7, h8⟩ := h
  have hk10 : k = 0 ∨ k = 1 ∨ k = 2 ∨ k = 3 ∨ k = 4 ∨ k = 5 ∨ k = 6 ∨ k = 7 ∨ k = 8 ∨ k = 9 := by omega
  rcases hk10 with e | e | e | e | e | e | e | e | e | e <;> subst e
  · exact h0
  · exact h1
  · exact h2
  · exact h3
  · show (if 0 < x 3 then x 4 else -1) = (if 0 < z 3 then z 4 else -1)
    rw [h3]
    split
    · exact h4 (by omega)
    · rfl
  · show (if 1 < x 3 then x 5 else -1) = (if 1 < z 3 then z 5 else -1)
    rw [h3]
    split
    · exact h5 (by omega)
    · rfl
  · exact h6
  · exact h7
  · exact h8
  · show (if (wW x 0 || wW x 1) = true then (1 : Int) else 0) = (if (wW z 0 || wW z 1) = true then 1 else 0)
    unfold wW
    rw [h0, h1]
theorem crR_b {w x z : Nat → Int} {how line : Int} (hx : scV x) (hb : scb0 x) (h9 : ∀ j, 9 ≤ j → x j = 0) (hl : x 6 = 0 → how = 2 → 0 ≤ line ∧ line ≤ 9) (hE : xE (crR w x how line) z) (hz : scV z) (hB : xB 6 z) : scb (crR w x how line) := by
  have hA := (crA_b hx hb hl).1
  have hin := rlW_in' w x (clH x how line) hx.2.1
  have c45 : ∀ j, j = 4 ∨ j = 5 → crR w x how line j = crA x how line j := by
    intro j hj
    have c : ∀ y : Nat → Int, cchR w y j = y j := fun y => by
      unfold cchR chR
      split
      · split
        · rw [if_neg (by omega), if_neg (by omega)]
        · rfl
      · rfl
    unfold crR
    rw [c]
    split
    · rfl
    · next hne =>
      have hp : (rlW w x (clH x how line)).toNat < 2 := by
        rcases hin with e | e
        · exact absurd e hne
        · exact e.1
      have ep : (rlW w x (clH x how line)).toNat = 0 ∨ (rlW w x (clH x how line)).toNat = 1 := by omega
      unfold pnt ptC ptB ptA ru
      rcases ep with e | e <;> rw [e] <;> split <;> grind
  obtain ⟨e0, e1, e2, e3, -, -, e6, e7, e8⟩ := hE
  obtain ⟨hp, h2, hh⟩ := hz
  obtain ⟨-, -, b7, b8, -⟩ := hB
  have hp' : (-3 ≤ z 0 ∧ z 0 ≤ 4) ∧ (-3 ≤ z 1 ∧ z 1 ≤ 4) := by unfold pV at hp; omega
  have hh' : (0 ≤ z 3 ∧ z 3 ≤ 2) ∧ (z 6 = 0 ∨ z 6 = 1) := by unfold hV at hh; omega
  intro j
  by_cases j9 : 9 ≤ j
  · rw [crR_9 hx.2.1 h9 j j9]
    decide
  · have hj : j = 0 ∨ j = 1 ∨ j = 2 ∨ j = 3 ∨ j = 4 ∨ j = 5 ∨ j = 6 ∨ j = 7 ∨ j = 8 := by omega
    rcases hj with e | e | e | e | e | e | e | e | e <;> subst e
    · omega
    · omega
    · omega
    · omega
    · rw [c45 4 (Or.inl rfl)]; exact hA 4
    · rw [c45 5 (Or.inr rfl)]; exact hA 5
    · omega
    · omega
    · omega
def zX1_log : zz_Sp := fun as M Q X => match as with
  | [.inr (.inr (some h_)), .inl what] => bif Nat.beq h_ 100 && Nat.beq M.1.1 2 then (R32 what ∧ ∃ (w_ t_ y_ : Nat → Int) (n_ : Nat), n_ ≤ 400 ∧ M.2.1 101 1 = (n_ : Int) ∧ (∀ k, k < n_ → (0 ≤ t_ k ∧ t_ k ≤ 255) ∧ M.2.1 102 k = cby (t_ k)) ∧ wsc M.2.1 w_ ∧ wV w_ ∧ scV y_ ∧ xB 6 y_ ∧ xE (cx M.2.1 204) y_ ∧ scb (cx M.2.1 204) ∧ (∀ S_ : Nat → Nat → Int, lgC M.2.1 S_ → (lgB t_ n_ = false → X 1 ((2, M.1.2), S_, M.2.2.1, M.2.2.2)) ∧ (lgB t_ n_ = true → lgR w_ t_ (n_ / 2) 0 y_ = none → X 5 ((2, M.1.2), S_, M.2.2.1, M.2.2.2)) ∧ (∀ z_ : Nat → Int, lgB t_ n_ = true → lgR w_ t_ (n_ / 2) 0 y_ = some z_ → (¬ (0 ≤ what ∧ what ≤ 9) → X 4 ((2, M.1.2), S_, M.2.2.1, M.2.2.2)) ∧ ((0 ≤ what ∧ what ≤ 9) → Q (some (vi (tdR z_ what))) ((2, M.1.2), S_, M.2.2.1, M.2.2.2))))) else False
  | _ => False

def zpX1_log : zz_P := [(0, zo_ald 1 0), (1, zo_callv 4 1 0 zX1_logged), (4, zo_ist 5 2), (5, zo_ild 6 2), (6, zo_c 7 (vi (-1))), (7, zo_ceq false true 10 14), (10, zo_c 11 (vi 1)), (11, zo_goto 15), (14, zo_c 15 (vi 0)), (15, zo_csL (mm_rm 8 2 12) 18 1 1 6 zX1_demand), (18, zo_ald 19 0), (19, zo_get 22 0 2 9), (22, zo_ald 23 0), (23, zo_get 26 0 2 0), (26, zo_get 29 1 2 9), (29, zo_callv 32 2 2 zX3_takes_204108), (32, zo_pop 33), (33, zo_c 34 (vi 0)), (34, zo_ist 35 3), (35, zo_ild 36 3), (36, zo_ild 37 2), (37, zo_cge false false 40 84), (40, zo_ald 41 0), (41, zo_get 44 0 2 9), (44, zo_callv 47 1 2 zX3_isOver_108), (47, zo_zifeq 50 58), (50, zo_thr0L (mm_rm 8 2 12) 5), (53, zo_dup 54), (54, zo_bad), (57, zo_athr 20 0), (58, zo_ald 59 0), (59, zo_get 62 0 2 9), (62, zo_ald 63 0), (63, zo_get 66 0 2 16), (66, zo_ild 67 3), (67, zo_iald 68), (68, zo_ald 69 0), (69, zo_get 72 0 2 17), (72, zo_ild 73 3), (73, zo_iald 74), (74, zo_callv 77 3 2 zX3_rally_108), (77, zo_pop 78), (78, zo_inc 81 3 1), (81, zo_goto 35), (84, zo_ild 85 1), (85, zo_c 87 (vi 9)), (87, zo_csL (mm_rm 8 2 12) 90 2 1 6 zX1_asked), (90, zo_ald 91 0), (91, zo_get 94 0 2 9), (94, zo_ild 95 1), (95, zo_callv 98 2 2 zX3_stands_108), (98, zo_iret)]
theorem ztX1_log {C : mm_C} (G : mm_G C RX1 cX1_log (some .int) 4 (mm_rm 8 2 12)) (hnh : mm_nh C) : zz_OKs C zpX1_log :=
  ⟨zz_of (ok_aload_n G dX1_log_0 rfl rfl) (z_ald _ _),
   zz_of (ok_callv G hnh (zmX1_logged _ G.hst) rfl rfl (RX1, TX1, 19) rfl q1738 q1740 qs34 q82 q1741 (by decide +kernel) ⟨by decide, by decide⟩ dX1_log_1 rfl) (z_callv _ _ _ _),
   zz_of (ok_istore_n G dX1_log_4 rfl rfl (by decide)) (z_ist _ _),
   zz_of (ok_iload_n G dX1_log_5 rfl rfl) (z_ild _ _),
   zz_of (ok_iconst G (v := (zI (-1))) dX1_log_6 (by decide) rfl) (z_cz 7 (-1)),
   zz_of (ok_ceq G dX1_log_7 rfl rfl) (z_ceq _ _ _ _),
   zz_of (ok_iconst G (v := 1) dX1_log_10 (by decide) rfl) (z_cn 11 1),
   zz_of (ok_goto G dX1_log_11 rfl) (z_goto _),
   zz_of (ok_iconst G (v := 0) dX1_log_14 (by decide) rfl) (z_cn 15 0),
   zz_of (ok_calsF G (hnh.q 15) (zmX1_demand _ G.hst) q1474 q1475 q82 q1476 (by decide +kernel) ⟨Nat.le_of_ble_eq_true rfl, Nat.le_of_ble_eq_true rfl⟩ dX1_log_15 rfl) (z_csL _ _ _ _ _ _),
   zz_of (ok_aload_n G dX1_log_18 rfl rfl) (z_ald _ _),
   zz_of (ok_get G (nx := 22) (ci := 0) (kd := 2) (k := 9) (RX1, TX1, 19) rfl (by decide) rfl q418 dX1_log_19 rfl) (z_get _ _ _ _),
   zz_of (ok_aload_n G dX1_log_22 rfl rfl) (z_ald _ _),
   zz_of (ok_get G (nx := 26) (ci := 0) (kd := 2) (k := 0) (RX1, TX1, 19) rfl (by decide) rfl q399 dX1_log_23 rfl) (z_get _ _ _ _),
   zz_of (ok_getN G (nx := 29) (ci := 1) (kd := 2) (k := 9) (RX2, TX2, 11) rfl (by decide) rfl q240 dX1_log_26 rfl) (z_get _ _ _ _),
   zz_of (ok_callv G hnh (zmX3_takes_204108 _ G.hst) rfl rfl (RX3, TX3, 7) rfl q1591 q580 q581 q87 q582 (by decide +kernel) ⟨by decide, by decide⟩ dX1_log_29 rfl) (z_callv _ _ _ _),
   zz_of (ok_pop G dX1_log_32 rfl) (z_pop _),
   zz_of (ok_iconst G (v := 0) dX1_log_33 (by decide) rfl) (z_cn 34 0),
   zz_of (ok_istore_n G dX1_log_34 rfl rfl (by decide)) (z_ist _ _),
   zz_of (ok_iload_n G dX1_log_35 rfl rfl) (z_ild _ _),
   zz_of (ok_iload_n G dX1_log_36 rfl rfl) (z_ild _ _),
   zz_of (ok_cge G dX1_log_37 rfl rfl) (z_cge _ _ _ _),
   zz_of (ok_aload_n G dX1_log_40 rfl rfl) (z_ald _ _),
   zz_of (ok_get G (nx := 44) (ci := 0) (kd := 2) (k := 9) (RX1, TX1, 19) rfl (by decide) rfl q418 dX1_log_41 rfl) (z_get _ _ _ _),
   zz_of (ok_callv G hnh (zmX3_isOver_108 _ G.hst) rfl rfl (RX3, TX3, 7) rfl q1522 q1523 q1524 q87 q1525 (by decide +kernel) ⟨by decide, by decide⟩ dX1_log_44 rfl) (z_callv _ _ _ _),
   zz_of (ok_ifeq G dX1_log_47 rfl rfl) (z_zifeq _ _),
   zz_of (th_X1_IllegalStateException G (hnh.q 57) dX1_log_50 dX1_log_53 dX1_log_54 dX1_log_57) (z_thr0L _ _),
   zz_of (ok_dup G dX1_log_53 rfl) (z_dup _),
   zz_of (ok_bad) (z_bad),
   zz_of (ok_athr G (ci := 20) (i := 0) (RX10, TX10, 6) rfl rfl (hnh.q 57) dX1_log_57) (z_athr _ _),
   zz_of (ok_aload_n G dX1_log_58 rfl rfl) (z_ald _ _),
   zz_of (ok_get G (nx := 62) (ci := 0) (kd := 2) (k := 9) (RX1, TX1, 19) rfl (by decide) rfl q418 dX1_log_59 rfl) (z_get _ _ _ _),
   zz_of (ok_aload_n G dX1_log_62 rfl rfl) (z_ald _ _),
   zz_of (ok_get G (nx := 66) (ci := 0) (kd := 2) (k := 16) (RX1, TX1, 19) rfl (by decide) rfl q427 dX1_log_63 rfl) (z_get _ _ _ _),
   zz_of (ok_iload_n G dX1_log_66 rfl rfl) (z_ild _ _),
   zz_of (ok_iald G dX1_log_67 rfl) (z_iald _),
   zz_of (ok_aload_n G dX1_log_68 rfl rfl) (z_ald _ _),
   zz_of (ok_get G (nx := 72) (ci := 0) (kd := 2) (k := 17) (RX1, TX1, 19) rfl (by decide) rfl q428 dX1_log_69 rfl) (z_get _ _ _ _),
   zz_of (ok_iload_n G dX1_log_72 rfl rfl) (z_ild _ _),
   zz_of (ok_iald G dX1_log_73 rfl) (z_iald _),
   zz_of (ok_callv G hnh (zmX3_rally_108 _ G.hst) rfl rfl (RX3, TX3, 7) rfl q1541 q1542 q1543 q87 q1544 (by decide +kernel) ⟨by decide, by decide⟩ dX1_log_74 rfl) (z_callv _ _ _ _),
   zz_of (ok_pop G dX1_log_77 rfl) (z_pop _),
   zz_of (ok_iinc G (v := 1) dX1_log_78 (by decide) rfl (by decide)) (z_incn 81 3 1),
   zz_of (ok_goto G dX1_log_81 rfl) (z_goto _),
   zz_of (ok_iload_n G dX1_log_84 rfl rfl) (z_ild _ _),
   zz_of (ok_bipush G (v := 9) dX1_log_85 (by decide) rfl) (z_cn 87 9),
   zz_of (ok_calsF G (hnh.q 87) (zmX1_asked _ G.hst) q1342 q1343 q82 q1344 (by decide +kernel) ⟨Nat.le_of_ble_eq_true rfl, Nat.le_of_ble_eq_true rfl⟩ dX1_log_87 rfl) (z_csL _ _ _ _ _ _),
   zz_of (ok_aload_n G dX1_log_90 rfl rfl) (z_ald _ _),
   zz_of (ok_get G (nx := 94) (ci := 0) (kd := 2) (k := 9) (RX1, TX1, 19) rfl (by decide) rfl q418 dX1_log_91 rfl) (z_get _ _ _ _),
   zz_of (ok_iload_n G dX1_log_94 rfl rfl) (z_ild _ _),
   zz_of (ok_callv G hnh (zmX3_stands_108 _ G.hst) rfl rfl (RX3, TX3, 7) rfl q1498 q1499 q1500 q87 q1501 (by decide +kernel) ⟨by decide, by decide⟩ dX1_log_95 rfl) (z_callv _ _ _ _),
   zz_of (ok_iret G dX1_log_98) (z_iret), trivial⟩

theorem zwX1_log_0 {Q : Option zv → zz_M → Prop} {X : Nat → zz_M → Prop} {f : Nat → Nat × Nat} {S L : Nat → Nat → Int} {P : Nat → Nat → Option Nat} {what : Int} (h : (∃ (t_1 : Nat → Int) (n_1 : Nat), n_1 ≤ 400 ∧ S 101 1 = (n_1 : Int) ∧ (∀ k, k < n_1 → (0 ≤ t_1 k ∧ t_1 k ≤ 255) ∧ S 102 k = cby (t_1 k)) ∧ (∀ S_1 : Nat → Nat → Int, lgF S S_1 → lgB t_1 n_1 = true → (∀ k, k < n_1 / 2 → S_1 132 k = hwD t_1 k ∧ S_1 133 k = t_1 (2 * k + 1) - 48) → (R32 ((n_1 / 2 : Nat) : Int) ∧ ((((n_1 / 2 : Nat) : Int) = (-1) → (((0 : Int) = 1 → (((cx S_1 204 6 = 0 ∨ cx S_1 204 6 = 1) ∧ (zz_J zpX1_log (zz_ret Q X 2 12) 35 [some (vr 100), some (vi what), some (vi ((n_1 / 2 : Nat) : Int)), some (vi 0)] [] ((2, f), cxW S_1 108 (cx S_1 204), L, P) (1, 6))))) ∧ ((0 : Int) = 0 → X 1 ((2, f), S_1, L, P)) ∧ ((0 : Int) = 0 ∨ (0 : Int) = 1))) ∧ (¬ ((n_1 / 2 : Nat) : Int) = (-1) → (((1 : Int) = 1 → (((cx S_1 204 6 = 0 ∨ cx S_1 204 6 = 1) ∧ (zz_J zpX1_log (zz_ret Q X 2 12) 35 [some (vr 100), some (vi what), some (vi ((n_1 / 2 : Nat) : Int)), some (vi 0)] [] ((2, f), cxW S_1 108 (cx S_1 204), L, P) (1, 6))))) ∧ ((1 : Int) = 0 → X 1 ((2, f), S_1, L, P)) ∧ ((1 : Int) = 0 ∨ (1 : Int) = 1)))))) ∧ (∀ S_1 : Nat → Nat → Int, lgF S S_1 → lgB t_1 n_1 = false → (R32 (-1) ∧ (((-1 : Int) = (-1) → (((0 : Int) = 1 → (((cx S_1 204 6 = 0 ∨ cx S_1 204 6 = 1) ∧ (zz_J zpX1_log (zz_ret Q X 2 12) 35 [some (vr 100), some (vi what), some (vi (-1)), some (vi 0)] [] ((2, f), cxW S_1 108 (cx S_1 204), L, P) (1, 6))))) ∧ ((0 : Int) = 0 → X 1 ((2, f), S_1, L, P)) ∧ ((0 : Int) = 0 ∨ (0 : Int) = 1))) ∧ (¬ (-1 : Int) = (-1) → (((1 : Int) = 1 → (((cx S_1 204 6 = 0 ∨ cx S_1 204 6 = 1) ∧ (zz_J zpX1_log (zz_ret Q X 2 12) 35 [some (vr 100), some (vi what), some (vi (-1)), some (vi 0)] [] ((2, f), cxW S_1 108 (cx S_1 204), L, P) (1, 6))))) ∧ ((1 : Int) = 0 → X 1 ((2, f), S_1, L, P)) ∧ ((1 : Int) = 0 ∨ (1 : Int) = 1)))))))) : zz_J zpX1_log (zz_ret Q X 2 12) 0 [some (vr 100), some (vi what), none, none] [] ((2, f), S, L, P) (0, 0) := zz_J.go [(35, [])] 400 h
theorem zwX1_log_35 {Q : Option zv → zz_M → Prop} {X : Nat → zz_M → Prop} {f : Nat → Nat × Nat} {S L : Nat → Nat → Int} {P : Nat → Nat → Option Nat} {x1 : Int} {x2 : Int} {x3 : Int} (h : R32 x3 ∧ (R32 x2 ∧ ((x2 ≤ x3 → (R32 x1 ∧ (0 ≤ (9 : Int) ∧ (9 : Int) ≤ 1000) ∧ ((0 ≤ x1 ∧ x1 ≤ (9 : Int)) → (((0 ≤ x1 ∧ x1 ≤ 9) ∧ scb (cx S 108) ∧ (cx S 108 6 = 0 ∨ cx S 108 6 = 1) ∧ (Q (some (vi (tdR (cx S 108) x1))) ((2, f), S, L, P))))) ∧ (¬ (0 ≤ x1 ∧ x1 ≤ (9 : Int)) → X 4 ((2, f), S, L, P)))) ∧ (¬ x2 ≤ x3 → (scb (cx S 108) ∧ R32 (S 200 1) ∧ (ovR (S 200 1) (cx S 108) = true → (X 5 ((2, f), S, L, P))) ∧ (ovR (S 200 1) (cx S 108) = false → ((0 ≤ x3 ∧ x3 < 30) ∧ ((0 ≤ x3 ∧ x3 < 30) ∧ (((0 ≤ (S 132 x3.toNat) ∧ (S 132 x3.toNat) ≤ 2) ∧ R32 (S 133 x3.toNat) ∧ (cx S 108 6 = 0 → (S 132 x3.toNat) = 2 → 0 ≤ (S 133 x3.toNat) ∧ (S 133 x3.toNat) ≤ 9) ∧ scb (cx S 108) ∧ scV (cx S 108) ∧ ∃ w_4 : Nat → Int, wsc S w_4 ∧ wV w_4 ∧ (zz_J zpX1_log (zz_ret Q X 2 12) 35 [some (vr 100), some (vi x1), some (vi x2), some (vi (x3 + 1))] [] ((2, f), cxW S 108 (crR w_4 (cx S 108) (S 132 x3.toNat) (S 133 x3.toNat)), L, P) (1, 6)))))))))))) : zz_J zpX1_log (zz_ret Q X 2 12) 35 [some (vr 100), some (vi x1), some (vi x2), some (vi x3)] [] ((2, f), S, L, P) (1, 6) := zz_J.go [(35, [])] 400 h

theorem zmX1_log (l : Launch) (hl : l.stackTraces = false) : mm_Spec l yX1_log (ws_ yX1_log cX1_log 4 (some .int)) (mm_rm 8 2 12) (zE zX1_log) := by
  refine zz_Met.J hl (by decide) (fun C G hnh => ztX1_log G hnh) ?_
  rintro as ⟨⟨t_, f⟩, S, L, P⟩ Q X h
  unfold zX1_log at h
  split at h
  rotate_left
  · exact h.elim
  rename_i h_ what
  obtain ⟨e1_, e2_, h⟩ := mm_and2 h (fun q => q)
  cases mm_beq e1_
  cases mm_beq e2_
  try dsimp only at h
  refine ⟨rfl, ?_⟩
  obtain ⟨hR, w, t, y, n, hn, hl, ht, hw, hv, hy, hyB, hE, hb, hq⟩ := h
  have wq : ∀ T, lgC S T → wsc T w := fun T e => by
    refine ⟨?_, ?_, ?_, ?_, ?_⟩ <;> rw [e.1 200 _ (by decide) (by decide) (by decide) (by decide)]
    · exact hw.1
    · exact hw.2.1
    · exact hw.2.2.1
    · exact hw.2.2.2.1
    · exact hw.2.2.2.2
  have t35 : lgB t n = true → ∀ (m k : Nat) (T : Nat → Nat → Int) (z : Nat → Int), k + m = n / 2 → lgC S T → (∀ k', k' < n / 2 → T 132 k' = hwD t k' ∧ T 133 k' = t (2 * k' + 1) - 48) → xE (cx T 108) z → scV z → xB 6 z → scb (cx T 108) → lgR w t m k z = lgR w t (n / 2) 0 y → zz_J zpX1_log (zz_ret Q X 2 12) 35 [some (vr 100), some (vi what), some (vi ((n / 2 : Nat) : Int)), some (vi (k : Int))] [] ((2, f), T, L, P) (1, 6) := by
    intro hB
    have hB2 := hB
    unfold lgB lgA at hB2
    rw [Bool.and_eq_true, Bool.and_eq_true, List.all_eq_true] at hB2
    have n2 : n % 2 = 0 := of_decide_eq_true hB2.1.1
    have n60 : n ≤ 60 := of_decide_eq_true hB2.1.2
    intro m
    induction m with
    | zero =>
      intro k T z hk hC hrow hE hz hzB hb2 hlg
      have h6 : cx T 108 6 = 0 ∨ cx T 108 6 = 1 := by
        rw [hE.2.2.2.2.2.2.1]
        rcases hz.2.2 with ⟨a, b⟩ | ⟨a, b, -⟩ | ⟨a, b, -⟩ <;> omega
      have q := (hq T hC).2.2 z hB hlg.symm
      refine zwX1_log_35 ⟨by omega, by omega, fun _ => ⟨hR, by decide, fun c => ⟨c, hb2, h6, ?_⟩, fun c => q.1 c⟩, fun c => absurd c (by omega)⟩
      rw [tdR_xE hE c]
      exact q.2 c
    | succ m ih =>
      intro k T z hk hC hrow hE hz hzB hb2 hlg
      have hT1 : T 200 1 = w 194 := (wq T hC).1
      have v4 := hv.1
      have eov : ovR (T 200 1) (cx T 108) = ovR (w 194) z := by
        unfold ovR
        rw [hT1, hE.2.2.2.2.2.2.2.1, hE.2.2.2.2.2.2.2.2]
      obtain ⟨r2, r3⟩ := hrow k (by omega)
      have hO : lgO t k = true := hB2.2 k (List.mem_range.mpr (by omega))
      have hO2 : (t (2 * k) = 100 ∧ 48 ≤ t (2 * k + 1) ∧ t (2 * k + 1) ≤ 57) ∨ ((t (2 * k) = 119 ∨ t (2 * k) = 108) ∧ t (2 * k + 1) = 48) := by
        unfold lgO at hO
        simpa [Bool.or_eq_true, Bool.and_eq_true, decide_eq_true_eq] using hO
      refine zwX1_log_35 ⟨by omega, by omega, fun c => absurd c (by omega), fun _ => ⟨hb2, by rw [hT1]; omega, fun o => ?_, fun o => ⟨by omega, by omega, ?_⟩⟩⟩
      · refine (hq T hC).2.1 hB ?_
        rw [← hlg]
        show (if ovR (w 194) z = true then none else _) = none
        rw [if_pos (by rw [← eov]; exact o)]
      · rw [Int.toNat_natCast, r2, r3]
        have oz : ovR (w 194) z = false := by rw [← eov]; exact o
        have hV' := scV_xE hz hE
        have how02 : 0 ≤ hwD t k ∧ hwD t k ≤ 2 := by
          unfold hwD
          split
          · decide
          · split <;> decide
        have hline : hwD t k = 2 → 0 ≤ t (2 * k + 1) - 48 ∧ t (2 * k + 1) - 48 ≤ 9 := by
          unfold hwD
          intro e
          rcases hO2 with ⟨a, b, c⟩ | ⟨a | a, b⟩
          · omega
          · rw [if_pos a] at e
            cases e
          · rw [if_neg (by omega), if_pos a] at e
            cases e
        have b1 := (ht (2 * k + 1) (by omega)).1
        have z36 : z 6 = 0 ∨ z 6 = 1 := by
          rcases hz.2.2 with ⟨a, b⟩ | ⟨a, b, -⟩ | ⟨a, b, -⟩ <;> omega
        have eh : rlR w z (clH z (hwD t k) (t (2 * k + 1) - 48)) = rlR w z (hwO t k) ∧ 0 ≤ hwO t k ∧ hwO t k ≤ 11 := by
          rcases hO2 with ⟨a, b, c⟩ | ⟨a | a, b⟩
          · have e1 : hwD t k = 2 := by
              unfold hwD
              rw [if_neg (by omega), if_neg (by omega)]
            have e2 : hwO t k = 2 + (t (2 * k + 1) - 48) := by
              unfold hwO
              rw [if_neg (by omega), if_neg (by omega)]
              omega
            rw [e1, e2]
            exact ⟨(clH_rl w z (line := t (2 * k + 1) - 48) (by omega) (by omega) z36).1, by omega, by omega⟩
          · have e1 : hwD t k = 0 := by
              unfold hwD
              rw [if_pos a]
            have e2 : hwO t k = 0 := by
              unfold hwO
              rw [if_pos a]
            rw [e1, e2]
            exact ⟨rfl, by decide, by decide⟩
          · have e1 : hwD t k = 1 := by
              unfold hwD
              rw [if_neg (by omega), if_pos a]
            have e2 : hwO t k = 1 := by
              unfold hwO
              rw [if_neg (by omega), if_pos a]
            rw [e1, e2]
            exact ⟨rfl, by decide, by decide⟩
        have hc := (cr_xE (w := w) hz hE how02.1 how02.2 (fun _ => hline)).2
        rw [eh.1] at hc
        have hV2 : scV (rlR w z (hwO t k)) := rlR_V hv hz eh.2.1 (by omega) (fun _ => eh.2.2)
        have hB6 : xB 6 (rlR w z (hwO t k)) := rlR_B hz (xB5 hv hzB oz) eh.2.1 (by omega)
        have h9 := cx_9 T 108
        have hb3 := crR_b (w := w) hV' hb2 h9 (fun _ => hline) hc hV2 hB6
        refine ⟨how02, by omega, fun _ => hline, hb2, hV', w, wq T hC, hv, ?_⟩
        have ecx : cx (cxW T 108 (crR w (cx T 108) (hwD t k) (t (2 * k + 1) - 48))) 108 = crR w (cx T 108) (hwD t k) (t (2 * k + 1) - 48) := cx_cxW T 108 _ (crR_9 hV'.2.1 h9)
        have o : ∀ h', h' < 108 ∨ 111 < h' → cxW T 108 (crR w (cx T 108) (hwD t k) (t (2 * k + 1) - 48)) h' = T h' := fun h' hh => cxW_o T 108 _ (by omega) (by omega) (by omega) (by omega)
        refine ih (k + 1) _ (rlR w z (hwO t k)) (by omega) ⟨fun h' k' c1 c2 c3 c4 => ?_, ?_⟩ (fun k' hk' => ?_) (by rw [ecx]; exact hc) hV2 hB6 (by rw [ecx]; exact hb3) ?_
        · rw [o h' (by omega)]
          exact hC.1 h' k' c1 c2 c3 c4
        · rw [o 101 (by decide)]
          exact hC.2
        · rw [o 132 (by decide), o 133 (by decide)]
          exact hrow k' hk'
        · rw [← hlg]
          show _ = (if ovR (w 194) z = true then none else _)
          rw [if_neg (by rw [oz]; decide)]
  have h6 : cx S 204 6 = 0 ∨ cx S 204 6 = 1 := by
    rw [hE.2.2.2.2.2.2.1]
    rcases hy.2.2 with ⟨a, b⟩ | ⟨a, b, -⟩ | ⟨a, b, -⟩ <;> omega
  have sc : ∀ T, lgF S T → lgC S T := fun T e => ⟨fun h' k' c1 c2 c3 c4 => e.1 h' k' c1 c2 c4, e.2⟩
  refine zwX1_log_0 ⟨t, n, hn, hl, ht, fun S1 hF hB hrow => ⟨by omega, fun c => absurd c (by omega), fun _ => ⟨fun _ => ?_, fun c => absurd c (by decide), Or.inr rfl⟩⟩, fun S1 hF hB => ⟨by decide, fun _ => ⟨fun c => absurd c (by decide), fun _ => (hq S1 (sc S1 hF)).1 hB, Or.inl rfl⟩, fun c => absurd rfl c⟩⟩
  have e204 : cx S1 204 = cx S 204 := by
    funext j
    unfold cx
    rw [hF.1 205 0 (by decide) (by decide) (by decide), hF.1 205 1 (by decide) (by decide) (by decide), hF.1 204 3 (by decide) (by decide) (by decide), hF.1 204 4 (by decide) (by decide) (by decide), hF.1 207 0 (by decide) (by decide) (by decide), hF.1 207 1 (by decide) (by decide) (by decide), hF.1 204 5 (by decide) (by decide) (by decide), hF.1 206 0 (by decide) (by decide) (by decide), hF.1 206 1 (by decide) (by decide) (by decide)]
  rw [e204]
  refine ⟨h6, ?_⟩
  have ecx : cx (cxW S1 108 (cx S 204)) 108 = cx S 204 := cx_cxW S1 108 _ (cx_9 S 204)
  have o : ∀ h', h' < 108 ∨ 111 < h' → cxW S1 108 (cx S 204) h' = S1 h' := fun h' hh => cxW_o S1 108 _ (by omega) (by omega) (by omega) (by omega)
  refine t35 hB (n / 2) 0 _ y (by omega) ⟨fun h' k' c1 c2 c3 c4 => ?_, ?_⟩ (fun k' hk' => ?_) (by rw [ecx]; exact hE) hy hyB (by rw [ecx]; exact hb) rfl
  · rw [o h' (by omega)]
    exact hF.1 h' k' c1 c2 c4
  · rw [o 101 (by decide)]
    exact hF.2
  · rw [o 132 (by decide), o 133 (by decide)]
    exact hrow k' hk'
