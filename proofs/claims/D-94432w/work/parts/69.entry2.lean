/-! ===== the component's entries that make nothing ===== -/
set_option maxRecDepth 100000
def zX1_plays : zz_Sp := fun as M Q X => match as with
  | [.inr (.inr (some h_)), .inl p, .inl k] => bif Nat.beq h_ 100 && Nat.beq M.1.1 2 then (R32 p ∧ R32 k ∧ (0 ≤ M.2.1 202 2 ∧ M.2.1 202 2 ≤ 100) ∧ (plT (M.2.1 202 2) p k = 1 → X 3 ((2, M.1.2), M.2.1, M.2.2.1, M.2.2.2)) ∧ (plT (M.2.1 202 2) p k = 0 → Q (some (vi (M.2.1 203 p.toNat))) ((2, M.1.2), mm_up M.2.1 203 p.toNat k, M.2.2.1, M.2.2.2))) else False
  | _ => False

def zpX1_plays : zz_P := [(0, zo_ild 1 1), (1, zo_csL (mm_rm 8 2 12) 4 1 1 6 zX1_player), (4, zo_ild 5 2), (5, zo_c 6 (vi (-1))), (6, zo_ceq false true 9 23), (9, zo_ild 10 2), (10, zo_ald 11 0), (11, zo_get 14 0 2 0), (14, zo_get 17 1 2 7), (17, zo_callv 20 1 17 zJ2_size), (20, zo_csL (mm_rm 8 2 12) 23 2 1 6 zX1_there), (23, zo_ald 24 0), (24, zo_get 27 0 2 0), (27, zo_get 30 1 2 8), (30, zo_ild 31 1), (31, zo_iald 32), (32, zo_ist 33 3), (33, zo_ald 34 0), (34, zo_get 37 0 2 0), (37, zo_get 40 1 2 8), (40, zo_ild 41 1), (41, zo_ild 42 2), (42, zo_iasd 43), (43, zo_ild 44 3), (44, zo_iret)]
theorem ztX1_plays {C : mm_C} (G : mm_G C RX1 cX1_plays (some .int) 4 (mm_rm 8 2 12)) (hnh : mm_nh C) : zz_OKs C zpX1_plays :=
  ⟨zz_of (ok_iload_n G dX1_plays_0 rfl rfl) (z_ild _ _),
   zz_of (ok_calsF G (hnh.q 1) (zmX1_player _ G.hst) q1367 q1368 q82 q1369 (by decide +kernel) ⟨Nat.le_of_ble_eq_true rfl, Nat.le_of_ble_eq_true rfl⟩ dX1_plays_1 rfl) (z_csL _ _ _ _ _ _),
   zz_of (ok_iload_n G dX1_plays_4 rfl rfl) (z_ild _ _),
   zz_of (ok_iconst G (v := (zI (-1))) dX1_plays_5 (by decide) rfl) (z_cz 6 (-1)),
   zz_of (ok_ceq G dX1_plays_6 rfl rfl) (z_ceq _ _ _ _),
   zz_of (ok_iload_n G dX1_plays_9 rfl rfl) (z_ild _ _),
   zz_of (ok_aload_n G dX1_plays_10 rfl rfl) (z_ald _ _),
   zz_of (ok_get G (nx := 14) (ci := 0) (kd := 2) (k := 0) (RX1, TX1, 19) rfl (by decide) rfl q399 dX1_plays_11 rfl) (z_get _ _ _ _),
   zz_of (ok_getN G (nx := 17) (ci := 1) (kd := 2) (k := 7) (RX2, TX2, 11) rfl (by decide) rfl q236 dX1_plays_14 rfl) (z_get _ _ _ _),
   zz_of (ok_callv G hnh (zmJ2_size _ G.hst) rfl rfl (RJ2, TJ2, 3) rfl q591 q592 q593 q86 q594 (by decide +kernel) ⟨by decide, by decide⟩ dX1_plays_17 rfl) (z_callv _ _ _ _),
   zz_of (ok_calsF G (hnh.q 20) (zmX1_there _ G.hst) q1323 q1324 q82 q1325 (by decide +kernel) ⟨Nat.le_of_ble_eq_true rfl, Nat.le_of_ble_eq_true rfl⟩ dX1_plays_20 rfl) (z_csL _ _ _ _ _ _),
   zz_of (ok_aload_n G dX1_plays_23 rfl rfl) (z_ald _ _),
   zz_of (ok_get G (nx := 27) (ci := 0) (kd := 2) (k := 0) (RX1, TX1, 19) rfl (by decide) rfl q399 dX1_plays_24 rfl) (z_get _ _ _ _),
   zz_of (ok_getN G (nx := 30) (ci := 1) (kd := 2) (k := 8) (RX2, TX2, 11) rfl (by decide) rfl q238 dX1_plays_27 rfl) (z_get _ _ _ _),
   zz_of (ok_iload_n G dX1_plays_30 rfl rfl) (z_ild _ _),
   zz_of (ok_iald G dX1_plays_31 rfl) (z_iald _),
   zz_of (ok_istore_n G dX1_plays_32 rfl rfl (by decide)) (z_ist _ _),
   zz_of (ok_aload_n G dX1_plays_33 rfl rfl) (z_ald _ _),
   zz_of (ok_get G (nx := 37) (ci := 0) (kd := 2) (k := 0) (RX1, TX1, 19) rfl (by decide) rfl q399 dX1_plays_34 rfl) (z_get _ _ _ _),
   zz_of (ok_getN G (nx := 40) (ci := 1) (kd := 2) (k := 8) (RX2, TX2, 11) rfl (by decide) rfl q238 dX1_plays_37 rfl) (z_get _ _ _ _),
   zz_of (ok_iload_n G dX1_plays_40 rfl rfl) (z_ild _ _),
   zz_of (ok_iload_n G dX1_plays_41 rfl rfl) (z_ild _ _),
   zz_of (ok_iast G dX1_plays_42 rfl) (z_iasd _),
   zz_of (ok_iload_n G dX1_plays_43 rfl rfl) (z_ild _ _),
   zz_of (ok_iret G dX1_plays_44) (z_iret), trivial⟩

theorem zwX1_plays_0 {Q : Option zv → zz_M → Prop} {X : Nat → zz_M → Prop} {f : Nat → Nat × Nat} {S L : Nat → Nat → Int} {P : Nat → Nat → Option Nat} {p : Int} {k : Int} (h : (R32 p ∧ ((0 ≤ p ∧ p < 2) → (R32 k ∧ ((k = (-1) → (0 ≤ p ∧ p < 2) ∧ ((0 ≤ p ∧ p < 2) ∧ (Q (some (vi (S 203 p.toNat))) ((2, f), mm_up S 203 p.toNat k, L, P)))) ∧ (¬ k = (-1) → (((R32 k ∧ (-1000 ≤ (S 202 2) ∧ (S 202 2) ≤ 1000) ∧ ((0 ≤ k ∧ k < (S 202 2)) → ((0 ≤ p ∧ p < 2) ∧ ((0 ≤ p ∧ p < 2) ∧ (Q (some (vi (S 203 p.toNat))) ((2, f), mm_up S 203 p.toNat k, L, P))))) ∧ (¬ (0 ≤ k ∧ k < (S 202 2)) → X 3 ((2, f), S, L, P))))))))) ∧ (¬ (0 ≤ p ∧ p < 2) → X 3 ((2, f), S, L, P)))) : zz_J zpX1_plays (zz_ret Q X 2 12) 0 [some (vr 100), some (vi p), some (vi k), none] [] ((2, f), S, L, P) (0, 0) := zz_J.go [] 400 h

theorem zmX1_plays (l : Launch) (hl : l.stackTraces = false) : mm_Spec l yX1_plays (ws_ yX1_plays cX1_plays 4 (some .int)) (mm_rm 8 2 12) (zE zX1_plays) := by
  refine zz_Met.J hl (by decide) (fun C G hnh => ztX1_plays G hnh) ?_
  rintro as ⟨⟨t_, f⟩, S, L, P⟩ Q X h
  unfold zX1_plays at h
  split at h
  rotate_left
  · exact h.elim
  rename_i h_ p k
  obtain ⟨e1_, e2_, h⟩ := mm_and2 h (fun q => q)
  cases mm_beq e1_
  cases mm_beq e2_
  try dsimp only at h
  refine ⟨rfl, ?_⟩
  obtain ⟨h1, h2, h3, q1, q2⟩ := h
  unfold plT at q1 q2
  refine zwX1_plays_0 ?_
  (repeat' (first | omega | exact q1 (by rw [if_pos (by omega)]) | exact q2 (by rw [if_neg (by omega)]) | apply And.intro | intro _)) <;> omega
def zX1_score : zz_Sp := fun as M Q X => match as with
  | [.inr (.inr (some h_)), .inl a, .inl b, .inl s] => bif Nat.beq h_ 100 && Nat.beq M.1.1 2 then (R32 a ∧ R32 b ∧ R32 s ∧ (¬ (0 ≤ s ∧ s ≤ 1) → X 3 ((2, M.1.2), M.2.1, M.2.2.1, M.2.2.2)) ∧ ((0 ≤ s ∧ s ≤ 1) → ¬ isP a b → X 1 ((2, M.1.2), M.2.1, M.2.2.1, M.2.2.2)) ∧ ((0 ≤ s ∧ s ≤ 1) → isP a b → Q none ((2, M.1.2), cxW M.2.1 204 (ru (ru (ru (ru (ru (cx M.2.1 204) 0 a) 1 b) 2 s) 3 0) 6 0), M.2.2.1, M.2.2.2))) else False
  | _ => False

def zpX1_score : zz_P := [(0, zo_ild 1 3), (1, zo_csL (mm_rm 8 2 12) 4 1 1 6 zX1_player), (4, zo_ild 5 1), (5, zo_ild 6 2), (6, zo_calls 9 2 zX1_arePoints), (9, zo_csL (mm_rm 8 2 12) 12 1 1 6 zX1_demand), (12, zo_ald 13 0), (13, zo_get 16 0 2 0), (16, zo_get 19 1 2 9), (19, zo_ast 21 4), (21, zo_ald 23 4), (23, zo_get 26 2 2 0), (26, zo_c 27 (vi 0)), (27, zo_ild 28 1), (28, zo_iasc 29 0), (29, zo_ald 31 4), (31, zo_get 34 2 2 0), (34, zo_c 35 (vi 1)), (35, zo_ild 36 2), (36, zo_iasc 37 1), (37, zo_ald 39 4), (39, zo_ild 40 3), (40, zo_puti 43 2 3), (43, zo_ald 45 4), (45, zo_c 46 (vi 0)), (46, zo_puti 49 2 4), (49, zo_ald 51 4), (51, zo_c 52 (vi 0)), (52, zo_putz true 55 2 5), (55, zo_vret)]
theorem ztX1_score {C : mm_C} (G : mm_G C RX1 cX1_score none 5 (mm_rm 8 2 12)) (hnh : mm_nh C) : zz_OKs C zpX1_score :=
  ⟨zz_of (ok_iload_n G dX1_score_0 rfl rfl) (z_ild _ _),
   zz_of (ok_calsF G (hnh.q 1) (zmX1_player _ G.hst) q1367 q1368 q82 q1369 (by decide +kernel) ⟨Nat.le_of_ble_eq_true rfl, Nat.le_of_ble_eq_true rfl⟩ dX1_score_1 rfl) (z_csL _ _ _ _ _ _),
   zz_of (ok_iload_n G dX1_score_4 rfl rfl) (z_ild _ _),
   zz_of (ok_iload_n G dX1_score_5 rfl rfl) (z_ild _ _),
   zz_of (ok_calls G hnh (zmX1_arePoints _ G.hst) rfl rfl q1471 q1472 q82 q1473 (by decide +kernel) ⟨by decide, by decide⟩ dX1_score_6 rfl) (z_calls _ _ _),
   zz_of (ok_calsF G (hnh.q 9) (zmX1_demand _ G.hst) q1474 q1475 q82 q1476 (by decide +kernel) ⟨Nat.le_of_ble_eq_true rfl, Nat.le_of_ble_eq_true rfl⟩ dX1_score_9 rfl) (z_csL _ _ _ _ _ _),
   zz_of (ok_aload_n G dX1_score_12 rfl rfl) (z_ald _ _),
   zz_of (ok_get G (nx := 16) (ci := 0) (kd := 2) (k := 0) (RX1, TX1, 19) rfl (by decide) rfl q399 dX1_score_13 rfl) (z_get _ _ _ _),
   zz_of (ok_getN G (nx := 19) (ci := 1) (kd := 2) (k := 9) (RX2, TX2, 11) rfl (by decide) rfl q240 dX1_score_16 rfl) (z_get _ _ _ _),
   zz_of (ok_astore G dX1_score_19 rfl (by decide)) (z_ast _ _),
   zz_of (ok_aload G dX1_score_21 rfl) (z_ald _ _),
   zz_of (ok_getN G (nx := 26) (ci := 2) (kd := 2) (k := 0) (RX3, TX3, 7) rfl (by decide) rfl q179 dX1_score_23 rfl) (z_get _ _ _ _),
   zz_of (ok_iconst G (v := 0) dX1_score_26 (by decide) rfl) (z_cn 27 0),
   zz_of (ok_iload_n G dX1_score_27 rfl rfl) (z_ild _ _),
   zz_of (ok_iast G dX1_score_28 rfl) (z_iasc _ _),
   zz_of (ok_aload G dX1_score_29 rfl) (z_ald _ _),
   zz_of (ok_getN G (nx := 34) (ci := 2) (kd := 2) (k := 0) (RX3, TX3, 7) rfl (by decide) rfl q179 dX1_score_31 rfl) (z_get _ _ _ _),
   zz_of (ok_iconst G (v := 1) dX1_score_34 (by decide) rfl) (z_cn 35 1),
   zz_of (ok_iload_n G dX1_score_35 rfl rfl) (z_ild _ _),
   zz_of (ok_iast G dX1_score_36 rfl) (z_iasc _ _),
   zz_of (ok_aload G dX1_score_37 rfl) (z_ald _ _),
   zz_of (ok_iload_n G dX1_score_39 rfl rfl) (z_ild _ _),
   zz_of (ok_puti G (nx := 43) (idx := 372) (ci := 2) (k := 3) (RX3, TX3, 7) rfl (by decide) rfl (mm_pwN G (ci := 2) (k := 3) (RX3, TX3, 7) rfl (by decide) rfl q189 dX1_score_40) rfl) (z_puti _ _ _),
   zz_of (ok_aload G dX1_score_43 rfl) (z_ald _ _),
   zz_of (ok_iconst G (v := 0) dX1_score_45 (by decide) rfl) (z_cn 46 0),
   zz_of (ok_puti G (nx := 49) (idx := 375) (ci := 2) (k := 4) (RX3, TX3, 7) rfl (by decide) rfl (mm_pwN G (ci := 2) (k := 4) (RX3, TX3, 7) rfl (by decide) rfl q192 dX1_score_46) rfl) (z_puti _ _ _),
   zz_of (ok_aload G dX1_score_49 rfl) (z_ald _ _),
   zz_of (ok_iconst G (v := 0) dX1_score_51 (by decide) rfl) (z_cn 52 0),
   zz_of (ok_putz G (nx := 55) (idx := 378) (ci := 2) (k := 5) (RX3, TX3, 7) rfl (by decide) rfl (mm_pwN G (ci := 2) (k := 5) (RX3, TX3, 7) rfl (by decide) rfl q197 dX1_score_52) rfl) (z_putz _ _ _ _),
   zz_of (ok_vret G dX1_score_55) (z_vret), trivial⟩

theorem zwX1_score_0 {Q : Option zv → zz_M → Prop} {X : Nat → zz_M → Prop} {f : Nat → Nat × Nat} {S L : Nat → Nat → Int} {P : Nat → Nat → Option Nat} {a : Int} {b : Int} {s : Int} (h : (R32 s ∧ ((0 ≤ s ∧ s < 2) → ((R32 a ∧ R32 b ∧ (isP a b → ((((1 : Int) = 1 → (Q none ((2, f), mm_up (mm_up (mm_up (mm_up (mm_up S 205 0 a) 205 1 b) 204 3 s) 204 4 0) 204 5 0, L, P))) ∧ ((1 : Int) = 0 → X 1 ((2, f), S, L, P)) ∧ ((1 : Int) = 0 ∨ (1 : Int) = 1)))) ∧ (¬ isP a b → ((((0 : Int) = 1 → (Q none ((2, f), mm_up (mm_up (mm_up (mm_up (mm_up S 205 0 a) 205 1 b) 204 3 s) 204 4 0) 204 5 0, L, P))) ∧ ((0 : Int) = 0 → X 1 ((2, f), S, L, P)) ∧ ((0 : Int) = 0 ∨ (0 : Int) = 1))))))) ∧ (¬ (0 ≤ s ∧ s < 2) → X 3 ((2, f), S, L, P)))) : zz_J zpX1_score (zz_ret Q X 2 12) 0 [some (vr 100), some (vi a), some (vi b), some (vi s), none] [] ((2, f), S, L, P) (0, 0) := zz_J.go [] 400 h

theorem zmX1_score (l : Launch) (hl : l.stackTraces = false) : mm_Spec l yX1_score (ws_ yX1_score cX1_score 5 none) (mm_rm 8 2 12) (zE zX1_score) := by
  refine zz_Met.J hl (by decide) (fun C G hnh => ztX1_score G hnh) ?_
  rintro as ⟨⟨t_, f⟩, S, L, P⟩ Q X h
  unfold zX1_score at h
  split at h
  rotate_left
  · exact h.elim
  rename_i h_ a b s
  obtain ⟨e1_, e2_, h⟩ := mm_and2 h (fun q => q)
  cases mm_beq e1_
  cases mm_beq e2_
  try dsimp only at h
  refine ⟨rfl, ?_⟩
  obtain ⟨h1, h2, h3, q1, q2, q3⟩ := h
  have key : (0 ≤ s ∧ s ≤ 1) → isP a b → ∀ T : Nat → Nat → Int, T = cxW S 204 (ru (ru (ru (ru (ru (cx S 204) 0 a) 1 b) 2 s) 3 0) 6 0) → Q none ((2, f), T, L, P) := fun c d T e => by rw [e]; exact q3 c d
  have mem : mm_up (mm_up (mm_up (mm_up (mm_up S 205 0 a) 205 1 b) 204 3 s) 204 4 0) 204 5 0 = cxW S 204 (ru (ru (ru (ru (ru (cx S 204) 0 a) 1 b) 2 s) 3 0) 6 0) := by
    rw [cxW_i0 S 204, cxW_1 S 204, cxW_2, cxW_3, cxW_6]
  exact zwX1_score_0 ⟨h3, fun c => ⟨h1, h2, fun d => ⟨fun _ => key (by omega) d _ mem, fun e => absurd e (by decide), Or.inr rfl⟩, fun d => ⟨fun e => absurd e (by decide), fun _ => q2 (by omega) d, Or.inl rfl⟩⟩, fun c => q1 (by omega)⟩
def zX1_games : zz_Sp := fun as M Q X => match as with
  | [.inr (.inr (some h_)), .inl a, .inl b] => bif Nat.beq h_ 100 && Nat.beq M.1.1 2 then (R32 a ∧ R32 b ∧ (¬ ((0 ≤ a ∧ a ≤ 6) ∧ (0 ≤ b ∧ b ≤ 6)) → X 1 ((2, M.1.2), M.2.1, M.2.2.1, M.2.2.2)) ∧ ((0 ≤ a ∧ a ≤ 6) ∧ (0 ≤ b ∧ b ≤ 6) → Q none ((2, M.1.2), cxW M.2.1 204 (ru (ru (cx M.2.1 204) 7 a) 8 b), M.2.2.1, M.2.2.2))) else False
  | _ => False

def zpX1_games : zz_P := [(0, zo_ild 1 1), (1, zo_c 2 (vi 0)), (2, zo_c 4 (vi 6)), (4, zo_calls 7 3 zX1_in), (7, zo_zifeq 10 24), (10, zo_ild 11 2), (11, zo_c 12 (vi 0)), (12, zo_c 14 (vi 6)), (14, zo_calls 17 3 zX1_in), (17, zo_zifeq 20 24), (20, zo_c 21 (vi 1)), (21, zo_goto 25), (24, zo_c 25 (vi 0)), (25, zo_csL (mm_rm 7 1 6) 28 1 1 6 zX1_demand), (28, zo_ald 29 0), (29, zo_get 32 0 2 0), (32, zo_get 35 1 2 9), (35, zo_get 38 2 2 1), (38, zo_c 39 (vi 0)), (39, zo_ild 40 1), (40, zo_iasc 41 0), (41, zo_ald 42 0), (42, zo_get 45 0 2 0), (45, zo_get 48 1 2 9), (48, zo_get 51 2 2 1), (51, zo_c 52 (vi 1)), (52, zo_ild 53 2), (53, zo_iasc 54 1), (54, zo_vret)]
theorem ztX1_games {C : mm_C} (G : mm_G C RX1 cX1_games none 3 (mm_rm 7 1 6)) (hnh : mm_nh C) : zz_OKs C zpX1_games :=
  ⟨zz_of (ok_iload_n G dX1_games_0 rfl rfl) (z_ild _ _),
   zz_of (ok_iconst G (v := 0) dX1_games_1 (by decide) rfl) (z_cn 2 0),
   zz_of (ok_bipush G (v := 6) dX1_games_2 (by decide) rfl) (z_cn 4 6),
   zz_of (ok_calls G hnh (zmX1_in _ G.hst) rfl rfl q1326 q634 q82 q635 (by decide +kernel) ⟨by decide, by decide⟩ dX1_games_4 rfl) (z_calls _ _ _),
   zz_of (ok_ifeq G dX1_games_7 rfl rfl) (z_zifeq _ _),
   zz_of (ok_iload_n G dX1_games_10 rfl rfl) (z_ild _ _),
   zz_of (ok_iconst G (v := 0) dX1_games_11 (by decide) rfl) (z_cn 12 0),
   zz_of (ok_bipush G (v := 6) dX1_games_12 (by decide) rfl) (z_cn 14 6),
   zz_of (ok_calls G hnh (zmX1_in _ G.hst) rfl rfl q1326 q634 q82 q635 (by decide +kernel) ⟨by decide, by decide⟩ dX1_games_14 rfl) (z_calls _ _ _),
   zz_of (ok_ifeq G dX1_games_17 rfl rfl) (z_zifeq _ _),
   zz_of (ok_iconst G (v := 1) dX1_games_20 (by decide) rfl) (z_cn 21 1),
   zz_of (ok_goto G dX1_games_21 rfl) (z_goto _),
   zz_of (ok_iconst G (v := 0) dX1_games_24 (by decide) rfl) (z_cn 25 0),
   zz_of (ok_calsF G (hnh.q 25) (zmX1_demand _ G.hst) q1474 q1475 q82 q1476 (by decide +kernel) ⟨Nat.le_of_ble_eq_true rfl, Nat.le_of_ble_eq_true rfl⟩ dX1_games_25 rfl) (z_csL _ _ _ _ _ _),
   zz_of (ok_aload_n G dX1_games_28 rfl rfl) (z_ald _ _),
   zz_of (ok_get G (nx := 32) (ci := 0) (kd := 2) (k := 0) (RX1, TX1, 19) rfl (by decide) rfl q399 dX1_games_29 rfl) (z_get _ _ _ _),
   zz_of (ok_getN G (nx := 35) (ci := 1) (kd := 2) (k := 9) (RX2, TX2, 11) rfl (by decide) rfl q240 dX1_games_32 rfl) (z_get _ _ _ _),
   zz_of (ok_getN G (nx := 38) (ci := 2) (kd := 2) (k := 1) (RX3, TX3, 7) rfl (by decide) rfl q183 dX1_games_35 rfl) (z_get _ _ _ _),
   zz_of (ok_iconst G (v := 0) dX1_games_38 (by decide) rfl) (z_cn 39 0),
   zz_of (ok_iload_n G dX1_games_39 rfl rfl) (z_ild _ _),
   zz_of (ok_iast G dX1_games_40 rfl) (z_iasc _ _),
   zz_of (ok_aload_n G dX1_games_41 rfl rfl) (z_ald _ _),
   zz_of (ok_get G (nx := 45) (ci := 0) (kd := 2) (k := 0) (RX1, TX1, 19) rfl (by decide) rfl q399 dX1_games_42 rfl) (z_get _ _ _ _),
   zz_of (ok_getN G (nx := 48) (ci := 1) (kd := 2) (k := 9) (RX2, TX2, 11) rfl (by decide) rfl q240 dX1_games_45 rfl) (z_get _ _ _ _),
   zz_of (ok_getN G (nx := 51) (ci := 2) (kd := 2) (k := 1) (RX3, TX3, 7) rfl (by decide) rfl q183 dX1_games_48 rfl) (z_get _ _ _ _),
   zz_of (ok_iconst G (v := 1) dX1_games_51 (by decide) rfl) (z_cn 52 1),
   zz_of (ok_iload_n G dX1_games_52 rfl rfl) (z_ild _ _),
   zz_of (ok_iast G dX1_games_53 rfl) (z_iasc _ _),
   zz_of (ok_vret G dX1_games_54) (z_vret), trivial⟩

theorem zwX1_games_0 {Q : Option zv → zz_M → Prop} {X : Nat → zz_M → Prop} {f : Nat → Nat × Nat} {S L : Nat → Nat → Int} {P : Nat → Nat → Option Nat} {a : Int} {b : Int} (h : (R32 a ∧ R32 (0 : Int) ∧ R32 (6 : Int) ∧ (((0 : Int) ≤ a ∧ a ≤ (6 : Int)) → ((R32 b ∧ R32 (0 : Int) ∧ R32 (6 : Int) ∧ (((0 : Int) ≤ b ∧ b ≤ (6 : Int)) → ((((1 : Int) = 1 → (Q none ((2, f), mm_up (mm_up S 206 0 a) 206 1 b, L, P))) ∧ ((1 : Int) = 0 → X 1 ((2, f), S, L, P)) ∧ ((1 : Int) = 0 ∨ (1 : Int) = 1)))) ∧ (¬ ((0 : Int) ≤ b ∧ b ≤ (6 : Int)) → ((((0 : Int) = 1 → (Q none ((2, f), mm_up (mm_up S 206 0 a) 206 1 b, L, P))) ∧ ((0 : Int) = 0 → X 1 ((2, f), S, L, P)) ∧ ((0 : Int) = 0 ∨ (0 : Int) = 1))))))) ∧ (¬ ((0 : Int) ≤ a ∧ a ≤ (6 : Int)) → ((((0 : Int) = 1 → (Q none ((2, f), mm_up (mm_up S 206 0 a) 206 1 b, L, P))) ∧ ((0 : Int) = 0 → X 1 ((2, f), S, L, P)) ∧ ((0 : Int) = 0 ∨ (0 : Int) = 1)))))) : zz_J zpX1_games (zz_ret Q X 1 6) 0 [some (vr 100), some (vi a), some (vi b)] [] ((2, f), S, L, P) (0, 0) := zz_J.go [] 400 h

theorem zmX1_games (l : Launch) (hl : l.stackTraces = false) : mm_Spec l yX1_games (ws_ yX1_games cX1_games 3 none) (mm_rm 7 1 6) (zE zX1_games) := by
  refine zz_Met.J hl (by decide) (fun C G hnh => ztX1_games G hnh) ?_
  rintro as ⟨⟨t_, f⟩, S, L, P⟩ Q X h
  unfold zX1_games at h
  split at h
  rotate_left
  · exact h.elim
  rename_i h_ a b
  obtain ⟨e1_, e2_, h⟩ := mm_and2 h (fun q => q)
  cases mm_beq e1_
  cases mm_beq e2_
  try dsimp only at h
  refine ⟨rfl, ?_⟩
  obtain ⟨h1, h2, q1, q2⟩ := h
  have key : ((0 ≤ a ∧ a ≤ 6) ∧ (0 ≤ b ∧ b ≤ 6)) → ∀ T : Nat → Nat → Int, T = cxW S 204 (ru (ru (cx S 204) 7 a) 8 b) → Q none ((2, f), T, L, P) := fun c T e => by rw [e]; exact q2 c
  have mem : mm_up (mm_up S 206 0 a) 206 1 b = cxW S 204 (ru (ru (cx S 204) 7 a) 8 b) := by
    conv => lhs; rw [← cxW_id S 204]
    rw [cxW_7 S 204, cxW_8 S 204]
  exact zwX1_games_0 ⟨h1, by decide, by decide, fun c => ⟨h2, by decide, by decide, fun d => ⟨fun _ => key ⟨c, d⟩ _ mem, fun e => absurd e (by decide), Or.inr rfl⟩, fun d => ⟨fun e => absurd e (by decide), fun _ => q1 (fun x => d x.2), Or.inl rfl⟩⟩, fun c => ⟨fun e => absurd e (by decide), fun _ => q1 (fun x => c x.1), Or.inl rfl⟩⟩
def zX1_begin : zz_Sp := fun as M Q X => match as with
  | [.inr (.inr (some h_)), .inl a, .inl b] => bif Nat.beq h_ 100 && Nat.beq M.1.1 2 then (R32 a ∧ R32 b ∧ (¬ ((0 ≤ a ∧ a ≤ 3) ∧ (0 ≤ b ∧ b ≤ 3)) → X 1 ((2, M.1.2), M.2.1, M.2.2.1, M.2.2.2)) ∧ ((0 ≤ a ∧ a ≤ 3) ∧ (0 ≤ b ∧ b ≤ 3) → Q none ((2, M.1.2), mm_up (mm_up M.2.1 200 4 a) 200 5 b, M.2.2.1, M.2.2.2))) else False
  | _ => False

def zpX1_begin : zz_P := [(0, zo_ild 1 1), (1, zo_c 2 (vi 0)), (2, zo_c 3 (vi 3)), (3, zo_calls 6 3 zX1_in), (6, zo_zifeq 9 22), (9, zo_ild 10 2), (10, zo_c 11 (vi 0)), (11, zo_c 12 (vi 3)), (12, zo_calls 15 3 zX1_in), (15, zo_zifeq 18 22), (18, zo_c 19 (vi 1)), (19, zo_goto 23), (22, zo_c 23 (vi 0)), (23, zo_csL (mm_rm 7 1 6) 26 1 1 6 zX1_demand), (26, zo_ald 27 0), (27, zo_get 30 0 2 0), (30, zo_ild 31 1), (31, zo_puti 34 1 4), (34, zo_ald 35 0), (35, zo_get 38 0 2 0), (38, zo_ild 39 2), (39, zo_puti 42 1 5), (42, zo_vret)]
theorem ztX1_begin {C : mm_C} (G : mm_G C RX1 cX1_begin none 3 (mm_rm 7 1 6)) (hnh : mm_nh C) : zz_OKs C zpX1_begin :=
  ⟨zz_of (ok_iload_n G dX1_begin_0 rfl rfl) (z_ild _ _),
   zz_of (ok_iconst G (v := 0) dX1_begin_1 (by decide) rfl) (z_cn 2 0),
   zz_of (ok_iconst G (v := 3) dX1_begin_2 (by decide) rfl) (z_cn 3 3),
   zz_of (ok_calls G hnh (zmX1_in _ G.hst) rfl rfl q1326 q634 q82 q635 (by decide +kernel) ⟨by decide, by decide⟩ dX1_begin_3 rfl) (z_calls _ _ _),
   zz_of (ok_ifeq G dX1_begin_6 rfl rfl) (z_zifeq _ _),
   zz_of (ok_iload_n G dX1_begin_9 rfl rfl) (z_ild _ _),
   zz_of (ok_iconst G (v := 0) dX1_begin_10 (by decide) rfl) (z_cn 11 0),
   zz_of (ok_iconst G (v := 3) dX1_begin_11 (by decide) rfl) (z_cn 12 3),
   zz_of (ok_calls G hnh (zmX1_in _ G.hst) rfl rfl q1326 q634 q82 q635 (by decide +kernel) ⟨by decide, by decide⟩ dX1_begin_12 rfl) (z_calls _ _ _),
   zz_of (ok_ifeq G dX1_begin_15 rfl rfl) (z_zifeq _ _),
   zz_of (ok_iconst G (v := 1) dX1_begin_18 (by decide) rfl) (z_cn 19 1),
   zz_of (ok_goto G dX1_begin_19 rfl) (z_goto _),
   zz_of (ok_iconst G (v := 0) dX1_begin_22 (by decide) rfl) (z_cn 23 0),
   zz_of (ok_calsF G (hnh.q 23) (zmX1_demand _ G.hst) q1474 q1475 q82 q1476 (by decide +kernel) ⟨Nat.le_of_ble_eq_true rfl, Nat.le_of_ble_eq_true rfl⟩ dX1_begin_23 rfl) (z_csL _ _ _ _ _ _),
   zz_of (ok_aload_n G dX1_begin_26 rfl rfl) (z_ald _ _),
   zz_of (ok_get G (nx := 30) (ci := 0) (kd := 2) (k := 0) (RX1, TX1, 19) rfl (by decide) rfl q399 dX1_begin_27 rfl) (z_get _ _ _ _),
   zz_of (ok_iload_n G dX1_begin_30 rfl rfl) (z_ild _ _),
   zz_of (ok_puti G (nx := 34) (idx := 382) (ci := 1) (k := 4) (RX2, TX2, 11) rfl (by decide) rfl (mm_pwN G (ci := 1) (k := 4) (RX2, TX2, 11) rfl (by decide) rfl q227 dX1_begin_31) rfl) (z_puti _ _ _),
   zz_of (ok_aload_n G dX1_begin_34 rfl rfl) (z_ald _ _),
   zz_of (ok_get G (nx := 38) (ci := 0) (kd := 2) (k := 0) (RX1, TX1, 19) rfl (by decide) rfl q399 dX1_begin_35 rfl) (z_get _ _ _ _),
   zz_of (ok_iload_n G dX1_begin_38 rfl rfl) (z_ild _ _),
   zz_of (ok_puti G (nx := 42) (idx := 385) (ci := 1) (k := 5) (RX2, TX2, 11) rfl (by decide) rfl (mm_pwN G (ci := 1) (k := 5) (RX2, TX2, 11) rfl (by decide) rfl q230 dX1_begin_39) rfl) (z_puti _ _ _),
   zz_of (ok_vret G dX1_begin_42) (z_vret), trivial⟩

theorem zwX1_begin_0 {Q : Option zv → zz_M → Prop} {X : Nat → zz_M → Prop} {f : Nat → Nat × Nat} {S L : Nat → Nat → Int} {P : Nat → Nat → Option Nat} {a : Int} {b : Int} (h : (R32 a ∧ R32 (0 : Int) ∧ R32 (3 : Int) ∧ (((0 : Int) ≤ a ∧ a ≤ (3 : Int)) → ((R32 b ∧ R32 (0 : Int) ∧ R32 (3 : Int) ∧ (((0 : Int) ≤ b ∧ b ≤ (3 : Int)) → ((((1 : Int) = 1 → (Q none ((2, f), mm_up (mm_up S 200 4 a) 200 5 b, L, P))) ∧ ((1 : Int) = 0 → X 1 ((2, f), S, L, P)) ∧ ((1 : Int) = 0 ∨ (1 : Int) = 1)))) ∧ (¬ ((0 : Int) ≤ b ∧ b ≤ (3 : Int)) → ((((0 : Int) = 1 → (Q none ((2, f), mm_up (mm_up S 200 4 a) 200 5 b, L, P))) ∧ ((0 : Int) = 0 → X 1 ((2, f), S, L, P)) ∧ ((0 : Int) = 0 ∨ (0 : Int) = 1))))))) ∧ (¬ ((0 : Int) ≤ a ∧ a ≤ (3 : Int)) → ((((0 : Int) = 1 → (Q none ((2, f), mm_up (mm_up S 200 4 a) 200 5 b, L, P))) ∧ ((0 : Int) = 0 → X 1 ((2, f), S, L, P)) ∧ ((0 : Int) = 0 ∨ (0 : Int) = 1)))))) : zz_J zpX1_begin (zz_ret Q X 1 6) 0 [some (vr 100), some (vi a), some (vi b)] [] ((2, f), S, L, P) (0, 0) := zz_J.go [] 400 h

theorem zmX1_begin (l : Launch) (hl : l.stackTraces = false) : mm_Spec l yX1_begin (ws_ yX1_begin cX1_begin 3 none) (mm_rm 7 1 6) (zE zX1_begin) := by
  refine zz_Met.J hl (by decide) (fun C G hnh => ztX1_begin G hnh) ?_
  rintro as ⟨⟨t_, f⟩, S, L, P⟩ Q X h
  unfold zX1_begin at h
  split at h
  rotate_left
  · exact h.elim
  rename_i h_ a b
  obtain ⟨e1_, e2_, h⟩ := mm_and2 h (fun q => q)
  cases mm_beq e1_
  cases mm_beq e2_
  try dsimp only at h
  refine ⟨rfl, ?_⟩
  obtain ⟨h1, h2, q1, q2⟩ := h
  exact zwX1_begin_0 ⟨h1, by decide, by decide, fun c => ⟨h2, by decide, by decide, fun d => ⟨fun _ => q2 ⟨c, d⟩, fun e => absurd e (by decide), Or.inr rfl⟩, fun d => ⟨fun e => absurd e (by decide), fun _ => q1 (fun x => d x.2), Or.inl rfl⟩⟩, fun c => ⟨fun e => absurd e (by decide), fun _ => q1 (fun x => c x.1), Or.inl rfl⟩⟩
def zX1_stands : zz_Sp := fun as M Q X => match as with
  | [.inr (.inr (some h_)), .inl k] => bif Nat.beq h_ 100 && Nat.beq M.1.1 2 then (R32 k ∧ scb (cx M.2.1 204) ∧ (cx M.2.1 204 6 = 0 ∨ cx M.2.1 204 6 = 1) ∧ (¬ (0 ≤ k ∧ k ≤ 9) → X 4 ((2, M.1.2), M.2.1, M.2.2.1, M.2.2.2)) ∧ ((0 ≤ k ∧ k ≤ 9) → Q (some (vi (tdR (cx M.2.1 204) k))) ((2, M.1.2), M.2.1, M.2.2.1, M.2.2.2))) else False
  | _ => False

def zpX1_stands : zz_P := [(0, zo_ild 1 1), (1, zo_c 3 (vi 9)), (3, zo_csL (mm_rm 7 1 6) 6 2 1 6 zX1_asked), (6, zo_ald 7 0), (7, zo_get 10 0 2 0), (10, zo_get 13 1 2 9), (13, zo_ild 14 1), (14, zo_callv 17 2 2 zX3_stands_204), (17, zo_iret)]
theorem ztX1_stands {C : mm_C} (G : mm_G C RX1 cX1_stands (some .int) 2 (mm_rm 7 1 6)) (hnh : mm_nh C) : zz_OKs C zpX1_stands :=
  ⟨zz_of (ok_iload_n G dX1_stands_0 rfl rfl) (z_ild _ _),
   zz_of (ok_bipush G (v := 9) dX1_stands_1 (by decide) rfl) (z_cn 3 9),
   zz_of (ok_calsF G (hnh.q 3) (zmX1_asked _ G.hst) q1342 q1343 q82 q1344 (by decide +kernel) ⟨Nat.le_of_ble_eq_true rfl, Nat.le_of_ble_eq_true rfl⟩ dX1_stands_3 rfl) (z_csL _ _ _ _ _ _),
   zz_of (ok_aload_n G dX1_stands_6 rfl rfl) (z_ald _ _),
   zz_of (ok_get G (nx := 10) (ci := 0) (kd := 2) (k := 0) (RX1, TX1, 19) rfl (by decide) rfl q399 dX1_stands_7 rfl) (z_get _ _ _ _),
   zz_of (ok_getN G (nx := 13) (ci := 1) (kd := 2) (k := 9) (RX2, TX2, 11) rfl (by decide) rfl q240 dX1_stands_10 rfl) (z_get _ _ _ _),
   zz_of (ok_iload_n G dX1_stands_13 rfl rfl) (z_ild _ _),
   zz_of (ok_callv G hnh (zmX3_stands_204 _ G.hst) rfl rfl (RX3, TX3, 7) rfl q1498 q1499 q1500 q87 q1501 (by decide +kernel) ⟨by decide, by decide⟩ dX1_stands_14 rfl) (z_callv _ _ _ _),
   zz_of (ok_iret G dX1_stands_17) (z_iret), trivial⟩

theorem zwX1_stands_0 {Q : Option zv → zz_M → Prop} {X : Nat → zz_M → Prop} {f : Nat → Nat × Nat} {S L : Nat → Nat → Int} {P : Nat → Nat → Option Nat} {k : Int} (h : (R32 k ∧ (0 ≤ (9 : Int) ∧ (9 : Int) ≤ 1000) ∧ ((0 ≤ k ∧ k ≤ (9 : Int)) → (((0 ≤ k ∧ k ≤ 9) ∧ scb (cx S 204) ∧ (cx S 204 6 = 0 ∨ cx S 204 6 = 1) ∧ (Q (some (vi (tdR (cx S 204) k))) ((2, f), S, L, P))))) ∧ (¬ (0 ≤ k ∧ k ≤ (9 : Int)) → X 4 ((2, f), S, L, P)))) : zz_J zpX1_stands (zz_ret Q X 1 6) 0 [some (vr 100), some (vi k)] [] ((2, f), S, L, P) (0, 0) := zz_J.go [] 400 h

theorem zmX1_stands (l : Launch) (hl : l.stackTraces = false) : mm_Spec l yX1_stands (ws_ yX1_stands cX1_stands 2 (some .int)) (mm_rm 7 1 6) (zE zX1_stands) := by
  refine zz_Met.J hl (by decide) (fun C G hnh => ztX1_stands G hnh) ?_
  rintro as ⟨⟨t_, f⟩, S, L, P⟩ Q X h
  unfold zX1_stands at h
  split at h
  rotate_left
  · exact h.elim
  rename_i h_ k
  obtain ⟨e1_, e2_, h⟩ := mm_and2 h (fun q => q)
  cases mm_beq e1_
  cases mm_beq e2_
  try dsimp only at h
  refine ⟨rfl, ?_⟩
  obtain ⟨h1, hb, h6, q1, q2⟩ := h
  exact zwX1_stands_0 ⟨h1, by decide, fun c => ⟨c, hb, h6, q2 c⟩, q1⟩
def zX1_rally : zz_Sp := fun as M Q X => match as with
  | [.inr (.inr (some h_)), .inl how, .inl line] => bif Nat.beq h_ 100 && Nat.beq M.1.1 2 then (R32 how ∧ R32 line ∧ scb (cx M.2.1 204) ∧ scV (cx M.2.1 204) ∧ ∃ w_ : Nat → Int, wsc M.2.1 w_ ∧ wV w_ ∧ (raT w_ (cx M.2.1 204) how line = 1 → X 3 ((2, M.1.2), M.2.1, M.2.2.1, M.2.2.2)) ∧ (raT w_ (cx M.2.1 204) how line = 2 → X 1 ((2, M.1.2), M.2.1, M.2.2.1, M.2.2.2)) ∧ (raT w_ (cx M.2.1 204) how line = 3 → X 5 ((2, M.1.2), M.2.1, M.2.2.1, M.2.2.2)) ∧ (raT w_ (cx M.2.1 204) how line = 0 → Q (some (vi (raO w_ (cx M.2.1 204) (clH (cx M.2.1 204) how line)))) ((2, M.1.2), cxW M.2.1 204 (crR w_ (cx M.2.1 204) how line), M.2.2.1, M.2.2.2))) else False
  | _ => False

def zpX1_rally : zz_P := [(0, zo_ild 1 1), (1, zo_c 2 (vi 2)), (2, zo_cne false true 5 11), (5, zo_ild 6 2), (6, zo_c 8 (vi 10)), (8, zo_csL (mm_rm 8 3 18) 11 2 1 6 zX1_there), (11, zo_ild 12 1), (12, zo_c 13 (vi 0)), (13, zo_c 14 (vi 2)), (14, zo_calls 17 3 zX1_in), (17, zo_csL (mm_rm 8 3 18) 20 1 1 6 zX1_demand), (20, zo_ald 21 0), (21, zo_cvL (mm_rm 8 3 18) 24 1 0 1 6 zX1_goesYet), (24, zo_ald 25 0), (25, zo_get 28 0 2 0), (28, zo_get 31 1 2 9), (31, zo_ild 32 1), (32, zo_ild 33 2), (33, zo_callv 36 3 2 zX3_rally_204), (36, zo_iret)]
theorem ztX1_rally {C : mm_C} (G : mm_G C RX1 cX1_rally (some .int) 3 (mm_rm 8 3 18)) (hnh : mm_nh C) : zz_OKs C zpX1_rally :=
  ⟨zz_of (ok_iload_n G dX1_rally_0 rfl rfl) (z_ild _ _),
   zz_of (ok_iconst G (v := 2) dX1_rally_1 (by decide) rfl) (z_cn 2 2),
   zz_of (ok_cne G dX1_rally_2 rfl rfl) (z_cne _ _ _ _),
   zz_of (ok_iload_n G dX1_rally_5 rfl rfl) (z_ild _ _),
   zz_of (ok_bipush G (v := 10) dX1_rally_6 (by decide) rfl) (z_cn 8 10),
   zz_of (ok_calsF G (hnh.q 8) (zmX1_there _ G.hst) q1323 q1324 q82 q1325 (by decide +kernel) ⟨Nat.le_of_ble_eq_true rfl, Nat.le_of_ble_eq_true rfl⟩ dX1_rally_8 rfl) (z_csL _ _ _ _ _ _),
   zz_of (ok_iload_n G dX1_rally_11 rfl rfl) (z_ild _ _),
   zz_of (ok_iconst G (v := 0) dX1_rally_12 (by decide) rfl) (z_cn 13 0),
   zz_of (ok_iconst G (v := 2) dX1_rally_13 (by decide) rfl) (z_cn 14 2),
   zz_of (ok_calls G hnh (zmX1_in _ G.hst) rfl rfl q1326 q634 q82 q635 (by decide +kernel) ⟨by decide, by decide⟩ dX1_rally_14 rfl) (z_calls _ _ _),
   zz_of (ok_calsF G (hnh.q 17) (zmX1_demand _ G.hst) q1474 q1475 q82 q1476 (by decide +kernel) ⟨Nat.le_of_ble_eq_true rfl, Nat.le_of_ble_eq_true rfl⟩ dX1_rally_17 rfl) (z_csL _ _ _ _ _ _),
   zz_of (ok_aload_n G dX1_rally_20 rfl rfl) (z_ald _ _),
   zz_of (ok_calvF G (hnh.q 21) (zmX1_goesYet _ G.hst) (RX1, TX1, 19) rfl q1518 q1520 qs19 q82 q1521 (by decide +kernel) ⟨Nat.le_of_ble_eq_true rfl, Nat.le_of_ble_eq_true rfl⟩ dX1_rally_21 rfl) (z_cvL _ _ _ _ _ _ _),
   zz_of (ok_aload_n G dX1_rally_24 rfl rfl) (z_ald _ _),
   zz_of (ok_get G (nx := 28) (ci := 0) (kd := 2) (k := 0) (RX1, TX1, 19) rfl (by decide) rfl q399 dX1_rally_25 rfl) (z_get _ _ _ _),
   zz_of (ok_getN G (nx := 31) (ci := 1) (kd := 2) (k := 9) (RX2, TX2, 11) rfl (by decide) rfl q240 dX1_rally_28 rfl) (z_get _ _ _ _),
   zz_of (ok_iload_n G dX1_rally_31 rfl rfl) (z_ild _ _),
   zz_of (ok_iload_n G dX1_rally_32 rfl rfl) (z_ild _ _),
   zz_of (ok_callv G hnh (zmX3_rally_204 _ G.hst) rfl rfl (RX3, TX3, 7) rfl q1541 q1542 q1543 q87 q1544 (by decide +kernel) ⟨by decide, by decide⟩ dX1_rally_33 rfl) (z_callv _ _ _ _),
   zz_of (ok_iret G dX1_rally_36) (z_iret), trivial⟩

theorem zwX1_rally_0 {Q : Option zv → zz_M → Prop} {X : Nat → zz_M → Prop} {f : Nat → Nat × Nat} {S L : Nat → Nat → Int} {P : Nat → Nat → Option Nat} {how : Int} {line : Int} (h : R32 how ∧ ((¬ how = 2 → (R32 how ∧ R32 (0 : Int) ∧ R32 (2 : Int) ∧ (((0 : Int) ≤ how ∧ how ≤ (2 : Int)) → ((((1 : Int) = 1 → ((scb (cx S 204) ∧ R32 (S 200 1) ∧ (ovR (S 200 1) (cx S 204) = false → (((0 ≤ how ∧ how ≤ 2) ∧ R32 line ∧ (cx S 204 6 = 0 → how = 2 → 0 ≤ line ∧ line ≤ 9) ∧ scb (cx S 204) ∧ scV (cx S 204) ∧ ∃ w_4 : Nat → Int, wsc S w_4 ∧ wV w_4 ∧ (Q (some (vi (raO w_4 (cx S 204) (clH (cx S 204) how line)))) ((2, f), cxW S 204 (crR w_4 (cx S 204) how line), L, P))))) ∧ (ovR (S 200 1) (cx S 204) = true → X 5 ((2, f), S, L, P))))) ∧ ((1 : Int) = 0 → X 1 ((2, f), S, L, P)) ∧ ((1 : Int) = 0 ∨ (1 : Int) = 1)))) ∧ (¬ ((0 : Int) ≤ how ∧ how ≤ (2 : Int)) → ((((0 : Int) = 1 → ((scb (cx S 204) ∧ R32 (S 200 1) ∧ (ovR (S 200 1) (cx S 204) = false → (((0 ≤ how ∧ how ≤ 2) ∧ R32 line ∧ (cx S 204 6 = 0 → how = 2 → 0 ≤ line ∧ line ≤ 9) ∧ scb (cx S 204) ∧ scV (cx S 204) ∧ ∃ w_7 : Nat → Int, wsc S w_7 ∧ wV w_7 ∧ (Q (some (vi (raO w_7 (cx S 204) (clH (cx S 204) how line)))) ((2, f), cxW S 204 (crR w_7 (cx S 204) how line), L, P))))) ∧ (ovR (S 200 1) (cx S 204) = true → X 5 ((2, f), S, L, P))))) ∧ ((0 : Int) = 0 → X 1 ((2, f), S, L, P)) ∧ ((0 : Int) = 0 ∨ (0 : Int) = 1)))))) ∧ (how = 2 → (R32 line ∧ (-1000 ≤ (10 : Int) ∧ (10 : Int) ≤ 1000) ∧ ((0 ≤ line ∧ line < (10 : Int)) → ((R32 how ∧ R32 (0 : Int) ∧ R32 (2 : Int) ∧ (((0 : Int) ≤ how ∧ how ≤ (2 : Int)) → ((((1 : Int) = 1 → ((scb (cx S 204) ∧ R32 (S 200 1) ∧ (ovR (S 200 1) (cx S 204) = false → (((0 ≤ how ∧ how ≤ 2) ∧ R32 line ∧ (cx S 204 6 = 0 → how = 2 → 0 ≤ line ∧ line ≤ 9) ∧ scb (cx S 204) ∧ scV (cx S 204) ∧ ∃ w_12 : Nat → Int, wsc S w_12 ∧ wV w_12 ∧ (Q (some (vi (raO w_12 (cx S 204) (clH (cx S 204) how line)))) ((2, f), cxW S 204 (crR w_12 (cx S 204) how line), L, P))))) ∧ (ovR (S 200 1) (cx S 204) = true → X 5 ((2, f), S, L, P))))) ∧ ((1 : Int) = 0 → X 1 ((2, f), S, L, P)) ∧ ((1 : Int) = 0 ∨ (1 : Int) = 1)))) ∧ (¬ ((0 : Int) ≤ how ∧ how ≤ (2 : Int)) → ((((0 : Int) = 1 → ((scb (cx S 204) ∧ R32 (S 200 1) ∧ (ovR (S 200 1) (cx S 204) = false → (((0 ≤ how ∧ how ≤ 2) ∧ R32 line ∧ (cx S 204 6 = 0 → how = 2 → 0 ≤ line ∧ line ≤ 9) ∧ scb (cx S 204) ∧ scV (cx S 204) ∧ ∃ w_15 : Nat → Int, wsc S w_15 ∧ wV w_15 ∧ (Q (some (vi (raO w_15 (cx S 204) (clH (cx S 204) how line)))) ((2, f), cxW S 204 (crR w_15 (cx S 204) how line), L, P))))) ∧ (ovR (S 200 1) (cx S 204) = true → X 5 ((2, f), S, L, P))))) ∧ ((0 : Int) = 0 → X 1 ((2, f), S, L, P)) ∧ ((0 : Int) = 0 ∨ (0 : Int) = 1))))))) ∧ (¬ (0 ≤ line ∧ line < (10 : Int)) → X 3 ((2, f), S, L, P)))))) : zz_J zpX1_rally (zz_ret Q X 3 18) 0 [some (vr 100), some (vi how), some (vi line)] [] ((2, f), S, L, P) (0, 0) := zz_J.go [] 400 h

theorem zmX1_rally (l : Launch) (hl : l.stackTraces = false) : mm_Spec l yX1_rally (ws_ yX1_rally cX1_rally 3 (some .int)) (mm_rm 8 3 18) (zE zX1_rally) := by
  refine zz_Met.J hl (by decide) (fun C G hnh => ztX1_rally G hnh) ?_
  rintro as ⟨⟨t_, f⟩, S, L, P⟩ Q X h
  unfold zX1_rally at h
  split at h
  rotate_left
  · exact h.elim
  rename_i h_ how line
  obtain ⟨e1_, e2_, h⟩ := mm_and2 h (fun q => q)
  cases mm_beq e1_
  cases mm_beq e2_
  try dsimp only at h
  refine ⟨rfl, ?_⟩
  obtain ⟨h1, h2, hb, hx, w, hw, hv, q1, q2, q3, q0⟩ := h
  have hg : S 200 1 = w 194 := hw.1
  have v4 := hv.1
  unfold raT at q1 q2 q3 q0
  refine zwX1_rally_0 ⟨h1, fun c => ?_, fun c => ⟨h2, by decide, fun d => ?_, fun d => q1 (by rw [if_pos (by omega)])⟩⟩
  all_goals
    refine ⟨h1, by decide, by decide, fun d2 => ⟨fun _ => ⟨hb, by rw [hg]; omega, fun o => ⟨d2, h2, fun _ _ => by omega, hb, hx, w, hw, hv, q0 ?_⟩, fun o => q3 ?_⟩, fun e => absurd e (by decide), Or.inr rfl⟩, fun d2 => ⟨fun e => absurd e (by decide), fun _ => q2 ?_, Or.inl rfl⟩⟩
    · rw [if_neg (by omega), if_neg (by omega), ← hg, o]; rfl
    · rw [if_neg (by omega), if_neg (by omega), ← hg, if_pos o]
    · rw [if_neg (by omega), if_pos (by omega)]
def zX1_bisque : zz_Sp := fun as M Q X => match as with
  | [.inr (.inr (some h_)), .inl p] => bif Nat.beq h_ 100 && Nat.beq M.1.1 2 then (R32 p ∧ scb (cx M.2.1 204) ∧ scV (cx M.2.1 204) ∧ ∃ w_ : Nat → Int, wsc M.2.1 w_ ∧ wV w_ ∧ (bqT w_ (cx M.2.1 204) p = 1 → X 3 ((2, M.1.2), M.2.1, M.2.2.1, M.2.2.2)) ∧ (bqT w_ (cx M.2.1 204) p = 2 → X 5 ((2, M.1.2), M.2.1, M.2.2.1, M.2.2.2)) ∧ (bqT w_ (cx M.2.1 204) p = 0 → (ptw (cx M.2.1 204) p.toNat = true → Q (some (vi 1)) ((2, M.1.2), cxW M.2.1 204 (cchR w_ (pnt w_ (cx M.2.1 204) p.toNat)), M.2.2.1, M.2.2.2)) ∧ (ptw (cx M.2.1 204) p.toNat = false → Q (some (vi 0)) ((2, M.1.2), cxW M.2.1 204 (cchR w_ (pnt w_ (cx M.2.1 204) p.toNat)), M.2.2.1, M.2.2.2)))) else False
  | _ => False

def zpX1_bisque : zz_P := [(0, zo_ild 1 1), (1, zo_csL (mm_rm 8 2 12) 4 1 1 6 zX1_player), (4, zo_ald 5 0), (5, zo_cvL (mm_rm 8 2 12) 8 1 0 1 6 zX1_goesYet), (8, zo_ald 9 0), (9, zo_get 12 0 2 0), (12, zo_get 15 1 2 9), (15, zo_ild 16 1), (16, zo_callv 19 2 2 zX3_gains_204), (19, zo_zret true)]
theorem ztX1_bisque {C : mm_C} (G : mm_G C RX1 cX1_bisque (some .boolean) 2 (mm_rm 8 2 12)) (hnh : mm_nh C) : zz_OKs C zpX1_bisque :=
  ⟨zz_of (ok_iload_n G dX1_bisque_0 rfl rfl) (z_ild _ _),
   zz_of (ok_calsF G (hnh.q 1) (zmX1_player _ G.hst) q1367 q1368 q82 q1369 (by decide +kernel) ⟨Nat.le_of_ble_eq_true rfl, Nat.le_of_ble_eq_true rfl⟩ dX1_bisque_1 rfl) (z_csL _ _ _ _ _ _),
   zz_of (ok_aload_n G dX1_bisque_4 rfl rfl) (z_ald _ _),
   zz_of (ok_calvF G (hnh.q 5) (zmX1_goesYet _ G.hst) (RX1, TX1, 19) rfl q1518 q1520 qs19 q82 q1521 (by decide +kernel) ⟨Nat.le_of_ble_eq_true rfl, Nat.le_of_ble_eq_true rfl⟩ dX1_bisque_5 rfl) (z_cvL _ _ _ _ _ _ _),
   zz_of (ok_aload_n G dX1_bisque_8 rfl rfl) (z_ald _ _),
   zz_of (ok_get G (nx := 12) (ci := 0) (kd := 2) (k := 0) (RX1, TX1, 19) rfl (by decide) rfl q399 dX1_bisque_9 rfl) (z_get _ _ _ _),
   zz_of (ok_getN G (nx := 15) (ci := 1) (kd := 2) (k := 9) (RX2, TX2, 11) rfl (by decide) rfl q240 dX1_bisque_12 rfl) (z_get _ _ _ _),
   zz_of (ok_iload_n G dX1_bisque_15 rfl rfl) (z_ild _ _),
   zz_of (ok_callv G hnh (zmX3_gains_204 _ G.hst) rfl rfl (RX3, TX3, 7) rfl q1564 q1565 q1566 q87 q1567 (by decide +kernel) ⟨by decide, by decide⟩ dX1_bisque_16 rfl) (z_callv _ _ _ _),
   zz_of (ok_zret G dX1_bisque_19) (z_zret _), trivial⟩

theorem zwX1_bisque_0 {Q : Option zv → zz_M → Prop} {X : Nat → zz_M → Prop} {f : Nat → Nat × Nat} {S L : Nat → Nat → Int} {P : Nat → Nat → Option Nat} {p : Int} (h : (R32 p ∧ ((0 ≤ p ∧ p < 2) → ((scb (cx S 204) ∧ R32 (S 200 1) ∧ (ovR (S 200 1) (cx S 204) = false → (((p = 0 ∨ p = 1) ∧ scb (cx S 204) ∧ 0 ≤ cx S 204 3 ∧ (cx S 204 6 = 0 ∨ cx S 204 6 = 1) ∧ ∃ w_3 : Nat → Int, wsc S w_3 ∧ wV w_3 ∧ (ptw (cx S 204) p.toNat = true → (Q (some (vi 1)) ((2, f), cxW S 204 (cchR w_3 (pnt w_3 (cx S 204) p.toNat)), L, P))) ∧ (ptw (cx S 204) p.toNat = false → (Q (some (vi 0)) ((2, f), cxW S 204 (cchR w_3 (pnt w_3 (cx S 204) p.toNat)), L, P)))))) ∧ (ovR (S 200 1) (cx S 204) = true → X 5 ((2, f), S, L, P))))) ∧ (¬ (0 ≤ p ∧ p < 2) → X 3 ((2, f), S, L, P)))) : zz_J zpX1_bisque (zz_ret Q X 2 12) 0 [some (vr 100), some (vi p)] [] ((2, f), S, L, P) (0, 0) := zz_J.go [] 400 h

theorem zmX1_bisque (l : Launch) (hl : l.stackTraces = false) : mm_Spec l yX1_bisque (ws_ yX1_bisque cX1_bisque 2 (some .boolean)) (mm_rm 8 2 12) (zE zX1_bisque) := by
  refine zz_Met.J hl (by decide) (fun C G hnh => ztX1_bisque G hnh) ?_
  rintro as ⟨⟨t_, f⟩, S, L, P⟩ Q X h
  unfold zX1_bisque at h
  split at h
  rotate_left
  · exact h.elim
  rename_i h_ p
  obtain ⟨e1_, e2_, h⟩ := mm_and2 h (fun q => q)
  cases mm_beq e1_
  cases mm_beq e2_
  try dsimp only at h
  refine ⟨rfl, ?_⟩
  obtain ⟨h1, hb, hx, w, hw, hv, q1, q2, q0⟩ := h
  have hg : S 200 1 = w 194 := hw.1
  have v4 := hv.1
  have h36 : 0 ≤ cx S 204 3 ∧ (cx S 204 6 = 0 ∨ cx S 204 6 = 1) := by
    rcases hx.2.2 with ⟨a, b⟩ | ⟨a, b, -⟩ | ⟨a, b, -⟩ <;> omega
  unfold bqT at q1 q2 q0
  refine zwX1_bisque_0 ⟨h1, fun c => ⟨hb, by rw [hg]; omega, fun o => ?_, fun o => q2 ?_⟩, fun c => q1 ?_⟩
  · have := q0 (by rw [if_neg (by omega), ← hg, o]; rfl)
    exact ⟨by omega, hb, h36.1, h36.2, w, hw, hv, this.1, this.2⟩
  · rw [if_neg (by omega), ← hg, if_pos o]
  · rw [if_pos (by omega)]
def zX1_fault : zz_Sp := fun as M Q X => match as with
  | [.inr (.inr (some h_))] => bif Nat.beq h_ 100 && Nat.beq M.1.1 2 then (Q (some (vi (M.2.1 101 5))) ((2, M.1.2), M.2.1, M.2.2.1, M.2.2.2)) else False
  | _ => False

def zpX1_fault : zz_P := [(0, zo_ald 1 0), (1, zo_get 4 0 2 2), (4, zo_get 7 3 0 5), (7, zo_iret)]
theorem ztX1_fault {C : mm_C} (G : mm_G C RX1 cX1_fault (some .int) 1 (mm_rm 1 0 0)) (hnh : mm_nh C) : zz_OKs C zpX1_fault :=
  ⟨zz_of (ok_aload_n G dX1_fault_0 rfl rfl) (z_ald _ _),
   zz_of (ok_get G (nx := 4) (ci := 0) (kd := 2) (k := 2) (RX1, TX1, 19) rfl (by decide) rfl q404 dX1_fault_1 rfl) (z_get _ _ _ _),
   zz_of (ok_getN G (nx := 7) (ci := 3) (kd := 0) (k := 5) (RX4, TX4, 7) rfl (by decide) rfl q280 dX1_fault_4 rfl) (z_get _ _ _ _),
   zz_of (ok_iret G dX1_fault_7) (z_iret), trivial⟩

theorem zwX1_fault_0 {Q : Option zv → zz_M → Prop} {X : Nat → zz_M → Prop} {f : Nat → Nat × Nat} {S L : Nat → Nat → Int} {P : Nat → Nat → Option Nat}  (h : Q (some (vi (S 101 5))) ((2, f), S, L, P)) : zz_J zpX1_fault (zz_ret Q X 0 0) 0 [some (vr 100)] [] ((2, f), S, L, P) (0, 0) := zz_J.go [] 400 h

theorem zmX1_fault (l : Launch) (hl : l.stackTraces = false) : mm_Spec l yX1_fault (ws_ yX1_fault cX1_fault 1 (some .int)) (mm_rm 1 0 0) (zE zX1_fault) := by
  refine zz_Met.J hl (by decide) (fun C G hnh => ztX1_fault G hnh) ?_
  rintro as ⟨⟨t_, f⟩, S, L, P⟩ Q X h
  unfold zX1_fault at h
  split at h
  rotate_left
  · exact h.elim
  rename_i h_
  obtain ⟨e1_, e2_, h⟩ := mm_and2 h (fun q => q)
  cases mm_beq e1_
  cases mm_beq e2_
  try dsimp only at h
  refine ⟨rfl, ?_⟩
  exact zwX1_fault_0 h
def zX1_count : zz_Sp := fun as M Q X => match as with
  | [.inr (.inr (some h_)), .inl k] => bif Nat.beq h_ 100 && Nat.beq M.1.1 2 then (R32 k ∧ ∃ w_ : Nat → Int, wRel M.2.1 w_ ∧ Q (some (vi (ctR w_ k))) ((2, M.1.2), M.2.1, M.2.2.1, M.2.2.2)) else False
  | _ => False

def zpX1_count : zz_P := [(0, zo_ild 1 1), (1, zo_sw false [(0, 44), (1, 52), (2, 63), (3, 71), (4, 79), (5, 87), (6, 95)] 103), (44, zo_ald 45 0), (45, zo_get 48 0 2 0), (48, zo_get 51 1 0 0), (51, zo_iret), (52, zo_ald 53 0), (53, zo_get 56 0 2 0), (56, zo_get 59 1 2 7), (59, zo_callv 62 1 17 zJ2_size), (62, zo_iret), (63, zo_ald 64 0), (64, zo_get 67 0 2 0), (67, zo_get 70 1 0 1), (70, zo_iret), (71, zo_ald 72 0), (72, zo_get 75 0 2 0), (75, zo_get 78 1 0 2), (78, zo_iret), (79, zo_ald 80 0), (80, zo_get 83 0 2 0), (83, zo_get 86 1 0 3), (86, zo_iret), (87, zo_ald 88 0), (88, zo_get 91 0 2 0), (91, zo_get 94 1 0 4), (94, zo_iret), (95, zo_ald 96 0), (96, zo_get 99 0 2 0), (99, zo_get 102 1 0 5), (102, zo_iret), (103, zo_c 104 (vi (-1))), (104, zo_iret)]
theorem ztX1_count {C : mm_C} (G : mm_G C RX1 cX1_count (some .int) 2 (mm_rm 2 0 0)) (hnh : mm_nh C) : zz_OKs C zpX1_count :=
  ⟨zz_of (ok_iload_n G dX1_count_0 rfl rfl) (z_ild _ _),
   zz_of (ok_tsw G (l := [(0, 44), (1, 52), (2, 63), (3, 71), (4, 79), (5, 87), (6, 95)]) (d := 103) dX1_count_1 (mm_tswo (by decide) (by decide +kernel)) (mm_tswi (by decide +kernel))) (z_sw _ _ _),
   zz_of (ok_aload_n G dX1_count_44 rfl rfl) (z_ald _ _),
   zz_of (ok_get G (nx := 48) (ci := 0) (kd := 2) (k := 0) (RX1, TX1, 19) rfl (by decide) rfl q399 dX1_count_45 rfl) (z_get _ _ _ _),
   zz_of (ok_getN G (nx := 51) (ci := 1) (kd := 0) (k := 0) (RX2, TX2, 11) rfl (by decide) rfl q215 dX1_count_48 rfl) (z_get _ _ _ _),
   zz_of (ok_iret G dX1_count_51) (z_iret),
   zz_of (ok_aload_n G dX1_count_52 rfl rfl) (z_ald _ _),
   zz_of (ok_get G (nx := 56) (ci := 0) (kd := 2) (k := 0) (RX1, TX1, 19) rfl (by decide) rfl q399 dX1_count_53 rfl) (z_get _ _ _ _),
   zz_of (ok_getN G (nx := 59) (ci := 1) (kd := 2) (k := 7) (RX2, TX2, 11) rfl (by decide) rfl q236 dX1_count_56 rfl) (z_get _ _ _ _),
   zz_of (ok_callv G hnh (zmJ2_size _ G.hst) rfl rfl (RJ2, TJ2, 3) rfl q591 q592 q593 q86 q594 (by decide +kernel) ⟨by decide, by decide⟩ dX1_count_59 rfl) (z_callv _ _ _ _),
   zz_of (ok_iret G dX1_count_62) (z_iret),
   zz_of (ok_aload_n G dX1_count_63 rfl rfl) (z_ald _ _),
   zz_of (ok_get G (nx := 67) (ci := 0) (kd := 2) (k := 0) (RX1, TX1, 19) rfl (by decide) rfl q399 dX1_count_64 rfl) (z_get _ _ _ _),
   zz_of (ok_getN G (nx := 70) (ci := 1) (kd := 0) (k := 1) (RX2, TX2, 11) rfl (by decide) rfl q218 dX1_count_67 rfl) (z_get _ _ _ _),
   zz_of (ok_iret G dX1_count_70) (z_iret),
   zz_of (ok_aload_n G dX1_count_71 rfl rfl) (z_ald _ _),
   zz_of (ok_get G (nx := 75) (ci := 0) (kd := 2) (k := 0) (RX1, TX1, 19) rfl (by decide) rfl q399 dX1_count_72 rfl) (z_get _ _ _ _),
   zz_of (ok_getN G (nx := 78) (ci := 1) (kd := 0) (k := 2) (RX2, TX2, 11) rfl (by decide) rfl q221 dX1_count_75 rfl) (z_get _ _ _ _),
   zz_of (ok_iret G dX1_count_78) (z_iret),
   zz_of (ok_aload_n G dX1_count_79 rfl rfl) (z_ald _ _),
   zz_of (ok_get G (nx := 83) (ci := 0) (kd := 2) (k := 0) (RX1, TX1, 19) rfl (by decide) rfl q399 dX1_count_80 rfl) (z_get _ _ _ _),
   zz_of (ok_getN G (nx := 86) (ci := 1) (kd := 0) (k := 3) (RX2, TX2, 11) rfl (by decide) rfl q223 dX1_count_83 rfl) (z_get _ _ _ _),
   zz_of (ok_iret G dX1_count_86) (z_iret),
   zz_of (ok_aload_n G dX1_count_87 rfl rfl) (z_ald _ _),
   zz_of (ok_get G (nx := 91) (ci := 0) (kd := 2) (k := 0) (RX1, TX1, 19) rfl (by decide) rfl q399 dX1_count_88 rfl) (z_get _ _ _ _),
   zz_of (ok_getN G (nx := 94) (ci := 1) (kd := 0) (k := 4) (RX2, TX2, 11) rfl (by decide) rfl q227 dX1_count_91 rfl) (z_get _ _ _ _),
   zz_of (ok_iret G dX1_count_94) (z_iret),
   zz_of (ok_aload_n G dX1_count_95 rfl rfl) (z_ald _ _),
   zz_of (ok_get G (nx := 99) (ci := 0) (kd := 2) (k := 0) (RX1, TX1, 19) rfl (by decide) rfl q399 dX1_count_96 rfl) (z_get _ _ _ _),
   zz_of (ok_getN G (nx := 102) (ci := 1) (kd := 0) (k := 5) (RX2, TX2, 11) rfl (by decide) rfl q230 dX1_count_99 rfl) (z_get _ _ _ _),
   zz_of (ok_iret G dX1_count_102) (z_iret),
   zz_of (ok_iconst G (v := (zI (-1))) dX1_count_103 (by decide) rfl) (z_cz 104 (-1)),
   zz_of (ok_iret G dX1_count_104) (z_iret), trivial⟩

theorem zwX1_count_0 {Q : Option zv → zz_M → Prop} {X : Nat → zz_M → Prop} {f : Nat → Nat × Nat} {S L : Nat → Nat → Int} {P : Nat → Nat → Option Nat} {k : Int} (h : R32 k ∧ ((k = 0 → Q (some (vi (S 200 0))) ((2, f), S, L, P)) ∧ (k ≠ 0 → (k = 1 → ((Q (some (vi (S 202 2))) ((2, f), S, L, P)))) ∧ (k ≠ 1 → (k = 2 → Q (some (vi (S 200 1))) ((2, f), S, L, P)) ∧ (k ≠ 2 → (k = 3 → Q (some (vi (S 200 2))) ((2, f), S, L, P)) ∧ (k ≠ 3 → (k = 4 → Q (some (vi (S 200 3))) ((2, f), S, L, P)) ∧ (k ≠ 4 → (k = 5 → Q (some (vi (S 200 4))) ((2, f), S, L, P)) ∧ (k ≠ 5 → (k = 6 → Q (some (vi (S 200 5))) ((2, f), S, L, P)) ∧ (k ≠ 6 → Q (some (vi (-1))) ((2, f), S, L, P)))))))))) : zz_J zpX1_count (zz_ret Q X 0 0) 0 [some (vr 100), some (vi k)] [] ((2, f), S, L, P) (0, 0) := zz_J.go [] 400 h

theorem zmX1_count (l : Launch) (hl : l.stackTraces = false) : mm_Spec l yX1_count (ws_ yX1_count cX1_count 2 (some .int)) (mm_rm 2 0 0) (zE zX1_count) := by
  refine zz_Met.J hl (by decide) (fun C G hnh => ztX1_count G hnh) ?_
  rintro as ⟨⟨t_, f⟩, S, L, P⟩ Q X h
  unfold zX1_count at h
  split at h
  rotate_left
  · exact h.elim
  rename_i h_ k
  obtain ⟨e1_, e2_, h⟩ := mm_and2 h (fun q => q)
  cases mm_beq e1_
  cases mm_beq e2_
  try dsimp only at h
  refine ⟨rfl, ?_⟩
  obtain ⟨h1, w, hw, hq⟩ := h
  unfold ctR at hq
  have kr : ∀ v : Int, v = (if 0 ≤ k ∧ k ≤ 6 then w (192 + k.toNat) else -1) → Q (some (vi v)) ((2, f), S, L, P) := fun v e => by rw [e]; exact hq
  refine zwX1_count_0 ⟨h1, fun e => kr _ ?_, fun e0 => ⟨fun e => kr _ ?_, fun e1 => ⟨fun e => kr _ ?_, fun e2 => ⟨fun e => kr _ ?_, fun e3 => ⟨fun e => kr _ ?_, fun e4 => ⟨fun e => kr _ ?_, fun e5 => ⟨fun e => kr _ ?_, fun e6 => kr _ ?_⟩⟩⟩⟩⟩⟩⟩
  · subst e; exact hw.2.1
  · subst e; exact hw.2.2.1
  · subst e; exact hw.1.1
  · subst e; exact hw.1.2.1
  · subst e; exact hw.1.2.2.1
  · subst e; exact hw.1.2.2.2.1
  · subst e; exact hw.1.2.2.2.2
  · rw [if_neg (by omega)]
