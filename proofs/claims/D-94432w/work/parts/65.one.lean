/-! ===== the scores `one` (108) and `other` (112) ===== -/
set_option maxRecDepth 100000
def zX3_isOver_108 : zz_Sp := fun as M Q X => match as with
  | [.inr (.inr (some h_))] => bif Nat.beq h_ 108 && Nat.beq M.1.1 2 then (scb (cx M.2.1 108) ∧ R32 (M.2.1 200 1) ∧ (ovR (M.2.1 200 1) (cx M.2.1 108) = true → Q (some (vi 1)) ((2, M.1.2), M.2.1, M.2.2.1, M.2.2.2)) ∧ (ovR (M.2.1 200 1) (cx M.2.1 108) = false → Q (some (vi 0)) ((2, M.1.2), M.2.1, M.2.2.1, M.2.2.2))) else False
  | _ => False

def zpX3_isOver_108 : zz_P := [(0, zo_ald 1 0), (1, zo_get 4 2 2 1), (4, zo_c 5 (vi 0)), (5, zo_ialc 6 0), (6, zo_ald 7 0), (7, zo_get 10 2 2 6), (10, zo_get 13 0 2 0), (13, zo_get 16 1 0 1), (16, zo_cge false false 19 38), (19, zo_ald 20 0), (20, zo_get 23 2 2 1), (23, zo_c 24 (vi 1)), (24, zo_ialc 25 1), (25, zo_ald 26 0), (26, zo_get 29 2 2 6), (29, zo_get 32 0 2 0), (32, zo_get 35 1 0 1), (35, zo_clt false false 38 42), (38, zo_c 39 (vi 1)), (39, zo_goto 43), (42, zo_c 43 (vi 0)), (43, zo_zret true)]
theorem ztX3_isOver_108 {C : mm_C} (G : mm_G C RX3 cX3_isOver (some .boolean) 1 (mm_rm 1 0 0)) (hnh : mm_nh C) : zz_OKs C zpX3_isOver_108 :=
  ⟨zz_of (ok_aload_n G dX3_isOver_0 rfl rfl) (z_ald _ _),
   zz_of (ok_get G (nx := 4) (ci := 2) (kd := 2) (k := 1) (RX3, TX3, 7) rfl (by decide) rfl q180 dX3_isOver_1 rfl) (z_get _ _ _ _),
   zz_of (ok_iconst G (v := 0) dX3_isOver_4 (by decide) rfl) (z_cn 5 0),
   zz_of (ok_iald G dX3_isOver_5 rfl) (z_ialc _ _),
   zz_of (ok_aload_n G dX3_isOver_6 rfl rfl) (z_ald _ _),
   zz_of (ok_get G (nx := 10) (ci := 2) (kd := 2) (k := 6) (RX3, TX3, 7) rfl (by decide) rfl q198 dX3_isOver_7 rfl) (z_get _ _ _ _),
   zz_of (ok_getN G (nx := 13) (ci := 0) (kd := 2) (k := 0) (RX1, TX1, 19) rfl (by decide) rfl q401 dX3_isOver_10 rfl) (z_get _ _ _ _),
   zz_of (ok_getN G (nx := 16) (ci := 1) (kd := 0) (k := 1) (RX2, TX2, 11) rfl (by decide) rfl q217 dX3_isOver_13 rfl) (z_get _ _ _ _),
   zz_of (ok_cge G dX3_isOver_16 rfl rfl) (z_cge _ _ _ _),
   zz_of (ok_aload_n G dX3_isOver_19 rfl rfl) (z_ald _ _),
   zz_of (ok_get G (nx := 23) (ci := 2) (kd := 2) (k := 1) (RX3, TX3, 7) rfl (by decide) rfl q180 dX3_isOver_20 rfl) (z_get _ _ _ _),
   zz_of (ok_iconst G (v := 1) dX3_isOver_23 (by decide) rfl) (z_cn 24 1),
   zz_of (ok_iald G dX3_isOver_24 rfl) (z_ialc _ _),
   zz_of (ok_aload_n G dX3_isOver_25 rfl rfl) (z_ald _ _),
   zz_of (ok_get G (nx := 29) (ci := 2) (kd := 2) (k := 6) (RX3, TX3, 7) rfl (by decide) rfl q198 dX3_isOver_26 rfl) (z_get _ _ _ _),
   zz_of (ok_getN G (nx := 32) (ci := 0) (kd := 2) (k := 0) (RX1, TX1, 19) rfl (by decide) rfl q401 dX3_isOver_29 rfl) (z_get _ _ _ _),
   zz_of (ok_getN G (nx := 35) (ci := 1) (kd := 0) (k := 1) (RX2, TX2, 11) rfl (by decide) rfl q217 dX3_isOver_32 rfl) (z_get _ _ _ _),
   zz_of (ok_clt G dX3_isOver_35 rfl rfl) (z_clt _ _ _ _),
   zz_of (ok_iconst G (v := 1) dX3_isOver_38 (by decide) rfl) (z_cn 39 1),
   zz_of (ok_goto G dX3_isOver_39 rfl) (z_goto _),
   zz_of (ok_iconst G (v := 0) dX3_isOver_42 (by decide) rfl) (z_cn 43 0),
   zz_of (ok_zret G dX3_isOver_43) (z_zret _), trivial⟩

theorem zwX3_isOver_108_0 {Q : Option zv → zz_M → Prop} {X : Nat → zz_M → Prop} {f : Nat → Nat × Nat} {S L : Nat → Nat → Int} {P : Nat → Nat → Option Nat}  (h : R32 (S 110 0) ∧ (R32 (S 200 1) ∧ (((S 200 1) ≤ (S 110 0) → Q (some (vi 1)) ((2, f), S, L, P)) ∧ (¬ (S 200 1) ≤ (S 110 0) → R32 (S 110 1) ∧ (R32 (S 200 1) ∧ (((S 110 1) < (S 200 1) → Q (some (vi 0)) ((2, f), S, L, P)) ∧ (¬ (S 110 1) < (S 200 1) → Q (some (vi 1)) ((2, f), S, L, P)))))))) : zz_J zpX3_isOver_108 (zz_ret Q X 0 0) 0 [some (vr 108)] [] ((2, f), S, L, P) (0, 0) := zz_J.go [] 400 h

theorem zmX3_isOver_108 (l : Launch) (hl : l.stackTraces = false) : mm_Spec l yX3_isOver (ws_ yX3_isOver cX3_isOver 1 (some .boolean)) (mm_rm 1 0 0) (zE zX3_isOver_108) := by
  refine zz_Met.J hl (by decide) (fun C G hnh => ztX3_isOver_108 G hnh) ?_
  rintro as ⟨⟨t_, f⟩, S, L, P⟩ Q X h
  unfold zX3_isOver_108 at h
  split at h
  rotate_left
  · exact h.elim
  rename_i h_
  obtain ⟨e1_, e2_, h⟩ := mm_and2 h (fun q => q)
  cases mm_beq e1_
  cases mm_beq e2_
  try dsimp only at h
  refine ⟨rfl, ?_⟩
  obtain ⟨hb, h1, q1, q2⟩ := h
  have b7 : -50 ≤ S 110 0 ∧ S 110 0 ≤ 50 := hb 7
  have b8 : -50 ≤ S 110 1 ∧ S 110 1 ≤ 50 := hb 8
  have e : ovR (S 200 1) (cx S 108) = (decide (S 200 1 ≤ S 110 0) || decide (S 200 1 ≤ S 110 1)) := rfl
  rw [e] at q1 q2
  refine zwX3_isOver_108_0 ?_
  (repeat' (first | omega | exact q1 (by simp; omega) | exact q2 (by simp; omega) | apply And.intro | intro _)) <;> omega
def zX3_isOf_108 : zz_Sp := fun as M Q X => match as with
  | [.inr (.inr (some h_)), .inl p, .inl own] => bif Nat.beq h_ 108 && Nat.beq M.1.1 2 then ((p = 0 ∨ p = 1) ∧ scc (cx M.2.1 108) ∧ (-100 ≤ own ∧ own ≤ 100) ∧ ((4 ≤ own ∧ 2 ≤ own - cx M.2.1 108 (1 - p.toNat)) → Q (some (vi 1)) ((2, M.1.2), M.2.1, M.2.2.1, M.2.2.2)) ∧ (¬ (4 ≤ own ∧ 2 ≤ own - cx M.2.1 108 (1 - p.toNat)) → Q (some (vi 0)) ((2, M.1.2), M.2.1, M.2.2.1, M.2.2.2))) else False
  | _ => False

def zpX3_isOf_108 : zz_P := [(0, zo_ild 1 2), (1, zo_c 2 (vi 4)), (2, zo_clt false true 5 23), (5, zo_ild 6 2), (6, zo_ald 7 0), (7, zo_get 10 2 2 0), (10, zo_c 11 (vi 1)), (11, zo_ild 12 1), (12, zo_isub 13), (13, zo_iald 14), (14, zo_isub 15), (15, zo_c 16 (vi 2)), (16, zo_clt false true 19 23), (19, zo_c 20 (vi 1)), (20, zo_goto 24), (23, zo_c 24 (vi 0)), (24, zo_zret true)]
theorem ztX3_isOf_108 {C : mm_C} (G : mm_G C RX3 cX3_isOf (some .boolean) 3 (mm_rm 1 0 0)) (hnh : mm_nh C) : zz_OKs C zpX3_isOf_108 :=
  ⟨zz_of (ok_iload_n G dX3_isOf_0 rfl rfl) (z_ild _ _),
   zz_of (ok_iconst G (v := 4) dX3_isOf_1 (by decide) rfl) (z_cn 2 4),
   zz_of (ok_clt G dX3_isOf_2 rfl rfl) (z_clt _ _ _ _),
   zz_of (ok_iload_n G dX3_isOf_5 rfl rfl) (z_ild _ _),
   zz_of (ok_aload_n G dX3_isOf_6 rfl rfl) (z_ald _ _),
   zz_of (ok_get G (nx := 10) (ci := 2) (kd := 2) (k := 0) (RX3, TX3, 7) rfl (by decide) rfl q176 dX3_isOf_7 rfl) (z_get _ _ _ _),
   zz_of (ok_iconst G (v := 1) dX3_isOf_10 (by decide) rfl) (z_cn 11 1),
   zz_of (ok_iload_n G dX3_isOf_11 rfl rfl) (z_ild _ _),
   zz_of (ok_isub G dX3_isOf_12 rfl) (z_isub _),
   zz_of (ok_iald G dX3_isOf_13 rfl) (z_iald _),
   zz_of (ok_isub G dX3_isOf_14 rfl) (z_isub _),
   zz_of (ok_iconst G (v := 2) dX3_isOf_15 (by decide) rfl) (z_cn 16 2),
   zz_of (ok_clt G dX3_isOf_16 rfl rfl) (z_clt _ _ _ _),
   zz_of (ok_iconst G (v := 1) dX3_isOf_19 (by decide) rfl) (z_cn 20 1),
   zz_of (ok_goto G dX3_isOf_20 rfl) (z_goto _),
   zz_of (ok_iconst G (v := 0) dX3_isOf_23 (by decide) rfl) (z_cn 24 0),
   zz_of (ok_zret G dX3_isOf_24) (z_zret _), trivial⟩

theorem zwX3_isOf_108_0 {Q : Option zv → zz_M → Prop} {X : Nat → zz_M → Prop} {f : Nat → Nat × Nat} {S L : Nat → Nat → Int} {P : Nat → Nat → Option Nat} {p : Int} {own : Int} (h : R32 own ∧ ((own < 4 → Q (some (vi 0)) ((2, f), S, L, P)) ∧ (¬ own < 4 → (0 ≤ (1 - p) ∧ (1 - p) < 2) ∧ (R32 (own - (S 109 ((1 - p).toNat))) ∧ (((own - (S 109 ((1 - p).toNat))) < 2 → Q (some (vi 0)) ((2, f), S, L, P)) ∧ (¬ (own - (S 109 ((1 - p).toNat))) < 2 → Q (some (vi 1)) ((2, f), S, L, P))))))) : zz_J zpX3_isOf_108 (zz_ret Q X 0 0) 0 [some (vr 108), some (vi p), some (vi own)] [] ((2, f), S, L, P) (0, 0) := zz_J.go [] 400 h

theorem zmX3_isOf_108 (l : Launch) (hl : l.stackTraces = false) : mm_Spec l yX3_isOf (ws_ yX3_isOf cX3_isOf 3 (some .boolean)) (mm_rm 1 0 0) (zE zX3_isOf_108) := by
  refine zz_Met.J hl (by decide) (fun C G hnh => ztX3_isOf_108 G hnh) ?_
  rintro as ⟨⟨t_, f⟩, S, L, P⟩ Q X h
  unfold zX3_isOf_108 at h
  split at h
  rotate_left
  · exact h.elim
  rename_i h_ p own
  obtain ⟨e1_, e2_, h⟩ := mm_and2 h (fun q => q)
  cases mm_beq e1_
  cases mm_beq e2_
  try dsimp only at h
  refine ⟨rfl, ?_⟩
  obtain ⟨hp, hb, h1, q1, q2⟩ := h
  have b0 : -60 ≤ S 109 0 ∧ S 109 0 ≤ 60 := hb 0
  have b1 : -60 ≤ S 109 1 ∧ S 109 1 ≤ 60 := hb 1
  rcases hp with e | e <;> subst e
  · have e : cx S 108 (1 - (0 : Int).toNat) = S 109 1 := rfl
    rw [e] at q1 q2
    have e2 : ((1 : Int) - 0).toNat = 1 := rfl
    refine zwX3_isOf_108_0 ?_
    rw [e2]
    (repeat' (first | omega | exact q1 (by omega) | exact q2 (by omega) | apply And.intro | intro _)) <;> omega
  · have e : cx S 108 (1 - (1 : Int).toNat) = S 109 0 := rfl
    rw [e] at q1 q2
    have e2 : ((1 : Int) - 1).toNat = 0 := rfl
    refine zwX3_isOf_108_0 ?_
    rw [e2]
    (repeat' (first | omega | exact q1 (by omega) | exact q2 (by omega) | apply And.intro | intro _)) <;> omega
def zX3_isPointOfGame_108 : zz_Sp := fun as M Q X => match as with
  | [.inr (.inr (some h_))] => bif Nat.beq h_ 108 && Nat.beq M.1.1 2 then (scc (cx M.2.1 108) ∧ ((wW (cx M.2.1 108) 0 || wW (cx M.2.1 108) 1) = true → Q (some (vi 1)) ((2, M.1.2), M.2.1, M.2.2.1, M.2.2.2)) ∧ ((wW (cx M.2.1 108) 0 || wW (cx M.2.1 108) 1) = false → Q (some (vi 0)) ((2, M.1.2), M.2.1, M.2.2.1, M.2.2.2))) else False
  | _ => False

def zpX3_isPointOfGame_108 : zz_P := [(0, zo_ald 1 0), (1, zo_c 2 (vi 0)), (2, zo_ald 3 0), (3, zo_get 6 2 2 0), (6, zo_c 7 (vi 0)), (7, zo_ialc 8 0), (8, zo_c 9 (vi 1)), (9, zo_iadd 10), (10, zo_callv 13 3 2 zX3_isOf_108), (13, zo_zifne 16 32), (16, zo_ald 17 0), (17, zo_c 18 (vi 1)), (18, zo_ald 19 0), (19, zo_get 22 2 2 0), (22, zo_c 23 (vi 1)), (23, zo_ialc 24 1), (24, zo_c 25 (vi 1)), (25, zo_iadd 26), (26, zo_callv 29 3 2 zX3_isOf_108), (29, zo_zifeq 32 36), (32, zo_c 33 (vi 1)), (33, zo_goto 37), (36, zo_c 37 (vi 0)), (37, zo_zret true)]
theorem ztX3_isPointOfGame_108 {C : mm_C} (G : mm_G C RX3 cX3_isPointOfGame (some .boolean) 1 (mm_rm 2 0 0)) (hnh : mm_nh C) : zz_OKs C zpX3_isPointOfGame_108 :=
  ⟨zz_of (ok_aload_n G dX3_isPointOfGame_0 rfl rfl) (z_ald _ _),
   zz_of (ok_iconst G (v := 0) dX3_isPointOfGame_1 (by decide) rfl) (z_cn 2 0),
   zz_of (ok_aload_n G dX3_isPointOfGame_2 rfl rfl) (z_ald _ _),
   zz_of (ok_get G (nx := 6) (ci := 2) (kd := 2) (k := 0) (RX3, TX3, 7) rfl (by decide) rfl q176 dX3_isPointOfGame_3 rfl) (z_get _ _ _ _),
   zz_of (ok_iconst G (v := 0) dX3_isPointOfGame_6 (by decide) rfl) (z_cn 7 0),
   zz_of (ok_iald G dX3_isPointOfGame_7 rfl) (z_ialc _ _),
   zz_of (ok_iconst G (v := 1) dX3_isPointOfGame_8 (by decide) rfl) (z_cn 9 1),
   zz_of (ok_iadd G dX3_isPointOfGame_9 rfl) (z_iadd _),
   zz_of (ok_callv G hnh (zmX3_isOf_108 _ G.hst) rfl rfl (RX3, TX3, 7) rfl q1506 q1508 qs18 q87 q1509 (by decide +kernel) ⟨by decide, by decide⟩ dX3_isPointOfGame_10 rfl) (z_callv _ _ _ _),
   zz_of (ok_ifne G dX3_isPointOfGame_13 rfl rfl) (z_zifne _ _),
   zz_of (ok_aload_n G dX3_isPointOfGame_16 rfl rfl) (z_ald _ _),
   zz_of (ok_iconst G (v := 1) dX3_isPointOfGame_17 (by decide) rfl) (z_cn 18 1),
   zz_of (ok_aload_n G dX3_isPointOfGame_18 rfl rfl) (z_ald _ _),
   zz_of (ok_get G (nx := 22) (ci := 2) (kd := 2) (k := 0) (RX3, TX3, 7) rfl (by decide) rfl q176 dX3_isPointOfGame_19 rfl) (z_get _ _ _ _),
   zz_of (ok_iconst G (v := 1) dX3_isPointOfGame_22 (by decide) rfl) (z_cn 23 1),
   zz_of (ok_iald G dX3_isPointOfGame_23 rfl) (z_ialc _ _),
   zz_of (ok_iconst G (v := 1) dX3_isPointOfGame_24 (by decide) rfl) (z_cn 25 1),
   zz_of (ok_iadd G dX3_isPointOfGame_25 rfl) (z_iadd _),
   zz_of (ok_callv G hnh (zmX3_isOf_108 _ G.hst) rfl rfl (RX3, TX3, 7) rfl q1506 q1508 qs18 q87 q1509 (by decide +kernel) ⟨by decide, by decide⟩ dX3_isPointOfGame_26 rfl) (z_callv _ _ _ _),
   zz_of (ok_ifeq G dX3_isPointOfGame_29 rfl rfl) (z_zifeq _ _),
   zz_of (ok_iconst G (v := 1) dX3_isPointOfGame_32 (by decide) rfl) (z_cn 33 1),
   zz_of (ok_goto G dX3_isPointOfGame_33 rfl) (z_goto _),
   zz_of (ok_iconst G (v := 0) dX3_isPointOfGame_36 (by decide) rfl) (z_cn 37 0),
   zz_of (ok_zret G dX3_isPointOfGame_37) (z_zret _), trivial⟩

theorem zwX3_isPointOfGame_108_0 {Q : Option zv → zz_M → Prop} {X : Nat → zz_M → Prop} {f : Nat → Nat × Nat} {S L : Nat → Nat → Int} {P : Nat → Nat → Option Nat}  (h : (((0 : Int) = 0 ∨ (0 : Int) = 1) ∧ scc (cx S 108) ∧ (-100 ≤ ((S 109 0) + 1) ∧ ((S 109 0) + 1) ≤ 100) ∧ ((4 ≤ ((S 109 0) + 1) ∧ 2 ≤ ((S 109 0) + 1) - cx S 108 (1 - (0 : Int).toNat)) → (Q (some (vi 1)) ((2, f), S, L, P))) ∧ (¬ (4 ≤ ((S 109 0) + 1) ∧ 2 ≤ ((S 109 0) + 1) - cx S 108 (1 - (0 : Int).toNat)) → ((((1 : Int) = 0 ∨ (1 : Int) = 1) ∧ scc (cx S 108) ∧ (-100 ≤ ((S 109 1) + 1) ∧ ((S 109 1) + 1) ≤ 100) ∧ ((4 ≤ ((S 109 1) + 1) ∧ 2 ≤ ((S 109 1) + 1) - cx S 108 (1 - (1 : Int).toNat)) → (Q (some (vi 1)) ((2, f), S, L, P))) ∧ (¬ (4 ≤ ((S 109 1) + 1) ∧ 2 ≤ ((S 109 1) + 1) - cx S 108 (1 - (1 : Int).toNat)) → (Q (some (vi 0)) ((2, f), S, L, P)))))))) : zz_J zpX3_isPointOfGame_108 (zz_ret Q X 0 0) 0 [some (vr 108)] [] ((2, f), S, L, P) (0, 0) := zz_J.go [] 400 h

theorem zmX3_isPointOfGame_108 (l : Launch) (hl : l.stackTraces = false) : mm_Spec l yX3_isPointOfGame (ws_ yX3_isPointOfGame cX3_isPointOfGame 1 (some .boolean)) (mm_rm 2 0 0) (zE zX3_isPointOfGame_108) := by
  refine zz_Met.J hl (by decide) (fun C G hnh => ztX3_isPointOfGame_108 G hnh) ?_
  rintro as ⟨⟨t_, f⟩, S, L, P⟩ Q X h
  unfold zX3_isPointOfGame_108 at h
  split at h
  rotate_left
  · exact h.elim
  rename_i h_
  obtain ⟨e1_, e2_, h⟩ := mm_and2 h (fun q => q)
  cases mm_beq e1_
  cases mm_beq e2_
  try dsimp only at h
  refine ⟨rfl, ?_⟩
  obtain ⟨hb, q1, q2⟩ := h
  have b0 : -60 ≤ S 109 0 ∧ S 109 0 ≤ 60 := hb 0
  have b1 : -60 ≤ S 109 1 ∧ S 109 1 ≤ 60 := hb 1
  have e0 : wW (cx S 108) 0 = (decide (4 ≤ S 109 0 + 1) && decide (2 ≤ S 109 0 + 1 - S 109 1)) := rfl
  have e1 : wW (cx S 108) 1 = (decide (4 ≤ S 109 1 + 1) && decide (2 ≤ S 109 1 + 1 - S 109 0)) := rfl
  rw [e0, e1] at q1 q2
  have c0 : cx S 108 (1 - (0 : Int).toNat) = S 109 1 := rfl
  have c1 : cx S 108 (1 - (1 : Int).toNat) = S 109 0 := rfl
  refine zwX3_isPointOfGame_108_0 ⟨Or.inl rfl, hb, by omega, fun a => ?_, fun a => ⟨Or.inr rfl, hb, by omega, fun b => ?_, fun b => ?_⟩⟩
  · rw [c0] at a; exact q1 (by simp; omega)
  · rw [c1] at b; exact q1 (by simp; omega)
  · rw [c0] at a; rw [c1] at b; exact q2 (by simp; omega)
def zX3_point_108 : zz_Sp := fun as M Q X => match as with
  | [.inr (.inr (some h_)), .inl p] => bif Nat.beq h_ 108 && Nat.beq M.1.1 2 then ((p = 0 ∨ p = 1) ∧ scb (cx M.2.1 108) ∧ ∃ w_ : Nat → Int, wsc M.2.1 w_ ∧ (ptw (cx M.2.1 108) p.toNat = true → Q (some (vi 1)) ((2, M.1.2), cxW M.2.1 108 (pnt w_ (cx M.2.1 108) p.toNat), M.2.2.1, M.2.2.2)) ∧ (ptw (cx M.2.1 108) p.toNat = false → Q (some (vi 0)) ((2, M.1.2), cxW M.2.1 108 (pnt w_ (cx M.2.1 108) p.toNat), M.2.2.1, M.2.2.2))) else False
  | _ => False

def zpX3_point_108 : zz_P := [(0, zo_ald 1 0), (1, zo_get 4 2 2 0), (4, zo_ild 5 1), (5, zo_dup2 6), (6, zo_iald 7), (7, zo_c 8 (vi 1)), (8, zo_iadd 9), (9, zo_iasd 10), (10, zo_ald 11 0), (11, zo_get 14 2 2 0), (14, zo_c 15 (vi 0)), (15, zo_ialc 16 0), (16, zo_c 17 (vi 4)), (17, zo_cne false true 20 50), (20, zo_ald 21 0), (21, zo_get 24 2 2 0), (24, zo_c 25 (vi 1)), (25, zo_ialc 26 1), (26, zo_c 27 (vi 4)), (27, zo_cne false true 30 50), (30, zo_ald 31 0), (31, zo_get 34 2 2 0), (34, zo_c 35 (vi 0)), (35, zo_dup2 36), (36, zo_ialc 37 0), (37, zo_c 38 (vi 1)), (38, zo_isub 39), (39, zo_iasc 40 0), (40, zo_ald 41 0), (41, zo_get 44 2 2 0), (44, zo_c 45 (vi 1)), (45, zo_dup2 46), (46, zo_ialc 47 1), (47, zo_c 48 (vi 1)), (48, zo_isub 49), (49, zo_iasc 50 1), (50, zo_ald 51 0), (51, zo_ild 52 1), (52, zo_ald 53 0), (53, zo_get 56 2 2 0), (56, zo_ild 57 1), (57, zo_iald 58), (58, zo_callv 61 3 2 zX3_isOf_108), (61, zo_zifne 64 66), (64, zo_c 65 (vi 0)), (65, zo_zret true), (66, zo_ald 67 0), (67, zo_get 70 2 2 1), (70, zo_ild 71 1), (71, zo_dup2 72), (72, zo_iald 73), (73, zo_c 74 (vi 1)), (74, zo_iadd 75), (75, zo_iasd 76), (76, zo_ald 77 0), (77, zo_get 80 2 2 0), (80, zo_c 81 (vi 0)), (81, zo_ald 82 0), (82, zo_get 85 2 2 6), (85, zo_get 88 0 2 0), (88, zo_get 91 1 0 4), (91, zo_ineg 92), (92, zo_iasc 93 0), (93, zo_ald 94 0), (94, zo_get 97 2 2 0), (97, zo_c 98 (vi 1)), (98, zo_ald 99 0), (99, zo_get 102 2 2 6), (102, zo_get 105 0 2 0), (105, zo_get 108 1 0 5), (108, zo_iasc 109 1), (109, zo_ald 110 0), (110, zo_c 111 (vi 0)), (111, zo_puti 114 2 4), (114, zo_ald 115 0), (115, zo_c 116 (vi 0)), (116, zo_putz true 119 2 5), (119, zo_c 120 (vi 1)), (120, zo_zret true)]
theorem ztX3_point_108 {C : mm_C} (G : mm_G C RX3 cX3_point (some .boolean) 2 (mm_rm 2 0 0)) (hnh : mm_nh C) : zz_OKs C zpX3_point_108 :=
  ⟨zz_of (ok_aload_n G dX3_point_0 rfl rfl) (z_ald _ _),
   zz_of (ok_get G (nx := 4) (ci := 2) (kd := 2) (k := 0) (RX3, TX3, 7) rfl (by decide) rfl q176 dX3_point_1 rfl) (z_get _ _ _ _),
   zz_of (ok_iload_n G dX3_point_4 rfl rfl) (z_ild _ _),
   zz_of (ok_dup2 G dX3_point_5 rfl) (z_dup2 _),
   zz_of (ok_iald G dX3_point_6 rfl) (z_iald _),
   zz_of (ok_iconst G (v := 1) dX3_point_7 (by decide) rfl) (z_cn 8 1),
   zz_of (ok_iadd G dX3_point_8 rfl) (z_iadd _),
   zz_of (ok_iast G dX3_point_9 rfl) (z_iasd _),
   zz_of (ok_aload_n G dX3_point_10 rfl rfl) (z_ald _ _),
   zz_of (ok_get G (nx := 14) (ci := 2) (kd := 2) (k := 0) (RX3, TX3, 7) rfl (by decide) rfl q176 dX3_point_11 rfl) (z_get _ _ _ _),
   zz_of (ok_iconst G (v := 0) dX3_point_14 (by decide) rfl) (z_cn 15 0),
   zz_of (ok_iald G dX3_point_15 rfl) (z_ialc _ _),
   zz_of (ok_iconst G (v := 4) dX3_point_16 (by decide) rfl) (z_cn 17 4),
   zz_of (ok_cne G dX3_point_17 rfl rfl) (z_cne _ _ _ _),
   zz_of (ok_aload_n G dX3_point_20 rfl rfl) (z_ald _ _),
   zz_of (ok_get G (nx := 24) (ci := 2) (kd := 2) (k := 0) (RX3, TX3, 7) rfl (by decide) rfl q176 dX3_point_21 rfl) (z_get _ _ _ _),
   zz_of (ok_iconst G (v := 1) dX3_point_24 (by decide) rfl) (z_cn 25 1),
   zz_of (ok_iald G dX3_point_25 rfl) (z_ialc _ _),
   zz_of (ok_iconst G (v := 4) dX3_point_26 (by decide) rfl) (z_cn 27 4),
   zz_of (ok_cne G dX3_point_27 rfl rfl) (z_cne _ _ _ _),
   zz_of (ok_aload_n G dX3_point_30 rfl rfl) (z_ald _ _),
   zz_of (ok_get G (nx := 34) (ci := 2) (kd := 2) (k := 0) (RX3, TX3, 7) rfl (by decide) rfl q176 dX3_point_31 rfl) (z_get _ _ _ _),
   zz_of (ok_iconst G (v := 0) dX3_point_34 (by decide) rfl) (z_cn 35 0),
   zz_of (ok_dup2 G dX3_point_35 rfl) (z_dup2 _),
   zz_of (ok_iald G dX3_point_36 rfl) (z_ialc _ _),
   zz_of (ok_iconst G (v := 1) dX3_point_37 (by decide) rfl) (z_cn 38 1),
   zz_of (ok_isub G dX3_point_38 rfl) (z_isub _),
   zz_of (ok_iast G dX3_point_39 rfl) (z_iasc _ _),
   zz_of (ok_aload_n G dX3_point_40 rfl rfl) (z_ald _ _),
   zz_of (ok_get G (nx := 44) (ci := 2) (kd := 2) (k := 0) (RX3, TX3, 7) rfl (by decide) rfl q176 dX3_point_41 rfl) (z_get _ _ _ _),
   zz_of (ok_iconst G (v := 1) dX3_point_44 (by decide) rfl) (z_cn 45 1),
   zz_of (ok_dup2 G dX3_point_45 rfl) (z_dup2 _),
   zz_of (ok_iald G dX3_point_46 rfl) (z_ialc _ _),
   zz_of (ok_iconst G (v := 1) dX3_point_47 (by decide) rfl) (z_cn 48 1),
   zz_of (ok_isub G dX3_point_48 rfl) (z_isub _),
   zz_of (ok_iast G dX3_point_49 rfl) (z_iasc _ _),
   zz_of (ok_aload_n G dX3_point_50 rfl rfl) (z_ald _ _),
   zz_of (ok_iload_n G dX3_point_51 rfl rfl) (z_ild _ _),
   zz_of (ok_aload_n G dX3_point_52 rfl rfl) (z_ald _ _),
   zz_of (ok_get G (nx := 56) (ci := 2) (kd := 2) (k := 0) (RX3, TX3, 7) rfl (by decide) rfl q176 dX3_point_53 rfl) (z_get _ _ _ _),
   zz_of (ok_iload_n G dX3_point_56 rfl rfl) (z_ild _ _),
   zz_of (ok_iald G dX3_point_57 rfl) (z_iald _),
   zz_of (ok_callv G hnh (zmX3_isOf_108 _ G.hst) rfl rfl (RX3, TX3, 7) rfl q1506 q1508 qs18 q87 q1509 (by decide +kernel) ⟨by decide, by decide⟩ dX3_point_58 rfl) (z_callv _ _ _ _),
   zz_of (ok_ifne G dX3_point_61 rfl rfl) (z_zifne _ _),
   zz_of (ok_iconst G (v := 0) dX3_point_64 (by decide) rfl) (z_cn 65 0),
   zz_of (ok_zret G dX3_point_65) (z_zret _),
   zz_of (ok_aload_n G dX3_point_66 rfl rfl) (z_ald _ _),
   zz_of (ok_get G (nx := 70) (ci := 2) (kd := 2) (k := 1) (RX3, TX3, 7) rfl (by decide) rfl q180 dX3_point_67 rfl) (z_get _ _ _ _),
   zz_of (ok_iload_n G dX3_point_70 rfl rfl) (z_ild _ _),
   zz_of (ok_dup2 G dX3_point_71 rfl) (z_dup2 _),
   zz_of (ok_iald G dX3_point_72 rfl) (z_iald _),
   zz_of (ok_iconst G (v := 1) dX3_point_73 (by decide) rfl) (z_cn 74 1),
   zz_of (ok_iadd G dX3_point_74 rfl) (z_iadd _),
   zz_of (ok_iast G dX3_point_75 rfl) (z_iasd _),
   zz_of (ok_aload_n G dX3_point_76 rfl rfl) (z_ald _ _),
   zz_of (ok_get G (nx := 80) (ci := 2) (kd := 2) (k := 0) (RX3, TX3, 7) rfl (by decide) rfl q176 dX3_point_77 rfl) (z_get _ _ _ _),
   zz_of (ok_iconst G (v := 0) dX3_point_80 (by decide) rfl) (z_cn 81 0),
   zz_of (ok_aload_n G dX3_point_81 rfl rfl) (z_ald _ _),
   zz_of (ok_get G (nx := 85) (ci := 2) (kd := 2) (k := 6) (RX3, TX3, 7) rfl (by decide) rfl q198 dX3_point_82 rfl) (z_get _ _ _ _),
   zz_of (ok_getN G (nx := 88) (ci := 0) (kd := 2) (k := 0) (RX1, TX1, 19) rfl (by decide) rfl q401 dX3_point_85 rfl) (z_get _ _ _ _),
   zz_of (ok_getN G (nx := 91) (ci := 1) (kd := 0) (k := 4) (RX2, TX2, 11) rfl (by decide) rfl q226 dX3_point_88 rfl) (z_get _ _ _ _),
   zz_of (ok_ineg G dX3_point_91 rfl) (z_ineg _),
   zz_of (ok_iast G dX3_point_92 rfl) (z_iasc _ _),
   zz_of (ok_aload_n G dX3_point_93 rfl rfl) (z_ald _ _),
   zz_of (ok_get G (nx := 97) (ci := 2) (kd := 2) (k := 0) (RX3, TX3, 7) rfl (by decide) rfl q176 dX3_point_94 rfl) (z_get _ _ _ _),
   zz_of (ok_iconst G (v := 1) dX3_point_97 (by decide) rfl) (z_cn 98 1),
   zz_of (ok_aload_n G dX3_point_98 rfl rfl) (z_ald _ _),
   zz_of (ok_get G (nx := 102) (ci := 2) (kd := 2) (k := 6) (RX3, TX3, 7) rfl (by decide) rfl q198 dX3_point_99 rfl) (z_get _ _ _ _),
   zz_of (ok_getN G (nx := 105) (ci := 0) (kd := 2) (k := 0) (RX1, TX1, 19) rfl (by decide) rfl q401 dX3_point_102 rfl) (z_get _ _ _ _),
   zz_of (ok_getN G (nx := 108) (ci := 1) (kd := 0) (k := 5) (RX2, TX2, 11) rfl (by decide) rfl q229 dX3_point_105 rfl) (z_get _ _ _ _),
   zz_of (ok_iast G dX3_point_108 rfl) (z_iasc _ _),
   zz_of (ok_aload_n G dX3_point_109 rfl rfl) (z_ald _ _),
   zz_of (ok_iconst G (v := 0) dX3_point_110 (by decide) rfl) (z_cn 111 0),
   zz_of (ok_puti G (nx := 114) (idx := 29) (ci := 2) (k := 4) (RX3, TX3, 7) rfl (by decide) rfl (mm_pw G (ci := 2) (k := 4) (RX3, TX3, 7) rfl (by decide) rfl q190 dX3_point_111) rfl) (z_puti _ _ _),
   zz_of (ok_aload_n G dX3_point_114 rfl rfl) (z_ald _ _),
   zz_of (ok_iconst G (v := 0) dX3_point_115 (by decide) rfl) (z_cn 116 0),
   zz_of (ok_putz G (nx := 119) (idx := 32) (ci := 2) (k := 5) (RX3, TX3, 7) rfl (by decide) rfl (mm_pw G (ci := 2) (k := 5) (RX3, TX3, 7) rfl (by decide) rfl q194 dX3_point_116) rfl) (z_putz _ _ _ _),
   zz_of (ok_iconst G (v := 1) dX3_point_119 (by decide) rfl) (z_cn 120 1),
   zz_of (ok_zret G dX3_point_120) (z_zret _), trivial⟩

theorem zwX3_point_108_0 {Q : Option zv → zz_M → Prop} {X : Nat → zz_M → Prop} {f : Nat → Nat × Nat} {S L : Nat → Nat → Int} {P : Nat → Nat → Option Nat} {p : Int} (h : (0 ≤ p ∧ p < 2) ∧ ((0 ≤ p ∧ p < 2) ∧ (R32 ((mm_up S 109 p.toNat ((S 109 p.toNat) + 1)) 109 0) ∧ ((¬ ((mm_up S 109 p.toNat ((S 109 p.toNat) + 1)) 109 0) = 4 → zz_J zpX3_point_108 (zz_ret Q X 0 0) 50 [some (vr 108), some (vi p)] [] ((2, f), mm_up S 109 p.toNat ((S 109 p.toNat) + 1), L, P) (0, 0)) ∧ (((mm_up S 109 p.toNat ((S 109 p.toNat) + 1)) 109 0) = 4 → R32 ((mm_up S 109 p.toNat ((S 109 p.toNat) + 1)) 109 1) ∧ ((¬ ((mm_up S 109 p.toNat ((S 109 p.toNat) + 1)) 109 1) = 4 → zz_J zpX3_point_108 (zz_ret Q X 0 0) 50 [some (vr 108), some (vi p)] [] ((2, f), mm_up S 109 p.toNat ((S 109 p.toNat) + 1), L, P) (0, 0)) ∧ (((mm_up S 109 p.toNat ((S 109 p.toNat) + 1)) 109 1) = 4 → zz_J zpX3_point_108 (zz_ret Q X 0 0) 50 [some (vr 108), some (vi p)] [] ((2, f), mm_up (mm_up (mm_up S 109 p.toNat ((S 109 p.toNat) + 1)) 109 0 (((mm_up S 109 p.toNat ((S 109 p.toNat) + 1)) 109 0) - 1)) 109 1 (((mm_up S 109 p.toNat ((S 109 p.toNat) + 1)) 109 1) - 1), L, P) (0, 0)))))))) : zz_J zpX3_point_108 (zz_ret Q X 0 0) 0 [some (vr 108), some (vi p)] [] ((2, f), S, L, P) (0, 0) := zz_J.go [(50, [])] 400 h
theorem zwX3_point_108_50 {Q : Option zv → zz_M → Prop} {X : Nat → zz_M → Prop} {f : Nat → Nat × Nat} {S L : Nat → Nat → Int} {P : Nat → Nat → Option Nat} {x1 : Int} (h : (0 ≤ x1 ∧ x1 < 2) ∧ (((x1 = 0 ∨ x1 = 1) ∧ scc (cx S 108) ∧ (-100 ≤ (S 109 x1.toNat) ∧ (S 109 x1.toNat) ≤ 100) ∧ ((4 ≤ (S 109 x1.toNat) ∧ 2 ≤ (S 109 x1.toNat) - cx S 108 (1 - x1.toNat)) → ((0 ≤ x1 ∧ x1 < 2) ∧ ((0 ≤ x1 ∧ x1 < 2) ∧ (Q (some (vi 1)) ((2, f), mm_up (mm_up (mm_up (mm_up (mm_up S 110 x1.toNat ((S 110 x1.toNat) + 1)) 109 0 (-(S 200 4))) 109 1 (S 200 5)) 108 4 0) 108 5 0, L, P))))) ∧ (¬ (4 ≤ (S 109 x1.toNat) ∧ 2 ≤ (S 109 x1.toNat) - cx S 108 (1 - x1.toNat)) → (Q (some (vi 0)) ((2, f), S, L, P)))))) : zz_J zpX3_point_108 (zz_ret Q X 0 0) 50 [some (vr 108), some (vi x1)] [] ((2, f), S, L, P) (0, 0) := zz_J.go [(50, [])] 400 h

theorem zmX3_point_108 (l : Launch) (hl : l.stackTraces = false) : mm_Spec l yX3_point (ws_ yX3_point cX3_point 2 (some .boolean)) (mm_rm 2 0 0) (zE zX3_point_108) := by
  refine zz_Met.J hl (by decide) (fun C G hnh => ztX3_point_108 G hnh) ?_
  rintro as ⟨⟨t_, f⟩, S, L, P⟩ Q X h
  unfold zX3_point_108 at h
  split at h
  rotate_left
  · exact h.elim
  rename_i h_ p
  obtain ⟨e1_, e2_, h⟩ := mm_and2 h (fun q => q)
  cases mm_beq e1_
  cases mm_beq e2_
  try dsimp only at h
  refine ⟨rfl, ?_⟩
  obtain ⟨hp, hb, w, hw, q1, q2⟩ := h
  have b0 : -50 ≤ S 109 0 ∧ S 109 0 ≤ 50 := hb 0
  have b1 : -50 ≤ S 109 1 ∧ S 109 1 ≤ 50 := hb 1
  obtain ⟨-, -, -, w4, w5⟩ := hw
  have e0 : cx S 108 0 = S 109 0 := rfl
  have e1 : cx S 108 1 = S 109 1 := rfl
  have m7 := fun (y : Nat → Int) (v : Int) => (cxW_7 S 108 y v : mm_up (cxW S 108 y) 110 0 v = _)
  have m8 := fun (y : Nat → Int) (v : Int) => (cxW_8 S 108 y v : mm_up (cxW S 108 y) 110 1 v = _)
  have m0 := fun (y : Nat → Int) (v : Int) => (cxW_0 S 108 y v : mm_up (cxW S 108 y) 109 0 v = _)
  have m1 := fun (y : Nat → Int) (v : Int) => (cxW_1 S 108 y v : mm_up (cxW S 108 y) 109 1 v = _)
  have m3 := fun (y : Nat → Int) (v : Int) => (cxW_3 S 108 y v : mm_up (cxW S 108 y) 108 4 v = _)
  have m6 := fun (y : Nat → Int) (v : Int) => (cxW_6 S 108 y v : mm_up (cxW S 108 y) 108 5 v = _)
  -- behind the raise
  have t50 : zz_J zpX3_point_108 (zz_ret Q X 0 0) 50 [some (vr 108), some (vi p)] [] ((2, f), cxW S 108 (ptB (ptA (cx S 108) p.toNat)), L, P) (0, 0) := by
    have hy9 : ∀ j, 9 ≤ j → ptB (ptA (cx S 108) p.toNat) j = 0 := by
      intro j hj
      have : p.toNat < 2 := by omega
      unfold ptB ptA ru
      rw [if_neg (by omega), if_neg (by omega)]
      unfold cx
      simp
      omega
    have hcx := cx_cxW S 108 (ptB (ptA (cx S 108) p.toNat)) hy9
    have hyb : scc (ptB (ptA (cx S 108) p.toNat)) := by
      intro j
      have hj := hb j
      have h0 := hb p.toNat
      unfold ptB ptA ru
      grind
    refine zwX3_point_108_50 ?_
    rw [hcx]
    have r0 : cxW S 108 (ptB (ptA (cx S 108) p.toNat)) 109 0 = ptB (ptA (cx S 108) p.toNat) 0 := rfl
    have r1 : cxW S 108 (ptB (ptA (cx S 108) p.toNat)) 109 1 = ptB (ptA (cx S 108) p.toNat) 1 := rfl
    have r7 : cxW S 108 (ptB (ptA (cx S 108) p.toNat)) 110 0 = ptB (ptA (cx S 108) p.toNat) 7 := rfl
    have r8 : cxW S 108 (ptB (ptA (cx S 108) p.toNat)) 110 1 = ptB (ptA (cx S 108) p.toNat) 8 := rfl
    have r4 : cxW S 108 (ptB (ptA (cx S 108) p.toNat)) 200 4 = w 197 := w4
    have r5 : cxW S 108 (ptB (ptA (cx S 108) p.toNat)) 200 5 = w 198 := w5
    have y0 := hyb 0
    have y1 := hyb 1
    rcases hp with e | e <;> subst e
    · simp only [Int.toNat_zero] at *
      refine ⟨by decide, by simp, hyb, by rw [r0]; omega, fun a => ⟨by decide, by decide, ?_⟩, fun a => ?_⟩
      · rw [r0] at a
        have hw : ptw (cx S 108) 0 = true := by unfold ptw; simp only [Bool.and_eq_true, decide_eq_true_eq]; exact a
        have := q1 hw
        rw [r7, r4, r5, m7, m0, m1, m3, m6]
        have ef : pnt w (cx S 108) 0 = ru (ru (ru (ru (ru (ptB (ptA (cx S 108) 0)) 7 (ptB (ptA (cx S 108) 0) 7 + 1)) 0 (-w 197)) 1 (w 198)) 3 0) 6 0 := by
          funext j; unfold pnt; rw [hw]; rfl
        rw [← ef]
        exact this
      · rw [r0] at a
        have hw : ptw (cx S 108) 0 = false := by
          unfold ptw
          cases hd : (decide (4 ≤ ptB (ptA (cx S 108) 0) 0) && decide (2 ≤ ptB (ptA (cx S 108) 0) 0 - ptB (ptA (cx S 108) 0) (1 - 0))) with
          | false => rfl
          | true => simp only [Bool.and_eq_true, decide_eq_true_eq] at hd; exact absurd hd a
        have := q2 hw
        have ef : pnt w (cx S 108) 0 = ptB (ptA (cx S 108) 0) := by funext j; unfold pnt; rw [hw]; rfl
        rw [ef] at this
        exact this
    · simp only [show (1 : Int).toNat = 1 from rfl] at *
      refine ⟨by decide, by simp, hyb, by rw [r1]; omega, fun a => ⟨by decide, by decide, ?_⟩, fun a => ?_⟩
      · rw [r1] at a
        have hw : ptw (cx S 108) 1 = true := by unfold ptw; simp only [Bool.and_eq_true, decide_eq_true_eq]; exact a
        have := q1 hw
        rw [r8, r4, r5, m8, m0, m1, m3, m6]
        have ef : pnt w (cx S 108) 1 = ru (ru (ru (ru (ru (ptB (ptA (cx S 108) 1)) 8 (ptB (ptA (cx S 108) 1) 8 + 1)) 0 (-w 197)) 1 (w 198)) 3 0) 6 0 := by
          funext j; unfold pnt; rw [hw]; rfl
        rw [← ef]
        exact this
      · rw [r1] at a
        have hw : ptw (cx S 108) 1 = false := by
          unfold ptw
          cases hd : (decide (4 ≤ ptB (ptA (cx S 108) 1) 1) && decide (2 ≤ ptB (ptA (cx S 108) 1) 1 - ptB (ptA (cx S 108) 1) (1 - 1))) with
          | false => rfl
          | true => simp only [Bool.and_eq_true, decide_eq_true_eq] at hd; exact absurd hd a
        have := q2 hw
        have ef : pnt w (cx S 108) 1 = ptB (ptA (cx S 108) 1) := by funext j; unfold pnt; rw [hw]; rfl
        rw [ef] at this
        exact this
  have fin : ∀ T : Nat → Nat → Int, T = cxW S 108 (ptB (ptA (cx S 108) p.toNat)) → zz_J zpX3_point_108 (zz_ret Q X 0 0) 50 [some (vr 108), some (vi p)] [] ((2, f), T, L, P) (0, 0) := fun T e => by rw [e]; exact t50
  rcases hp with e | e <;> subst e
  · simp only [Int.toNat_zero, show (1 : Int).toNat = 1 from rfl] at fin
    refine zwX3_point_108_0 ?_
    simp only [Int.toNat_zero, show (1 : Int).toNat = 1 from rfl, up_eq]
    refine ⟨by decide, by decide, by grind, fun c => fin _ ?_, fun c => ⟨by grind, fun d => fin _ ?_, fun d => fin _ ?_⟩⟩
    all_goals
      funext h k
      simp only [up_eq, cxW, ptB, ptA, ru, cx] at *
      grind
  · simp only [Int.toNat_zero, show (1 : Int).toNat = 1 from rfl] at fin
    refine zwX3_point_108_0 ?_
    simp only [Int.toNat_zero, show (1 : Int).toNat = 1 from rfl, up_eq]
    refine ⟨by decide, by decide, by grind, fun c => fin _ ?_, fun c => ⟨by grind, fun d => fin _ ?_, fun d => fin _ ?_⟩⟩
    all_goals
      funext h k
      simp only [up_eq, cxW, ptB, ptA, ru, cx] at *
      grind
def zX3_changes_108 : zz_Sp := fun as M Q X => match as with
  | [.inr (.inr (some h_))] => bif Nat.beq h_ 108 && Nat.beq M.1.1 2 then (scc (cx M.2.1 108) ∧ 0 ≤ cx M.2.1 108 3 ∧ (cx M.2.1 108 6 = 0 ∨ cx M.2.1 108 6 = 1) ∧ (-60 ≤ M.2.1 200 2 ∧ M.2.1 200 2 ≤ 60) ∧ ∃ w_ : Nat → Int, wsc M.2.1 w_ ∧ Q none ((2, M.1.2), cxW M.2.1 108 (cchR w_ (cx M.2.1 108)), M.2.2.1, M.2.2.2)) else False
  | _ => False

def zpX3_changes_108 : zz_P := [(0, zo_ald 1 0), (1, zo_get 4 2 0 4), (4, zo_c 5 (vi 2)), (5, zo_ceq false true 8 49), (8, zo_ald 9 0), (9, zo_get 12 2 0 4), (12, zo_ifle false 15 53), (15, zo_ald 16 0), (16, zo_get 19 2 2 6), (19, zo_get 22 0 2 0), (22, zo_get 25 1 0 2), (25, zo_c 26 (vi 1)), (26, zo_ceq false true 29 49), (29, zo_ald 30 0), (30, zo_get 33 2 2 6), (33, zo_get 36 0 2 0), (36, zo_get 39 1 0 2), (39, zo_ifne false 42 53), (42, zo_ald 43 0), (43, zo_callv 46 1 2 zX3_isPointOfGame_108), (46, zo_zifeq 49 53), (49, zo_c 50 (vi 1)), (50, zo_goto 54), (53, zo_c 54 (vi 0)), (54, zo_ist 55 1), (55, zo_ald 56 0), (56, zo_get 59 2 0 5), (59, zo_ifne false 62 66), (62, zo_ild 63 1), (63, zo_ifne false 66 67), (66, zo_vret), (67, zo_ald 68 0), (68, zo_c 69 (vi 1)), (69, zo_putz true 72 2 5), (72, zo_ald 73 0), (73, zo_c 74 (vi 1)), (74, zo_ald 75 0), (75, zo_get 78 2 0 3), (78, zo_isub 79), (79, zo_puti 82 2 3), (82, zo_vret)]
theorem ztX3_changes_108 {C : mm_C} (G : mm_G C RX3 cX3_changes none 2 (mm_rm 3 0 0)) (hnh : mm_nh C) : zz_OKs C zpX3_changes_108 :=
  ⟨zz_of (ok_aload_n G dX3_changes_0 rfl rfl) (z_ald _ _),
   zz_of (ok_get G (nx := 4) (ci := 2) (kd := 0) (k := 4) (RX3, TX3, 7) rfl (by decide) rfl q190 dX3_changes_1 rfl) (z_get _ _ _ _),
   zz_of (ok_iconst G (v := 2) dX3_changes_4 (by decide) rfl) (z_cn 5 2),
   zz_of (ok_ceq G dX3_changes_5 rfl rfl) (z_ceq _ _ _ _),
   zz_of (ok_aload_n G dX3_changes_8 rfl rfl) (z_ald _ _),
   zz_of (ok_get G (nx := 12) (ci := 2) (kd := 0) (k := 4) (RX3, TX3, 7) rfl (by decide) rfl q190 dX3_changes_9 rfl) (z_get _ _ _ _),
   zz_of (ok_ifle G dX3_changes_12 rfl rfl) (z_ifle _ _ _),
   zz_of (ok_aload_n G dX3_changes_15 rfl rfl) (z_ald _ _),
   zz_of (ok_get G (nx := 19) (ci := 2) (kd := 2) (k := 6) (RX3, TX3, 7) rfl (by decide) rfl q198 dX3_changes_16 rfl) (z_get _ _ _ _),
   zz_of (ok_getN G (nx := 22) (ci := 0) (kd := 2) (k := 0) (RX1, TX1, 19) rfl (by decide) rfl q401 dX3_changes_19 rfl) (z_get _ _ _ _),
   zz_of (ok_getN G (nx := 25) (ci := 1) (kd := 0) (k := 2) (RX2, TX2, 11) rfl (by decide) rfl q220 dX3_changes_22 rfl) (z_get _ _ _ _),
   zz_of (ok_iconst G (v := 1) dX3_changes_25 (by decide) rfl) (z_cn 26 1),
   zz_of (ok_ceq G dX3_changes_26 rfl rfl) (z_ceq _ _ _ _),
   zz_of (ok_aload_n G dX3_changes_29 rfl rfl) (z_ald _ _),
   zz_of (ok_get G (nx := 33) (ci := 2) (kd := 2) (k := 6) (RX3, TX3, 7) rfl (by decide) rfl q198 dX3_changes_30 rfl) (z_get _ _ _ _),
   zz_of (ok_getN G (nx := 36) (ci := 0) (kd := 2) (k := 0) (RX1, TX1, 19) rfl (by decide) rfl q401 dX3_changes_33 rfl) (z_get _ _ _ _),
   zz_of (ok_getN G (nx := 39) (ci := 1) (kd := 0) (k := 2) (RX2, TX2, 11) rfl (by decide) rfl q220 dX3_changes_36 rfl) (z_get _ _ _ _),
   zz_of (ok_ifne G dX3_changes_39 rfl rfl) (z_ifne _ _ _),
   zz_of (ok_aload_n G dX3_changes_42 rfl rfl) (z_ald _ _),
   zz_of (ok_callv G hnh (zmX3_isPointOfGame_108 _ G.hst) rfl rfl (RX3, TX3, 7) rfl q1502 q1503 q1504 q87 q1505 (by decide +kernel) ⟨by decide, by decide⟩ dX3_changes_43 rfl) (z_callv _ _ _ _),
   zz_of (ok_ifeq G dX3_changes_46 rfl rfl) (z_zifeq _ _),
   zz_of (ok_iconst G (v := 1) dX3_changes_49 (by decide) rfl) (z_cn 50 1),
   zz_of (ok_goto G dX3_changes_50 rfl) (z_goto _),
   zz_of (ok_iconst G (v := 0) dX3_changes_53 (by decide) rfl) (z_cn 54 0),
   zz_of (ok_istore_n G dX3_changes_54 rfl rfl (by decide)) (z_ist _ _),
   zz_of (ok_aload_n G dX3_changes_55 rfl rfl) (z_ald _ _),
   zz_of (ok_get G (nx := 59) (ci := 2) (kd := 0) (k := 5) (RX3, TX3, 7) rfl (by decide) rfl q194 dX3_changes_56 rfl) (z_get _ _ _ _),
   zz_of (ok_ifne G dX3_changes_59 rfl rfl) (z_ifne _ _ _),
   zz_of (ok_iload_n G dX3_changes_62 rfl rfl) (z_ild _ _),
   zz_of (ok_ifne G dX3_changes_63 rfl rfl) (z_ifne _ _ _),
   zz_of (ok_vret G dX3_changes_66) (z_vret),
   zz_of (ok_aload_n G dX3_changes_67 rfl rfl) (z_ald _ _),
   zz_of (ok_iconst G (v := 1) dX3_changes_68 (by decide) rfl) (z_cn 69 1),
   zz_of (ok_putz G (nx := 72) (idx := 32) (ci := 2) (k := 5) (RX3, TX3, 7) rfl (by decide) rfl (mm_pw G (ci := 2) (k := 5) (RX3, TX3, 7) rfl (by decide) rfl q194 dX3_changes_69) rfl) (z_putz _ _ _ _),
   zz_of (ok_aload_n G dX3_changes_72 rfl rfl) (z_ald _ _),
   zz_of (ok_iconst G (v := 1) dX3_changes_73 (by decide) rfl) (z_cn 74 1),
   zz_of (ok_aload_n G dX3_changes_74 rfl rfl) (z_ald _ _),
   zz_of (ok_get G (nx := 78) (ci := 2) (kd := 0) (k := 3) (RX3, TX3, 7) rfl (by decide) rfl q187 dX3_changes_75 rfl) (z_get _ _ _ _),
   zz_of (ok_isub G dX3_changes_78 rfl) (z_isub _),
   zz_of (ok_puti G (nx := 82) (idx := 25) (ci := 2) (k := 3) (RX3, TX3, 7) rfl (by decide) rfl (mm_pw G (ci := 2) (k := 3) (RX3, TX3, 7) rfl (by decide) rfl q187 dX3_changes_79) rfl) (z_puti _ _ _),
   zz_of (ok_vret G dX3_changes_82) (z_vret), trivial⟩

theorem zwX3_changes_108_0 {Q : Option zv → zz_M → Prop} {X : Nat → zz_M → Prop} {f : Nat → Nat × Nat} {S L : Nat → Nat → Int} {P : Nat → Nat → Option Nat}  (h : R32 (S 108 4) ∧ (((S 108 4) = 2 → zz_J zpX3_changes_108 (zz_ret Q X 0 0) 54 [some (vr 108), none] [vi 1] ((2, f), S, L, P) (0, 0)) ∧ (¬ (S 108 4) = 2 → R32 (S 108 4) ∧ (((S 108 4) ≤ 0 → zz_J zpX3_changes_108 (zz_ret Q X 0 0) 54 [some (vr 108), none] [vi 0] ((2, f), S, L, P) (0, 0)) ∧ (¬ (S 108 4) ≤ 0 → R32 (S 200 2) ∧ (((S 200 2) = 1 → zz_J zpX3_changes_108 (zz_ret Q X 0 0) 54 [some (vr 108), none] [vi 1] ((2, f), S, L, P) (0, 0)) ∧ (¬ (S 200 2) = 1 → R32 (S 200 2) ∧ ((¬ (S 200 2) = 0 → zz_J zpX3_changes_108 (zz_ret Q X 0 0) 54 [some (vr 108), none] [vi 0] ((2, f), S, L, P) (0, 0)) ∧ ((S 200 2) = 0 → (scc (cx S 108) ∧ ((wW (cx S 108) 0 || wW (cx S 108) 1) = true → (zz_J zpX3_changes_108 (zz_ret Q X 0 0) 54 [some (vr 108), none] [vi 1] ((2, f), S, L, P) (0, 0))) ∧ ((wW (cx S 108) 0 || wW (cx S 108) 1) = false → (zz_J zpX3_changes_108 (zz_ret Q X 0 0) 54 [some (vr 108), none] [vi 0] ((2, f), S, L, P) (0, 0))))))))))))) : zz_J zpX3_changes_108 (zz_ret Q X 0 0) 0 [some (vr 108), none] [] ((2, f), S, L, P) (0, 0) := zz_J.go [(54, [1])] 400 h
theorem zwX3_changes_108_54 {Q : Option zv → zz_M → Prop} {X : Nat → zz_M → Prop} {f : Nat → Nat × Nat} {S L : Nat → Nat → Int} {P : Nat → Nat → Option Nat} {t0 : Int} (h : R32 (S 108 5) ∧ ((¬ (S 108 5) = 0 → Q none ((2, f), S, L, P)) ∧ ((S 108 5) = 0 → R32 t0 ∧ ((¬ t0 = 0 → Q none ((2, f), mm_up (mm_up S 108 5 1) 108 3 (1 - (S 108 3)), L, P)) ∧ (t0 = 0 → Q none ((2, f), S, L, P)))))) : zz_J zpX3_changes_108 (zz_ret Q X 0 0) 54 [some (vr 108), none] [vi t0] ((2, f), S, L, P) (0, 0) := zz_J.go [(54, [1])] 400 h

theorem zmX3_changes_108 (l : Launch) (hl : l.stackTraces = false) : mm_Spec l yX3_changes (ws_ yX3_changes cX3_changes 2 none) (mm_rm 3 0 0) (zE zX3_changes_108) := by
  refine zz_Met.J hl (by decide) (fun C G hnh => ztX3_changes_108 G hnh) ?_
  rintro as ⟨⟨t_, f⟩, S, L, P⟩ Q X h
  unfold zX3_changes_108 at h
  split at h
  rotate_left
  · exact h.elim
  rename_i h_
  obtain ⟨e1_, e2_, h⟩ := mm_and2 h (fun q => q)
  cases mm_beq e1_
  cases mm_beq e2_
  try dsimp only at h
  refine ⟨rfl, ?_⟩
  obtain ⟨hc, h3, h6, hcl, w, hw, hq⟩ := h
  have e2 : cx S 108 2 = S 108 3 := rfl
  have e3 : cx S 108 3 = S 108 4 := rfl
  have e6 : cx S 108 6 = S 108 5 := rfl
  have b2 := hc 2
  have b3 := hc 3
  rw [e2] at b2
  rw [e3] at b3 h3
  rw [e6] at h6
  have ew : S 200 2 = w 195 := hw.2.1
  have t54 : ∀ v : Int, (v = 1 ∧ chD w (cx S 108) = true ∨ v = 0 ∧ chD w (cx S 108) = false) → zz_J zpX3_changes_108 (zz_ret Q X 0 0) 54 [some (vr 108), none] [vi v] ((2, f), S, L, P) (0, 0) := by
    intro v hv
    have key0 : chD w (cx S 108) = false ∨ S 108 5 ≠ 0 → Q none ((2, f), S, L, P) := by
      intro hk
      have : cxW S 108 (cchR w (cx S 108)) = S := by
        have e : cchR w (cx S 108) = cx S 108 := by
          funext j
          unfold cchR
          rcases hk with hk | hk
          · rw [cch_at w _ hk]; simp
          · rw [if_neg (by rw [e6]; exact hk)]
        rw [e, cxW_id]
      rw [this] at hq
      exact hq
    refine zwX3_changes_108_54 ?_
    refine ⟨by omega, fun a => key0 (Or.inr a), fun a => ⟨by omega, fun b => ?_, fun b => key0 (Or.inl (by rcases hv with ⟨c, -⟩ | ⟨-, c⟩; omega; exact c))⟩⟩
    have hd : chD w (cx S 108) = true := by rcases hv with ⟨-, c⟩ | ⟨c, -⟩; exact c; omega
    have : mm_up (mm_up S 108 5 1) 108 3 (1 - S 108 3) = cxW S 108 (cchR w (cx S 108)) := by
      have e : cchR w (cx S 108) = ru (ru (cx S 108) 6 1) 2 (1 - S 108 3) := by
        funext j
        unfold cchR
        rw [if_pos (by rw [e6]; exact a)]
        unfold chR
        rw [hd]
        unfold ru
        simp only [if_true, e2]
      rw [e]
      exact (congrArg (fun T => mm_up T 108 3 (1 - S 108 3)) (cxW_i6 S 108 1)).trans (cxW_2 S 108 _ _)
    (repeat' (first | omega | exact zz_Qm (by rw [this]) hq | apply And.intro | intro _)) <;> omega
  have ed : chD w (cx S 108) = (S 108 4 != 0 && (S 108 4 == 2 || w 195 == 1 || (w 195 == 0 && (wW (cx S 108) 0 || wW (cx S 108) 1)))) := rfl
  have hb50 : scb (cx S 108) → True := fun _ => trivial
  refine zwX3_changes_108_0 ?_
  rw [ew]
  refine ⟨by omega, fun c => t54 1 (Or.inl ⟨rfl, by rw [ed, c]; rfl⟩), fun c => ⟨by omega, fun d => t54 0 (Or.inr ⟨rfl, by rw [ed, show S 108 4 = 0 by omega]; rfl⟩), fun d => ⟨by omega, fun g => t54 1 (Or.inl ⟨rfl, by rw [ed, g]; simp; omega⟩), fun g => ⟨by omega, fun k => t54 0 (Or.inr ⟨rfl, by rw [ed]; simp [c, g, k]⟩), fun k => ⟨hc, fun m => t54 1 (Or.inl ⟨rfl, by rw [ed, m]; simp [k]; omega⟩), fun m => t54 0 (Or.inr ⟨rfl, by rw [ed, m]; simp [c, g]⟩)⟩⟩⟩⟩⟩
def zX3_gains_108 : zz_Sp := fun as M Q X => match as with
  | [.inr (.inr (some h_)), .inl p] => bif Nat.beq h_ 108 && Nat.beq M.1.1 2 then ((p = 0 ∨ p = 1) ∧ scb (cx M.2.1 108) ∧ 0 ≤ cx M.2.1 108 3 ∧ (cx M.2.1 108 6 = 0 ∨ cx M.2.1 108 6 = 1) ∧ ∃ w_ : Nat → Int, wsc M.2.1 w_ ∧ wV w_ ∧ (ptw (cx M.2.1 108) p.toNat = true → Q (some (vi 1)) ((2, M.1.2), cxW M.2.1 108 (cchR w_ (pnt w_ (cx M.2.1 108) p.toNat)), M.2.2.1, M.2.2.2)) ∧ (ptw (cx M.2.1 108) p.toNat = false → Q (some (vi 0)) ((2, M.1.2), cxW M.2.1 108 (cchR w_ (pnt w_ (cx M.2.1 108) p.toNat)), M.2.2.1, M.2.2.2))) else False
  | _ => False

def zpX3_gains_108 : zz_P := [(0, zo_ald 1 0), (1, zo_ild 2 1), (2, zo_callv 5 2 2 zX3_point_108), (5, zo_ist 6 2), (6, zo_ald 7 0), (7, zo_callv 10 1 2 zX3_changes_108), (10, zo_ild 11 2), (11, zo_zret true)]
theorem ztX3_gains_108 {C : mm_C} (G : mm_G C RX3 cX3_gains (some .boolean) 3 (mm_rm 4 0 0)) (hnh : mm_nh C) : zz_OKs C zpX3_gains_108 :=
  ⟨zz_of (ok_aload_n G dX3_gains_0 rfl rfl) (z_ald _ _),
   zz_of (ok_iload_n G dX3_gains_1 rfl rfl) (z_ild _ _),
   zz_of (ok_callv G hnh (zmX3_point_108 _ G.hst) rfl rfl (RX3, TX3, 7) rfl q1549 q1551 qs21 q87 q1552 (by decide +kernel) ⟨by decide, by decide⟩ dX3_gains_2 rfl) (z_callv _ _ _ _),
   zz_of (ok_istore_n G dX3_gains_5 rfl rfl (by decide)) (z_ist _ _),
   zz_of (ok_aload_n G dX3_gains_6 rfl rfl) (z_ald _ _),
   zz_of (ok_callv G hnh (zmX3_changes_108 _ G.hst) rfl rfl (RX3, TX3, 7) rfl q1553 q1555 qs22 q87 q1556 (by decide +kernel) ⟨by decide, by decide⟩ dX3_gains_7 rfl) (z_callv _ _ _ _),
   zz_of (ok_iload_n G dX3_gains_10 rfl rfl) (z_ild _ _),
   zz_of (ok_zret G dX3_gains_11) (z_zret _), trivial⟩

theorem zwX3_gains_108_0 {Q : Option zv → zz_M → Prop} {X : Nat → zz_M → Prop} {f : Nat → Nat × Nat} {S L : Nat → Nat → Int} {P : Nat → Nat → Option Nat} {p : Int} (h : ((p = 0 ∨ p = 1) ∧ scb (cx S 108) ∧ ∃ w_1 : Nat → Int, wsc S w_1 ∧ (ptw (cx S 108) p.toNat = true → ((scc (cx (cxW S 108 (pnt w_1 (cx S 108) p.toNat)) 108) ∧ 0 ≤ cx (cxW S 108 (pnt w_1 (cx S 108) p.toNat)) 108 3 ∧ (cx (cxW S 108 (pnt w_1 (cx S 108) p.toNat)) 108 6 = 0 ∨ cx (cxW S 108 (pnt w_1 (cx S 108) p.toNat)) 108 6 = 1) ∧ (-60 ≤ (cxW S 108 (pnt w_1 (cx S 108) p.toNat)) 200 2 ∧ (cxW S 108 (pnt w_1 (cx S 108) p.toNat)) 200 2 ≤ 60) ∧ ∃ w_2 : Nat → Int, wsc (cxW S 108 (pnt w_1 (cx S 108) p.toNat)) w_2 ∧ (Q (some (vi 1)) ((2, f), cxW (cxW S 108 (pnt w_1 (cx S 108) p.toNat)) 108 (cchR w_2 (cx (cxW S 108 (pnt w_1 (cx S 108) p.toNat)) 108)), L, P))))) ∧ (ptw (cx S 108) p.toNat = false → ((scc (cx (cxW S 108 (pnt w_1 (cx S 108) p.toNat)) 108) ∧ 0 ≤ cx (cxW S 108 (pnt w_1 (cx S 108) p.toNat)) 108 3 ∧ (cx (cxW S 108 (pnt w_1 (cx S 108) p.toNat)) 108 6 = 0 ∨ cx (cxW S 108 (pnt w_1 (cx S 108) p.toNat)) 108 6 = 1) ∧ (-60 ≤ (cxW S 108 (pnt w_1 (cx S 108) p.toNat)) 200 2 ∧ (cxW S 108 (pnt w_1 (cx S 108) p.toNat)) 200 2 ≤ 60) ∧ ∃ w_3 : Nat → Int, wsc (cxW S 108 (pnt w_1 (cx S 108) p.toNat)) w_3 ∧ (Q (some (vi 0)) ((2, f), cxW (cxW S 108 (pnt w_1 (cx S 108) p.toNat)) 108 (cchR w_3 (cx (cxW S 108 (pnt w_1 (cx S 108) p.toNat)) 108)), L, P))))))) : zz_J zpX3_gains_108 (zz_ret Q X 0 0) 0 [some (vr 108), some (vi p), none] [] ((2, f), S, L, P) (0, 0) := zz_J.go [] 400 h

theorem zmX3_gains_108 (l : Launch) (hl : l.stackTraces = false) : mm_Spec l yX3_gains (ws_ yX3_gains cX3_gains 3 (some .boolean)) (mm_rm 4 0 0) (zE zX3_gains_108) := by
  refine zz_Met.J hl (by decide) (fun C G hnh => ztX3_gains_108 G hnh) ?_
  rintro as ⟨⟨t_, f⟩, S, L, P⟩ Q X h
  unfold zX3_gains_108 at h
  split at h
  rotate_left
  · exact h.elim
  rename_i h_ p
  obtain ⟨e1_, e2_, h⟩ := mm_and2 h (fun q => q)
  cases mm_beq e1_
  cases mm_beq e2_
  try dsimp only at h
  refine ⟨rfl, ?_⟩
  obtain ⟨hp, hb, h3, h6, w, hw, hv, q1, q2⟩ := h
  have hp2 : p.toNat < 2 := by omega
  have h9 := pnt_9 (w := w) (x := cx S 108) (p := p.toNat) hp2 (fun j hj => by unfold cx; simp; omega)
  have ecx := cx_cxW S 108 _ h9
  have hsc := pnt_scc (w := w) hb hv hp2
  have h36 := pnt_36 (w := w) (x := cx S 108) hp2 h3 h6
  have hw2 := wsc_cxW (x := pnt w (cx S 108) p.toNat) hw (show 108 = 204 ∨ 108 = 108 ∨ 108 = 112 by decide)
  have hcl : cxW S 108 (pnt w (cx S 108) p.toNat) 200 2 = w 195 := hw2.2.1
  refine zwX3_gains_108_0 ⟨hp, hb, w, hw, fun a => ?_, fun a => ?_⟩
  · rw [ecx, hcl]
    refine ⟨hsc, h36.1, h36.2, by have := hv.2.1; omega, w, hw2, ?_⟩
    rw [cxW_cxW]
    exact q1 a
  · rw [ecx, hcl]
    refine ⟨hsc, h36.1, h36.2, by have := hv.2.1; omega, w, hw2, ?_⟩
    rw [cxW_cxW]
    exact q2 a
def zX3_outcome_108 : zz_Sp := fun as M Q X => match as with
  | [.inr (.inr (some h_)), .inl how, .inl line] => bif Nat.beq h_ 108 && Nat.beq M.1.1 2 then ((0 ≤ how ∧ how ≤ 2) ∧ R32 line ∧ (cx M.2.1 108 6 = 0 → how = 2 → 0 ≤ line ∧ line ≤ 9) ∧ scb (cx M.2.1 108) ∧ (cx M.2.1 108 2 = 0 ∨ cx M.2.1 108 2 = 1) ∧ (cx M.2.1 108 6 = 0 ∨ cx M.2.1 108 6 = 1) ∧ ∃ w_ : Nat → Int, wsc M.2.1 w_ ∧ wV w_ ∧ Q (some (vi (raO w_ (cx M.2.1 108) (clH (cx M.2.1 108) how line)))) ((2, M.1.2), M.2.1, M.2.2.1, M.2.2.2)) else False
  | _ => False

def zpX3_outcome_108 : zz_P := [(0, zo_ild 1 1), (1, zo_c 2 (vi 2)), (2, zo_cge false true 5 9), (5, zo_c 6 (vi 1)), (6, zo_ild 7 1), (7, zo_iadd 8), (8, zo_iret), (9, zo_ald 10 0), (10, zo_get 13 2 0 5), (13, zo_ifeq false 16 39), (16, zo_ild 17 2), (17, zo_ald 18 0), (18, zo_get 21 2 2 2), (21, zo_c 22 (vi 0)), (22, zo_ialc 23 0), (23, zo_cne false false 26 41), (26, zo_ald 27 0), (27, zo_get 30 2 2 6), (30, zo_get 33 0 2 0), (33, zo_get 36 1 0 3), (36, zo_ifne false 39 41), (39, zo_c 40 (vi 0)), (40, zo_iret), (41, zo_ild 42 2), (42, zo_ald 43 0), (43, zo_get 46 2 2 2), (46, zo_c 47 (vi 0)), (47, zo_ialc 48 0), (48, zo_cge false false 51 55), (51, zo_c 52 (vi 2)), (52, zo_goto 56), (55, zo_c 56 (vi 1)), (56, zo_iret)]
theorem ztX3_outcome_108 {C : mm_C} (G : mm_G C RX3 cX3_outcome (some .int) 3 (mm_rm 1 0 0)) (hnh : mm_nh C) : zz_OKs C zpX3_outcome_108 :=
  ⟨zz_of (ok_iload_n G dX3_outcome_0 rfl rfl) (z_ild _ _),
   zz_of (ok_iconst G (v := 2) dX3_outcome_1 (by decide) rfl) (z_cn 2 2),
   zz_of (ok_cge G dX3_outcome_2 rfl rfl) (z_cge _ _ _ _),
   zz_of (ok_iconst G (v := 1) dX3_outcome_5 (by decide) rfl) (z_cn 6 1),
   zz_of (ok_iload_n G dX3_outcome_6 rfl rfl) (z_ild _ _),
   zz_of (ok_iadd G dX3_outcome_7 rfl) (z_iadd _),
   zz_of (ok_iret G dX3_outcome_8) (z_iret),
   zz_of (ok_aload_n G dX3_outcome_9 rfl rfl) (z_ald _ _),
   zz_of (ok_get G (nx := 13) (ci := 2) (kd := 0) (k := 5) (RX3, TX3, 7) rfl (by decide) rfl q194 dX3_outcome_10 rfl) (z_get _ _ _ _),
   zz_of (ok_ifeq G dX3_outcome_13 rfl rfl) (z_ifeq _ _ _),
   zz_of (ok_iload_n G dX3_outcome_16 rfl rfl) (z_ild _ _),
   zz_of (ok_aload_n G dX3_outcome_17 rfl rfl) (z_ald _ _),
   zz_of (ok_get G (nx := 21) (ci := 2) (kd := 2) (k := 2) (RX3, TX3, 7) rfl (by decide) rfl q184 dX3_outcome_18 rfl) (z_get _ _ _ _),
   zz_of (ok_iconst G (v := 0) dX3_outcome_21 (by decide) rfl) (z_cn 22 0),
   zz_of (ok_iald G dX3_outcome_22 rfl) (z_ialc _ _),
   zz_of (ok_cne G dX3_outcome_23 rfl rfl) (z_cne _ _ _ _),
   zz_of (ok_aload_n G dX3_outcome_26 rfl rfl) (z_ald _ _),
   zz_of (ok_get G (nx := 30) (ci := 2) (kd := 2) (k := 6) (RX3, TX3, 7) rfl (by decide) rfl q198 dX3_outcome_27 rfl) (z_get _ _ _ _),
   zz_of (ok_getN G (nx := 33) (ci := 0) (kd := 2) (k := 0) (RX1, TX1, 19) rfl (by decide) rfl q401 dX3_outcome_30 rfl) (z_get _ _ _ _),
   zz_of (ok_getN G (nx := 36) (ci := 1) (kd := 0) (k := 3) (RX2, TX2, 11) rfl (by decide) rfl q224 dX3_outcome_33 rfl) (z_get _ _ _ _),
   zz_of (ok_ifne G dX3_outcome_36 rfl rfl) (z_ifne _ _ _),
   zz_of (ok_iconst G (v := 0) dX3_outcome_39 (by decide) rfl) (z_cn 40 0),
   zz_of (ok_iret G dX3_outcome_40) (z_iret),
   zz_of (ok_iload_n G dX3_outcome_41 rfl rfl) (z_ild _ _),
   zz_of (ok_aload_n G dX3_outcome_42 rfl rfl) (z_ald _ _),
   zz_of (ok_get G (nx := 46) (ci := 2) (kd := 2) (k := 2) (RX3, TX3, 7) rfl (by decide) rfl q184 dX3_outcome_43 rfl) (z_get _ _ _ _),
   zz_of (ok_iconst G (v := 0) dX3_outcome_46 (by decide) rfl) (z_cn 47 0),
   zz_of (ok_iald G dX3_outcome_47 rfl) (z_ialc _ _),
   zz_of (ok_cge G dX3_outcome_48 rfl rfl) (z_cge _ _ _ _),
   zz_of (ok_iconst G (v := 2) dX3_outcome_51 (by decide) rfl) (z_cn 52 2),
   zz_of (ok_goto G dX3_outcome_52 rfl) (z_goto _),
   zz_of (ok_iconst G (v := 1) dX3_outcome_55 (by decide) rfl) (z_cn 56 1),
   zz_of (ok_iret G dX3_outcome_56) (z_iret), trivial⟩

theorem zwX3_outcome_108_0 {Q : Option zv → zz_M → Prop} {X : Nat → zz_M → Prop} {f : Nat → Nat × Nat} {S L : Nat → Nat → Int} {P : Nat → Nat → Option Nat} {how : Int} {line : Int} (h : R32 how ∧ ((2 ≤ how → R32 (S 108 5) ∧ (((S 108 5) = 0 → Q (some (vi 0)) ((2, f), S, L, P)) ∧ (¬ (S 108 5) = 0 → R32 line ∧ (R32 (S 111 0) ∧ ((¬ line = (S 111 0) → R32 line ∧ (R32 (S 111 0) ∧ (((S 111 0) ≤ line → Q (some (vi 1)) ((2, f), S, L, P)) ∧ (¬ (S 111 0) ≤ line → Q (some (vi 2)) ((2, f), S, L, P))))) ∧ (line = (S 111 0) → R32 (S 200 3) ∧ ((¬ (S 200 3) = 0 → R32 line ∧ (R32 (S 111 0) ∧ (((S 111 0) ≤ line → Q (some (vi 1)) ((2, f), S, L, P)) ∧ (¬ (S 111 0) ≤ line → Q (some (vi 2)) ((2, f), S, L, P))))) ∧ ((S 200 3) = 0 → Q (some (vi 0)) ((2, f), S, L, P))))))))) ∧ (¬ 2 ≤ how → Q (some (vi (1 + how))) ((2, f), S, L, P)))) : zz_J zpX3_outcome_108 (zz_ret Q X 0 0) 0 [some (vr 108), some (vi how), some (vi line)] [] ((2, f), S, L, P) (0, 0) := zz_J.go [] 400 h

theorem zmX3_outcome_108 (l : Launch) (hl : l.stackTraces = false) : mm_Spec l yX3_outcome (ws_ yX3_outcome cX3_outcome 3 (some .int)) (mm_rm 1 0 0) (zE zX3_outcome_108) := by
  refine zz_Met.J hl (by decide) (fun C G hnh => ztX3_outcome_108 G hnh) ?_
  rintro as ⟨⟨t_, f⟩, S, L, P⟩ Q X h
  unfold zX3_outcome_108 at h
  split at h
  rotate_left
  · exact h.elim
  rename_i h_ how line
  obtain ⟨e1_, e2_, h⟩ := mm_and2 h (fun q => q)
  cases mm_beq e1_
  cases mm_beq e2_
  try dsimp only at h
  refine ⟨rfl, ?_⟩
  obtain ⟨hh, hl, hl2, hb, h2, h6, w, hw, hv, hq⟩ := h
  have e2 : cx S 108 2 = S 108 3 := rfl
  have e4 : cx S 108 4 = S 111 0 := rfl
  have e6 : cx S 108 6 = S 108 5 := rfl
  have b4 := hb 4
  have ew : S 200 3 = w 196 := hw.2.2.1
  have ev := hv.2.2.1
  refine zwX3_outcome_108_0 ?_
  rw [ew]
  rw [e4] at b4
  rw [e2] at h2
  rw [e6] at h6
  have kr : ∀ v : Int, (how < 2 ∧ v = 1 + how) ∨ (how = 2 ∧ S 108 5 = 0 ∧ v = 0) ∨ (how = 2 ∧ S 108 5 = 1 ∧ ((line = S 111 0 ∧ w 196 = 0 ∧ v = 0) ∨ (line < S 111 0 ∧ v = 2) ∨ (¬ line < S 111 0 ∧ (S 111 0 < line ∨ w 196 = 1) ∧ v = 1))) → Q (some (vi v)) ((2, f), S, L, P) := by
    intro v hv'
    rw [raO_cases (x := cx S 108) hh h2 hv' hl2]
    exact hq
  (repeat' (first | omega | exact kr _ (by omega) | apply And.intro | intro _)) <;> omega
def zX3_isOver_112 : zz_Sp := fun as M Q X => match as with
  | [.inr (.inr (some h_))] => bif Nat.beq h_ 112 && Nat.beq M.1.1 2 then (scb (cx M.2.1 112) ∧ R32 (M.2.1 200 1) ∧ (ovR (M.2.1 200 1) (cx M.2.1 112) = true → Q (some (vi 1)) ((2, M.1.2), M.2.1, M.2.2.1, M.2.2.2)) ∧ (ovR (M.2.1 200 1) (cx M.2.1 112) = false → Q (some (vi 0)) ((2, M.1.2), M.2.1, M.2.2.1, M.2.2.2))) else False
  | _ => False

def zpX3_isOver_112 : zz_P := [(0, zo_ald 1 0), (1, zo_get 4 2 2 1), (4, zo_c 5 (vi 0)), (5, zo_ialc 6 0), (6, zo_ald 7 0), (7, zo_get 10 2 2 6), (10, zo_get 13 0 2 0), (13, zo_get 16 1 0 1), (16, zo_cge false false 19 38), (19, zo_ald 20 0), (20, zo_get 23 2 2 1), (23, zo_c 24 (vi 1)), (24, zo_ialc 25 1), (25, zo_ald 26 0), (26, zo_get 29 2 2 6), (29, zo_get 32 0 2 0), (32, zo_get 35 1 0 1), (35, zo_clt false false 38 42), (38, zo_c 39 (vi 1)), (39, zo_goto 43), (42, zo_c 43 (vi 0)), (43, zo_zret true)]
theorem ztX3_isOver_112 {C : mm_C} (G : mm_G C RX3 cX3_isOver (some .boolean) 1 (mm_rm 1 0 0)) (hnh : mm_nh C) : zz_OKs C zpX3_isOver_112 :=
  ⟨zz_of (ok_aload_n G dX3_isOver_0 rfl rfl) (z_ald _ _),
   zz_of (ok_get G (nx := 4) (ci := 2) (kd := 2) (k := 1) (RX3, TX3, 7) rfl (by decide) rfl q180 dX3_isOver_1 rfl) (z_get _ _ _ _),
   zz_of (ok_iconst G (v := 0) dX3_isOver_4 (by decide) rfl) (z_cn 5 0),
   zz_of (ok_iald G dX3_isOver_5 rfl) (z_ialc _ _),
   zz_of (ok_aload_n G dX3_isOver_6 rfl rfl) (z_ald _ _),
   zz_of (ok_get G (nx := 10) (ci := 2) (kd := 2) (k := 6) (RX3, TX3, 7) rfl (by decide) rfl q198 dX3_isOver_7 rfl) (z_get _ _ _ _),
   zz_of (ok_getN G (nx := 13) (ci := 0) (kd := 2) (k := 0) (RX1, TX1, 19) rfl (by decide) rfl q401 dX3_isOver_10 rfl) (z_get _ _ _ _),
   zz_of (ok_getN G (nx := 16) (ci := 1) (kd := 0) (k := 1) (RX2, TX2, 11) rfl (by decide) rfl q217 dX3_isOver_13 rfl) (z_get _ _ _ _),
   zz_of (ok_cge G dX3_isOver_16 rfl rfl) (z_cge _ _ _ _),
   zz_of (ok_aload_n G dX3_isOver_19 rfl rfl) (z_ald _ _),
   zz_of (ok_get G (nx := 23) (ci := 2) (kd := 2) (k := 1) (RX3, TX3, 7) rfl (by decide) rfl q180 dX3_isOver_20 rfl) (z_get _ _ _ _),
   zz_of (ok_iconst G (v := 1) dX3_isOver_23 (by decide) rfl) (z_cn 24 1),
   zz_of (ok_iald G dX3_isOver_24 rfl) (z_ialc _ _),
   zz_of (ok_aload_n G dX3_isOver_25 rfl rfl) (z_ald _ _),
   zz_of (ok_get G (nx := 29) (ci := 2) (kd := 2) (k := 6) (RX3, TX3, 7) rfl (by decide) rfl q198 dX3_isOver_26 rfl) (z_get _ _ _ _),
   zz_of (ok_getN G (nx := 32) (ci := 0) (kd := 2) (k := 0) (RX1, TX1, 19) rfl (by decide) rfl q401 dX3_isOver_29 rfl) (z_get _ _ _ _),
   zz_of (ok_getN G (nx := 35) (ci := 1) (kd := 0) (k := 1) (RX2, TX2, 11) rfl (by decide) rfl q217 dX3_isOver_32 rfl) (z_get _ _ _ _),
   zz_of (ok_clt G dX3_isOver_35 rfl rfl) (z_clt _ _ _ _),
   zz_of (ok_iconst G (v := 1) dX3_isOver_38 (by decide) rfl) (z_cn 39 1),
   zz_of (ok_goto G dX3_isOver_39 rfl) (z_goto _),
   zz_of (ok_iconst G (v := 0) dX3_isOver_42 (by decide) rfl) (z_cn 43 0),
   zz_of (ok_zret G dX3_isOver_43) (z_zret _), trivial⟩

theorem zwX3_isOver_112_0 {Q : Option zv → zz_M → Prop} {X : Nat → zz_M → Prop} {f : Nat → Nat × Nat} {S L : Nat → Nat → Int} {P : Nat → Nat → Option Nat}  (h : R32 (S 114 0) ∧ (R32 (S 200 1) ∧ (((S 200 1) ≤ (S 114 0) → Q (some (vi 1)) ((2, f), S, L, P)) ∧ (¬ (S 200 1) ≤ (S 114 0) → R32 (S 114 1) ∧ (R32 (S 200 1) ∧ (((S 114 1) < (S 200 1) → Q (some (vi 0)) ((2, f), S, L, P)) ∧ (¬ (S 114 1) < (S 200 1) → Q (some (vi 1)) ((2, f), S, L, P)))))))) : zz_J zpX3_isOver_112 (zz_ret Q X 0 0) 0 [some (vr 112)] [] ((2, f), S, L, P) (0, 0) := zz_J.go [] 400 h

theorem zmX3_isOver_112 (l : Launch) (hl : l.stackTraces = false) : mm_Spec l yX3_isOver (ws_ yX3_isOver cX3_isOver 1 (some .boolean)) (mm_rm 1 0 0) (zE zX3_isOver_112) := by
  refine zz_Met.J hl (by decide) (fun C G hnh => ztX3_isOver_112 G hnh) ?_
  rintro as ⟨⟨t_, f⟩, S, L, P⟩ Q X h
  unfold zX3_isOver_112 at h
  split at h
  rotate_left
  · exact h.elim
  rename_i h_
  obtain ⟨e1_, e2_, h⟩ := mm_and2 h (fun q => q)
  cases mm_beq e1_
  cases mm_beq e2_
  try dsimp only at h
  refine ⟨rfl, ?_⟩
  obtain ⟨hb, h1, q1, q2⟩ := h
  have b7 : -50 ≤ S 114 0 ∧ S 114 0 ≤ 50 := hb 7
  have b8 : -50 ≤ S 114 1 ∧ S 114 1 ≤ 50 := hb 8
  have e : ovR (S 200 1) (cx S 112) = (decide (S 200 1 ≤ S 114 0) || decide (S 200 1 ≤ S 114 1)) := rfl
  rw [e] at q1 q2
  refine zwX3_isOver_112_0 ?_
  (repeat' (first | omega | exact q1 (by simp; omega) | exact q2 (by simp; omega) | apply And.intro | intro _)) <;> omega
def zX3_isOf_112 : zz_Sp := fun as M Q X => match as with
  | [.inr (.inr (some h_)), .inl p, .inl own] => bif Nat.beq h_ 112 && Nat.beq M.1.1 2 then ((p = 0 ∨ p = 1) ∧ scc (cx M.2.1 112) ∧ (-100 ≤ own ∧ own ≤ 100) ∧ ((4 ≤ own ∧ 2 ≤ own - cx M.2.1 112 (1 - p.toNat)) → Q (some (vi 1)) ((2, M.1.2), M.2.1, M.2.2.1, M.2.2.2)) ∧ (¬ (4 ≤ own ∧ 2 ≤ own - cx M.2.1 112 (1 - p.toNat)) → Q (some (vi 0)) ((2, M.1.2), M.2.1, M.2.2.1, M.2.2.2))) else False
  | _ => False

def zpX3_isOf_112 : zz_P := [(0, zo_ild 1 2), (1, zo_c 2 (vi 4)), (2, zo_clt false true 5 23), (5, zo_ild 6 2), (6, zo_ald 7 0), (7, zo_get 10 2 2 0), (10, zo_c 11 (vi 1)), (11, zo_ild 12 1), (12, zo_isub 13), (13, zo_iald 14), (14, zo_isub 15), (15, zo_c 16 (vi 2)), (16, zo_clt false true 19 23), (19, zo_c 20 (vi 1)), (20, zo_goto 24), (23, zo_c 24 (vi 0)), (24, zo_zret true)]
theorem ztX3_isOf_112 {C : mm_C} (G : mm_G C RX3 cX3_isOf (some .boolean) 3 (mm_rm 1 0 0)) (hnh : mm_nh C) : zz_OKs C zpX3_isOf_112 :=
  ⟨zz_of (ok_iload_n G dX3_isOf_0 rfl rfl) (z_ild _ _),
   zz_of (ok_iconst G (v := 4) dX3_isOf_1 (by decide) rfl) (z_cn 2 4),
   zz_of (ok_clt G dX3_isOf_2 rfl rfl) (z_clt _ _ _ _),
   zz_of (ok_iload_n G dX3_isOf_5 rfl rfl) (z_ild _ _),
   zz_of (ok_aload_n G dX3_isOf_6 rfl rfl) (z_ald _ _),
   zz_of (ok_get G (nx := 10) (ci := 2) (kd := 2) (k := 0) (RX3, TX3, 7) rfl (by decide) rfl q176 dX3_isOf_7 rfl) (z_get _ _ _ _),
   zz_of (ok_iconst G (v := 1) dX3_isOf_10 (by decide) rfl) (z_cn 11 1),
   zz_of (ok_iload_n G dX3_isOf_11 rfl rfl) (z_ild _ _),
   zz_of (ok_isub G dX3_isOf_12 rfl) (z_isub _),
   zz_of (ok_iald G dX3_isOf_13 rfl) (z_iald _),
   zz_of (ok_isub G dX3_isOf_14 rfl) (z_isub _),
   zz_of (ok_iconst G (v := 2) dX3_isOf_15 (by decide) rfl) (z_cn 16 2),
   zz_of (ok_clt G dX3_isOf_16 rfl rfl) (z_clt _ _ _ _),
   zz_of (ok_iconst G (v := 1) dX3_isOf_19 (by decide) rfl) (z_cn 20 1),
   zz_of (ok_goto G dX3_isOf_20 rfl) (z_goto _),
   zz_of (ok_iconst G (v := 0) dX3_isOf_23 (by decide) rfl) (z_cn 24 0),
   zz_of (ok_zret G dX3_isOf_24) (z_zret _), trivial⟩

theorem zwX3_isOf_112_0 {Q : Option zv → zz_M → Prop} {X : Nat → zz_M → Prop} {f : Nat → Nat × Nat} {S L : Nat → Nat → Int} {P : Nat → Nat → Option Nat} {p : Int} {own : Int} (h : R32 own ∧ ((own < 4 → Q (some (vi 0)) ((2, f), S, L, P)) ∧ (¬ own < 4 → (0 ≤ (1 - p) ∧ (1 - p) < 2) ∧ (R32 (own - (S 113 ((1 - p).toNat))) ∧ (((own - (S 113 ((1 - p).toNat))) < 2 → Q (some (vi 0)) ((2, f), S, L, P)) ∧ (¬ (own - (S 113 ((1 - p).toNat))) < 2 → Q (some (vi 1)) ((2, f), S, L, P))))))) : zz_J zpX3_isOf_112 (zz_ret Q X 0 0) 0 [some (vr 112), some (vi p), some (vi own)] [] ((2, f), S, L, P) (0, 0) := zz_J.go [] 400 h

theorem zmX3_isOf_112 (l : Launch) (hl : l.stackTraces = false) : mm_Spec l yX3_isOf (ws_ yX3_isOf cX3_isOf 3 (some .boolean)) (mm_rm 1 0 0) (zE zX3_isOf_112) := by
  refine zz_Met.J hl (by decide) (fun C G hnh => ztX3_isOf_112 G hnh) ?_
  rintro as ⟨⟨t_, f⟩, S, L, P⟩ Q X h
  unfold zX3_isOf_112 at h
  split at h
  rotate_left
  · exact h.elim
  rename_i h_ p own
  obtain ⟨e1_, e2_, h⟩ := mm_and2 h (fun q => q)
  cases mm_beq e1_
  cases mm_beq e2_
  try dsimp only at h
  refine ⟨rfl, ?_⟩
  obtain ⟨hp, hb, h1, q1, q2⟩ := h
  have b0 : -60 ≤ S 113 0 ∧ S 113 0 ≤ 60 := hb 0
  have b1 : -60 ≤ S 113 1 ∧ S 113 1 ≤ 60 := hb 1
  rcases hp with e | e <;> subst e
  · have e : cx S 112 (1 - (0 : Int).toNat) = S 113 1 := rfl
    rw [e] at q1 q2
    have e2 : ((1 : Int) - 0).toNat = 1 := rfl
    refine zwX3_isOf_112_0 ?_
    rw [e2]
    (repeat' (first | omega | exact q1 (by omega) | exact q2 (by omega) | apply And.intro | intro _)) <;> omega
  · have e : cx S 112 (1 - (1 : Int).toNat) = S 113 0 := rfl
    rw [e] at q1 q2
    have e2 : ((1 : Int) - 1).toNat = 0 := rfl
    refine zwX3_isOf_112_0 ?_
    rw [e2]
    (repeat' (first | omega | exact q1 (by omega) | exact q2 (by omega) | apply And.intro | intro _)) <;> omega
def zX3_isPointOfGame_112 : zz_Sp := fun as M Q X => match as with
  | [.inr (.inr (some h_))] => bif Nat.beq h_ 112 && Nat.beq M.1.1 2 then (scc (cx M.2.1 112) ∧ ((wW (cx M.2.1 112) 0 || wW (cx M.2.1 112) 1) = true → Q (some (vi 1)) ((2, M.1.2), M.2.1, M.2.2.1, M.2.2.2)) ∧ ((wW (cx M.2.1 112) 0 || wW (cx M.2.1 112) 1) = false → Q (some (vi 0)) ((2, M.1.2), M.2.1, M.2.2.1, M.2.2.2))) else False
  | _ => False

def zpX3_isPointOfGame_112 : zz_P := [(0, zo_ald 1 0), (1, zo_c 2 (vi 0)), (2, zo_ald 3 0), (3, zo_get 6 2 2 0), (6, zo_c 7 (vi 0)), (7, zo_ialc 8 0), (8, zo_c 9 (vi 1)), (9, zo_iadd 10), (10, zo_callv 13 3 2 zX3_isOf_112), (13, zo_zifne 16 32), (16, zo_ald 17 0), (17, zo_c 18 (vi 1)), (18, zo_ald 19 0), (19, zo_get 22 2 2 0), (22, zo_c 23 (vi 1)), (23, zo_ialc 24 1), (24, zo_c 25 (vi 1)), (25, zo_iadd 26), (26, zo_callv 29 3 2 zX3_isOf_112), (29, zo_zifeq 32 36), (32, zo_c 33 (vi 1)), (33, zo_goto 37), (36, zo_c 37 (vi 0)), (37, zo_zret true)]
theorem ztX3_isPointOfGame_112 {C : mm_C} (G : mm_G C RX3 cX3_isPointOfGame (some .boolean) 1 (mm_rm 2 0 0)) (hnh : mm_nh C) : zz_OKs C zpX3_isPointOfGame_112 :=
  ⟨zz_of (ok_aload_n G dX3_isPointOfGame_0 rfl rfl) (z_ald _ _),
   zz_of (ok_iconst G (v := 0) dX3_isPointOfGame_1 (by decide) rfl) (z_cn 2 0),
   zz_of (ok_aload_n G dX3_isPointOfGame_2 rfl rfl) (z_ald _ _),
   zz_of (ok_get G (nx := 6) (ci := 2) (kd := 2) (k := 0) (RX3, TX3, 7) rfl (by decide) rfl q176 dX3_isPointOfGame_3 rfl) (z_get _ _ _ _),
   zz_of (ok_iconst G (v := 0) dX3_isPointOfGame_6 (by decide) rfl) (z_cn 7 0),
   zz_of (ok_iald G dX3_isPointOfGame_7 rfl) (z_ialc _ _),
   zz_of (ok_iconst G (v := 1) dX3_isPointOfGame_8 (by decide) rfl) (z_cn 9 1),
   zz_of (ok_iadd G dX3_isPointOfGame_9 rfl) (z_iadd _),
   zz_of (ok_callv G hnh (zmX3_isOf_112 _ G.hst) rfl rfl (RX3, TX3, 7) rfl q1506 q1508 qs18 q87 q1509 (by decide +kernel) ⟨by decide, by decide⟩ dX3_isPointOfGame_10 rfl) (z_callv _ _ _ _),
   zz_of (ok_ifne G dX3_isPointOfGame_13 rfl rfl) (z_zifne _ _),
   zz_of (ok_aload_n G dX3_isPointOfGame_16 rfl rfl) (z_ald _ _),
   zz_of (ok_iconst G (v := 1) dX3_isPointOfGame_17 (by decide) rfl) (z_cn 18 1),
   zz_of (ok_aload_n G dX3_isPointOfGame_18 rfl rfl) (z_ald _ _),
   zz_of (ok_get G (nx := 22) (ci := 2) (kd := 2) (k := 0) (RX3, TX3, 7) rfl (by decide) rfl q176 dX3_isPointOfGame_19 rfl) (z_get _ _ _ _),
   zz_of (ok_iconst G (v := 1) dX3_isPointOfGame_22 (by decide) rfl) (z_cn 23 1),
   zz_of (ok_iald G dX3_isPointOfGame_23 rfl) (z_ialc _ _),
   zz_of (ok_iconst G (v := 1) dX3_isPointOfGame_24 (by decide) rfl) (z_cn 25 1),
   zz_of (ok_iadd G dX3_isPointOfGame_25 rfl) (z_iadd _),
   zz_of (ok_callv G hnh (zmX3_isOf_112 _ G.hst) rfl rfl (RX3, TX3, 7) rfl q1506 q1508 qs18 q87 q1509 (by decide +kernel) ⟨by decide, by decide⟩ dX3_isPointOfGame_26 rfl) (z_callv _ _ _ _),
   zz_of (ok_ifeq G dX3_isPointOfGame_29 rfl rfl) (z_zifeq _ _),
   zz_of (ok_iconst G (v := 1) dX3_isPointOfGame_32 (by decide) rfl) (z_cn 33 1),
   zz_of (ok_goto G dX3_isPointOfGame_33 rfl) (z_goto _),
   zz_of (ok_iconst G (v := 0) dX3_isPointOfGame_36 (by decide) rfl) (z_cn 37 0),
   zz_of (ok_zret G dX3_isPointOfGame_37) (z_zret _), trivial⟩

theorem zwX3_isPointOfGame_112_0 {Q : Option zv → zz_M → Prop} {X : Nat → zz_M → Prop} {f : Nat → Nat × Nat} {S L : Nat → Nat → Int} {P : Nat → Nat → Option Nat}  (h : (((0 : Int) = 0 ∨ (0 : Int) = 1) ∧ scc (cx S 112) ∧ (-100 ≤ ((S 113 0) + 1) ∧ ((S 113 0) + 1) ≤ 100) ∧ ((4 ≤ ((S 113 0) + 1) ∧ 2 ≤ ((S 113 0) + 1) - cx S 112 (1 - (0 : Int).toNat)) → (Q (some (vi 1)) ((2, f), S, L, P))) ∧ (¬ (4 ≤ ((S 113 0) + 1) ∧ 2 ≤ ((S 113 0) + 1) - cx S 112 (1 - (0 : Int).toNat)) → ((((1 : Int) = 0 ∨ (1 : Int) = 1) ∧ scc (cx S 112) ∧ (-100 ≤ ((S 113 1) + 1) ∧ ((S 113 1) + 1) ≤ 100) ∧ ((4 ≤ ((S 113 1) + 1) ∧ 2 ≤ ((S 113 1) + 1) - cx S 112 (1 - (1 : Int).toNat)) → (Q (some (vi 1)) ((2, f), S, L, P))) ∧ (¬ (4 ≤ ((S 113 1) + 1) ∧ 2 ≤ ((S 113 1) + 1) - cx S 112 (1 - (1 : Int).toNat)) → (Q (some (vi 0)) ((2, f), S, L, P)))))))) : zz_J zpX3_isPointOfGame_112 (zz_ret Q X 0 0) 0 [some (vr 112)] [] ((2, f), S, L, P) (0, 0) := zz_J.go [] 400 h

theorem zmX3_isPointOfGame_112 (l : Launch) (hl : l.stackTraces = false) : mm_Spec l yX3_isPointOfGame (ws_ yX3_isPointOfGame cX3_isPointOfGame 1 (some .boolean)) (mm_rm 2 0 0) (zE zX3_isPointOfGame_112) := by
  refine zz_Met.J hl (by decide) (fun C G hnh => ztX3_isPointOfGame_112 G hnh) ?_
  rintro as ⟨⟨t_, f⟩, S, L, P⟩ Q X h
  unfold zX3_isPointOfGame_112 at h
  split at h
  rotate_left
  · exact h.elim
  rename_i h_
  obtain ⟨e1_, e2_, h⟩ := mm_and2 h (fun q => q)
  cases mm_beq e1_
  cases mm_beq e2_
  try dsimp only at h
  refine ⟨rfl, ?_⟩
  obtain ⟨hb, q1, q2⟩ := h
  have b0 : -60 ≤ S 113 0 ∧ S 113 0 ≤ 60 := hb 0
  have b1 : -60 ≤ S 113 1 ∧ S 113 1 ≤ 60 := hb 1
  have e0 : wW (cx S 112) 0 = (decide (4 ≤ S 113 0 + 1) && decide (2 ≤ S 113 0 + 1 - S 113 1)) := rfl
  have e1 : wW (cx S 112) 1 = (decide (4 ≤ S 113 1 + 1) && decide (2 ≤ S 113 1 + 1 - S 113 0)) := rfl
  rw [e0, e1] at q1 q2
  have c0 : cx S 112 (1 - (0 : Int).toNat) = S 113 1 := rfl
  have c1 : cx S 112 (1 - (1 : Int).toNat) = S 113 0 := rfl
  refine zwX3_isPointOfGame_112_0 ⟨Or.inl rfl, hb, by omega, fun a => ?_, fun a => ⟨Or.inr rfl, hb, by omega, fun b => ?_, fun b => ?_⟩⟩
  · rw [c0] at a; exact q1 (by simp; omega)
  · rw [c1] at b; exact q1 (by simp; omega)
  · rw [c0] at a; rw [c1] at b; exact q2 (by simp; omega)
def zX3_point_112 : zz_Sp := fun as M Q X => match as with
  | [.inr (.inr (some h_)), .inl p] => bif Nat.beq h_ 112 && Nat.beq M.1.1 2 then ((p = 0 ∨ p = 1) ∧ scb (cx M.2.1 112) ∧ ∃ w_ : Nat → Int, wsc M.2.1 w_ ∧ (ptw (cx M.2.1 112) p.toNat = true → Q (some (vi 1)) ((2, M.1.2), cxW M.2.1 112 (pnt w_ (cx M.2.1 112) p.toNat), M.2.2.1, M.2.2.2)) ∧ (ptw (cx M.2.1 112) p.toNat = false → Q (some (vi 0)) ((2, M.1.2), cxW M.2.1 112 (pnt w_ (cx M.2.1 112) p.toNat), M.2.2.1, M.2.2.2))) else False
  | _ => False

def zpX3_point_112 : zz_P := [(0, zo_ald 1 0), (1, zo_get 4 2 2 0), (4, zo_ild 5 1), (5, zo_dup2 6), (6, zo_iald 7), (7, zo_c 8 (vi 1)), (8, zo_iadd 9), (9, zo_iasd 10), (10, zo_ald 11 0), (11, zo_get 14 2 2 0), (14, zo_c 15 (vi 0)), (15, zo_ialc 16 0), (16, zo_c 17 (vi 4)), (17, zo_cne false true 20 50), (20, zo_ald 21 0), (21, zo_get 24 2 2 0), (24, zo_c 25 (vi 1)), (25, zo_ialc 26 1), (26, zo_c 27 (vi 4)), (27, zo_cne false true 30 50), (30, zo_ald 31 0), (31, zo_get 34 2 2 0), (34, zo_c 35 (vi 0)), (35, zo_dup2 36), (36, zo_ialc 37 0), (37, zo_c 38 (vi 1)), (38, zo_isub 39), (39, zo_iasc 40 0), (40, zo_ald 41 0), (41, zo_get 44 2 2 0), (44, zo_c 45 (vi 1)), (45, zo_dup2 46), (46, zo_ialc 47 1), (47, zo_c 48 (vi 1)), (48, zo_isub 49), (49, zo_iasc 50 1), (50, zo_ald 51 0), (51, zo_ild 52 1), (52, zo_ald 53 0), (53, zo_get 56 2 2 0), (56, zo_ild 57 1), (57, zo_iald 58), (58, zo_callv 61 3 2 zX3_isOf_112), (61, zo_zifne 64 66), (64, zo_c 65 (vi 0)), (65, zo_zret true), (66, zo_ald 67 0), (67, zo_get 70 2 2 1), (70, zo_ild 71 1), (71, zo_dup2 72), (72, zo_iald 73), (73, zo_c 74 (vi 1)), (74, zo_iadd 75), (75, zo_iasd 76), (76, zo_ald 77 0), (77, zo_get 80 2 2 0), (80, zo_c 81 (vi 0)), (81, zo_ald 82 0), (82, zo_get 85 2 2 6), (85, zo_get 88 0 2 0), (88, zo_get 91 1 0 4), (91, zo_ineg 92), (92, zo_iasc 93 0), (93, zo_ald 94 0), (94, zo_get 97 2 2 0), (97, zo_c 98 (vi 1)), (98, zo_ald 99 0), (99, zo_get 102 2 2 6), (102, zo_get 105 0 2 0), (105, zo_get 108 1 0 5), (108, zo_iasc 109 1), (109, zo_ald 110 0), (110, zo_c 111 (vi 0)), (111, zo_puti 114 2 4), (114, zo_ald 115 0), (115, zo_c 116 (vi 0)), (116, zo_putz true 119 2 5), (119, zo_c 120 (vi 1)), (120, zo_zret true)]
theorem ztX3_point_112 {C : mm_C} (G : mm_G C RX3 cX3_point (some .boolean) 2 (mm_rm 2 0 0)) (hnh : mm_nh C) : zz_OKs C zpX3_point_112 :=
  ⟨zz_of (ok_aload_n G dX3_point_0 rfl rfl) (z_ald _ _),
   zz_of (ok_get G (nx := 4) (ci := 2) (kd := 2) (k := 0) (RX3, TX3, 7) rfl (by decide) rfl q176 dX3_point_1 rfl) (z_get _ _ _ _),
   zz_of (ok_iload_n G dX3_point_4 rfl rfl) (z_ild _ _),
   zz_of (ok_dup2 G dX3_point_5 rfl) (z_dup2 _),
   zz_of (ok_iald G dX3_point_6 rfl) (z_iald _),
   zz_of (ok_iconst G (v := 1) dX3_point_7 (by decide) rfl) (z_cn 8 1),
   zz_of (ok_iadd G dX3_point_8 rfl) (z_iadd _),
   zz_of (ok_iast G dX3_point_9 rfl) (z_iasd _),
   zz_of (ok_aload_n G dX3_point_10 rfl rfl) (z_ald _ _),
   zz_of (ok_get G (nx := 14) (ci := 2) (kd := 2) (k := 0) (RX3, TX3, 7) rfl (by decide) rfl q176 dX3_point_11 rfl) (z_get _ _ _ _),
   zz_of (ok_iconst G (v := 0) dX3_point_14 (by decide) rfl) (z_cn 15 0),
   zz_of (ok_iald G dX3_point_15 rfl) (z_ialc _ _),
   zz_of (ok_iconst G (v := 4) dX3_point_16 (by decide) rfl) (z_cn 17 4),
   zz_of (ok_cne G dX3_point_17 rfl rfl) (z_cne _ _ _ _),
   zz_of (ok_aload_n G dX3_point_20 rfl rfl) (z_ald _ _),
   zz_of (ok_get G (nx := 24) (ci := 2) (kd := 2) (k := 0) (RX3, TX3, 7) rfl (by decide) rfl q176 dX3_point_21 rfl) (z_get _ _ _ _),
   zz_of (ok_iconst G (v := 1) dX3_point_24 (by decide) rfl) (z_cn 25 1),
   zz_of (ok_iald G dX3_point_25 rfl) (z_ialc _ _),
   zz_of (ok_iconst G (v := 4) dX3_point_26 (by decide) rfl) (z_cn 27 4),
   zz_of (ok_cne G dX3_point_27 rfl rfl) (z_cne _ _ _ _),
   zz_of (ok_aload_n G dX3_point_30 rfl rfl) (z_ald _ _),
   zz_of (ok_get G (nx := 34) (ci := 2) (kd := 2) (k := 0) (RX3, TX3, 7) rfl (by decide) rfl q176 dX3_point_31 rfl) (z_get _ _ _ _),
   zz_of (ok_iconst G (v := 0) dX3_point_34 (by decide) rfl) (z_cn 35 0),
   zz_of (ok_dup2 G dX3_point_35 rfl) (z_dup2 _),
   zz_of (ok_iald G dX3_point_36 rfl) (z_ialc _ _),
   zz_of (ok_iconst G (v := 1) dX3_point_37 (by decide) rfl) (z_cn 38 1),
   zz_of (ok_isub G dX3_point_38 rfl) (z_isub _),
   zz_of (ok_iast G dX3_point_39 rfl) (z_iasc _ _),
   zz_of (ok_aload_n G dX3_point_40 rfl rfl) (z_ald _ _),
   zz_of (ok_get G (nx := 44) (ci := 2) (kd := 2) (k := 0) (RX3, TX3, 7) rfl (by decide) rfl q176 dX3_point_41 rfl) (z_get _ _ _ _),
   zz_of (ok_iconst G (v := 1) dX3_point_44 (by decide) rfl) (z_cn 45 1),
   zz_of (ok_dup2 G dX3_point_45 rfl) (z_dup2 _),
   zz_of (ok_iald G dX3_point_46 rfl) (z_ialc _ _),
   zz_of (ok_iconst G (v := 1) dX3_point_47 (by decide) rfl) (z_cn 48 1),
   zz_of (ok_isub G dX3_point_48 rfl) (z_isub _),
   zz_of (ok_iast G dX3_point_49 rfl) (z_iasc _ _),
   zz_of (ok_aload_n G dX3_point_50 rfl rfl) (z_ald _ _),
   zz_of (ok_iload_n G dX3_point_51 rfl rfl) (z_ild _ _),
   zz_of (ok_aload_n G dX3_point_52 rfl rfl) (z_ald _ _),
   zz_of (ok_get G (nx := 56) (ci := 2) (kd := 2) (k := 0) (RX3, TX3, 7) rfl (by decide) rfl q176 dX3_point_53 rfl) (z_get _ _ _ _),
   zz_of (ok_iload_n G dX3_point_56 rfl rfl) (z_ild _ _),
   zz_of (ok_iald G dX3_point_57 rfl) (z_iald _),
   zz_of (ok_callv G hnh (zmX3_isOf_112 _ G.hst) rfl rfl (RX3, TX3, 7) rfl q1506 q1508 qs18 q87 q1509 (by decide +kernel) ⟨by decide, by decide⟩ dX3_point_58 rfl) (z_callv _ _ _ _),
   zz_of (ok_ifne G dX3_point_61 rfl rfl) (z_zifne _ _),
   zz_of (ok_iconst G (v := 0) dX3_point_64 (by decide) rfl) (z_cn 65 0),
   zz_of (ok_zret G dX3_point_65) (z_zret _),
   zz_of (ok_aload_n G dX3_point_66 rfl rfl) (z_ald _ _),
   zz_of (ok_get G (nx := 70) (ci := 2) (kd := 2) (k := 1) (RX3, TX3, 7) rfl (by decide) rfl q180 dX3_point_67 rfl) (z_get _ _ _ _),
   zz_of (ok_iload_n G dX3_point_70 rfl rfl) (z_ild _ _),
   zz_of (ok_dup2 G dX3_point_71 rfl) (z_dup2 _),
   zz_of (ok_iald G dX3_point_72 rfl) (z_iald _),
   zz_of (ok_iconst G (v := 1) dX3_point_73 (by decide) rfl) (z_cn 74 1),
   zz_of (ok_iadd G dX3_point_74 rfl) (z_iadd _),
   zz_of (ok_iast G dX3_point_75 rfl) (z_iasd _),
   zz_of (ok_aload_n G dX3_point_76 rfl rfl) (z_ald _ _),
   zz_of (ok_get G (nx := 80) (ci := 2) (kd := 2) (k := 0) (RX3, TX3, 7) rfl (by decide) rfl q176 dX3_point_77 rfl) (z_get _ _ _ _),
   zz_of (ok_iconst G (v := 0) dX3_point_80 (by decide) rfl) (z_cn 81 0),
   zz_of (ok_aload_n G dX3_point_81 rfl rfl) (z_ald _ _),
   zz_of (ok_get G (nx := 85) (ci := 2) (kd := 2) (k := 6) (RX3, TX3, 7) rfl (by decide) rfl q198 dX3_point_82 rfl) (z_get _ _ _ _),
   zz_of (ok_getN G (nx := 88) (ci := 0) (kd := 2) (k := 0) (RX1, TX1, 19) rfl (by decide) rfl q401 dX3_point_85 rfl) (z_get _ _ _ _),
   zz_of (ok_getN G (nx := 91) (ci := 1) (kd := 0) (k := 4) (RX2, TX2, 11) rfl (by decide) rfl q226 dX3_point_88 rfl) (z_get _ _ _ _),
   zz_of (ok_ineg G dX3_point_91 rfl) (z_ineg _),
   zz_of (ok_iast G dX3_point_92 rfl) (z_iasc _ _),
   zz_of (ok_aload_n G dX3_point_93 rfl rfl) (z_ald _ _),
   zz_of (ok_get G (nx := 97) (ci := 2) (kd := 2) (k := 0) (RX3, TX3, 7) rfl (by decide) rfl q176 dX3_point_94 rfl) (z_get _ _ _ _),
   zz_of (ok_iconst G (v := 1) dX3_point_97 (by decide) rfl) (z_cn 98 1),
   zz_of (ok_aload_n G dX3_point_98 rfl rfl) (z_ald _ _),
   zz_of (ok_get G (nx := 102) (ci := 2) (kd := 2) (k := 6) (RX3, TX3, 7) rfl (by decide) rfl q198 dX3_point_99 rfl) (z_get _ _ _ _),
   zz_of (ok_getN G (nx := 105) (ci := 0) (kd := 2) (k := 0) (RX1, TX1, 19) rfl (by decide) rfl q401 dX3_point_102 rfl) (z_get _ _ _ _),
   zz_of (ok_getN G (nx := 108) (ci := 1) (kd := 0) (k := 5) (RX2, TX2, 11) rfl (by decide) rfl q229 dX3_point_105 rfl) (z_get _ _ _ _),
   zz_of (ok_iast G dX3_point_108 rfl) (z_iasc _ _),
   zz_of (ok_aload_n G dX3_point_109 rfl rfl) (z_ald _ _),
   zz_of (ok_iconst G (v := 0) dX3_point_110 (by decide) rfl) (z_cn 111 0),
   zz_of (ok_puti G (nx := 114) (idx := 29) (ci := 2) (k := 4) (RX3, TX3, 7) rfl (by decide) rfl (mm_pw G (ci := 2) (k := 4) (RX3, TX3, 7) rfl (by decide) rfl q190 dX3_point_111) rfl) (z_puti _ _ _),
   zz_of (ok_aload_n G dX3_point_114 rfl rfl) (z_ald _ _),
   zz_of (ok_iconst G (v := 0) dX3_point_115 (by decide) rfl) (z_cn 116 0),
   zz_of (ok_putz G (nx := 119) (idx := 32) (ci := 2) (k := 5) (RX3, TX3, 7) rfl (by decide) rfl (mm_pw G (ci := 2) (k := 5) (RX3, TX3, 7) rfl (by decide) rfl q194 dX3_point_116) rfl) (z_putz _ _ _ _),
   zz_of (ok_iconst G (v := 1) dX3_point_119 (by decide) rfl) (z_cn 120 1),
   zz_of (ok_zret G dX3_point_120) (z_zret _), trivial⟩

theorem zwX3_point_112_0 {Q : Option zv → zz_M → Prop} {X : Nat → zz_M → Prop} {f : Nat → Nat × Nat} {S L : Nat → Nat → Int} {P : Nat → Nat → Option Nat} {p : Int} (h : (0 ≤ p ∧ p < 2) ∧ ((0 ≤ p ∧ p < 2) ∧ (R32 ((mm_up S 113 p.toNat ((S 113 p.toNat) + 1)) 113 0) ∧ ((¬ ((mm_up S 113 p.toNat ((S 113 p.toNat) + 1)) 113 0) = 4 → zz_J zpX3_point_112 (zz_ret Q X 0 0) 50 [some (vr 112), some (vi p)] [] ((2, f), mm_up S 113 p.toNat ((S 113 p.toNat) + 1), L, P) (0, 0)) ∧ (((mm_up S 113 p.toNat ((S 113 p.toNat) + 1)) 113 0) = 4 → R32 ((mm_up S 113 p.toNat ((S 113 p.toNat) + 1)) 113 1) ∧ ((¬ ((mm_up S 113 p.toNat ((S 113 p.toNat) + 1)) 113 1) = 4 → zz_J zpX3_point_112 (zz_ret Q X 0 0) 50 [some (vr 112), some (vi p)] [] ((2, f), mm_up S 113 p.toNat ((S 113 p.toNat) + 1), L, P) (0, 0)) ∧ (((mm_up S 113 p.toNat ((S 113 p.toNat) + 1)) 113 1) = 4 → zz_J zpX3_point_112 (zz_ret Q X 0 0) 50 [some (vr 112), some (vi p)] [] ((2, f), mm_up (mm_up (mm_up S 113 p.toNat ((S 113 p.toNat) + 1)) 113 0 (((mm_up S 113 p.toNat ((S 113 p.toNat) + 1)) 113 0) - 1)) 113 1 (((mm_up S 113 p.toNat ((S 113 p.toNat) + 1)) 113 1) - 1), L, P) (0, 0)))))))) : zz_J zpX3_point_112 (zz_ret Q X 0 0) 0 [some (vr 112), some (vi p)] [] ((2, f), S, L, P) (0, 0) := zz_J.go [(50, [])] 400 h
theorem zwX3_point_112_50 {Q : Option zv → zz_M → Prop} {X : Nat → zz_M → Prop} {f : Nat → Nat × Nat} {S L : Nat → Nat → Int} {P : Nat → Nat → Option Nat} {x1 : Int} (h : (0 ≤ x1 ∧ x1 < 2) ∧ (((x1 = 0 ∨ x1 = 1) ∧ scc (cx S 112) ∧ (-100 ≤ (S 113 x1.toNat) ∧ (S 113 x1.toNat) ≤ 100) ∧ ((4 ≤ (S 113 x1.toNat) ∧ 2 ≤ (S 113 x1.toNat) - cx S 112 (1 - x1.toNat)) → ((0 ≤ x1 ∧ x1 < 2) ∧ ((0 ≤ x1 ∧ x1 < 2) ∧ (Q (some (vi 1)) ((2, f), mm_up (mm_up (mm_up (mm_up (mm_up S 114 x1.toNat ((S 114 x1.toNat) + 1)) 113 0 (-(S 200 4))) 113 1 (S 200 5)) 112 4 0) 112 5 0, L, P))))) ∧ (¬ (4 ≤ (S 113 x1.toNat) ∧ 2 ≤ (S 113 x1.toNat) - cx S 112 (1 - x1.toNat)) → (Q (some (vi 0)) ((2, f), S, L, P)))))) : zz_J zpX3_point_112 (zz_ret Q X 0 0) 50 [some (vr 112), some (vi x1)] [] ((2, f), S, L, P) (0, 0) := zz_J.go [(50, [])] 400 h

theorem zmX3_point_112 (l : Launch) (hl : l.stackTraces = false) : mm_Spec l yX3_point (ws_ yX3_point cX3_point 2 (some .boolean)) (mm_rm 2 0 0) (zE zX3_point_112) := by
  refine zz_Met.J hl (by decide) (fun C G hnh => ztX3_point_112 G hnh) ?_
  rintro as ⟨⟨t_, f⟩, S, L, P⟩ Q X h
  unfold zX3_point_112 at h
  split at h
  rotate_left
  · exact h.elim
  rename_i h_ p
  obtain ⟨e1_, e2_, h⟩ := mm_and2 h (fun q => q)
  cases mm_beq e1_
  cases mm_beq e2_
  try dsimp only at h
  refine ⟨rfl, ?_⟩
  obtain ⟨hp, hb, w, hw, q1, q2⟩ := h
  have b0 : -50 ≤ S 113 0 ∧ S 113 0 ≤ 50 := hb 0
  have b1 : -50 ≤ S 113 1 ∧ S 113 1 ≤ 50 := hb 1
  obtain ⟨-, -, -, w4, w5⟩ := hw
  have e0 : cx S 112 0 = S 113 0 := rfl
  have e1 : cx S 112 1 = S 113 1 := rfl
  have m7 := fun (y : Nat → Int) (v : Int) => (cxW_7 S 112 y v : mm_up (cxW S 112 y) 114 0 v = _)
  have m8 := fun (y : Nat → Int) (v : Int) => (cxW_8 S 112 y v : mm_up (cxW S 112 y) 114 1 v = _)
  have m0 := fun (y : Nat → Int) (v : Int) => (cxW_0 S 112 y v : mm_up (cxW S 112 y) 113 0 v = _)
  have m1 := fun (y : Nat → Int) (v : Int) => (cxW_1 S 112 y v : mm_up (cxW S 112 y) 113 1 v = _)
  have m3 := fun (y : Nat → Int) (v : Int) => (cxW_3 S 112 y v : mm_up (cxW S 112 y) 112 4 v = _)
  have m6 := fun (y : Nat → Int) (v : Int) => (cxW_6 S 112 y v : mm_up (cxW S 112 y) 112 5 v = _)
  -- behind the raise
  have t50 : zz_J zpX3_point_112 (zz_ret Q X 0 0) 50 [some (vr 112), some (vi p)] [] ((2, f), cxW S 112 (ptB (ptA (cx S 112) p.toNat)), L, P) (0, 0) := by
    have hy9 : ∀ j, 9 ≤ j → ptB (ptA (cx S 112) p.toNat) j = 0 := by
      intro j hj
      have : p.toNat < 2 := by omega
      unfold ptB ptA ru
      rw [if_neg (by omega), if_neg (by omega)]
      unfold cx
      simp
      omega
    have hcx := cx_cxW S 112 (ptB (ptA (cx S 112) p.toNat)) hy9
    have hyb : scc (ptB (ptA (cx S 112) p.toNat)) := by
      intro j
      have hj := hb j
      have h0 := hb p.toNat
      unfold ptB ptA ru
      grind
    refine zwX3_point_112_50 ?_
    rw [hcx]
    have r0 : cxW S 112 (ptB (ptA (cx S 112) p.toNat)) 113 0 = ptB (ptA (cx S 112) p.toNat) 0 := rfl
    have r1 : cxW S 112 (ptB (ptA (cx S 112) p.toNat)) 113 1 = ptB (ptA (cx S 112) p.toNat) 1 := rfl
    have r7 : cxW S 112 (ptB (ptA (cx S 112) p.toNat)) 114 0 = ptB (ptA (cx S 112) p.toNat) 7 := rfl
    have r8 : cxW S 112 (ptB (ptA (cx S 112) p.toNat)) 114 1 = ptB (ptA (cx S 112) p.toNat) 8 := rfl
    have r4 : cxW S 112 (ptB (ptA (cx S 112) p.toNat)) 200 4 = w 197 := w4
    have r5 : cxW S 112 (ptB (ptA (cx S 112) p.toNat)) 200 5 = w 198 := w5
    have y0 := hyb 0
    have y1 := hyb 1
    rcases hp with e | e <;> subst e
    · simp only [Int.toNat_zero] at *
      refine ⟨by decide, by simp, hyb, by rw [r0]; omega, fun a => ⟨by decide, by decide, ?_⟩, fun a => ?_⟩
      · rw [r0] at a
        have hw : ptw (cx S 112) 0 = true := by unfold ptw; simp only [Bool.and_eq_true, decide_eq_true_eq]; exact a
        have := q1 hw
        rw [r7, r4, r5, m7, m0, m1, m3, m6]
        have ef : pnt w (cx S 112) 0 = ru (ru (ru (ru (ru (ptB (ptA (cx S 112) 0)) 7 (ptB (ptA (cx S 112) 0) 7 + 1)) 0 (-w 197)) 1 (w 198)) 3 0) 6 0 := by
          funext j; unfold pnt; rw [hw]; rfl
        rw [← ef]
        exact this
      · rw [r0] at a
        have hw : ptw (cx S 112) 0 = false := by
          unfold ptw
          cases hd : (decide (4 ≤ ptB (ptA (cx S 112) 0) 0) && decide (2 ≤ ptB (ptA (cx S 112) 0) 0 - ptB (ptA (cx S 112) 0) (1 - 0))) with
          | false => rfl
          | true => simp only [Bool.and_eq_true, decide_eq_true_eq] at hd; exact absurd hd a
        have := q2 hw
        have ef : pnt w (cx S 112) 0 = ptB (ptA (cx S 112) 0) := by funext j; unfold pnt; rw [hw]; rfl
        rw [ef] at this
        exact this
    · simp only [show (1 : Int).toNat = 1 from rfl] at *
      refine ⟨by decide, by simp, hyb, by rw [r1]; omega, fun a => ⟨by decide, by decide, ?_⟩, fun a => ?_⟩
      · rw [r1] at a
        have hw : ptw (cx S 112) 1 = true := by unfold ptw; simp only [Bool.and_eq_true, decide_eq_true_eq]; exact a
        have := q1 hw
        rw [r8, r4, r5, m8, m0, m1, m3, m6]
        have ef : pnt w (cx S 112) 1 = ru (ru (ru (ru (ru (ptB (ptA (cx S 112) 1)) 8 (ptB (ptA (cx S 112) 1) 8 + 1)) 0 (-w 197)) 1 (w 198)) 3 0) 6 0 := by
          funext j; unfold pnt; rw [hw]; rfl
        rw [← ef]
        exact this
      · rw [r1] at a
        have hw : ptw (cx S 112) 1 = false := by
          unfold ptw
          cases hd : (decide (4 ≤ ptB (ptA (cx S 112) 1) 1) && decide (2 ≤ ptB (ptA (cx S 112) 1) 1 - ptB (ptA (cx S 112) 1) (1 - 1))) with
          | false => rfl
          | true => simp only [Bool.and_eq_true, decide_eq_true_eq] at hd; exact absurd hd a
        have := q2 hw
        have ef : pnt w (cx S 112) 1 = ptB (ptA (cx S 112) 1) := by funext j; unfold pnt; rw [hw]; rfl
        rw [ef] at this
        exact this
  have fin : ∀ T : Nat → Nat → Int, T = cxW S 112 (ptB (ptA (cx S 112) p.toNat)) → zz_J zpX3_point_112 (zz_ret Q X 0 0) 50 [some (vr 112), some (vi p)] [] ((2, f), T, L, P) (0, 0) := fun T e => by rw [e]; exact t50
  rcases hp with e | e <;> subst e
  · simp only [Int.toNat_zero, show (1 : Int).toNat = 1 from rfl] at fin
    refine zwX3_point_112_0 ?_
    simp only [Int.toNat_zero, show (1 : Int).toNat = 1 from rfl, up_eq]
    refine ⟨by decide, by decide, by grind, fun c => fin _ ?_, fun c => ⟨by grind, fun d => fin _ ?_, fun d => fin _ ?_⟩⟩
    all_goals
      funext h k
      simp only [up_eq, cxW, ptB, ptA, ru, cx] at *
      grind
  · simp only [Int.toNat_zero, show (1 : Int).toNat = 1 from rfl] at fin
    refine zwX3_point_112_0 ?_
    simp only [Int.toNat_zero, show (1 : Int).toNat = 1 from rfl, up_eq]
    refine ⟨by decide, by decide, by grind, fun c => fin _ ?_, fun c => ⟨by grind, fun d => fin _ ?_, fun d => fin _ ?_⟩⟩
    all_goals
      funext h k
      simp only [up_eq, cxW, ptB, ptA, ru, cx] at *
      grind
def zX3_changes_112 : zz_Sp := fun as M Q X => match as with
  | [.inr (.inr (some h_))] => bif Nat.beq h_ 112 && Nat.beq M.1.1 2 then (scc (cx M.2.1 112) ∧ 0 ≤ cx M.2.1 112 3 ∧ (cx M.2.1 112 6 = 0 ∨ cx M.2.1 112 6 = 1) ∧ (-60 ≤ M.2.1 200 2 ∧ M.2.1 200 2 ≤ 60) ∧ ∃ w_ : Nat → Int, wsc M.2.1 w_ ∧ Q none ((2, M.1.2), cxW M.2.1 112 (cchR w_ (cx M.2.1 112)), M.2.2.1, M.2.2.2)) else False
  | _ => False

def zpX3_changes_112 : zz_P := [(0, zo_ald 1 0), (1, zo_get 4 2 0 4), (4, zo_c 5 (vi 2)), (5, zo_ceq false true 8 49), (8, zo_ald 9 0), (9, zo_get 12 2 0 4), (12, zo_ifle false 15 53), (15, zo_ald 16 0), (16, zo_get 19 2 2 6), (19, zo_get 22 0 2 0), (22, zo_get 25 1 0 2), (25, zo_c 26 (vi 1)), (26, zo_ceq false true 29 49), (29, zo_ald 30 0), (30, zo_get 33 2 2 6), (33, zo_get 36 0 2 0), (36, zo_get 39 1 0 2), (39, zo_ifne false 42 53), (42, zo_ald 43 0), (43, zo_callv 46 1 2 zX3_isPointOfGame_112), (46, zo_zifeq 49 53), (49, zo_c 50 (vi 1)), (50, zo_goto 54), (53, zo_c 54 (vi 0)), (54, zo_ist 55 1), (55, zo_ald 56 0), (56, zo_get 59 2 0 5), (59, zo_ifne false 62 66), (62, zo_ild 63 1), (63, zo_ifne false 66 67), (66, zo_vret), (67, zo_ald 68 0), (68, zo_c 69 (vi 1)), (69, zo_putz true 72 2 5), (72, zo_ald 73 0), (73, zo_c 74 (vi 1)), (74, zo_ald 75 0), (75, zo_get 78 2 0 3), (78, zo_isub 79), (79, zo_puti 82 2 3), (82, zo_vret)]
theorem ztX3_changes_112 {C : mm_C} (G : mm_G C RX3 cX3_changes none 2 (mm_rm 3 0 0)) (hnh : mm_nh C) : zz_OKs C zpX3_changes_112 :=
  ⟨zz_of (ok_aload_n G dX3_changes_0 rfl rfl) (z_ald _ _),
   zz_of (ok_get G (nx := 4) (ci := 2) (kd := 0) (k := 4) (RX3, TX3, 7) rfl (by decide) rfl q190 dX3_changes_1 rfl) (z_get _ _ _ _),
   zz_of (ok_iconst G (v := 2) dX3_changes_4 (by decide) rfl) (z_cn 5 2),
   zz_of (ok_ceq G dX3_changes_5 rfl rfl) (z_ceq _ _ _ _),
   zz_of (ok_aload_n G dX3_changes_8 rfl rfl) (z_ald _ _),
   zz_of (ok_get G (nx := 12) (ci := 2) (kd := 0) (k := 4) (RX3, TX3, 7) rfl (by decide) rfl q190 dX3_changes_9 rfl) (z_get _ _ _ _),
   zz_of (ok_ifle G dX3_changes_12 rfl rfl) (z_ifle _ _ _),
   zz_of (ok_aload_n G dX3_changes_15 rfl rfl) (z_ald _ _),
   zz_of (ok_get G (nx := 19) (ci := 2) (kd := 2) (k := 6) (RX3, TX3, 7) rfl (by decide) rfl q198 dX3_changes_16 rfl) (z_get _ _ _ _),
   zz_of (ok_getN G (nx := 22) (ci := 0) (kd := 2) (k := 0) (RX1, TX1, 19) rfl (by decide) rfl q401 dX3_changes_19 rfl) (z_get _ _ _ _),
   zz_of (ok_getN G (nx := 25) (ci := 1) (kd := 0) (k := 2) (RX2, TX2, 11) rfl (by decide) rfl q220 dX3_changes_22 rfl) (z_get _ _ _ _),
   zz_of (ok_iconst G (v := 1) dX3_changes_25 (by decide) rfl) (z_cn 26 1),
   zz_of (ok_ceq G dX3_changes_26 rfl rfl) (z_ceq _ _ _ _),
   zz_of (ok_aload_n G dX3_changes_29 rfl rfl) (z_ald _ _),
   zz_of (ok_get G (nx := 33) (ci := 2) (kd := 2) (k := 6) (RX3, TX3, 7) rfl (by decide) rfl q198 dX3_changes_30 rfl) (z_get _ _ _ _),
   zz_of (ok_getN G (nx := 36) (ci := 0) (kd := 2) (k := 0) (RX1, TX1, 19) rfl (by decide) rfl q401 dX3_changes_33 rfl) (z_get _ _ _ _),
   zz_of (ok_getN G (nx := 39) (ci := 1) (kd := 0) (k := 2) (RX2, TX2, 11) rfl (by decide) rfl q220 dX3_changes_36 rfl) (z_get _ _ _ _),
   zz_of (ok_ifne G dX3_changes_39 rfl rfl) (z_ifne _ _ _),
   zz_of (ok_aload_n G dX3_changes_42 rfl rfl) (z_ald _ _),
   zz_of (ok_callv G hnh (zmX3_isPointOfGame_112 _ G.hst) rfl rfl (RX3, TX3, 7) rfl q1502 q1503 q1504 q87 q1505 (by decide +kernel) ⟨by decide, by decide⟩ dX3_changes_43 rfl) (z_callv _ _ _ _),
   zz_of (ok_ifeq G dX3_changes_46 rfl rfl) (z_zifeq _ _),
   zz_of (ok_iconst G (v := 1) dX3_changes_49 (by decide) rfl) (z_cn 50 1),
   zz_of (ok_goto G dX3_changes_50 rfl) (z_goto _),
   zz_of (ok_iconst G (v := 0) dX3_changes_53 (by decide) rfl) (z_cn 54 0),
   zz_of (ok_istore_n G dX3_changes_54 rfl rfl (by decide)) (z_ist _ _),
   zz_of (ok_aload_n G dX3_changes_55 rfl rfl) (z_ald _ _),
   zz_of (ok_get G (nx := 59) (ci := 2) (kd := 0) (k := 5) (RX3, TX3, 7) rfl (by decide) rfl q194 dX3_changes_56 rfl) (z_get _ _ _ _),
   zz_of (ok_ifne G dX3_changes_59 rfl rfl) (z_ifne _ _ _),
   zz_of (ok_iload_n G dX3_changes_62 rfl rfl) (z_ild _ _),
   zz_of (ok_ifne G dX3_changes_63 rfl rfl) (z_ifne _ _ _),
   zz_of (ok_vret G dX3_changes_66) (z_vret),
   zz_of (ok_aload_n G dX3_changes_67 rfl rfl) (z_ald _ _),
   zz_of (ok_iconst G (v := 1) dX3_changes_68 (by decide) rfl) (z_cn 69 1),
   zz_of (ok_putz G (nx := 72) (idx := 32) (ci := 2) (k := 5) (RX3, TX3, 7) rfl (by decide) rfl (mm_pw G (ci := 2) (k := 5) (RX3, TX3, 7) rfl (by decide) rfl q194 dX3_changes_69) rfl) (z_putz _ _ _ _),
   zz_of (ok_aload_n G dX3_changes_72 rfl rfl) (z_ald _ _),
   zz_of (ok_iconst G (v := 1) dX3_changes_73 (by decide) rfl) (z_cn 74 1),
   zz_of (ok_aload_n G dX3_changes_74 rfl rfl) (z_ald _ _),
   zz_of (ok_get G (nx := 78) (ci := 2) (kd := 0) (k := 3) (RX3, TX3, 7) rfl (by decide) rfl q187 dX3_changes_75 rfl) (z_get _ _ _ _),
   zz_of (ok_isub G dX3_changes_78 rfl) (z_isub _),
   zz_of (ok_puti G (nx := 82) (idx := 25) (ci := 2) (k := 3) (RX3, TX3, 7) rfl (by decide) rfl (mm_pw G (ci := 2) (k := 3) (RX3, TX3, 7) rfl (by decide) rfl q187 dX3_changes_79) rfl) (z_puti _ _ _),
   zz_of (ok_vret G dX3_changes_82) (z_vret), trivial⟩

theorem zwX3_changes_112_0 {Q : Option zv → zz_M → Prop} {X : Nat → zz_M → Prop} {f : Nat → Nat × Nat} {S L : Nat → Nat → Int} {P : Nat → Nat → Option Nat}  (h : R32 (S 112 4) ∧ (((S 112 4) = 2 → zz_J zpX3_changes_112 (zz_ret Q X 0 0) 54 [some (vr 112), none] [vi 1] ((2, f), S, L, P) (0, 0)) ∧ (¬ (S 112 4) = 2 → R32 (S 112 4) ∧ (((S 112 4) ≤ 0 → zz_J zpX3_changes_112 (zz_ret Q X 0 0) 54 [some (vr 112), none] [vi 0] ((2, f), S, L, P) (0, 0)) ∧ (¬ (S 112 4) ≤ 0 → R32 (S 200 2) ∧ (((S 200 2) = 1 → zz_J zpX3_changes_112 (zz_ret Q X 0 0) 54 [some (vr 112), none] [vi 1] ((2, f), S, L, P) (0, 0)) ∧ (¬ (S 200 2) = 1 → R32 (S 200 2) ∧ ((¬ (S 200 2) = 0 → zz_J zpX3_changes_112 (zz_ret Q X 0 0) 54 [some (vr 112), none] [vi 0] ((2, f), S, L, P) (0, 0)) ∧ ((S 200 2) = 0 → (scc (cx S 112) ∧ ((wW (cx S 112) 0 || wW (cx S 112) 1) = true → (zz_J zpX3_changes_112 (zz_ret Q X 0 0) 54 [some (vr 112), none] [vi 1] ((2, f), S, L, P) (0, 0))) ∧ ((wW (cx S 112) 0 || wW (cx S 112) 1) = false → (zz_J zpX3_changes_112 (zz_ret Q X 0 0) 54 [some (vr 112), none] [vi 0] ((2, f), S, L, P) (0, 0))))))))))))) : zz_J zpX3_changes_112 (zz_ret Q X 0 0) 0 [some (vr 112), none] [] ((2, f), S, L, P) (0, 0) := zz_J.go [(54, [1])] 400 h
theorem zwX3_changes_112_54 {Q : Option zv → zz_M → Prop} {X : Nat → zz_M → Prop} {f : Nat → Nat × Nat} {S L : Nat → Nat → Int} {P : Nat → Nat → Option Nat} {t0 : Int} (h : R32 (S 112 5) ∧ ((¬ (S 112 5) = 0 → Q none ((2, f), S, L, P)) ∧ ((S 112 5) = 0 → R32 t0 ∧ ((¬ t0 = 0 → Q none ((2, f), mm_up (mm_up S 112 5 1) 112 3 (1 - (S 112 3)), L, P)) ∧ (t0 = 0 → Q none ((2, f), S, L, P)))))) : zz_J zpX3_changes_112 (zz_ret Q X 0 0) 54 [some (vr 112), none] [vi t0] ((2, f), S, L, P) (0, 0) := zz_J.go [(54, [1])] 400 h

theorem zmX3_changes_112 (l : Launch) (hl : l.stackTraces = false) : mm_Spec l yX3_changes (ws_ yX3_changes cX3_changes 2 none) (mm_rm 3 0 0) (zE zX3_changes_112) := by
  refine zz_Met.J hl (by decide) (fun C G hnh => ztX3_changes_112 G hnh) ?_
  rintro as ⟨⟨t_, f⟩, S, L, P⟩ Q X h
  unfold zX3_changes_112 at h
  split at h
  rotate_left
  · exact h.elim
  rename_i h_
  obtain ⟨e1_, e2_, h⟩ := mm_and2 h (fun q => q)
  cases mm_beq e1_
  cases mm_beq e2_
  try dsimp only at h
  refine ⟨rfl, ?_⟩
  obtain ⟨hc, h3, h6, hcl, w, hw, hq⟩ := h
  have e2 : cx S 112 2 = S 112 3 := rfl
  have e3 : cx S 112 3 = S 112 4 := rfl
  have e6 : cx S 112 6 = S 112 5 := rfl
  have b2 := hc 2
  have b3 := hc 3
  rw [e2] at b2
  rw [e3] at b3 h3
  rw [e6] at h6
  have ew : S 200 2 = w 195 := hw.2.1
  have t54 : ∀ v : Int, (v = 1 ∧ chD w (cx S 112) = true ∨ v = 0 ∧ chD w (cx S 112) = false) → zz_J zpX3_changes_112 (zz_ret Q X 0 0) 54 [some (vr 112), none] [vi v] ((2, f), S, L, P) (0, 0) := by
    intro v hv
    have key0 : chD w (cx S 112) = false ∨ S 112 5 ≠ 0 → Q none ((2, f), S, L, P) := by
      intro hk
      have : cxW S 112 (cchR w (cx S 112)) = S := by
        have e : cchR w (cx S 112) = cx S 112 := by
          funext j
          unfold cchR
          rcases hk with hk | hk
          · rw [cch_at w _ hk]; simp
          · rw [if_neg (by rw [e6]; exact hk)]
        rw [e, cxW_id]
      rw [this] at hq
      exact hq
    refine zwX3_changes_112_54 ?_
    refine ⟨by omega, fun a => key0 (Or.inr a), fun a => ⟨by omega, fun b => ?_, fun b => key0 (Or.inl (by rcases hv with ⟨c, -⟩ | ⟨-, c⟩; omega; exact c))⟩⟩
    have hd : chD w (cx S 112) = true := by rcases hv with ⟨-, c⟩ | ⟨c, -⟩; exact c; omega
    have : mm_up (mm_up S 112 5 1) 112 3 (1 - S 112 3) = cxW S 112 (cchR w (cx S 112)) := by
      have e : cchR w (cx S 112) = ru (ru (cx S 112) 6 1) 2 (1 - S 112 3) := by
        funext j
        unfold cchR
        rw [if_pos (by rw [e6]; exact a)]
        unfold chR
        rw [hd]
        unfold ru
        simp only [if_true, e2]
      rw [e]
      exact (congrArg (fun T => mm_up T 112 3 (1 - S 112 3)) (cxW_i6 S 112 1)).trans (cxW_2 S 112 _ _)
    (repeat' (first | omega | exact zz_Qm (by rw [this]) hq | apply And.intro | intro _)) <;> omega
  have ed : chD w (cx S 112) = (S 112 4 != 0 && (S 112 4 == 2 || w 195 == 1 || (w 195 == 0 && (wW (cx S 112) 0 || wW (cx S 112) 1)))) := rfl
  have hb50 : scb (cx S 112) → True := fun _ => trivial
  refine zwX3_changes_112_0 ?_
  rw [ew]
  refine ⟨by omega, fun c => t54 1 (Or.inl ⟨rfl, by rw [ed, c]; rfl⟩), fun c => ⟨by omega, fun d => t54 0 (Or.inr ⟨rfl, by rw [ed, show S 112 4 = 0 by omega]; rfl⟩), fun d => ⟨by omega, fun g => t54 1 (Or.inl ⟨rfl, by rw [ed, g]; simp; omega⟩), fun g => ⟨by omega, fun k => t54 0 (Or.inr ⟨rfl, by rw [ed]; simp [c, g, k]⟩), fun k => ⟨hc, fun m => t54 1 (Or.inl ⟨rfl, by rw [ed, m]; simp [k]; omega⟩), fun m => t54 0 (Or.inr ⟨rfl, by rw [ed, m]; simp [c, g]⟩)⟩⟩⟩⟩⟩
def zX3_gains_112 : zz_Sp := fun as M Q X => match as with
  | [.inr (.inr (some h_)), .inl p] => bif Nat.beq h_ 112 && Nat.beq M.1.1 2 then ((p = 0 ∨ p = 1) ∧ scb (cx M.2.1 112) ∧ 0 ≤ cx M.2.1 112 3 ∧ (cx M.2.1 112 6 = 0 ∨ cx M.2.1 112 6 = 1) ∧ ∃ w_ : Nat → Int, wsc M.2.1 w_ ∧ wV w_ ∧ (ptw (cx M.2.1 112) p.toNat = true → Q (some (vi 1)) ((2, M.1.2), cxW M.2.1 112 (cchR w_ (pnt w_ (cx M.2.1 112) p.toNat)), M.2.2.1, M.2.2.2)) ∧ (ptw (cx M.2.1 112) p.toNat = false → Q (some (vi 0)) ((2, M.1.2), cxW M.2.1 112 (cchR w_ (pnt w_ (cx M.2.1 112) p.toNat)), M.2.2.1, M.2.2.2))) else False
  | _ => False

def zpX3_gains_112 : zz_P := [(0, zo_ald 1 0), (1, zo_ild 2 1), (2, zo_callv 5 2 2 zX3_point_112), (5, zo_ist 6 2), (6, zo_ald 7 0), (7, zo_callv 10 1 2 zX3_changes_112), (10, zo_ild 11 2), (11, zo_zret true)]
theorem ztX3_gains_112 {C : mm_C} (G : mm_G C RX3 cX3_gains (some .boolean) 3 (mm_rm 4 0 0)) (hnh : mm_nh C) : zz_OKs C zpX3_gains_112 :=
  ⟨zz_of (ok_aload_n G dX3_gains_0 rfl rfl) (z_ald _ _),
   zz_of (ok_iload_n G dX3_gains_1 rfl rfl) (z_ild _ _),
   zz_of (ok_callv G hnh (zmX3_point_112 _ G.hst) rfl rfl (RX3, TX3, 7) rfl q1549 q1551 qs21 q87 q1552 (by decide +kernel) ⟨by decide, by decide⟩ dX3_gains_2 rfl) (z_callv _ _ _ _),
   zz_of (ok_istore_n G dX3_gains_5 rfl rfl (by decide)) (z_ist _ _),
   zz_of (ok_aload_n G dX3_gains_6 rfl rfl) (z_ald _ _),
   zz_of (ok_callv G hnh (zmX3_changes_112 _ G.hst) rfl rfl (RX3, TX3, 7) rfl q1553 q1555 qs22 q87 q1556 (by decide +kernel) ⟨by decide, by decide⟩ dX3_gains_7 rfl) (z_callv _ _ _ _),
   zz_of (ok_iload_n G dX3_gains_10 rfl rfl) (z_ild _ _),
   zz_of (ok_zret G dX3_gains_11) (z_zret _), trivial⟩

theorem zwX3_gains_112_0 {Q : Option zv → zz_M → Prop} {X : Nat → zz_M → Prop} {f : Nat → Nat × Nat} {S L : Nat → Nat → Int} {P : Nat → Nat → Option Nat} {p : Int} (h : ((p = 0 ∨ p = 1) ∧ scb (cx S 112) ∧ ∃ w_1 : Nat → Int, wsc S w_1 ∧ (ptw (cx S 112) p.toNat = true → ((scc (cx (cxW S 112 (pnt w_1 (cx S 112) p.toNat)) 112) ∧ 0 ≤ cx (cxW S 112 (pnt w_1 (cx S 112) p.toNat)) 112 3 ∧ (cx (cxW S 112 (pnt w_1 (cx S 112) p.toNat)) 112 6 = 0 ∨ cx (cxW S 112 (pnt w_1 (cx S 112) p.toNat)) 112 6 = 1) ∧ (-60 ≤ (cxW S 112 (pnt w_1 (cx S 112) p.toNat)) 200 2 ∧ (cxW S 112 (pnt w_1 (cx S 112) p.toNat)) 200 2 ≤ 60) ∧ ∃ w_2 : Nat → Int, wsc (cxW S 112 (pnt w_1 (cx S 112) p.toNat)) w_2 ∧ (Q (some (vi 1)) ((2, f), cxW (cxW S 112 (pnt w_1 (cx S 112) p.toNat)) 112 (cchR w_2 (cx (cxW S 112 (pnt w_1 (cx S 112) p.toNat)) 112)), L, P))))) ∧ (ptw (cx S 112) p.toNat = false → ((scc (cx (cxW S 112 (pnt w_1 (cx S 112) p.toNat)) 112) ∧ 0 ≤ cx (cxW S 112 (pnt w_1 (cx S 112) p.toNat)) 112 3 ∧ (cx (cxW S 112 (pnt w_1 (cx S 112) p.toNat)) 112 6 = 0 ∨ cx (cxW S 112 (pnt w_1 (cx S 112) p.toNat)) 112 6 = 1) ∧ (-60 ≤ (cxW S 112 (pnt w_1 (cx S 112) p.toNat)) 200 2 ∧ (cxW S 112 (pnt w_1 (cx S 112) p.toNat)) 200 2 ≤ 60) ∧ ∃ w_3 : Nat → Int, wsc (cxW S 112 (pnt w_1 (cx S 112) p.toNat)) w_3 ∧ (Q (some (vi 0)) ((2, f), cxW (cxW S 112 (pnt w_1 (cx S 112) p.toNat)) 112 (cchR w_3 (cx (cxW S 112 (pnt w_1 (cx S 112) p.toNat)) 112)), L, P))))))) : zz_J zpX3_gains_112 (zz_ret Q X 0 0) 0 [some (vr 112), some (vi p), none] [] ((2, f), S, L, P) (0, 0) := zz_J.go [] 400 h

theorem zmX3_gains_112 (l : Launch) (hl : l.stackTraces = false) : mm_Spec l yX3_gains (ws_ yX3_gains cX3_gains 3 (some .boolean)) (mm_rm 4 0 0) (zE zX3_gains_112) := by
  refine zz_Met.J hl (by decide) (fun C G hnh => ztX3_gains_112 G hnh) ?_
  rintro as ⟨⟨t_, f⟩, S, L, P⟩ Q X h
  unfold zX3_gains_112 at h
  split at h
  rotate_left
  · exact h.elim
  rename_i h_ p
  obtain ⟨e1_, e2_, h⟩ := mm_and2 h (fun q => q)
  cases mm_beq e1_
  cases mm_beq e2_
  try dsimp only at h
  refine ⟨rfl, ?_⟩
  obtain ⟨hp, hb, h3, h6, w, hw, hv, q1, q2⟩ := h
  have hp2 : p.toNat < 2 := by omega
  have h9 := pnt_9 (w := w) (x := cx S 112) (p := p.toNat) hp2 (fun j hj => by unfold cx; simp; omega)
  have ecx := cx_cxW S 112 _ h9
  have hsc := pnt_scc (w := w) hb hv hp2
  have h36 := pnt_36 (w := w) (x := cx S 112) hp2 h3 h6
  have hw2 := wsc_cxW (x := pnt w (cx S 112) p.toNat) hw (show 112 = 204 ∨ 112 = 108 ∨ 112 = 112 by decide)
  have hcl : cxW S 112 (pnt w (cx S 112) p.toNat) 200 2 = w 195 := hw2.2.1
  refine zwX3_gains_112_0 ⟨hp, hb, w, hw, fun a => ?_, fun a => ?_⟩
  · rw [ecx, hcl]
    refine ⟨hsc, h36.1, h36.2, by have := hv.2.1; omega, w, hw2, ?_⟩
    rw [cxW_cxW]
    exact q1 a
  · rw [ecx, hcl]
    refine ⟨hsc, h36.1, h36.2, by have := hv.2.1; omega, w, hw2, ?_⟩
    rw [cxW_cxW]
    exact q2 a
def zX3_outcome_112 : zz_Sp := fun as M Q X => match as with
  | [.inr (.inr (some h_)), .inl how, .inl line] => bif Nat.beq h_ 112 && Nat.beq M.1.1 2 then ((0 ≤ how ∧ how ≤ 2) ∧ R32 line ∧ (cx M.2.1 112 6 = 0 → how = 2 → 0 ≤ line ∧ line ≤ 9) ∧ scb (cx M.2.1 112) ∧ (cx M.2.1 112 2 = 0 ∨ cx M.2.1 112 2 = 1) ∧ (cx M.2.1 112 6 = 0 ∨ cx M.2.1 112 6 = 1) ∧ ∃ w_ : Nat → Int, wsc M.2.1 w_ ∧ wV w_ ∧ Q (some (vi (raO w_ (cx M.2.1 112) (clH (cx M.2.1 112) how line)))) ((2, M.1.2), M.2.1, M.2.2.1, M.2.2.2)) else False
  | _ => False

def zpX3_outcome_112 : zz_P := [(0, zo_ild 1 1), (1, zo_c 2 (vi 2)), (2, zo_cge false true 5 9), (5, zo_c 6 (vi 1)), (6, zo_ild 7 1), (7, zo_iadd 8), (8, zo_iret), (9, zo_ald 10 0), (10, zo_get 13 2 0 5), (13, zo_ifeq false 16 39), (16, zo_ild 17 2), (17, zo_ald 18 0), (18, zo_get 21 2 2 2), (21, zo_c 22 (vi 0)), (22, zo_ialc 23 0), (23, zo_cne false false 26 41), (26, zo_ald 27 0), (27, zo_get 30 2 2 6), (30, zo_get 33 0 2 0), (33, zo_get 36 1 0 3), (36, zo_ifne false 39 41), (39, zo_c 40 (vi 0)), (40, zo_iret), (41, zo_ild 42 2), (42, zo_ald 43 0), (43, zo_get 46 2 2 2), (46, zo_c 47 (vi 0)), (47, zo_ialc 48 0), (48, zo_cge false false 51 55), (51, zo_c 52 (vi 2)), (52, zo_goto 56), (55, zo_c 56 (vi 1)), (56, zo_iret)]
theorem ztX3_outcome_112 {C : mm_C} (G : mm_G C RX3 cX3_outcome (some .int) 3 (mm_rm 1 0 0)) (hnh : mm_nh C) : zz_OKs C zpX3_outcome_112 :=
  ⟨zz_of (ok_iload_n G dX3_outcome_0 rfl rfl) (z_ild _ _),
   zz_of (ok_iconst G (v := 2) dX3_outcome_1 (by decide) rfl) (z_cn 2 2),
   zz_of (ok_cge G dX3_outcome_2 rfl rfl) (z_cge _ _ _ _),
   zz_of (ok_iconst G (v := 1) dX3_outcome_5 (by decide) rfl) (z_cn 6 1),
   zz_of (ok_iload_n G dX3_outcome_6 rfl rfl) (z_ild _ _),
   zz_of (ok_iadd G dX3_outcome_7 rfl) (z_iadd _),
   zz_of (ok_iret G dX3_outcome_8) (z_iret),
   zz_of (ok_aload_n G dX3_outcome_9 rfl rfl) (z_ald _ _),
   zz_of (ok_get G (nx := 13) (ci := 2) (kd := 0) (k := 5) (RX3, TX3, 7) rfl (by decide) rfl q194 dX3_outcome_10 rfl) (z_get _ _ _ _),
   zz_of (ok_ifeq G dX3_outcome_13 rfl rfl) (z_ifeq _ _ _),
   zz_of (ok_iload_n G dX3_outcome_16 rfl rfl) (z_ild _ _),
   zz_of (ok_aload_n G dX3_outcome_17 rfl rfl) (z_ald _ _),
   zz_of (ok_get G (nx := 21) (ci := 2) (kd := 2) (k := 2) (RX3, TX3, 7) rfl (by decide) rfl q184 dX3_outcome_18 rfl) (z_get _ _ _ _),
   zz_of (ok_iconst G (v := 0) dX3_outcome_21 (by decide) rfl) (z_cn 22 0),
   zz_of (ok_iald G dX3_outcome_22 rfl) (z_ialc _ _),
   zz_of (ok_cne G dX3_outcome_23 rfl rfl) (z_cne _ _ _ _),
   zz_of (ok_aload_n G dX3_outcome_26 rfl rfl) (z_ald _ _),
   zz_of (ok_get G (nx := 30) (ci := 2) (kd := 2) (k := 6) (RX3, TX3, 7) rfl (by decide) rfl q198 dX3_outcome_27 rfl) (z_get _ _ _ _),
   zz_of (ok_getN G (nx := 33) (ci := 0) (kd := 2) (k := 0) (RX1, TX1, 19) rfl (by decide) rfl q401 dX3_outcome_30 rfl) (z_get _ _ _ _),
   zz_of (ok_getN G (nx := 36) (ci := 1) (kd := 0) (k := 3) (RX2, TX2, 11) rfl (by decide) rfl q224 dX3_outcome_33 rfl) (z_get _ _ _ _),
   zz_of (ok_ifne G dX3_outcome_36 rfl rfl) (z_ifne _ _ _),
   zz_of (ok_iconst G (v := 0) dX3_outcome_39 (by decide) rfl) (z_cn 40 0),
   zz_of (ok_iret G dX3_outcome_40) (z_iret),
   zz_of (ok_iload_n G dX3_outcome_41 rfl rfl) (z_ild _ _),
   zz_of (ok_aload_n G dX3_outcome_42 rfl rfl) (z_ald _ _),
   zz_of (ok_get G (nx := 46) (ci := 2) (kd := 2) (k := 2) (RX3, TX3, 7) rfl (by decide) rfl q184 dX3_outcome_43 rfl) (z_get _ _ _ _),
   zz_of (ok_iconst G (v := 0) dX3_outcome_46 (by decide) rfl) (z_cn 47 0),
   zz_of (ok_iald G dX3_outcome_47 rfl) (z_ialc _ _),
   zz_of (ok_cge G dX3_outcome_48 rfl rfl) (z_cge _ _ _ _),
   zz_of (ok_iconst G (v := 2) dX3_outcome_51 (by decide) rfl) (z_cn 52 2),
   zz_of (ok_goto G dX3_outcome_52 rfl) (z_goto _),
   zz_of (ok_iconst G (v := 1) dX3_outcome_55 (by decide) rfl) (z_cn 56 1),
   zz_of (ok_iret G dX3_outcome_56) (z_iret), trivial⟩

theorem zwX3_outcome_112_0 {Q : Option zv → zz_M → Prop} {X : Nat → zz_M → Prop} {f : Nat → Nat × Nat} {S L : Nat → Nat → Int} {P : Nat → Nat → Option Nat} {how : Int} {line : Int} (h : R32 how ∧ ((2 ≤ how → R32 (S 112 5) ∧ (((S 112 5) = 0 → Q (some (vi 0)) ((2, f), S, L, P)) ∧ (¬ (S 112 5) = 0 → R32 line ∧ (R32 (S 115 0) ∧ ((¬ line = (S 115 0) → R32 line ∧ (R32 (S 115 0) ∧ (((S 115 0) ≤ line → Q (some (vi 1)) ((2, f), S, L, P)) ∧ (¬ (S 115 0) ≤ line → Q (some (vi 2)) ((2, f), S, L, P))))) ∧ (line = (S 115 0) → R32 (S 200 3) ∧ ((¬ (S 200 3) = 0 → R32 line ∧ (R32 (S 115 0) ∧ (((S 115 0) ≤ line → Q (some (vi 1)) ((2, f), S, L, P)) ∧ (¬ (S 115 0) ≤ line → Q (some (vi 2)) ((2, f), S, L, P))))) ∧ ((S 200 3) = 0 → Q (some (vi 0)) ((2, f), S, L, P))))))))) ∧ (¬ 2 ≤ how → Q (some (vi (1 + how))) ((2, f), S, L, P)))) : zz_J zpX3_outcome_112 (zz_ret Q X 0 0) 0 [some (vr 112), some (vi how), some (vi line)] [] ((2, f), S, L, P) (0, 0) := zz_J.go [] 400 h

theorem zmX3_outcome_112 (l : Launch) (hl : l.stackTraces = false) : mm_Spec l yX3_outcome (ws_ yX3_outcome cX3_outcome 3 (some .int)) (mm_rm 1 0 0) (zE zX3_outcome_112) := by
  refine zz_Met.J hl (by decide) (fun C G hnh => ztX3_outcome_112 G hnh) ?_
  rintro as ⟨⟨t_, f⟩, S, L, P⟩ Q X h
  unfold zX3_outcome_112 at h
  split at h
  rotate_left
  · exact h.elim
  rename_i h_ how line
  obtain ⟨e1_, e2_, h⟩ := mm_and2 h (fun q => q)
  cases mm_beq e1_
  cases mm_beq e2_
  try dsimp only at h
  refine ⟨rfl, ?_⟩
  obtain ⟨hh, hl, hl2, hb, h2, h6, w, hw, hv, hq⟩ := h
  have e2 : cx S 112 2 = S 112 3 := rfl
  have e4 : cx S 112 4 = S 115 0 := rfl
  have e6 : cx S 112 6 = S 112 5 := rfl
  have b4 := hb 4
  have ew : S 200 3 = w 196 := hw.2.2.1
  have ev := hv.2.2.1
  refine zwX3_outcome_112_0 ?_
  rw [ew]
  rw [e4] at b4
  rw [e2] at h2
  rw [e6] at h6
  have kr : ∀ v : Int, (how < 2 ∧ v = 1 + how) ∨ (how = 2 ∧ S 112 5 = 0 ∧ v = 0) ∨ (how = 2 ∧ S 112 5 = 1 ∧ ((line = S 115 0 ∧ w 196 = 0 ∧ v = 0) ∨ (line < S 115 0 ∧ v = 2) ∨ (¬ line < S 115 0 ∧ (S 115 0 < line ∨ w 196 = 1) ∧ v = 1))) → Q (some (vi v)) ((2, f), S, L, P) := by
    intro v hv'
    rw [raO_cases (x := cx S 112) hh h2 hv' hl2]
    exact hq
  (repeat' (first | omega | exact kr _ (by omega) | apply And.intro | intro _)) <;> omega
