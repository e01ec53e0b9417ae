/-! ===== the component's score: copies; the scores `one` and `other` ===== -/
set_option maxRecDepth 100000
theorem tk_mem (S : Nat → Nat → Int) (a : Nat) (x : Nat → Int) (hx : ∀ j, 9 ≤ j → x j = 0) : mm_up (mm_up (mm_up (mm_up (mm_up (mm_up (mm_up (mm_up (mm_up S (a + 1) 0 (x 0)) (a + 2) 0 (x 7)) (a + 3) 0 (x 4)) (a + 1) 1 (x 1)) (a + 2) 1 (x 8)) (a + 3) 1 (x 5)) a 3 (x 2)) a 4 (x 3)) a 5 (x 6) = cxW S a x := by
  rw [cxW_i0 S a, cxW_7, cxW_4, cxW_1, cxW_8, cxW_5, cxW_2, cxW_3, cxW_6]
  congr 1
  funext j
  unfold ru
  by_cases j9 : 9 ≤ j
  · have := cx_9 S a j j9
    have := hx j j9
    grind
  · grind
def zX3_takes_204108 : zz_Sp := fun as M Q X => match as with
  | [.inr (.inr (some h_)), .inr (.inr (some s))] => bif Nat.beq h_ 108 && Nat.beq M.1.1 2 && Nat.beq s 204 then ((cx M.2.1 204 6 = 0 ∨ cx M.2.1 204 6 = 1) ∧ Q (some (vr 108)) ((2, M.1.2), cxW M.2.1 108 (cx M.2.1 204), M.2.2.1, M.2.2.2)) else False
  | _ => False

def zpX3_takes_204108 : zz_P := [(0, zo_c 1 (vi 0)), (1, zo_ist 2 2), (2, zo_ild 3 2), (3, zo_c 4 (vi 2)), (4, zo_cge false true 7 49), (7, zo_ald 8 0), (8, zo_get 11 2 2 0), (11, zo_ild 12 2), (12, zo_ald 13 1), (13, zo_get 16 2 2 0), (16, zo_ild 17 2), (17, zo_iald 18), (18, zo_iasd 19), (19, zo_ald 20 0), (20, zo_get 23 2 2 1), (23, zo_ild 24 2), (24, zo_ald 25 1), (25, zo_get 28 2 2 1), (28, zo_ild 29 2), (29, zo_iald 30), (30, zo_iasd 31), (31, zo_ald 32 0), (32, zo_get 35 2 2 2), (35, zo_ild 36 2), (36, zo_ald 37 1), (37, zo_get 40 2 2 2), (40, zo_ild 41 2), (41, zo_iald 42), (42, zo_iasd 43), (43, zo_inc 46 2 1), (46, zo_goto 2), (49, zo_ald 50 0), (50, zo_ald 51 1), (51, zo_get 54 2 0 3), (54, zo_puti 57 2 3), (57, zo_ald 58 0), (58, zo_ald 59 1), (59, zo_get 62 2 0 4), (62, zo_puti 65 2 4), (65, zo_ald 66 0), (66, zo_ald 67 1), (67, zo_get 70 2 0 5), (70, zo_putz false 73 2 5), (73, zo_ald 74 0), (74, zo_aret)]
theorem ztX3_takes_204108 {C : mm_C} (G : mm_G C RX3 cX3_takes (some (.object "ChaseCourt$Score")) 3 (mm_rm 1 0 0)) (hnh : mm_nh C) : zz_OKs C zpX3_takes_204108 :=
  ⟨zz_of (ok_iconst G (v := 0) dX3_takes_0 (by decide) rfl) (z_cn 1 0),
   zz_of (ok_istore_n G dX3_takes_1 rfl rfl (by decide)) (z_ist _ _),
   zz_of (ok_iload_n G dX3_takes_2 rfl rfl) (z_ild _ _),
   zz_of (ok_iconst G (v := 2) dX3_takes_3 (by decide) rfl) (z_cn 4 2),
   zz_of (ok_cge G dX3_takes_4 rfl rfl) (z_cge _ _ _ _),
   zz_of (ok_aload_n G dX3_takes_7 rfl rfl) (z_ald _ _),
   zz_of (ok_get G (nx := 11) (ci := 2) (kd := 2) (k := 0) (RX3, TX3, 7) rfl (by decide) rfl q176 dX3_takes_8 rfl) (z_get _ _ _ _),
   zz_of (ok_iload_n G dX3_takes_11 rfl rfl) (z_ild _ _),
   zz_of (ok_aload_n G dX3_takes_12 rfl rfl) (z_ald _ _),
   zz_of (ok_get G (nx := 16) (ci := 2) (kd := 2) (k := 0) (RX3, TX3, 7) rfl (by decide) rfl q176 dX3_takes_13 rfl) (z_get _ _ _ _),
   zz_of (ok_iload_n G dX3_takes_16 rfl rfl) (z_ild _ _),
   zz_of (ok_iald G dX3_takes_17 rfl) (z_iald _),
   zz_of (ok_iast G dX3_takes_18 rfl) (z_iasd _),
   zz_of (ok_aload_n G dX3_takes_19 rfl rfl) (z_ald _ _),
   zz_of (ok_get G (nx := 23) (ci := 2) (kd := 2) (k := 1) (RX3, TX3, 7) rfl (by decide) rfl q180 dX3_takes_20 rfl) (z_get _ _ _ _),
   zz_of (ok_iload_n G dX3_takes_23 rfl rfl) (z_ild _ _),
   zz_of (ok_aload_n G dX3_takes_24 rfl rfl) (z_ald _ _),
   zz_of (ok_get G (nx := 28) (ci := 2) (kd := 2) (k := 1) (RX3, TX3, 7) rfl (by decide) rfl q180 dX3_takes_25 rfl) (z_get _ _ _ _),
   zz_of (ok_iload_n G dX3_takes_28 rfl rfl) (z_ild _ _),
   zz_of (ok_iald G dX3_takes_29 rfl) (z_iald _),
   zz_of (ok_iast G dX3_takes_30 rfl) (z_iasd _),
   zz_of (ok_aload_n G dX3_takes_31 rfl rfl) (z_ald _ _),
   zz_of (ok_get G (nx := 35) (ci := 2) (kd := 2) (k := 2) (RX3, TX3, 7) rfl (by decide) rfl q184 dX3_takes_32 rfl) (z_get _ _ _ _),
   zz_of (ok_iload_n G dX3_takes_35 rfl rfl) (z_ild _ _),
   zz_of (ok_aload_n G dX3_takes_36 rfl rfl) (z_ald _ _),
   zz_of (ok_get G (nx := 40) (ci := 2) (kd := 2) (k := 2) (RX3, TX3, 7) rfl (by decide) rfl q184 dX3_takes_37 rfl) (z_get _ _ _ _),
   zz_of (ok_iload_n G dX3_takes_40 rfl rfl) (z_ild _ _),
   zz_of (ok_iald G dX3_takes_41 rfl) (z_iald _),
   zz_of (ok_iast G dX3_takes_42 rfl) (z_iasd _),
   zz_of (ok_iinc G (v := 1) dX3_takes_43 (by decide) rfl (by decide)) (z_incn 46 2 1),
   zz_of (ok_goto G dX3_takes_46 rfl) (z_goto _),
   zz_of (ok_aload_n G dX3_takes_49 rfl rfl) (z_ald _ _),
   zz_of (ok_aload_n G dX3_takes_50 rfl rfl) (z_ald _ _),
   zz_of (ok_get G (nx := 54) (ci := 2) (kd := 0) (k := 3) (RX3, TX3, 7) rfl (by decide) rfl q187 dX3_takes_51 rfl) (z_get _ _ _ _),
   zz_of (ok_puti G (nx := 57) (idx := 25) (ci := 2) (k := 3) (RX3, TX3, 7) rfl (by decide) rfl (mm_pw G (ci := 2) (k := 3) (RX3, TX3, 7) rfl (by decide) rfl q187 dX3_takes_54) rfl) (z_puti _ _ _),
   zz_of (ok_aload_n G dX3_takes_57 rfl rfl) (z_ald _ _),
   zz_of (ok_aload_n G dX3_takes_58 rfl rfl) (z_ald _ _),
   zz_of (ok_get G (nx := 62) (ci := 2) (kd := 0) (k := 4) (RX3, TX3, 7) rfl (by decide) rfl q190 dX3_takes_59 rfl) (z_get _ _ _ _),
   zz_of (ok_puti G (nx := 65) (idx := 29) (ci := 2) (k := 4) (RX3, TX3, 7) rfl (by decide) rfl (mm_pw G (ci := 2) (k := 4) (RX3, TX3, 7) rfl (by decide) rfl q190 dX3_takes_62) rfl) (z_puti _ _ _),
   zz_of (ok_aload_n G dX3_takes_65 rfl rfl) (z_ald _ _),
   zz_of (ok_aload_n G dX3_takes_66 rfl rfl) (z_ald _ _),
   zz_of (ok_get G (nx := 70) (ci := 2) (kd := 0) (k := 5) (RX3, TX3, 7) rfl (by decide) rfl q194 dX3_takes_67 rfl) (z_get _ _ _ _),
   zz_of (ok_putz G (nx := 73) (idx := 32) (ci := 2) (k := 5) (RX3, TX3, 7) rfl (by decide) rfl (mm_pw G (ci := 2) (k := 5) (RX3, TX3, 7) rfl (by decide) rfl q194 dX3_takes_70) rfl) (z_putz _ _ _ _),
   zz_of (ok_aload_n G dX3_takes_73 rfl rfl) (z_ald _ _),
   zz_of (ok_aret G (Or.inl ⟨_, rfl⟩) dX3_takes_74) (z_aret), trivial⟩

theorem zwX3_takes_204108_0 {Q : Option zv → zz_M → Prop} {X : Nat → zz_M → Prop} {f : Nat → Nat × Nat} {S L : Nat → Nat → Int} {P : Nat → Nat → Option Nat}  (h : zz_J zpX3_takes_204108 (zz_ret Q X 0 0) 2 [some (vr 108), some (vr 204), some (vi 0)] [] ((2, f), S, L, P) (0, 0)) : zz_J zpX3_takes_204108 (zz_ret Q X 0 0) 0 [some (vr 108), some (vr 204), none] [] ((2, f), S, L, P) (0, 0) := zz_J.go [(2, [])] 400 h
theorem zwX3_takes_204108_2 {Q : Option zv → zz_M → Prop} {X : Nat → zz_M → Prop} {f : Nat → Nat × Nat} {S L : Nat → Nat → Int} {P : Nat → Nat → Option Nat} {x2 : Int} (h : R32 x2 ∧ ((2 ≤ x2 → ((S 204 5) = 0 ∨ (S 204 5) = 1) ∧ (Q (some (vr 108)) ((2, f), mm_up (mm_up (mm_up S 108 3 (S 204 3)) 108 4 (S 204 4)) 108 5 (S 204 5), L, P))) ∧ (¬ 2 ≤ x2 → (0 ≤ x2 ∧ x2 < 2) ∧ ((0 ≤ x2 ∧ x2 < 2) ∧ ((0 ≤ x2 ∧ x2 < 2) ∧ ((0 ≤ x2 ∧ x2 < 2) ∧ ((0 ≤ x2 ∧ x2 < 2) ∧ ((0 ≤ x2 ∧ x2 < 2) ∧ (zz_J zpX3_takes_204108 (zz_ret Q X 0 0) 2 [some (vr 108), some (vr 204), some (vi (x2 + 1))] [] ((2, f), mm_up (mm_up (mm_up S 109 x2.toNat (S 205 x2.toNat)) 110 x2.toNat (S 206 x2.toNat)) 111 x2.toNat (S 207 x2.toNat), L, P) (0, 0)))))))))) : zz_J zpX3_takes_204108 (zz_ret Q X 0 0) 2 [some (vr 108), some (vr 204), some (vi x2)] [] ((2, f), S, L, P) (0, 0) := zz_J.go [(2, [])] 400 h

theorem zmX3_takes_204108 (l : Launch) (hl : l.stackTraces = false) : mm_Spec l yX3_takes (ws_ yX3_takes cX3_takes 3 (some (.object "ChaseCourt$Score"))) (mm_rm 1 0 0) (zE zX3_takes_204108) := by
  refine zz_Met.J hl (by decide) (fun C G hnh => ztX3_takes_204108 G hnh) ?_
  rintro as ⟨⟨t_, f⟩, S, L, P⟩ Q X h
  unfold zX3_takes_204108 at h
  split at h
  rotate_left
  · exact h.elim
  rename_i h_ s
  obtain ⟨e12_, e3_, h⟩ := mm_and2 h (fun q => q)
  rw [Bool.and_eq_true] at e12_
  cases mm_beq e12_.1
  cases mm_beq e12_.2
  cases mm_beq e3_
  try dsimp only at h
  refine ⟨rfl, ?_⟩
  obtain ⟨h6, hq⟩ := h
  have key : ∀ T : Nat → Nat → Int, T = cxW S 108 (cx S 204) → Q (some (vr 108)) ((2, f), T, L, P) := fun T e => by rw [e]; exact hq
  have r01 : (0 : Int) ≤ 0 ∧ (0 : Int) < 2 := by decide
  have r11 : (0 : Int) ≤ 1 ∧ (1 : Int) < 2 := by decide
  refine zwX3_takes_204108_0 ?_
  refine zwX3_takes_204108_2 ⟨by decide, fun c => absurd c (by decide), fun _ => ⟨r01, r01, r01, r01, r01, r01, ?_⟩⟩
  refine zwX3_takes_204108_2 (x2 := 1) ⟨by decide, fun c => absurd c (by decide), fun _ => ⟨r11, r11, r11, r11, r11, r11, ?_⟩⟩
  refine zwX3_takes_204108_2 (x2 := 2) ⟨by decide, fun _ => ⟨h6, ?_⟩, fun c => absurd (by decide) c⟩
  exact key _ (tk_mem S 108 (cx S 204) (cx_9 S 204))
def zX3_takes_108112 : zz_Sp := fun as M Q X => match as with
  | [.inr (.inr (some h_)), .inr (.inr (some s))] => bif Nat.beq h_ 112 && Nat.beq M.1.1 2 && Nat.beq s 108 then ((cx M.2.1 108 6 = 0 ∨ cx M.2.1 108 6 = 1) ∧ Q (some (vr 112)) ((2, M.1.2), cxW M.2.1 112 (cx M.2.1 108), M.2.2.1, M.2.2.2)) else False
  | _ => False

def zpX3_takes_108112 : zz_P := [(0, zo_c 1 (vi 0)), (1, zo_ist 2 2), (2, zo_ild 3 2), (3, zo_c 4 (vi 2)), (4, zo_cge false true 7 49), (7, zo_ald 8 0), (8, zo_get 11 2 2 0), (11, zo_ild 12 2), (12, zo_ald 13 1), (13, zo_get 16 2 2 0), (16, zo_ild 17 2), (17, zo_iald 18), (18, zo_iasd 19), (19, zo_ald 20 0), (20, zo_get 23 2 2 1), (23, zo_ild 24 2), (24, zo_ald 25 1), (25, zo_get 28 2 2 1), (28, zo_ild 29 2), (29, zo_iald 30), (30, zo_iasd 31), (31, zo_ald 32 0), (32, zo_get 35 2 2 2), (35, zo_ild 36 2), (36, zo_ald 37 1), (37, zo_get 40 2 2 2), (40, zo_ild 41 2), (41, zo_iald 42), (42, zo_iasd 43), (43, zo_inc 46 2 1), (46, zo_goto 2), (49, zo_ald 50 0), (50, zo_ald 51 1), (51, zo_get 54 2 0 3), (54, zo_puti 57 2 3), (57, zo_ald 58 0), (58, zo_ald 59 1), (59, zo_get 62 2 0 4), (62, zo_puti 65 2 4), (65, zo_ald 66 0), (66, zo_ald 67 1), (67, zo_get 70 2 0 5), (70, zo_putz false 73 2 5), (73, zo_ald 74 0), (74, zo_aret)]
theorem ztX3_takes_108112 {C : mm_C} (G : mm_G C RX3 cX3_takes (some (.object "ChaseCourt$Score")) 3 (mm_rm 1 0 0)) (hnh : mm_nh C) : zz_OKs C zpX3_takes_108112 :=
  ⟨zz_of (ok_iconst G (v := 0) dX3_takes_0 (by decide) rfl) (z_cn 1 0),
   zz_of (ok_istore_n G dX3_takes_1 rfl rfl (by decide)) (z_ist _ _),
   zz_of (ok_iload_n G dX3_takes_2 rfl rfl) (z_ild _ _),
   zz_of (ok_iconst G (v := 2) dX3_takes_3 (by decide) rfl) (z_cn 4 2),
   zz_of (ok_cge G dX3_takes_4 rfl rfl) (z_cge _ _ _ _),
   zz_of (ok_aload_n G dX3_takes_7 rfl rfl) (z_ald _ _),
   zz_of (ok_get G (nx := 11) (ci := 2) (kd := 2) (k := 0) (RX3, TX3, 7) rfl (by decide) rfl q176 dX3_takes_8 rfl) (z_get _ _ _ _),
   zz_of (ok_iload_n G dX3_takes_11 rfl rfl) (z_ild _ _),
   zz_of (ok_aload_n G dX3_takes_12 rfl rfl) (z_ald _ _),
   zz_of (ok_get G (nx := 16) (ci := 2) (kd := 2) (k := 0) (RX3, TX3, 7) rfl (by decide) rfl q176 dX3_takes_13 rfl) (z_get _ _ _ _),
   zz_of (ok_iload_n G dX3_takes_16 rfl rfl) (z_ild _ _),
   zz_of (ok_iald G dX3_takes_17 rfl) (z_iald _),
   zz_of (ok_iast G dX3_takes_18 rfl) (z_iasd _),
   zz_of (ok_aload_n G dX3_takes_19 rfl rfl) (z_ald _ _),
   zz_of (ok_get G (nx := 23) (ci := 2) (kd := 2) (k := 1) (RX3, TX3, 7) rfl (by decide) rfl q180 dX3_takes_20 rfl) (z_get _ _ _ _),
   zz_of (ok_iload_n G dX3_takes_23 rfl rfl) (z_ild _ _),
   zz_of (ok_aload_n G dX3_takes_24 rfl rfl) (z_ald _ _),
   zz_of (ok_get G (nx := 28) (ci := 2) (kd := 2) (k := 1) (RX3, TX3, 7) rfl (by decide) rfl q180 dX3_takes_25 rfl) (z_get _ _ _ _),
   zz_of (ok_iload_n G dX3_takes_28 rfl rfl) (z_ild _ _),
   zz_of (ok_iald G dX3_takes_29 rfl) (z_iald _),
   zz_of (ok_iast G dX3_takes_30 rfl) (z_iasd _),
   zz_of (ok_aload_n G dX3_takes_31 rfl rfl) (z_ald _ _),
   zz_of (ok_get G (nx := 35) (ci := 2) (kd := 2) (k := 2) (RX3, TX3, 7) rfl (by decide) rfl q184 dX3_takes_32 rfl) (z_get _ _ _ _),
   zz_of (ok_iload_n G dX3_takes_35 rfl rfl) (z_ild _ _),
   zz_of (ok_aload_n G dX3_takes_36 rfl rfl) (z_ald _ _),
   zz_of (ok_get G (nx := 40) (ci := 2) (kd := 2) (k := 2) (RX3, TX3, 7) rfl (by decide) rfl q184 dX3_takes_37 rfl) (z_get _ _ _ _),
   zz_of (ok_iload_n G dX3_takes_40 rfl rfl) (z_ild _ _),
   zz_of (ok_iald G dX3_takes_41 rfl) (z_iald _),
   zz_of (ok_iast G dX3_takes_42 rfl) (z_iasd _),
   zz_of (ok_iinc G (v := 1) dX3_takes_43 (by decide) rfl (by decide)) (z_incn 46 2 1),
   zz_of (ok_goto G dX3_takes_46 rfl) (z_goto _),
   zz_of (ok_aload_n G dX3_takes_49 rfl rfl) (z_ald _ _),
   zz_of (ok_aload_n G dX3_takes_50 rfl rfl) (z_ald _ _),
   zz_of (ok_get G (nx := 54) (ci := 2) (kd := 0) (k := 3) (RX3, TX3, 7) rfl (by decide) rfl q187 dX3_takes_51 rfl) (z_get _ _ _ _),
   zz_of (ok_puti G (nx := 57) (idx := 25) (ci := 2) (k := 3) (RX3, TX3, 7) rfl (by decide) rfl (mm_pw G (ci := 2) (k := 3) (RX3, TX3, 7) rfl (by decide) rfl q187 dX3_takes_54) rfl) (z_puti _ _ _),
   zz_of (ok_aload_n G dX3_takes_57 rfl rfl) (z_ald _ _),
   zz_of (ok_aload_n G dX3_takes_58 rfl rfl) (z_ald _ _),
   zz_of (ok_get G (nx := 62) (ci := 2) (kd := 0) (k := 4) (RX3, TX3, 7) rfl (by decide) rfl q190 dX3_takes_59 rfl) (z_get _ _ _ _),
   zz_of (ok_puti G (nx := 65) (idx := 29) (ci := 2) (k := 4) (RX3, TX3, 7) rfl (by decide) rfl (mm_pw G (ci := 2) (k := 4) (RX3, TX3, 7) rfl (by decide) rfl q190 dX3_takes_62) rfl) (z_puti _ _ _),
   zz_of (ok_aload_n G dX3_takes_65 rfl rfl) (z_ald _ _),
   zz_of (ok_aload_n G dX3_takes_66 rfl rfl) (z_ald _ _),
   zz_of (ok_get G (nx := 70) (ci := 2) (kd := 0) (k := 5) (RX3, TX3, 7) rfl (by decide) rfl q194 dX3_takes_67 rfl) (z_get _ _ _ _),
   zz_of (ok_putz G (nx := 73) (idx := 32) (ci := 2) (k := 5) (RX3, TX3, 7) rfl (by decide) rfl (mm_pw G (ci := 2) (k := 5) (RX3, TX3, 7) rfl (by decide) rfl q194 dX3_takes_70) rfl) (z_putz _ _ _ _),
   zz_of (ok_aload_n G dX3_takes_73 rfl rfl) (z_ald _ _),
   zz_of (ok_aret G (Or.inl ⟨_, rfl⟩) dX3_takes_74) (z_aret), trivial⟩

theorem zwX3_takes_108112_0 {Q : Option zv → zz_M → Prop} {X : Nat → zz_M → Prop} {f : Nat → Nat × Nat} {S L : Nat → Nat → Int} {P : Nat → Nat → Option Nat}  (h : zz_J zpX3_takes_108112 (zz_ret Q X 0 0) 2 [some (vr 112), some (vr 108), some (vi 0)] [] ((2, f), S, L, P) (0, 0)) : zz_J zpX3_takes_108112 (zz_ret Q X 0 0) 0 [some (vr 112), some (vr 108), none] [] ((2, f), S, L, P) (0, 0) := zz_J.go [(2, [])] 400 h
theorem zwX3_takes_108112_2 {Q : Option zv → zz_M → Prop} {X : Nat → zz_M → Prop} {f : Nat → Nat × Nat} {S L : Nat → Nat → Int} {P : Nat → Nat → Option Nat} {x2 : Int} (h : R32 x2 ∧ ((2 ≤ x2 → ((S 108 5) = 0 ∨ (S 108 5) = 1) ∧ (Q (some (vr 112)) ((2, f), mm_up (mm_up (mm_up S 112 3 (S 108 3)) 112 4 (S 108 4)) 112 5 (S 108 5), L, P))) ∧ (¬ 2 ≤ x2 → (0 ≤ x2 ∧ x2 < 2) ∧ ((0 ≤ x2 ∧ x2 < 2) ∧ ((0 ≤ x2 ∧ x2 < 2) ∧ ((0 ≤ x2 ∧ x2 < 2) ∧ ((0 ≤ x2 ∧ x2 < 2) ∧ ((0 ≤ x2 ∧ x2 < 2) ∧ (zz_J zpX3_takes_108112 (zz_ret Q X 0 0) 2 [some (vr 112), some (vr 108), some (vi (x2 + 1))] [] ((2, f), mm_up (mm_up (mm_up S 113 x2.toNat (S 109 x2.toNat)) 114 x2.toNat (S 110 x2.toNat)) 115 x2.toNat (S 111 x2.toNat), L, P) (0, 0)))))))))) : zz_J zpX3_takes_108112 (zz_ret Q X 0 0) 2 [some (vr 112), some (vr 108), some (vi x2)] [] ((2, f), S, L, P) (0, 0) := zz_J.go [(2, [])] 400 h

theorem zmX3_takes_108112 (l : Launch) (hl : l.stackTraces = false) : mm_Spec l yX3_takes (ws_ yX3_takes cX3_takes 3 (some (.object "ChaseCourt$Score"))) (mm_rm 1 0 0) (zE zX3_takes_108112) := by
  refine zz_Met.J hl (by decide) (fun C G hnh => ztX3_takes_108112 G hnh) ?_
  rintro as ⟨⟨t_, f⟩, S, L, P⟩ Q X h
  unfold zX3_takes_108112 at h
  split at h
  rotate_left
  · exact h.elim
  rename_i h_ s
  obtain ⟨e12_, e3_, h⟩ := mm_and2 h (fun q => q)
  rw [Bool.and_eq_true] at e12_
  cases mm_beq e12_.1
  cases mm_beq e12_.2
  cases mm_beq e3_
  try dsimp only at h
  refine ⟨rfl, ?_⟩
  obtain ⟨h6, hq⟩ := h
  have key : ∀ T : Nat → Nat → Int, T = cxW S 112 (cx S 108) → Q (some (vr 112)) ((2, f), T, L, P) := fun T e => by rw [e]; exact hq
  have r01 : (0 : Int) ≤ 0 ∧ (0 : Int) < 2 := by decide
  have r11 : (0 : Int) ≤ 1 ∧ (1 : Int) < 2 := by decide
  refine zwX3_takes_108112_0 ?_
  refine zwX3_takes_108112_2 ⟨by decide, fun c => absurd c (by decide), fun _ => ⟨r01, r01, r01, r01, r01, r01, ?_⟩⟩
  refine zwX3_takes_108112_2 (x2 := 1) ⟨by decide, fun c => absurd c (by decide), fun _ => ⟨r11, r11, r11, r11, r11, r11, ?_⟩⟩
  refine zwX3_takes_108112_2 (x2 := 2) ⟨by decide, fun _ => ⟨h6, ?_⟩, fun c => absurd (by decide) c⟩
  exact key _ (tk_mem S 112 (cx S 108) (cx_9 S 108))
