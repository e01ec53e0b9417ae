/-! ===== the scores `one` (108) and `other` (112): numbers ===== -/
set_option maxRecDepth 100000
def zX3_stands_108 : zz_Sp := fun as M Q X => match as with
  | [.inr (.inr (some h_)), .inl k] => bif Nat.beq h_ 108 && Nat.beq M.1.1 2 then ((0 ≤ k ∧ k ≤ 9) ∧ scb (cx M.2.1 108) ∧ (cx M.2.1 108 6 = 0 ∨ cx M.2.1 108 6 = 1) ∧ Q (some (vi (tdR (cx M.2.1 108) k))) ((2, M.1.2), M.2.1, M.2.2.1, M.2.2.2)) else False
  | _ => False

def zpX3_stands_108 : zz_P := [(0, zo_ild 1 1), (1, zo_sw false [(0, 52), (1, 52), (2, 59), (3, 64), (4, 69), (5, 69), (6, 92), (7, 105), (8, 105)] 115), (52, zo_ald 53 0), (53, zo_get 56 2 2 0), (56, zo_ild 57 1), (57, zo_iald 58), (58, zo_iret), (59, zo_ald 60 0), (60, zo_get 63 2 0 3), (63, zo_iret), (64, zo_ald 65 0), (65, zo_get 68 2 0 4), (68, zo_iret), (69, zo_ild 70 1), (70, zo_c 71 (vi 4)), (71, zo_isub 72), (72, zo_ald 73 0), (73, zo_get 76 2 0 4), (76, zo_cge false false 79 90), (79, zo_ald 80 0), (80, zo_get 83 2 2 2), (83, zo_ild 84 1), (84, zo_c 85 (vi 4)), (85, zo_isub 86), (86, zo_iald 87), (87, zo_goto 91), (90, zo_c 91 (vi (-1))), (91, zo_iret), (92, zo_ald 93 0), (93, zo_get 96 2 0 5), (96, zo_ifeq false 99 103), (99, zo_c 100 (vi 1)), (100, zo_goto 104), (103, zo_c 104 (vi 0)), (104, zo_iret), (105, zo_ald 106 0), (106, zo_get 109 2 2 1), (109, zo_ild 110 1), (110, zo_c 112 (vi 7)), (112, zo_isub 113), (113, zo_iald 114), (114, zo_iret), (115, zo_ald 116 0), (116, zo_callv 119 1 2 zX3_isPointOfGame_108), (119, zo_zifeq 122 126), (122, zo_c 123 (vi 1)), (123, zo_goto 127), (126, zo_c 127 (vi 0)), (127, zo_iret)]
theorem ztX3_stands_108 {C : mm_C} (G : mm_G C RX3 cX3_stands (some .int) 2 (mm_rm 3 0 0)) (hnh : mm_nh C) : zz_OKs C zpX3_stands_108 :=
  ⟨zz_of (ok_iload_n G dX3_stands_0 rfl rfl) (z_ild _ _),
   zz_of (ok_tsw G (l := [(0, 52), (1, 52), (2, 59), (3, 64), (4, 69), (5, 69), (6, 92), (7, 105), (8, 105)]) (d := 115) dX3_stands_1 (mm_tswo (by decide) (by decide +kernel)) (mm_tswi (by decide +kernel))) (z_sw _ _ _),
   zz_of (ok_aload_n G dX3_stands_52 rfl rfl) (z_ald _ _),
   zz_of (ok_get G (nx := 56) (ci := 2) (kd := 2) (k := 0) (RX3, TX3, 7) rfl (by decide) rfl q176 dX3_stands_53 rfl) (z_get _ _ _ _),
   zz_of (ok_iload_n G dX3_stands_56 rfl rfl) (z_ild _ _),
   zz_of (ok_iald G dX3_stands_57 rfl) (z_iald _),
   zz_of (ok_iret G dX3_stands_58) (z_iret),
   zz_of (ok_aload_n G dX3_stands_59 rfl rfl) (z_ald _ _),
   zz_of (ok_get G (nx := 63) (ci := 2) (kd := 0) (k := 3) (RX3, TX3, 7) rfl (by decide) rfl q187 dX3_stands_60 rfl) (z_get _ _ _ _),
   zz_of (ok_iret G dX3_stands_63) (z_iret),
   zz_of (ok_aload_n G dX3_stands_64 rfl rfl) (z_ald _ _),
   zz_of (ok_get G (nx := 68) (ci := 2) (kd := 0) (k := 4) (RX3, TX3, 7) rfl (by decide) rfl q190 dX3_stands_65 rfl) (z_get _ _ _ _),
   zz_of (ok_iret G dX3_stands_68) (z_iret),
   zz_of (ok_iload_n G dX3_stands_69 rfl rfl) (z_ild _ _),
   zz_of (ok_iconst G (v := 4) dX3_stands_70 (by decide) rfl) (z_cn 71 4),
   zz_of (ok_isub G dX3_stands_71 rfl) (z_isub _),
   zz_of (ok_aload_n G dX3_stands_72 rfl rfl) (z_ald _ _),
   zz_of (ok_get G (nx := 76) (ci := 2) (kd := 0) (k := 4) (RX3, TX3, 7) rfl (by decide) rfl q190 dX3_stands_73 rfl) (z_get _ _ _ _),
   zz_of (ok_cge G dX3_stands_76 rfl rfl) (z_cge _ _ _ _),
   zz_of (ok_aload_n G dX3_stands_79 rfl rfl) (z_ald _ _),
   zz_of (ok_get G (nx := 83) (ci := 2) (kd := 2) (k := 2) (RX3, TX3, 7) rfl (by decide) rfl q184 dX3_stands_80 rfl) (z_get _ _ _ _),
   zz_of (ok_iload_n G dX3_stands_83 rfl rfl) (z_ild _ _),
   zz_of (ok_iconst G (v := 4) dX3_stands_84 (by decide) rfl) (z_cn 85 4),
   zz_of (ok_isub G dX3_stands_85 rfl) (z_isub _),
   zz_of (ok_iald G dX3_stands_86 rfl) (z_iald _),
   zz_of (ok_goto G dX3_stands_87 rfl) (z_goto _),
   zz_of (ok_iconst G (v := (zI (-1))) dX3_stands_90 (by decide) rfl) (z_cz 91 (-1)),
   zz_of (ok_iret G dX3_stands_91) (z_iret),
   zz_of (ok_aload_n G dX3_stands_92 rfl rfl) (z_ald _ _),
   zz_of (ok_get G (nx := 96) (ci := 2) (kd := 0) (k := 5) (RX3, TX3, 7) rfl (by decide) rfl q194 dX3_stands_93 rfl) (z_get _ _ _ _),
   zz_of (ok_ifeq G dX3_stands_96 rfl rfl) (z_ifeq _ _ _),
   zz_of (ok_iconst G (v := 1) dX3_stands_99 (by decide) rfl) (z_cn 100 1),
   zz_of (ok_goto G dX3_stands_100 rfl) (z_goto _),
   zz_of (ok_iconst G (v := 0) dX3_stands_103 (by decide) rfl) (z_cn 104 0),
   zz_of (ok_iret G dX3_stands_104) (z_iret),
   zz_of (ok_aload_n G dX3_stands_105 rfl rfl) (z_ald _ _),
   zz_of (ok_get G (nx := 109) (ci := 2) (kd := 2) (k := 1) (RX3, TX3, 7) rfl (by decide) rfl q180 dX3_stands_106 rfl) (z_get _ _ _ _),
   zz_of (ok_iload_n G dX3_stands_109 rfl rfl) (z_ild _ _),
   zz_of (ok_bipush G (v := 7) dX3_stands_110 (by decide) rfl) (z_cn 112 7),
   zz_of (ok_isub G dX3_stands_112 rfl) (z_isub _),
   zz_of (ok_iald G dX3_stands_113 rfl) (z_iald _),
   zz_of (ok_iret G dX3_stands_114) (z_iret),
   zz_of (ok_aload_n G dX3_stands_115 rfl rfl) (z_ald _ _),
   zz_of (ok_callv G hnh (zmX3_isPointOfGame_108 _ G.hst) rfl rfl (RX3, TX3, 7) rfl q1502 q1503 q1504 q87 q1505 (by decide +kernel) ⟨by decide, by decide⟩ dX3_stands_116 rfl) (z_callv _ _ _ _),
   zz_of (ok_ifeq G dX3_stands_119 rfl rfl) (z_zifeq _ _),
   zz_of (ok_iconst G (v := 1) dX3_stands_122 (by decide) rfl) (z_cn 123 1),
   zz_of (ok_goto G dX3_stands_123 rfl) (z_goto _),
   zz_of (ok_iconst G (v := 0) dX3_stands_126 (by decide) rfl) (z_cn 127 0),
   zz_of (ok_iret G dX3_stands_127) (z_iret), trivial⟩

theorem zwX3_stands_108_0 {Q : Option zv → zz_M → Prop} {X : Nat → zz_M → Prop} {f : Nat → Nat × Nat} {S L : Nat → Nat → Int} {P : Nat → Nat → Option Nat} {k : Int} (h : R32 k ∧ ((k = 0 → (0 ≤ k ∧ k < 2) ∧ (Q (some (vi (S 109 k.toNat))) ((2, f), S, L, P))) ∧ (k ≠ 0 → (k = 1 → (0 ≤ k ∧ k < 2) ∧ (Q (some (vi (S 109 k.toNat))) ((2, f), S, L, P))) ∧ (k ≠ 1 → (k = 2 → Q (some (vi (S 108 3))) ((2, f), S, L, P)) ∧ (k ≠ 2 → (k = 3 → Q (some (vi (S 108 4))) ((2, f), S, L, P)) ∧ (k ≠ 3 → (k = 4 → R32 (k - 4) ∧ (R32 (S 108 4) ∧ (((S 108 4) ≤ (k - 4) → Q (some (vi (-1))) ((2, f), S, L, P)) ∧ (¬ (S 108 4) ≤ (k - 4) → (0 ≤ (k - 4) ∧ (k - 4) < 2) ∧ (Q (some (vi (S 111 ((k - 4).toNat)))) ((2, f), S, L, P)))))) ∧ (k ≠ 4 → (k = 5 → R32 (k - 4) ∧ (R32 (S 108 4) ∧ (((S 108 4) ≤ (k - 4) → Q (some (vi (-1))) ((2, f), S, L, P)) ∧ (¬ (S 108 4) ≤ (k - 4) → (0 ≤ (k - 4) ∧ (k - 4) < 2) ∧ (Q (some (vi (S 111 ((k - 4).toNat)))) ((2, f), S, L, P)))))) ∧ (k ≠ 5 → (k = 6 → R32 (S 108 5) ∧ (((S 108 5) = 0 → Q (some (vi 0)) ((2, f), S, L, P)) ∧ (¬ (S 108 5) = 0 → Q (some (vi 1)) ((2, f), S, L, P)))) ∧ (k ≠ 6 → (k = 7 → (0 ≤ (k - 7) ∧ (k - 7) < 2) ∧ (Q (some (vi (S 110 ((k - 7).toNat)))) ((2, f), S, L, P))) ∧ (k ≠ 7 → (k = 8 → (0 ≤ (k - 7) ∧ (k - 7) < 2) ∧ (Q (some (vi (S 110 ((k - 7).toNat)))) ((2, f), S, L, P))) ∧ (k ≠ 8 → (scc (cx S 108) ∧ ((wW (cx S 108) 0 || wW (cx S 108) 1) = true → (Q (some (vi 1)) ((2, f), S, L, P))) ∧ ((wW (cx S 108) 0 || wW (cx S 108) 1) = false → (Q (some (vi 0)) ((2, f), S, L, P))))))))))))))) : zz_J zpX3_stands_108 (zz_ret Q X 0 0) 0 [some (vr 108), some (vi k)] [] ((2, f), S, L, P) (0, 0) := zz_J.go [] 400 h

theorem zmX3_stands_108 (l : Launch) (hl : l.stackTraces = false) : mm_Spec l yX3_stands (ws_ yX3_stands cX3_stands 2 (some .int)) (mm_rm 3 0 0) (zE zX3_stands_108) := by
  refine zz_Met.J hl (by decide) (fun C G hnh => ztX3_stands_108 G hnh) ?_
  rintro as ⟨⟨t_, f⟩, S, L, P⟩ Q X h
  unfold zX3_stands_108 at h
  split at h
  rotate_left
  · exact h.elim
  rename_i h_ k
  obtain ⟨e1_, e2_, h⟩ := mm_and2 h (fun q => q)
  cases mm_beq e1_
  cases mm_beq e2_
  try dsimp only at h
  refine ⟨rfl, ?_⟩
  obtain ⟨hk, hb, h6, hq⟩ := h
  have e3 : cx S 108 3 = S 108 4 := rfl
  have e6 : cx S 108 6 = S 108 5 := rfl
  have b3 := hb 3
  rw [e6] at h6
  rw [e3] at b3
  refine zwX3_stands_108_0 ?_
  have kr : ∀ v : Int, v = tdR (cx S 108) k → Q (some (vi v)) ((2, f), S, L, P) := fun v e => by rw [e]; exact hq
  have hk10 : k = 0 ∨ k = 1 ∨ k = 2 ∨ k = 3 ∨ k = 4 ∨ k = 5 ∨ k = 6 ∨ k = 7 ∨ k = 8 ∨ k = 9 := by omega
  rcases hk10 with e | e | e | e | e | e | e | e | e | e <;> subst e
  · (repeat' (first | omega | exact kr _ rfl | apply And.intro | intro _)) <;> omega
  · (repeat' (first | omega | exact kr _ rfl | apply And.intro | intro _)) <;> omega
  · (repeat' (first | omega | exact kr _ rfl | apply And.intro | intro _)) <;> omega
  · (repeat' (first | omega | exact kr _ rfl | apply And.intro | intro _)) <;> omega
  · have : tdR (cx S 108) 4 = if 0 < S 108 4 then S 111 0 else -1 := rfl
    rw [this] at kr
    (repeat' (first | omega | exact kr _ (by rw [if_pos (by omega)]; rfl) | exact kr _ (by rw [if_neg (by omega)]) | apply And.intro | intro _)) <;> omega
  · have : tdR (cx S 108) 5 = if 1 < S 108 4 then S 111 1 else -1 := rfl
    rw [this] at kr
    (repeat' (first | omega | exact kr _ (by rw [if_pos (by omega)]; rfl) | exact kr _ (by rw [if_neg (by omega)]) | apply And.intro | intro _)) <;> omega
  · have : tdR (cx S 108) 6 = S 108 5 := rfl
    rw [this] at kr
    (repeat' (first | omega | exact kr _ (by omega) | apply And.intro | intro _)) <;> omega
  · (repeat' (first | omega | exact kr _ rfl | apply And.intro | intro _)) <;> omega
  · (repeat' (first | omega | exact kr _ rfl | apply And.intro | intro _)) <;> omega
  · have : tdR (cx S 108) 9 = if (wW (cx S 108) 0 || wW (cx S 108) 1) = true then 1 else 0 := rfl
    rw [this] at kr
    (repeat' (first | omega | exact hb.c | exact kr _ (by simp [*]) | apply And.intro | intro _)) <;> omega
def zX3_code_108 : zz_Sp := fun as M Q X => match as with
  | [.inr (.inr (some h_))] => bif Nat.beq h_ 108 && Nat.beq M.1.1 2 then (scV (cx M.2.1 108) ∧ Q (some (vi (nuR (cx M.2.1 108)))) ((2, M.1.2), M.2.1, M.2.2.1, M.2.2.2)) else False
  | _ => False

def zpX3_code_108 : zz_P := [(0, zo_ald 1 0), (1, zo_get 4 2 0 4), (4, zo_ifne false 7 11), (7, zo_c 8 (vi 0)), (8, zo_goto 68), (11, zo_ald 12 0), (12, zo_get 15 2 0 5), (15, zo_ifne false 18 29), (18, zo_c 19 (vi 1)), (19, zo_ald 20 0), (20, zo_get 23 2 2 2), (23, zo_c 24 (vi 0)), (24, zo_ialc 25 0), (25, zo_iadd 26), (26, zo_goto 68), (29, zo_ald 30 0), (30, zo_get 33 2 0 4), (33, zo_c 34 (vi 1)), (34, zo_cne false true 37 49), (37, zo_c 39 (vi 11)), (39, zo_ald 40 0), (40, zo_get 43 2 2 2), (43, zo_c 44 (vi 0)), (44, zo_ialc 45 0), (45, zo_iadd 46), (46, zo_goto 68), (49, zo_c 51 (vi 21)), (51, zo_c 53 (vi 10)), (53, zo_ald 54 0), (54, zo_get 57 2 2 2), (57, zo_c 58 (vi 0)), (58, zo_ialc 59 0), (59, zo_imul 60), (60, zo_iadd 61), (61, zo_ald 62 0), (62, zo_get 65 2 2 2), (65, zo_c 66 (vi 1)), (66, zo_ialc 67 1), (67, zo_iadd 68), (68, zo_ist 69 1), (69, zo_c 71 (vi 8)), (71, zo_ald 72 0), (72, zo_get 75 2 2 0), (75, zo_c 76 (vi 0)), (76, zo_ialc 77 0), (77, zo_c 79 (vi (-3))), (79, zo_isub 80), (80, zo_imul 81), (81, zo_ald 82 0), (82, zo_get 85 2 2 0), (85, zo_c 86 (vi 1)), (86, zo_ialc 87 1), (87, zo_iadd 88), (88, zo_c 90 (vi (-3))), (90, zo_isub 91), (91, zo_c 92 (vi 2)), (92, zo_imul 93), (93, zo_ald 94 0), (94, zo_get 97 2 0 3), (97, zo_iadd 98), (98, zo_c 100 (vi 121)), (100, zo_imul 101), (101, zo_ild 102 1), (102, zo_iadd 103), (103, zo_iret)]
theorem ztX3_code_108 {C : mm_C} (G : mm_G C RX3 cX3_code (some .int) 2 (mm_rm 1 0 0)) (hnh : mm_nh C) : zz_OKs C zpX3_code_108 :=
  ⟨zz_of (ok_aload_n G dX3_code_0 rfl rfl) (z_ald _ _),
   zz_of (ok_get G (nx := 4) (ci := 2) (kd := 0) (k := 4) (RX3, TX3, 7) rfl (by decide) rfl q190 dX3_code_1 rfl) (z_get _ _ _ _),
   zz_of (ok_ifne G dX3_code_4 rfl rfl) (z_ifne _ _ _),
   zz_of (ok_iconst G (v := 0) dX3_code_7 (by decide) rfl) (z_cn 8 0),
   zz_of (ok_goto G dX3_code_8 rfl) (z_goto _),
   zz_of (ok_aload_n G dX3_code_11 rfl rfl) (z_ald _ _),
   zz_of (ok_get G (nx := 15) (ci := 2) (kd := 0) (k := 5) (RX3, TX3, 7) rfl (by decide) rfl q194 dX3_code_12 rfl) (z_get _ _ _ _),
   zz_of (ok_ifne G dX3_code_15 rfl rfl) (z_ifne _ _ _),
   zz_of (ok_iconst G (v := 1) dX3_code_18 (by decide) rfl) (z_cn 19 1),
   zz_of (ok_aload_n G dX3_code_19 rfl rfl) (z_ald _ _),
   zz_of (ok_get G (nx := 23) (ci := 2) (kd := 2) (k := 2) (RX3, TX3, 7) rfl (by decide) rfl q184 dX3_code_20 rfl) (z_get _ _ _ _),
   zz_of (ok_iconst G (v := 0) dX3_code_23 (by decide) rfl) (z_cn 24 0),
   zz_of (ok_iald G dX3_code_24 rfl) (z_ialc _ _),
   zz_of (ok_iadd G dX3_code_25 rfl) (z_iadd _),
   zz_of (ok_goto G dX3_code_26 rfl) (z_goto _),
   zz_of (ok_aload_n G dX3_code_29 rfl rfl) (z_ald _ _),
   zz_of (ok_get G (nx := 33) (ci := 2) (kd := 0) (k := 4) (RX3, TX3, 7) rfl (by decide) rfl q190 dX3_code_30 rfl) (z_get _ _ _ _),
   zz_of (ok_iconst G (v := 1) dX3_code_33 (by decide) rfl) (z_cn 34 1),
   zz_of (ok_cne G dX3_code_34 rfl rfl) (z_cne _ _ _ _),
   zz_of (ok_bipush G (v := 11) dX3_code_37 (by decide) rfl) (z_cn 39 11),
   zz_of (ok_aload_n G dX3_code_39 rfl rfl) (z_ald _ _),
   zz_of (ok_get G (nx := 43) (ci := 2) (kd := 2) (k := 2) (RX3, TX3, 7) rfl (by decide) rfl q184 dX3_code_40 rfl) (z_get _ _ _ _),
   zz_of (ok_iconst G (v := 0) dX3_code_43 (by decide) rfl) (z_cn 44 0),
   zz_of (ok_iald G dX3_code_44 rfl) (z_ialc _ _),
   zz_of (ok_iadd G dX3_code_45 rfl) (z_iadd _),
   zz_of (ok_goto G dX3_code_46 rfl) (z_goto _),
   zz_of (ok_bipush G (v := 21) dX3_code_49 (by decide) rfl) (z_cn 51 21),
   zz_of (ok_bipush G (v := 10) dX3_code_51 (by decide) rfl) (z_cn 53 10),
   zz_of (ok_aload_n G dX3_code_53 rfl rfl) (z_ald _ _),
   zz_of (ok_get G (nx := 57) (ci := 2) (kd := 2) (k := 2) (RX3, TX3, 7) rfl (by decide) rfl q184 dX3_code_54 rfl) (z_get _ _ _ _),
   zz_of (ok_iconst G (v := 0) dX3_code_57 (by decide) rfl) (z_cn 58 0),
   zz_of (ok_iald G dX3_code_58 rfl) (z_ialc _ _),
   zz_of (ok_imul G dX3_code_59 rfl) (z_imul _),
   zz_of (ok_iadd G dX3_code_60 rfl) (z_iadd _),
   zz_of (ok_aload_n G dX3_code_61 rfl rfl) (z_ald _ _),
   zz_of (ok_get G (nx := 65) (ci := 2) (kd := 2) (k := 2) (RX3, TX3, 7) rfl (by decide) rfl q184 dX3_code_62 rfl) (z_get _ _ _ _),
   zz_of (ok_iconst G (v := 1) dX3_code_65 (by decide) rfl) (z_cn 66 1),
   zz_of (ok_iald G dX3_code_66 rfl) (z_ialc _ _),
   zz_of (ok_iadd G dX3_code_67 rfl) (z_iadd _),
   zz_of (ok_istore_n G dX3_code_68 rfl rfl (by decide)) (z_ist _ _),
   zz_of (ok_bipush G (v := 8) dX3_code_69 (by decide) rfl) (z_cn 71 8),
   zz_of (ok_aload_n G dX3_code_71 rfl rfl) (z_ald _ _),
   zz_of (ok_get G (nx := 75) (ci := 2) (kd := 2) (k := 0) (RX3, TX3, 7) rfl (by decide) rfl q176 dX3_code_72 rfl) (z_get _ _ _ _),
   zz_of (ok_iconst G (v := 0) dX3_code_75 (by decide) rfl) (z_cn 76 0),
   zz_of (ok_iald G dX3_code_76 rfl) (z_ialc _ _),
   zz_of (ok_bipush G (v := (zI (-3))) dX3_code_77 (by decide) rfl) (z_cz 79 (-3)),
   zz_of (ok_isub G dX3_code_79 rfl) (z_isub _),
   zz_of (ok_imul G dX3_code_80 rfl) (z_imul _),
   zz_of (ok_aload_n G dX3_code_81 rfl rfl) (z_ald _ _),
   zz_of (ok_get G (nx := 85) (ci := 2) (kd := 2) (k := 0) (RX3, TX3, 7) rfl (by decide) rfl q176 dX3_code_82 rfl) (z_get _ _ _ _),
   zz_of (ok_iconst G (v := 1) dX3_code_85 (by decide) rfl) (z_cn 86 1),
   zz_of (ok_iald G dX3_code_86 rfl) (z_ialc _ _),
   zz_of (ok_iadd G dX3_code_87 rfl) (z_iadd _),
   zz_of (ok_bipush G (v := (zI (-3))) dX3_code_88 (by decide) rfl) (z_cz 90 (-3)),
   zz_of (ok_isub G dX3_code_90 rfl) (z_isub _),
   zz_of (ok_iconst G (v := 2) dX3_code_91 (by decide) rfl) (z_cn 92 2),
   zz_of (ok_imul G dX3_code_92 rfl) (z_imul _),
   zz_of (ok_aload_n G dX3_code_93 rfl rfl) (z_ald _ _),
   zz_of (ok_get G (nx := 97) (ci := 2) (kd := 0) (k := 3) (RX3, TX3, 7) rfl (by decide) rfl q187 dX3_code_94 rfl) (z_get _ _ _ _),
   zz_of (ok_iadd G dX3_code_97 rfl) (z_iadd _),
   zz_of (ok_bipush G (v := 121) dX3_code_98 (by decide) rfl) (z_cn 100 121),
   zz_of (ok_imul G dX3_code_100 rfl) (z_imul _),
   zz_of (ok_iload_n G dX3_code_101 rfl rfl) (z_ild _ _),
   zz_of (ok_iadd G dX3_code_102 rfl) (z_iadd _),
   zz_of (ok_iret G dX3_code_103) (z_iret), trivial⟩

theorem zwX3_code_108_0 {Q : Option zv → zz_M → Prop} {X : Nat → zz_M → Prop} {f : Nat → Nat × Nat} {S L : Nat → Nat → Int} {P : Nat → Nat → Option Nat}  (h : R32 (S 108 4) ∧ ((¬ (S 108 4) = 0 → R32 (S 108 5) ∧ ((¬ (S 108 5) = 0 → R32 (S 108 4) ∧ ((¬ (S 108 4) = 1 → Q (some (vi (((((((8 * ((S 109 0) - (-3))) + (S 109 1)) - (-3)) * 2) + (S 108 3)) * 121) + ((21 + (10 * (S 111 0))) + (S 111 1))))) ((2, f), S, L, P)) ∧ ((S 108 4) = 1 → Q (some (vi (((((((8 * ((S 109 0) - (-3))) + (S 109 1)) - (-3)) * 2) + (S 108 3)) * 121) + (11 + (S 111 0))))) ((2, f), S, L, P)))) ∧ ((S 108 5) = 0 → Q (some (vi (((((((8 * ((S 109 0) - (-3))) + (S 109 1)) - (-3)) * 2) + (S 108 3)) * 121) + (1 + (S 111 0))))) ((2, f), S, L, P)))) ∧ ((S 108 4) = 0 → Q (some (vi (((((((8 * ((S 109 0) - (-3))) + (S 109 1)) - (-3)) * 2) + (S 108 3)) * 121) + 0))) ((2, f), S, L, P)))) : zz_J zpX3_code_108 (zz_ret Q X 0 0) 0 [some (vr 108), none] [] ((2, f), S, L, P) (0, 0) := zz_J.go [] 400 h

theorem zmX3_code_108 (l : Launch) (hl : l.stackTraces = false) : mm_Spec l yX3_code (ws_ yX3_code cX3_code 2 (some .int)) (mm_rm 1 0 0) (zE zX3_code_108) := by
  refine zz_Met.J hl (by decide) (fun C G hnh => ztX3_code_108 G hnh) ?_
  rintro as ⟨⟨t_, f⟩, S, L, P⟩ Q X h
  unfold zX3_code_108 at h
  split at h
  rotate_left
  · exact h.elim
  rename_i h_
  obtain ⟨e1_, e2_, h⟩ := mm_and2 h (fun q => q)
  cases mm_beq e1_
  cases mm_beq e2_
  try dsimp only at h
  refine ⟨rfl, ?_⟩
  obtain ⟨hx, hq⟩ := h
  have hv := hx.2.2
  have e : nuR (cx S 108) = ((S 109 0 + 3) * 8 + S 109 1 + 3) * 242 + 121 * S 108 3 + (if S 108 4 = 0 then 0 else if S 108 4 = 2 then 21 + 10 * S 111 0 + S 111 1 else if S 108 5 = 1 then 11 + S 111 0 else 1 + S 111 0) := rfl
  have e3 : cx S 108 3 = S 108 4 := rfl
  have e6 : cx S 108 6 = S 108 5 := rfl
  unfold hV at hv
  rw [e3, e6] at hv
  have b3 : 0 ≤ S 108 4 ∧ S 108 4 ≤ 2 := by omega
  have b6 : S 108 5 = 0 ∨ S 108 5 = 1 := by omega
  rw [e] at hq
  have kr : ∀ v : Int, v = ((S 109 0 + 3) * 8 + S 109 1 + 3) * 242 + 121 * S 108 3 + (if S 108 4 = 0 then 0 else if S 108 4 = 2 then 21 + 10 * S 111 0 + S 111 1 else if S 108 5 = 1 then 11 + S 111 0 else 1 + S 111 0) → Q (some (vi v)) ((2, f), S, L, P) := fun v e => by rw [e]; exact hq
  refine zwX3_code_108_0 ?_
  (repeat' (first | omega | exact kr _ (by (repeat' split) <;> omega) | apply And.intro | intro _)) <;> omega
def zX3_is_108 : zz_Sp := fun as M Q X => match as with
  | [.inr (.inr (some h_)), .inl k] => bif Nat.beq h_ 108 && Nat.beq M.1.1 2 then ((0 ≤ k ∧ k < 15488) ∧ (cbR k = true → Q (some (vi 1)) ((2, M.1.2), cxW M.2.1 108 (isX (cx M.2.1 108) k), M.2.2.1, M.2.2.2)) ∧ (cbR k = false → Q (some (vi 0)) ((2, M.1.2), cxW M.2.1 108 (isX (cx M.2.1 108) k), M.2.2.1, M.2.2.2))) else False
  | _ => False

def zpX3_is_108 : zz_P := [(0, zo_ild 1 1), (1, zo_c 3 (vi 121)), (3, zo_irem 4), (4, zo_ist 5 2), (5, zo_ald 6 0), (6, zo_ild 7 1), (7, zo_c 9 (vi 121)), (9, zo_idiv 10), (10, zo_c 11 (vi 2)), (11, zo_irem 12), (12, zo_puti 15 2 3), (15, zo_ald 16 0), (16, zo_get 19 2 2 0), (19, zo_c 20 (vi 0)), (20, zo_ild 21 1), (21, zo_c 23 (vi 121)), (23, zo_idiv 24), (24, zo_c 26 (vi 16)), (26, zo_idiv 27), (27, zo_c 29 (vi (-3))), (29, zo_iadd 30), (30, zo_iasc 31 0), (31, zo_ald 32 0), (32, zo_get 35 2 2 0), (35, zo_c 36 (vi 1)), (36, zo_ild 37 1), (37, zo_c 39 (vi 121)), (39, zo_idiv 40), (40, zo_c 41 (vi 2)), (41, zo_idiv 42), (42, zo_c 44 (vi 8)), (44, zo_irem 45), (45, zo_c 47 (vi (-3))), (47, zo_iadd 48), (48, zo_iasc 49 1), (49, zo_ald 50 0), (50, zo_ild 51 2), (51, zo_c 53 (vi 10)), (53, zo_cle false true 56 60), (56, zo_c 57 (vi 1)), (57, zo_goto 61), (60, zo_c 61 (vi 0)), (61, zo_putz true 64 2 5), (64, zo_ald 65 0), (65, zo_ild 66 2), (66, zo_ifne false 69 73), (69, zo_c 70 (vi 0)), (70, zo_goto 84), (73, zo_ild 74 2), (74, zo_c 76 (vi 20)), (76, zo_cgt false true 79 83), (79, zo_c 80 (vi 1)), (80, zo_goto 84), (83, zo_c 84 (vi 2)), (84, zo_puti 87 2 4), (87, zo_ald 88 0), (88, zo_get 91 2 2 2), (91, zo_c 92 (vi 0)), (92, zo_ald 93 0), (93, zo_get 96 2 0 4), (96, zo_c 97 (vi 2)), (97, zo_cne false true 100 112), (100, zo_ild 101 2), (101, zo_c 102 (vi 1)), (102, zo_isub 103), (103, zo_c 105 (vi 20)), (105, zo_isub 106), (106, zo_c 108 (vi 10)), (108, zo_idiv 109), (109, zo_goto 130), (112, zo_ald 113 0), (113, zo_get 116 2 0 4), (116, zo_c 117 (vi 1)), (117, zo_cne false true 120 129), (120, zo_ild 121 2), (121, zo_c 122 (vi 1)), (122, zo_isub 123), (123, zo_c 125 (vi 10)), (125, zo_irem 126), (126, zo_goto 130), (129, zo_c 130 (vi 0)), (130, zo_iasc 131 0), (131, zo_ald 132 0), (132, zo_get 135 2 2 2), (135, zo_c 136 (vi 1)), (136, zo_ald 137 0), (137, zo_get 140 2 0 4), (140, zo_c 141 (vi 2)), (141, zo_cne false true 144 153), (144, zo_ild 145 2), (145, zo_c 146 (vi 1)), (146, zo_isub 147), (147, zo_c 149 (vi 10)), (149, zo_irem 150), (150, zo_goto 154), (153, zo_c 154 (vi 0)), (154, zo_iasc 155 1), (155, zo_ald 156 0), (156, zo_get 159 2 2 0), (159, zo_c 160 (vi 0)), (160, zo_ialc 161 0), (161, zo_ald 162 0), (162, zo_get 165 2 2 0), (165, zo_c 166 (vi 1)), (166, zo_ialc 167 1), (167, zo_calls 170 2 zX1_arePoints), (170, zo_zret true)]
theorem ztX3_is_108 {C : mm_C} (G : mm_G C RX3 cX3_is (some .boolean) 3 (mm_rm 3 0 0)) (hnh : mm_nh C) : zz_OKs C zpX3_is_108 :=
  ⟨zz_of (ok_iload_n G dX3_is_0 rfl rfl) (z_ild _ _),
   zz_of (ok_bipush G (v := 121) dX3_is_1 (by decide) rfl) (z_cn 3 121),
   zz_of (ok_irem G dX3_is_3 rfl) (z_irem _),
   zz_of (ok_istore_n G dX3_is_4 rfl rfl (by decide)) (z_ist _ _),
   zz_of (ok_aload_n G dX3_is_5 rfl rfl) (z_ald _ _),
   zz_of (ok_iload_n G dX3_is_6 rfl rfl) (z_ild _ _),
   zz_of (ok_bipush G (v := 121) dX3_is_7 (by decide) rfl) (z_cn 9 121),
   zz_of (ok_idiv G dX3_is_9 rfl) (z_idiv _),
   zz_of (ok_iconst G (v := 2) dX3_is_10 (by decide) rfl) (z_cn 11 2),
   zz_of (ok_irem G dX3_is_11 rfl) (z_irem _),
   zz_of (ok_puti G (nx := 15) (idx := 25) (ci := 2) (k := 3) (RX3, TX3, 7) rfl (by decide) rfl (mm_pw G (ci := 2) (k := 3) (RX3, TX3, 7) rfl (by decide) rfl q187 dX3_is_12) rfl) (z_puti _ _ _),
   zz_of (ok_aload_n G dX3_is_15 rfl rfl) (z_ald _ _),
   zz_of (ok_get G (nx := 19) (ci := 2) (kd := 2) (k := 0) (RX3, TX3, 7) rfl (by decide) rfl q176 dX3_is_16 rfl) (z_get _ _ _ _),
   zz_of (ok_iconst G (v := 0) dX3_is_19 (by decide) rfl) (z_cn 20 0),
   zz_of (ok_iload_n G dX3_is_20 rfl rfl) (z_ild _ _),
   zz_of (ok_bipush G (v := 121) dX3_is_21 (by decide) rfl) (z_cn 23 121),
   zz_of (ok_idiv G dX3_is_23 rfl) (z_idiv _),
   zz_of (ok_bipush G (v := 16) dX3_is_24 (by decide) rfl) (z_cn 26 16),
   zz_of (ok_idiv G dX3_is_26 rfl) (z_idiv _),
   zz_of (ok_bipush G (v := (zI (-3))) dX3_is_27 (by decide) rfl) (z_cz 29 (-3)),
   zz_of (ok_iadd G dX3_is_29 rfl) (z_iadd _),
   zz_of (ok_iast G dX3_is_30 rfl) (z_iasc _ _),
   zz_of (ok_aload_n G dX3_is_31 rfl rfl) (z_ald _ _),
   zz_of (ok_get G (nx := 35) (ci := 2) (kd := 2) (k := 0) (RX3, TX3, 7) rfl (by decide) rfl q176 dX3_is_32 rfl) (z_get _ _ _ _),
   zz_of (ok_iconst G (v := 1) dX3_is_35 (by decide) rfl) (z_cn 36 1),
   zz_of (ok_iload_n G dX3_is_36 rfl rfl) (z_ild _ _),
   zz_of (ok_bipush G (v := 121) dX3_is_37 (by decide) rfl) (z_cn 39 121),
   zz_of (ok_idiv G dX3_is_39 rfl) (z_idiv _),
   zz_of (ok_iconst G (v := 2) dX3_is_40 (by decide) rfl) (z_cn 41 2),
   zz_of (ok_idiv G dX3_is_41 rfl) (z_idiv _),
   zz_of (ok_bipush G (v := 8) dX3_is_42 (by decide) rfl) (z_cn 44 8),
   zz_of (ok_irem G dX3_is_44 rfl) (z_irem _),
   zz_of (ok_bipush G (v := (zI (-3))) dX3_is_45 (by decide) rfl) (z_cz 47 (-3)),
   zz_of (ok_iadd G dX3_is_47 rfl) (z_iadd _),
   zz_of (ok_iast G dX3_is_48 rfl) (z_iasc _ _),
   zz_of (ok_aload_n G dX3_is_49 rfl rfl) (z_ald _ _),
   zz_of (ok_iload_n G dX3_is_50 rfl rfl) (z_ild _ _),
   zz_of (ok_bipush G (v := 10) dX3_is_51 (by decide) rfl) (z_cn 53 10),
   zz_of (ok_cle G dX3_is_53 rfl rfl) (z_cle _ _ _ _),
   zz_of (ok_iconst G (v := 1) dX3_is_56 (by decide) rfl) (z_cn 57 1),
   zz_of (ok_goto G dX3_is_57 rfl) (z_goto _),
   zz_of (ok_iconst G (v := 0) dX3_is_60 (by decide) rfl) (z_cn 61 0),
   zz_of (ok_putz G (nx := 64) (idx := 32) (ci := 2) (k := 5) (RX3, TX3, 7) rfl (by decide) rfl (mm_pw G (ci := 2) (k := 5) (RX3, TX3, 7) rfl (by decide) rfl q194 dX3_is_61) rfl) (z_putz _ _ _ _),
   zz_of (ok_aload_n G dX3_is_64 rfl rfl) (z_ald _ _),
   zz_of (ok_iload_n G dX3_is_65 rfl rfl) (z_ild _ _),
   zz_of (ok_ifne G dX3_is_66 rfl rfl) (z_ifne _ _ _),
   zz_of (ok_iconst G (v := 0) dX3_is_69 (by decide) rfl) (z_cn 70 0),
   zz_of (ok_goto G dX3_is_70 rfl) (z_goto _),
   zz_of (ok_iload_n G dX3_is_73 rfl rfl) (z_ild _ _),
   zz_of (ok_bipush G (v := 20) dX3_is_74 (by decide) rfl) (z_cn 76 20),
   zz_of (ok_cgt G dX3_is_76 rfl rfl) (z_cgt _ _ _ _),
   zz_of (ok_iconst G (v := 1) dX3_is_79 (by decide) rfl) (z_cn 80 1),
   zz_of (ok_goto G dX3_is_80 rfl) (z_goto _),
   zz_of (ok_iconst G (v := 2) dX3_is_83 (by decide) rfl) (z_cn 84 2),
   zz_of (ok_puti G (nx := 87) (idx := 29) (ci := 2) (k := 4) (RX3, TX3, 7) rfl (by decide) rfl (mm_pw G (ci := 2) (k := 4) (RX3, TX3, 7) rfl (by decide) rfl q190 dX3_is_84) rfl) (z_puti _ _ _),
   zz_of (ok_aload_n G dX3_is_87 rfl rfl) (z_ald _ _),
   zz_of (ok_get G (nx := 91) (ci := 2) (kd := 2) (k := 2) (RX3, TX3, 7) rfl (by decide) rfl q184 dX3_is_88 rfl) (z_get _ _ _ _),
   zz_of (ok_iconst G (v := 0) dX3_is_91 (by decide) rfl) (z_cn 92 0),
   zz_of (ok_aload_n G dX3_is_92 rfl rfl) (z_ald _ _),
   zz_of (ok_get G (nx := 96) (ci := 2) (kd := 0) (k := 4) (RX3, TX3, 7) rfl (by decide) rfl q190 dX3_is_93 rfl) (z_get _ _ _ _),
   zz_of (ok_iconst G (v := 2) dX3_is_96 (by decide) rfl) (z_cn 97 2),
   zz_of (ok_cne G dX3_is_97 rfl rfl) (z_cne _ _ _ _),
   zz_of (ok_iload_n G dX3_is_100 rfl rfl) (z_ild _ _),
   zz_of (ok_iconst G (v := 1) dX3_is_101 (by decide) rfl) (z_cn 102 1),
   zz_of (ok_isub G dX3_is_102 rfl) (z_isub _),
   zz_of (ok_bipush G (v := 20) dX3_is_103 (by decide) rfl) (z_cn 105 20),
   zz_of (ok_isub G dX3_is_105 rfl) (z_isub _),
   zz_of (ok_bipush G (v := 10) dX3_is_106 (by decide) rfl) (z_cn 108 10),
   zz_of (ok_idiv G dX3_is_108 rfl) (z_idiv _),
   zz_of (ok_goto G dX3_is_109 rfl) (z_goto _),
   zz_of (ok_aload_n G dX3_is_112 rfl rfl) (z_ald _ _),
   zz_of (ok_get G (nx := 116) (ci := 2) (kd := 0) (k := 4) (RX3, TX3, 7) rfl (by decide) rfl q190 dX3_is_113 rfl) (z_get _ _ _ _),
   zz_of (ok_iconst G (v := 1) dX3_is_116 (by decide) rfl) (z_cn 117 1),
   zz_of (ok_cne G dX3_is_117 rfl rfl) (z_cne _ _ _ _),
   zz_of (ok_iload_n G dX3_is_120 rfl rfl) (z_ild _ _),
   zz_of (ok_iconst G (v := 1) dX3_is_121 (by decide) rfl) (z_cn 122 1),
   zz_of (ok_isub G dX3_is_122 rfl) (z_isub _),
   zz_of (ok_bipush G (v := 10) dX3_is_123 (by decide) rfl) (z_cn 125 10),
   zz_of (ok_irem G dX3_is_125 rfl) (z_irem _),
   zz_of (ok_goto G dX3_is_126 rfl) (z_goto _),
   zz_of (ok_iconst G (v := 0) dX3_is_129 (by decide) rfl) (z_cn 130 0),
   zz_of (ok_iast G dX3_is_130 rfl) (z_iasc _ _),
   zz_of (ok_aload_n G dX3_is_131 rfl rfl) (z_ald _ _),
   zz_of (ok_get G (nx := 135) (ci := 2) (kd := 2) (k := 2) (RX3, TX3, 7) rfl (by decide) rfl q184 dX3_is_132 rfl) (z_get _ _ _ _),
   zz_of (ok_iconst G (v := 1) dX3_is_135 (by decide) rfl) (z_cn 136 1),
   zz_of (ok_aload_n G dX3_is_136 rfl rfl) (z_ald _ _),
   zz_of (ok_get G (nx := 140) (ci := 2) (kd := 0) (k := 4) (RX3, TX3, 7) rfl (by decide) rfl q190 dX3_is_137 rfl) (z_get _ _ _ _),
   zz_of (ok_iconst G (v := 2) dX3_is_140 (by decide) rfl) (z_cn 141 2),
   zz_of (ok_cne G dX3_is_141 rfl rfl) (z_cne _ _ _ _),
   zz_of (ok_iload_n G dX3_is_144 rfl rfl) (z_ild _ _),
   zz_of (ok_iconst G (v := 1) dX3_is_145 (by decide) rfl) (z_cn 146 1),
   zz_of (ok_isub G dX3_is_146 rfl) (z_isub _),
   zz_of (ok_bipush G (v := 10) dX3_is_147 (by decide) rfl) (z_cn 149 10),
   zz_of (ok_irem G dX3_is_149 rfl) (z_irem _),
   zz_of (ok_goto G dX3_is_150 rfl) (z_goto _),
   zz_of (ok_iconst G (v := 0) dX3_is_153 (by decide) rfl) (z_cn 154 0),
   zz_of (ok_iast G dX3_is_154 rfl) (z_iasc _ _),
   zz_of (ok_aload_n G dX3_is_155 rfl rfl) (z_ald _ _),
   zz_of (ok_get G (nx := 159) (ci := 2) (kd := 2) (k := 0) (RX3, TX3, 7) rfl (by decide) rfl q176 dX3_is_156 rfl) (z_get _ _ _ _),
   zz_of (ok_iconst G (v := 0) dX3_is_159 (by decide) rfl) (z_cn 160 0),
   zz_of (ok_iald G dX3_is_160 rfl) (z_ialc _ _),
   zz_of (ok_aload_n G dX3_is_161 rfl rfl) (z_ald _ _),
   zz_of (ok_get G (nx := 165) (ci := 2) (kd := 2) (k := 0) (RX3, TX3, 7) rfl (by decide) rfl q176 dX3_is_162 rfl) (z_get _ _ _ _),
   zz_of (ok_iconst G (v := 1) dX3_is_165 (by decide) rfl) (z_cn 166 1),
   zz_of (ok_iald G dX3_is_166 rfl) (z_ialc _ _),
   zz_of (ok_callsN G hnh (zmX1_arePoints _ G.hst) rfl rfl q1590 q1472 q82 q1473 (by decide +kernel) ⟨by decide, by decide⟩ dX3_is_167 rfl) (z_calls _ _ _),
   zz_of (ok_zret G dX3_is_170) (z_zret _), trivial⟩

theorem zwX3_is_108_0 {Q : Option zv → zz_M → Prop} {X : Nat → zz_M → Prop} {f : Nat → Nat × Nat} {S L : Nat → Nat → Int} {P : Nat → Nat → Option Nat} {k : Int} (h : (0 ≤ k ∧ k < 2147483648) ∧ ((0 ≤ k ∧ k < 2147483648) ∧ ((0 ≤ (k / 121) ∧ (k / 121) < 2147483648) ∧ ((0 ≤ k ∧ k < 2147483648) ∧ ((0 ≤ (k / 121) ∧ (k / 121) < 2147483648) ∧ ((0 ≤ k ∧ k < 2147483648) ∧ ((0 ≤ (k / 121) ∧ (k / 121) < 2147483648) ∧ ((0 ≤ ((k / 121) / 2) ∧ ((k / 121) / 2) < 2147483648) ∧ (R32 (k % 121) ∧ (((k % 121) ≤ 10 → R32 (k % 121) ∧ ((¬ (k % 121) = 0 → R32 (k % 121) ∧ ((20 < (k % 121) → R32 2 ∧ ((¬ (2 : Int) = 2 → R32 2 ∧ ((¬ (2 : Int) = 1 → R32 2 ∧ ((¬ (2 : Int) = 2 → (R32 (((k / 121) / 16) + (-3)) ∧ R32 ((((k / 121) / 2) % 8) + (-3)) ∧ (isP (((k / 121) / 16) + (-3)) ((((k / 121) / 2) % 8) + (-3)) → (Q (some (vi 1)) ((2, f), mm_up (mm_up (mm_up (mm_up (mm_up (mm_up (mm_up S 108 3 ((k / 121) % 2)) 109 0 (((k / 121) / 16) + (-3))) 109 1 ((((k / 121) / 2) % 8) + (-3))) 108 5 0) 108 4 2) 111 0 0) 111 1 0, L, P))) ∧ (¬ isP (((k / 121) / 16) + (-3)) ((((k / 121) / 2) % 8) + (-3)) → (Q (some (vi 0)) ((2, f), mm_up (mm_up (mm_up (mm_up (mm_up (mm_up (mm_up S 108 3 ((k / 121) % 2)) 109 0 (((k / 121) / 16) + (-3))) 109 1 ((((k / 121) / 2) % 8) + (-3))) 108 5 0) 108 4 2) 111 0 0) 111 1 0, L, P))))) ∧ ((2 : Int) = 2 → (0 ≤ ((k % 121) - 1) ∧ ((k % 121) - 1) < 2147483648) ∧ ((R32 (((k / 121) / 16) + (-3)) ∧ R32 ((((k / 121) / 2) % 8) + (-3)) ∧ (isP (((k / 121) / 16) + (-3)) ((((k / 121) / 2) % 8) + (-3)) → (Q (some (vi 1)) ((2, f), mm_up (mm_up (mm_up (mm_up (mm_up (mm_up (mm_up S 108 3 ((k / 121) % 2)) 109 0 (((k / 121) / 16) + (-3))) 109 1 ((((k / 121) / 2) % 8) + (-3))) 108 5 0) 108 4 2) 111 0 0) 111 1 (((k % 121) - 1) % 10), L, P))) ∧ (¬ isP (((k / 121) / 16) + (-3)) ((((k / 121) / 2) % 8) + (-3)) → (Q (some (vi 0)) ((2, f), mm_up (mm_up (mm_up (mm_up (mm_up (mm_up (mm_up S 108 3 ((k / 121) % 2)) 109 0 (((k / 121) / 16) + (-3))) 109 1 ((((k / 121) / 2) % 8) + (-3))) 108 5 0) 108 4 2) 111 0 0) 111 1 (((k % 121) - 1) % 10), L, P)))))))) ∧ ((2 : Int) = 1 → (0 ≤ ((k % 121) - 1) ∧ ((k % 121) - 1) < 2147483648) ∧ (R32 2 ∧ ((¬ (2 : Int) = 2 → (R32 (((k / 121) / 16) + (-3)) ∧ R32 ((((k / 121) / 2) % 8) + (-3)) ∧ (isP (((k / 121) / 16) + (-3)) ((((k / 121) / 2) % 8) + (-3)) → (Q (some (vi 1)) ((2, f), mm_up (mm_up (mm_up (mm_up (mm_up (mm_up (mm_up S 108 3 ((k / 121) % 2)) 109 0 (((k / 121) / 16) + (-3))) 109 1 ((((k / 121) / 2) % 8) + (-3))) 108 5 0) 108 4 2) 111 0 (((k % 121) - 1) % 10)) 111 1 0, L, P))) ∧ (¬ isP (((k / 121) / 16) + (-3)) ((((k / 121) / 2) % 8) + (-3)) → (Q (some (vi 0)) ((2, f), mm_up (mm_up (mm_up (mm_up (mm_up (mm_up (mm_up S 108 3 ((k / 121) % 2)) 109 0 (((k / 121) / 16) + (-3))) 109 1 ((((k / 121) / 2) % 8) + (-3))) 108 5 0) 108 4 2) 111 0 (((k % 121) - 1) % 10)) 111 1 0, L, P))))) ∧ ((2 : Int) = 2 → (0 ≤ ((k % 121) - 1) ∧ ((k % 121) - 1) < 2147483648) ∧ ((R32 (((k / 121) / 16) + (-3)) ∧ R32 ((((k / 121) / 2) % 8) + (-3)) ∧ (isP (((k / 121) / 16) + (-3)) ((((k / 121) / 2) % 8) + (-3)) → (Q (some (vi 1)) ((2, f), mm_up (mm_up (mm_up (mm_up (mm_up (mm_up (mm_up S 108 3 ((k / 121) % 2)) 109 0 (((k / 121) / 16) + (-3))) 109 1 ((((k / 121) / 2) % 8) + (-3))) 108 5 0) 108 4 2) 111 0 (((k % 121) - 1) % 10)) 111 1 (((k % 121) - 1) % 10), L, P))) ∧ (¬ isP (((k / 121) / 16) + (-3)) ((((k / 121) / 2) % 8) + (-3)) → (Q (some (vi 0)) ((2, f), mm_up (mm_up (mm_up (mm_up (mm_up (mm_up (mm_up S 108 3 ((k / 121) % 2)) 109 0 (((k / 121) / 16) + (-3))) 109 1 ((((k / 121) / 2) % 8) + (-3))) 108 5 0) 108 4 2) 111 0 (((k % 121) - 1) % 10)) 111 1 (((k % 121) - 1) % 10), L, P))))))))))) ∧ ((2 : Int) = 2 → (0 ≤ (((k % 121) - 1) - 20) ∧ (((k % 121) - 1) - 20) < 2147483648) ∧ (R32 2 ∧ ((¬ (2 : Int) = 2 → (R32 (((k / 121) / 16) + (-3)) ∧ R32 ((((k / 121) / 2) % 8) + (-3)) ∧ (isP (((k / 121) / 16) + (-3)) ((((k / 121) / 2) % 8) + (-3)) → (Q (some (vi 1)) ((2, f), mm_up (mm_up (mm_up (mm_up (mm_up (mm_up (mm_up S 108 3 ((k / 121) % 2)) 109 0 (((k / 121) / 16) + (-3))) 109 1 ((((k / 121) / 2) % 8) + (-3))) 108 5 0) 108 4 2) 111 0 ((((k % 121) - 1) - 20) / 10)) 111 1 0, L, P))) ∧ (¬ isP (((k / 121) / 16) + (-3)) ((((k / 121) / 2) % 8) + (-3)) → (Q (some (vi 0)) ((2, f), mm_up (mm_up (mm_up (mm_up (mm_up (mm_up (mm_up S 108 3 ((k / 121) % 2)) 109 0 (((k / 121) / 16) + (-3))) 109 1 ((((k / 121) / 2) % 8) + (-3))) 108 5 0) 108 4 2) 111 0 ((((k % 121) - 1) - 20) / 10)) 111 1 0, L, P))))) ∧ ((2 : Int) = 2 → (0 ≤ ((k % 121) - 1) ∧ ((k % 121) - 1) < 2147483648) ∧ ((R32 (((k / 121) / 16) + (-3)) ∧ R32 ((((k / 121) / 2) % 8) + (-3)) ∧ (isP (((k / 121) / 16) + (-3)) ((((k / 121) / 2) % 8) + (-3)) → (Q (some (vi 1)) ((2, f), mm_up (mm_up (mm_up (mm_up (mm_up (mm_up (mm_up S 108 3 ((k / 121) % 2)) 109 0 (((k / 121) / 16) + (-3))) 109 1 ((((k / 121) / 2) % 8) + (-3))) 108 5 0) 108 4 2) 111 0 ((((k % 121) - 1) - 20) / 10)) 111 1 (((k % 121) - 1) % 10), L, P))) ∧ (¬ isP (((k / 121) / 16) + (-3)) ((((k / 121) / 2) % 8) + (-3)) → (Q (some (vi 0)) ((2, f), mm_up (mm_up (mm_up (mm_up (mm_up (mm_up (mm_up S 108 3 ((k / 121) % 2)) 109 0 (((k / 121) / 16) + (-3))) 109 1 ((((k / 121) / 2) % 8) + (-3))) 108 5 0) 108 4 2) 111 0 ((((k % 121) - 1) - 20) / 10)) 111 1 (((k % 121) - 1) % 10), L, P))))))))))) ∧ (¬ 20 < (k % 121) → R32 1 ∧ ((¬ (1 : Int) = 2 → R32 1 ∧ ((¬ (1 : Int) = 1 → R32 1 ∧ ((¬ (1 : Int) = 2 → (R32 (((k / 121) / 16) + (-3)) ∧ R32 ((((k / 121) / 2) % 8) + (-3)) ∧ (isP (((k / 121) / 16) + (-3)) ((((k / 121) / 2) % 8) + (-3)) → (Q (some (vi 1)) ((2, f), mm_up (mm_up (mm_up (mm_up (mm_up (mm_up (mm_up S 108 3 ((k / 121) % 2)) 109 0 (((k / 121) / 16) + (-3))) 109 1 ((((k / 121) / 2) % 8) + (-3))) 108 5 0) 108 4 1) 111 0 0) 111 1 0, L, P))) ∧ (¬ isP (((k / 121) / 16) + (-3)) ((((k / 121) / 2) % 8) + (-3)) → (Q (some (vi 0)) ((2, f), mm_up (mm_up (mm_up (mm_up (mm_up (mm_up (mm_up S 108 3 ((k / 121) % 2)) 109 0 (((k / 121) / 16) + (-3))) 109 1 ((((k / 121) / 2) % 8) + (-3))) 108 5 0) 108 4 1) 111 0 0) 111 1 0, L, P))))) ∧ ((1 : Int) = 2 → (0 ≤ ((k % 121) - 1) ∧ ((k % 121) - 1) < 2147483648) ∧ ((R32 (((k / 121) / 16) + (-3)) ∧ R32 ((((k / 121) / 2) % 8) + (-3)) ∧ (isP (((k / 121) / 16) + (-3)) ((((k / 121) / 2) % 8) + (-3)) → (Q (some (vi 1)) ((2, f), mm_up (mm_up (mm_up (mm_up (mm_up (mm_up (mm_up S 108 3 ((k / 121) % 2)) 109 0 (((k / 121) / 16) + (-3))) 109 1 ((((k / 121) / 2) % 8) + (-3))) 108 5 0) 108 4 1) 111 0 0) 111 1 (((k % 121) - 1) % 10), L, P))) ∧ (¬ isP (((k / 121) / 16) + (-3)) ((((k / 121) / 2) % 8) + (-3)) → (Q (some (vi 0)) ((2, f), mm_up (mm_up (mm_up (mm_up (mm_up (mm_up (mm_up S 108 3 ((k / 121) % 2)) 109 0 (((k / 121) / 16) + (-3))) 109 1 ((((k / 121) / 2) % 8) + (-3))) 108 5 0) 108 4 1) 111 0 0) 111 1 (((k % 121) - 1) % 10), L, P)))))))) ∧ ((1 : Int) = 1 → (0 ≤ ((k % 121) - 1) ∧ ((k % 121) - 1) < 2147483648) ∧ (R32 1 ∧ ((¬ (1 : Int) = 2 → (R32 (((k / 121) / 16) + (-3)) ∧ R32 ((((k / 121) / 2) % 8) + (-3)) ∧ (isP (((k / 121) / 16) + (-3)) ((((k / 121) / 2) % 8) + (-3)) → (Q (some (vi 1)) ((2, f), mm_up (mm_up (mm_up (mm_up (mm_up (mm_up (mm_up S 108 3 ((k / 121) % 2)) 109 0 (((k / 121) / 16) + (-3))) 109 1 ((((k / 121) / 2) % 8) + (-3))) 108 5 0) 108 4 1) 111 0 (((k % 121) - 1) % 10)) 111 1 0, L, P))) ∧ (¬ isP (((k / 121) / 16) + (-3)) ((((k / 121) / 2) % 8) + (-3)) → (Q (some (vi 0)) ((2, f), mm_up (mm_up (mm_up (mm_up (mm_up (mm_up (mm_up S 108 3 ((k / 121) % 2)) 109 0 (((k / 121) / 16) + (-3))) 109 1 ((((k / 121) / 2) % 8) + (-3))) 108 5 0) 108 4 1) 111 0 (((k % 121) - 1) % 10)) 111 1 0, L, P))))) ∧ ((1 : Int) = 2 → (0 ≤ ((k % 121) - 1) ∧ ((k % 121) - 1) < 2147483648) ∧ ((R32 (((k / 121) / 16) + (-3)) ∧ R32 ((((k / 121) / 2) % 8) + (-3)) ∧ (isP (((k / 121) / 16) + (-3)) ((((k / 121) / 2) % 8) + (-3)) → (Q (some (vi 1)) ((2, f), mm_up (mm_up (mm_up (mm_up (mm_up (mm_up (mm_up S 108 3 ((k / 121) % 2)) 109 0 (((k / 121) / 16) + (-3))) 109 1 ((((k / 121) / 2) % 8) + (-3))) 108 5 0) 108 4 1) 111 0 (((k % 121) - 1) % 10)) 111 1 (((k % 121) - 1) % 10), L, P))) ∧ (¬ isP (((k / 121) / 16) + (-3)) ((((k / 121) / 2) % 8) + (-3)) → (Q (some (vi 0)) ((2, f), mm_up (mm_up (mm_up (mm_up (mm_up (mm_up (mm_up S 108 3 ((k / 121) % 2)) 109 0 (((k / 121) / 16) + (-3))) 109 1 ((((k / 121) / 2) % 8) + (-3))) 108 5 0) 108 4 1) 111 0 (((k % 121) - 1) % 10)) 111 1 (((k % 121) - 1) % 10), L, P))))))))))) ∧ ((1 : Int) = 2 → (0 ≤ (((k % 121) - 1) - 20) ∧ (((k % 121) - 1) - 20) < 2147483648) ∧ (R32 1 ∧ ((¬ (1 : Int) = 2 → (R32 (((k / 121) / 16) + (-3)) ∧ R32 ((((k / 121) / 2) % 8) + (-3)) ∧ (isP (((k / 121) / 16) + (-3)) ((((k / 121) / 2) % 8) + (-3)) → (Q (some (vi 1)) ((2, f), mm_up (mm_up (mm_up (mm_up (mm_up (mm_up (mm_up S 108 3 ((k / 121) % 2)) 109 0 (((k / 121) / 16) + (-3))) 109 1 ((((k / 121) / 2) % 8) + (-3))) 108 5 0) 108 4 1) 111 0 ((((k % 121) - 1) - 20) / 10)) 111 1 0, L, P))) ∧ (¬ isP (((k / 121) / 16) + (-3)) ((((k / 121) / 2) % 8) + (-3)) → (Q (some (vi 0)) ((2, f), mm_up (mm_up (mm_up (mm_up (mm_up (mm_up (mm_up S 108 3 ((k / 121) % 2)) 109 0 (((k / 121) / 16) + (-3))) 109 1 ((((k / 121) / 2) % 8) + (-3))) 108 5 0) 108 4 1) 111 0 ((((k % 121) - 1) - 20) / 10)) 111 1 0, L, P))))) ∧ ((1 : Int) = 2 → (0 ≤ ((k % 121) - 1) ∧ ((k % 121) - 1) < 2147483648) ∧ ((R32 (((k / 121) / 16) + (-3)) ∧ R32 ((((k / 121) / 2) % 8) + (-3)) ∧ (isP (((k / 121) / 16) + (-3)) ((((k / 121) / 2) % 8) + (-3)) → (Q (some (vi 1)) ((2, f), mm_up (mm_up (mm_up (mm_up (mm_up (mm_up (mm_up S 108 3 ((k / 121) % 2)) 109 0 (((k / 121) / 16) + (-3))) 109 1 ((((k / 121) / 2) % 8) + (-3))) 108 5 0) 108 4 1) 111 0 ((((k % 121) - 1) - 20) / 10)) 111 1 (((k % 121) - 1) % 10), L, P))) ∧ (¬ isP (((k / 121) / 16) + (-3)) ((((k / 121) / 2) % 8) + (-3)) → (Q (some (vi 0)) ((2, f), mm_up (mm_up (mm_up (mm_up (mm_up (mm_up (mm_up S 108 3 ((k / 121) % 2)) 109 0 (((k / 121) / 16) + (-3))) 109 1 ((((k / 121) / 2) % 8) + (-3))) 108 5 0) 108 4 1) 111 0 ((((k % 121) - 1) - 20) / 10)) 111 1 (((k % 121) - 1) % 10), L, P))))))))))))) ∧ ((k % 121) = 0 → R32 0 ∧ ((¬ (0 : Int) = 2 → R32 0 ∧ ((¬ (0 : Int) = 1 → R32 0 ∧ ((¬ (0 : Int) = 2 → (R32 (((k / 121) / 16) + (-3)) ∧ R32 ((((k / 121) / 2) % 8) + (-3)) ∧ (isP (((k / 121) / 16) + (-3)) ((((k / 121) / 2) % 8) + (-3)) → (Q (some (vi 1)) ((2, f), mm_up (mm_up (mm_up (mm_up (mm_up (mm_up (mm_up S 108 3 ((k / 121) % 2)) 109 0 (((k / 121) / 16) + (-3))) 109 1 ((((k / 121) / 2) % 8) + (-3))) 108 5 0) 108 4 0) 111 0 0) 111 1 0, L, P))) ∧ (¬ isP (((k / 121) / 16) + (-3)) ((((k / 121) / 2) % 8) + (-3)) → (Q (some (vi 0)) ((2, f), mm_up (mm_up (mm_up (mm_up (mm_up (mm_up (mm_up S 108 3 ((k / 121) % 2)) 109 0 (((k / 121) / 16) + (-3))) 109 1 ((((k / 121) / 2) % 8) + (-3))) 108 5 0) 108 4 0) 111 0 0) 111 1 0, L, P))))) ∧ ((0 : Int) = 2 → (0 ≤ ((k % 121) - 1) ∧ ((k % 121) - 1) < 2147483648) ∧ ((R32 (((k / 121) / 16) + (-3)) ∧ R32 ((((k / 121) / 2) % 8) + (-3)) ∧ (isP (((k / 121) / 16) + (-3)) ((((k / 121) / 2) % 8) + (-3)) → (Q (some (vi 1)) ((2, f), mm_up (mm_up (mm_up (mm_up (mm_up (mm_up (mm_up S 108 3 ((k / 121) % 2)) 109 0 (((k / 121) / 16) + (-3))) 109 1 ((((k / 121) / 2) % 8) + (-3))) 108 5 0) 108 4 0) 111 0 0) 111 1 (((k % 121) - 1) % 10), L, P))) ∧ (¬ isP (((k / 121) / 16) + (-3)) ((((k / 121) / 2) % 8) + (-3)) → (Q (some (vi 0)) ((2, f), mm_up (mm_up (mm_up (mm_up (mm_up (mm_up (mm_up S 108 3 ((k / 121) % 2)) 109 0 (((k / 121) / 16) + (-3))) 109 1 ((((k / 121) / 2) % 8) + (-3))) 108 5 0) 108 4 0) 111 0 0) 111 1 (((k % 121) - 1) % 10), L, P)))))))) ∧ ((0 : Int) = 1 → (0 ≤ ((k % 121) - 1) ∧ ((k % 121) - 1) < 2147483648) ∧ (R32 0 ∧ ((¬ (0 : Int) = 2 → (R32 (((k / 121) / 16) + (-3)) ∧ R32 ((((k / 121) / 2) % 8) + (-3)) ∧ (isP (((k / 121) / 16) + (-3)) ((((k / 121) / 2) % 8) + (-3)) → (Q (some (vi 1)) ((2, f), mm_up (mm_up (mm_up (mm_up (mm_up (mm_up (mm_up S 108 3 ((k / 121) % 2)) 109 0 (((k / 121) / 16) + (-3))) 109 1 ((((k / 121) / 2) % 8) + (-3))) 108 5 0) 108 4 0) 111 0 (((k % 121) - 1) % 10)) 111 1 0, L, P))) ∧ (¬ isP (((k / 121) / 16) + (-3)) ((((k / 121) / 2) % 8) + (-3)) → (Q (some (vi 0)) ((2, f), mm_up (mm_up (mm_up (mm_up (mm_up (mm_up (mm_up S 108 3 ((k / 121) % 2)) 109 0 (((k / 121) / 16) + (-3))) 109 1 ((((k / 121) / 2) % 8) + (-3))) 108 5 0) 108 4 0) 111 0 (((k % 121) - 1) % 10)) 111 1 0, L, P))))) ∧ ((0 : Int) = 2 → (0 ≤ ((k % 121) - 1) ∧ ((k % 121) - 1) < 2147483648) ∧ ((R32 (((k / 121) / 16) + (-3)) ∧ R32 ((((k / 121) / 2) % 8) + (-3)) ∧ (isP (((k / 121) / 16) + (-3)) ((((k / 121) / 2) % 8) + (-3)) → (Q (some (vi 1)) ((2, f), mm_up (mm_up (mm_up (mm_up (mm_up (mm_up (mm_up S 108 3 ((k / 121) % 2)) 109 0 (((k / 121) / 16) + (-3))) 109 1 ((((k / 121) / 2) % 8) + (-3))) 108 5 0) 108 4 0) 111 0 (((k % 121) - 1) % 10)) 111 1 (((k % 121) - 1) % 10), L, P))) ∧ (¬ isP (((k / 121) / 16) + (-3)) ((((k / 121) / 2) % 8) + (-3)) → (Q (some (vi 0)) ((2, f), mm_up (mm_up (mm_up (mm_up (mm_up (mm_up (mm_up S 108 3 ((k / 121) % 2)) 109 0 (((k / 121) / 16) + (-3))) 109 1 ((((k / 121) / 2) % 8) + (-3))) 108 5 0) 108 4 0) 111 0 (((k % 121) - 1) % 10)) 111 1 (((k % 121) - 1) % 10), L, P))))))))))) ∧ ((0 : Int) = 2 → (0 ≤ (((k % 121) - 1) - 20) ∧ (((k % 121) - 1) - 20) < 2147483648) ∧ (R32 0 ∧ ((¬ (0 : Int) = 2 → (R32 (((k / 121) / 16) + (-3)) ∧ R32 ((((k / 121) / 2) % 8) + (-3)) ∧ (isP (((k / 121) / 16) + (-3)) ((((k / 121) / 2) % 8) + (-3)) → (Q (some (vi 1)) ((2, f), mm_up (mm_up (mm_up (mm_up (mm_up (mm_up (mm_up S 108 3 ((k / 121) % 2)) 109 0 (((k / 121) / 16) + (-3))) 109 1 ((((k / 121) / 2) % 8) + (-3))) 108 5 0) 108 4 0) 111 0 ((((k % 121) - 1) - 20) / 10)) 111 1 0, L, P))) ∧ (¬ isP (((k / 121) / 16) + (-3)) ((((k / 121) / 2) % 8) + (-3)) → (Q (some (vi 0)) ((2, f), mm_up (mm_up (mm_up (mm_up (mm_up (mm_up (mm_up S 108 3 ((k / 121) % 2)) 109 0 (((k / 121) / 16) + (-3))) 109 1 ((((k / 121) / 2) % 8) + (-3))) 108 5 0) 108 4 0) 111 0 ((((k % 121) - 1) - 20) / 10)) 111 1 0, L, P))))) ∧ ((0 : Int) = 2 → (0 ≤ ((k % 121) - 1) ∧ ((k % 121) - 1) < 2147483648) ∧ ((R32 (((k / 121) / 16) + (-3)) ∧ R32 ((((k / 121) / 2) % 8) + (-3)) ∧ (isP (((k / 121) / 16) + (-3)) ((((k / 121) / 2) % 8) + (-3)) → (Q (some (vi 1)) ((2, f), mm_up (mm_up (mm_up (mm_up (mm_up (mm_up (mm_up S 108 3 ((k / 121) % 2)) 109 0 (((k / 121) / 16) + (-3))) 109 1 ((((k / 121) / 2) % 8) + (-3))) 108 5 0) 108 4 0) 111 0 ((((k % 121) - 1) - 20) / 10)) 111 1 (((k % 121) - 1) % 10), L, P))) ∧ (¬ isP (((k / 121) / 16) + (-3)) ((((k / 121) / 2) % 8) + (-3)) → (Q (some (vi 0)) ((2, f), mm_up (mm_up (mm_up (mm_up (mm_up (mm_up (mm_up S 108 3 ((k / 121) % 2)) 109 0 (((k / 121) / 16) + (-3))) 109 1 ((((k / 121) / 2) % 8) + (-3))) 108 5 0) 108 4 0) 111 0 ((((k % 121) - 1) - 20) / 10)) 111 1 (((k % 121) - 1) % 10), L, P))))))))))))) ∧ (¬ (k % 121) ≤ 10 → R32 (k % 121) ∧ ((¬ (k % 121) = 0 → R32 (k % 121) ∧ ((20 < (k % 121) → R32 2 ∧ ((¬ (2 : Int) = 2 → R32 2 ∧ ((¬ (2 : Int) = 1 → R32 2 ∧ ((¬ (2 : Int) = 2 → (R32 (((k / 121) / 16) + (-3)) ∧ R32 ((((k / 121) / 2) % 8) + (-3)) ∧ (isP (((k / 121) / 16) + (-3)) ((((k / 121) / 2) % 8) + (-3)) → (Q (some (vi 1)) ((2, f), mm_up (mm_up (mm_up (mm_up (mm_up (mm_up (mm_up S 108 3 ((k / 121) % 2)) 109 0 (((k / 121) / 16) + (-3))) 109 1 ((((k / 121) / 2) % 8) + (-3))) 108 5 1) 108 4 2) 111 0 0) 111 1 0, L, P))) ∧ (¬ isP (((k / 121) / 16) + (-3)) ((((k / 121) / 2) % 8) + (-3)) → (Q (some (vi 0)) ((2, f), mm_up (mm_up (mm_up (mm_up (mm_up (mm_up (mm_up S 108 3 ((k / 121) % 2)) 109 0 (((k / 121) / 16) + (-3))) 109 1 ((((k / 121) / 2) % 8) + (-3))) 108 5 1) 108 4 2) 111 0 0) 111 1 0, L, P))))) ∧ ((2 : Int) = 2 → (0 ≤ ((k % 121) - 1) ∧ ((k % 121) - 1) < 2147483648) ∧ ((R32 (((k / 121) / 16) + (-3)) ∧ R32 ((((k / 121) / 2) % 8) + (-3)) ∧ (isP (((k / 121) / 16) + (-3)) ((((k / 121) / 2) % 8) + (-3)) → (Q (some (vi 1)) ((2, f), mm_up (mm_up (mm_up (mm_up (mm_up (mm_up (mm_up S 108 3 ((k / 121) % 2)) 109 0 (((k / 121) / 16) + (-3))) 109 1 ((((k / 121) / 2) % 8) + (-3))) 108 5 1) 108 4 2) 111 0 0) 111 1 (((k % 121) - 1) % 10), L, P))) ∧ (¬ isP (((k / 121) / 16) + (-3)) ((((k / 121) / 2) % 8) + (-3)) → (Q (some (vi 0)) ((2, f), mm_up (mm_up (mm_up (mm_up (mm_up (mm_up (mm_up S 108 3 ((k / 121) % 2)) 109 0 (((k / 121) / 16) + (-3))) 109 1 ((((k / 121) / 2) % 8) + (-3))) 108 5 1) 108 4 2) 111 0 0) 111 1 (((k % 121) - 1) % 10), L, P)))))))) ∧ ((2 : Int) = 1 → (0 ≤ ((k % 121) - 1) ∧ ((k % 121) - 1) < 2147483648) ∧ (R32 2 ∧ ((¬ (2 : Int) = 2 → (R32 (((k / 121) / 16) + (-3)) ∧ R32 ((((k / 121) / 2) % 8) + (-3)) ∧ (isP (((k / 121) / 16) + (-3)) ((((k / 121) / 2) % 8) + (-3)) → (Q (some (vi 1)) ((2, f), mm_up (mm_up (mm_up (mm_up (mm_up (mm_up (mm_up S 108 3 ((k / 121) % 2)) 109 0 (((k / 121) / 16) + (-3))) 109 1 ((((k / 121) / 2) % 8) + (-3))) 108 5 1) 108 4 2) 111 0 (((k % 121) - 1) % 10)) 111 1 0, L, P))) ∧ (¬ isP (((k / 121) / 16) + (-3)) ((((k / 121) / 2) % 8) + (-3)) → (Q (some (vi 0)) ((2, f), mm_up (mm_up (mm_up (mm_up (mm_up (mm_up (mm_up S 108 3 ((k / 121) % 2)) 109 0 (((k / 121) / 16) + (-3))) 109 1 ((((k / 121) / 2) % 8) + (-3))) 108 5 1) 108 4 2) 111 0 (((k % 121) - 1) % 10)) 111 1 0, L, P))))) ∧ ((2 : Int) = 2 → (0 ≤ ((k % 121) - 1) ∧ ((k % 121) - 1) < 2147483648) ∧ ((R32 (((k / 121) / 16) + (-3)) ∧ R32 ((((k / 121) / 2) % 8) + (-3)) ∧ (isP (((k / 121) / 16) + (-3)) ((((k / 121) / 2) % 8) + (-3)) → (Q (some (vi 1)) ((2, f), mm_up (mm_up (mm_up (mm_up (mm_up (mm_up (mm_up S 108 3 ((k / 121) % 2)) 109 0 (((k / 121) / 16) + (-3))) 109 1 ((((k / 121) / 2) % 8) + (-3))) 108 5 1) 108 4 2) 111 0 (((k % 121) - 1) % 10)) 111 1 (((k % 121) - 1) % 10), L, P))) ∧ (¬ isP (((k / 121) / 16) + (-3)) ((((k / 121) / 2) % 8) + (-3)) → (Q (some (vi 0)) ((2, f), mm_up (mm_up (mm_up (mm_up (mm_up (mm_up (mm_up S 108 3 ((k / 121) % 2)) 109 0 (((k / 121) / 16) + (-3))) 109 1 ((((k / 121) / 2) % 8) + (-3))) 108 5 1) 108 4 2) 111 0 (((k % 121) - 1) % 10)) 111 1 (((k % 121) - 1) % 10), L, P))))))))))) ∧ ((2 : Int) = 2 → (0 ≤ (((k % 121) - 1) - 20) ∧ (((k % 121) - 1) - 20) < 2147483648) ∧ (R32 2 ∧ ((¬ (2 : Int) = 2 → (R32 (((k / 121) / 16) + (-3)) ∧ R32 ((((k / 121) / 2) % 8) + (-3)) ∧ (isP (((k / 121) / 16) + (-3)) ((((k / 121) / 2) % 8) + (-3)) → (Q (some (vi 1)) ((2, f), mm_up (mm_up (mm_up (mm_up (mm_up (mm_up (mm_up S 108 3 ((k / 121) % 2)) 109 0 (((k / 121) / 16) + (-3))) 109 1 ((((k / 121) / 2) % 8) + (-3))) 108 5 1) 108 4 2) 111 0 ((((k % 121) - 1) - 20) / 10)) 111 1 0, L, P))) ∧ (¬ isP (((k / 121) / 16) + (-3)) ((((k / 121) / 2) % 8) + (-3)) → (Q (some (vi 0)) ((2, f), mm_up (mm_up (mm_up (mm_up (mm_up (mm_up (mm_up S 108 3 ((k / 121) % 2)) 109 0 (((k / 121) / 16) + (-3))) 109 1 ((((k / 121) / 2) % 8) + (-3))) 108 5 1) 108 4 2) 111 0 ((((k % 121) - 1) - 20) / 10)) 111 1 0, L, P))))) ∧ ((2 : Int) = 2 → (0 ≤ ((k % 121) - 1) ∧ ((k % 121) - 1) < 2147483648) ∧ ((R32 (((k / 121) / 16) + (-3)) ∧ R32 ((((k / 121) / 2) % 8) + (-3)) ∧ (isP (((k / 121) / 16) + (-3)) ((((k / 121) / 2) % 8) + (-3)) → (Q (some (vi 1)) ((2, f), mm_up (mm_up (mm_up (mm_up (mm_up (mm_up (mm_up S 108 3 ((k / 121) % 2)) 109 0 (((k / 121) / 16) + (-3))) 109 1 ((((k / 121) / 2) % 8) + (-3))) 108 5 1) 108 4 2) 111 0 ((((k % 121) - 1) - 20) / 10)) 111 1 (((k % 121) - 1) % 10), L, P))) ∧ (¬ isP (((k / 121) / 16) + (-3)) ((((k / 121) / 2) % 8) + (-3)) → (Q (some (vi 0)) ((2, f), mm_up (mm_up (mm_up (mm_up (mm_up (mm_up (mm_up S 108 3 ((k / 121) % 2)) 109 0 (((k / 121) / 16) + (-3))) 109 1 ((((k / 121) / 2) % 8) + (-3))) 108 5 1) 108 4 2) 111 0 ((((k % 121) - 1) - 20) / 10)) 111 1 (((k % 121) - 1) % 10), L, P))))))))))) ∧ (¬ 20 < (k % 121) → R32 1 ∧ ((¬ (1 : Int) = 2 → R32 1 ∧ ((¬ (1 : Int) = 1 → R32 1 ∧ ((¬ (1 : Int) = 2 → (R32 (((k / 121) / 16) + (-3)) ∧ R32 ((((k / 121) / 2) % 8) + (-3)) ∧ (isP (((k / 121) / 16) + (-3)) ((((k / 121) / 2) % 8) + (-3)) → (Q (some (vi 1)) ((2, f), mm_up (mm_up (mm_up (mm_up (mm_up (mm_up (mm_up S 108 3 ((k / 121) % 2)) 109 0 (((k / 121) / 16) + (-3))) 109 1 ((((k / 121) / 2) % 8) + (-3))) 108 5 1) 108 4 1) 111 0 0) 111 1 0, L, P))) ∧ (¬ isP (((k / 121) / 16) + (-3)) ((((k / 121) / 2) % 8) + (-3)) → (Q (some (vi 0)) ((2, f), mm_up (mm_up (mm_up (mm_up (mm_up (mm_up (mm_up S 108 3 ((k / 121) % 2)) 109 0 (((k / 121) / 16) + (-3))) 109 1 ((((k / 121) / 2) % 8) + (-3))) 108 5 1) 108 4 1) 111 0 0) 111 1 0, L, P))))) ∧ ((1 : Int) = 2 → (0 ≤ ((k % 121) - 1) ∧ ((k % 121) - 1) < 2147483648) ∧ ((R32 (((k / 121) / 16) + (-3)) ∧ R32 ((((k / 121) / 2) % 8) + (-3)) ∧ (isP (((k / 121) / 16) + (-3)) ((((k / 121) / 2) % 8) + (-3)) → (Q (some (vi 1)) ((2, f), mm_up (mm_up (mm_up (mm_up (mm_up (mm_up (mm_up S 108 3 ((k / 121) % 2)) 109 0 (((k / 121) / 16) + (-3))) 109 1 ((((k / 121) / 2) % 8) + (-3))) 108 5 1) 108 4 1) 111 0 0) 111 1 (((k % 121) - 1) % 10), L, P))) ∧ (¬ isP (((k / 121) / 16) + (-3)) ((((k / 121) / 2) % 8) + (-3)) → (Q (some (vi 0)) ((2, f), mm_up (mm_up (mm_up (mm_up (mm_up (mm_up (mm_up S 108 3 ((k / 121) % 2)) 109 0 (((k / 121) / 16) + (-3))) 109 1 ((((k / 121) / 2) % 8) + (-3))) 108 5 1) 108 4 1) 111 0 0) 111 1 (((k % 121) - 1) % 10), L, P)))))))) ∧ ((1 : Int) = 1 → (0 ≤ ((k % 121) - 1) ∧ ((k % 121) - 1) < 2147483648) ∧ (R32 1 ∧ ((¬ (1 : Int) = 2 → (R32 (((k / 121) / 16) + (-3)) ∧ R32 ((((k / 121) / 2) % 8) + (-3)) ∧ (isP (((k / 121) / 16) + (-3)) ((((k / 121) / 2) % 8) + (-3)) → (Q (some (vi 1)) ((2, f), mm_up (mm_up (mm_up (mm_up (mm_up (mm_up (mm_up S 108 3 ((k / 121) % 2)) 109 0 (((k / 121) / 16) + (-3))) 109 1 ((((k / 121) / 2) % 8) + (-3))) 108 5 1) 108 4 1) 111 0 (((k % 121) - 1) % 10)) 111 1 0, L, P))) ∧ (¬ isP (((k / 121) / 16) + (-3)) ((((k / 121) / 2) % 8) + (-3)) → (Q (some (vi 0)) ((2, f), mm_up (mm_up (mm_up (mm_up (mm_up (mm_up (mm_up S 108 3 ((k / 121) % 2)) 109 0 (((k / 121) / 16) + (-3))) 109 1 ((((k / 121) / 2) % 8) + (-3))) 108 5 1) 108 4 1) 111 0 (((k % 121) - 1) % 10)) 111 1 0, L, P))))) ∧ ((1 : Int) = 2 → (0 ≤ ((k % 121) - 1) ∧ ((k % 121) - 1) < 2147483648) ∧ ((R32 (((k / 121) / 16) + (-3)) ∧ R32 ((((k / 121) / 2) % 8) + (-3)) ∧ (isP (((k / 121) / 16) + (-3)) ((((k / 121) / 2) % 8) + (-3)) → (Q (some (vi 1)) ((2, f), mm_up (mm_up (mm_up (mm_up (mm_up (mm_up (mm_up S 108 3 ((k / 121) % 2)) 109 0 (((k / 121) / 16) + (-3))) 109 1 ((((k / 121) / 2) % 8) + (-3))) 108 5 1) 108 4 1) 111 0 (((k % 121) - 1) % 10)) 111 1 (((k % 121) - 1) % 10), L, P))) ∧ (¬ isP (((k / 121) / 16) + (-3)) ((((k / 121) / 2) % 8) + (-3)) → (Q (some (vi 0)) ((2, f), mm_up (mm_up (mm_up (mm_up (mm_up (mm_up (mm_up S 108 3 ((k / 121) % 2)) 109 0 (((k / 121) / 16) + (-3))) 109 1 ((((k / 121) / 2) % 8) + (-3))) 108 5 1) 108 4 1) 111 0 (((k % 121) - 1) % 10)) 111 1 (((k % 121) - 1) % 10), L, P))))))))))) ∧ ((1 : Int) = 2 → (0 ≤ (((k % 121) - 1) - 20) ∧ (((k % 121) - 1) - 20) < 2147483648) ∧ (R32 1 ∧ ((¬ (1 : Int) = 2 → (R32 (((k / 121) / 16) + (-3)) ∧ R32 ((((k / 121) / 2) % 8) + (-3)) ∧ (isP (((k / 121) / 16) + (-3)) ((((k / 121) / 2) % 8) + (-3)) → (Q (some (vi 1)) ((2, f), mm_up (mm_up (mm_up (mm_up (mm_up (mm_up (mm_up S 108 3 ((k / 121) % 2)) 109 0 (((k / 121) / 16) + (-3))) 109 1 ((((k / 121) / 2) % 8) + (-3))) 108 5 1) 108 4 1) 111 0 ((((k % 121) - 1) - 20) / 10)) 111 1 0, L, P))) ∧ (¬ isP (((k / 121) / 16) + (-3)) ((((k / 121) / 2) % 8) + (-3)) → (Q (some (vi 0)) ((2, f), mm_up (mm_up (mm_up (mm_up (mm_up (mm_up (mm_up S 108 3 ((k / 121) % 2)) 109 0 (((k / 121) / 16) + (-3))) 109 1 ((((k / 121) / 2) % 8) + (-3))) 108 5 1) 108 4 1) 111 0 ((((k % 121) - 1) - 20) / 10)) 111 1 0, L, P))))) ∧ ((1 : Int) = 2 → (0 ≤ ((k % 121) - 1) ∧ ((k % 121) - 1) < 2147483648) ∧ ((R32 (((k / 121) / 16) + (-3)) ∧ R32 ((((k / 121) / 2) % 8) + (-3)) ∧ (isP (((k / 121) / 16) + (-3)) ((((k / 121) / 2) % 8) + (-3)) → (Q (some (vi 1)) ((2, f), mm_up (mm_up (mm_up (mm_up (mm_up (mm_up (mm_up S 108 3 ((k / 121) % 2)) 109 0 (((k / 121) / 16) + (-3))) 109 1 ((((k / 121) / 2) % 8) + (-3))) 108 5 1) 108 4 1) 111 0 ((((k % 121) - 1) - 20) / 10)) 111 1 (((k % 121) - 1) % 10), L, P))) ∧ (¬ isP (((k / 121) / 16) + (-3)) ((((k / 121) / 2) % 8) + (-3)) → (Q (some (vi 0)) ((2, f), mm_up (mm_up (mm_up (mm_up (mm_up (mm_up (mm_up S 108 3 ((k / 121) % 2)) 109 0 (((k / 121) / 16) + (-3))) 109 1 ((((k / 121) / 2) % 8) + (-3))) 108 5 1) 108 4 1) 111 0 ((((k % 121) - 1) - 20) / 10)) 111 1 (((k % 121) - 1) % 10), L, P))))))))))))) ∧ ((k % 121) = 0 → R32 0 ∧ ((¬ (0 : Int) = 2 → R32 0 ∧ ((¬ (0 : Int) = 1 → R32 0 ∧ ((¬ (0 : Int) = 2 → (R32 (((k / 121) / 16) + (-3)) ∧ R32 ((((k / 121) / 2) % 8) + (-3)) ∧ (isP (((k / 121) / 16) + (-3)) ((((k / 121) / 2) % 8) + (-3)) → (Q (some (vi 1)) ((2, f), mm_up (mm_up (mm_up (mm_up (mm_up (mm_up (mm_up S 108 3 ((k / 121) % 2)) 109 0 (((k / 121) / 16) + (-3))) 109 1 ((((k / 121) / 2) % 8) + (-3))) 108 5 1) 108 4 0) 111 0 0) 111 1 0, L, P))) ∧ (¬ isP (((k / 121) / 16) + (-3)) ((((k / 121) / 2) % 8) + (-3)) → (Q (some (vi 0)) ((2, f), mm_up (mm_up (mm_up (mm_up (mm_up (mm_up (mm_up S 108 3 ((k / 121) % 2)) 109 0 (((k / 121) / 16) + (-3))) 109 1 ((((k / 121) / 2) % 8) + (-3))) 108 5 1) 108 4 0) 111 0 0) 111 1 0, L, P))))) ∧ ((0 : Int) = 2 → (0 ≤ ((k % 121) - 1) ∧ ((k % 121) - 1) < 2147483648) ∧ ((R32 (((k / 121) / 16) + (-3)) ∧ R32 ((((k / 121) / 2) % 8) + (-3)) ∧ (isP (((k / 121) / 16) + (-3)) ((((k / 121) / 2) % 8) + (-3)) → (Q (some (vi 1)) ((2, f), mm_up (mm_up (mm_up (mm_up (mm_up (mm_up (mm_up S 108 3 ((k / 121) % 2)) 109 0 (((k / 121) / 16) + (-3))) 109 1 ((((k / 121) / 2) % 8) + (-3))) 108 5 1) 108 4 0) 111 0 0) 111 1 (((k % 121) - 1) % 10), L, P))) ∧ (¬ isP (((k / 121) / 16) + (-3)) ((((k / 121) / 2) % 8) + (-3)) → (Q (some (vi 0)) ((2, f), mm_up (mm_up (mm_up (mm_up (mm_up (mm_up (mm_up S 108 3 ((k / 121) % 2)) 109 0 (((k / 121) / 16) + (-3))) 109 1 ((((k / 121) / 2) % 8) + (-3))) 108 5 1) 108 4 0) 111 0 0) 111 1 (((k % 121) - 1) % 10), L, P)))))))) ∧ ((0 : Int) = 1 → (0 ≤ ((k % 121) - 1) ∧ ((k % 121) - 1) < 2147483648) ∧ (R32 0 ∧ ((¬ (0 : Int) = 2 → (R32 (((k / 121) / 16) + (-3)) ∧ R32 ((((k / 121) / 2) % 8) + (-3)) ∧ (isP (((k / 121) / 16) + (-3)) ((((k / 121) / 2) % 8) + (-3)) → (Q (some (vi 1)) ((2, f), mm_up (mm_up (mm_up (mm_up (mm_up (mm_up (mm_up S 108 3 ((k / 121) % 2)) 109 0 (((k / 121) / 16) + (-3))) 109 1 ((((k / 121) / 2) % 8) + (-3))) 108 5 1) 108 4 0) 111 0 (((k % 121) - 1) % 10)) 111 1 0, L, P))) ∧ (¬ isP (((k / 121) / 16) + (-3)) ((((k / 121) / 2) % 8) + (-3)) → (Q (some (vi 0)) ((2, f), mm_up (mm_up (mm_up (mm_up (mm_up (mm_up (mm_up S 108 3 ((k / 121) % 2)) 109 0 (((k / 121) / 16) + (-3))) 109 1 ((((k / 121) / 2) % 8) + (-3))) 108 5 1) 108 4 0) 111 0 (((k % 121) - 1) % 10)) 111 1 0, L, P))))) ∧ ((0 : Int) = 2 → (0 ≤ ((k % 121) - 1) ∧ ((k % 121) - 1) < 2147483648) ∧ ((R32 (((k / 121) / 16) + (-3)) ∧ R32 ((((k / 121) / 2) % 8) + (-3)) ∧ (isP (((k / 121) / 16) + (-3)) ((((k / 121) / 2) % 8) + (-3)) → (Q (some (vi 1)) ((2, f), mm_up (mm_up (mm_up (mm_up (mm_up (mm_up (mm_up S 108 3 ((k / 121) % 2)) 109 0 (((k / 121) / 16) + (-3))) 109 1 ((((k / 121) / 2) % 8) + (-3))) 108 5 1) 108 4 0) 111 0 (((k % 121) - 1) % 10)) 111 1 (((k % 121) - 1) % 10), L, P))) ∧ (¬ isP (((k / 121) / 16) + (-3)) ((((k / 121) / 2) % 8) + (-3)) → (Q (some (vi 0)) ((2, f), mm_up (mm_up (mm_up (mm_up (mm_up (mm_up (mm_up S 108 3 ((k / 121) % 2)) 109 0 (((k / 121) / 16) + (-3))) 109 1 ((((k / 121) / 2) % 8) + (-3))) 108 5 1) 108 4 0) 111 0 (((k % 121) - 1) % 10)) 111 1 (((k % 121) - 1) % 10), L, P))))))))))) ∧ ((0 : Int) = 2 → (0 ≤ (((k % 121) - 1) - 20) ∧ (((k % 121) - 1) - 20) < 2147483648) ∧ (R32 0 ∧ ((¬ (0 : Int) = 2 → (R32 (((k / 121) / 16) + (-3)) ∧ R32 ((((k / 121) / 2) % 8) + (-3)) ∧ (isP (((k / 121) / 16) + (-3)) ((((k / 121) / 2) % 8) + (-3)) → (Q (some (vi 1)) ((2, f), mm_up (mm_up (mm_up (mm_up (mm_up (mm_up (mm_up S 108 3 ((k / 121) % 2)) 109 0 (((k / 121) / 16) + (-3))) 109 1 ((((k / 121) / 2) % 8) + (-3))) 108 5 1) 108 4 0) 111 0 ((((k % 121) - 1) - 20) / 10)) 111 1 0, L, P))) ∧ (¬ isP (((k / 121) / 16) + (-3)) ((((k / 121) / 2) % 8) + (-3)) → (Q (some (vi 0)) ((2, f), mm_up (mm_up (mm_up (mm_up (mm_up (mm_up (mm_up S 108 3 ((k / 121) % 2)) 109 0 (((k / 121) / 16) + (-3))) 109 1 ((((k / 121) / 2) % 8) + (-3))) 108 5 1) 108 4 0) 111 0 ((((k % 121) - 1) - 20) / 10)) 111 1 0, L, P))))) ∧ ((0 : Int) = 2 → (0 ≤ ((k % 121) - 1) ∧ ((k % 121) - 1) < 2147483648) ∧ ((R32 (((k / 121) / 16) + (-3)) ∧ R32 ((((k / 121) / 2) % 8) + (-3)) ∧ (isP (((k / 121) / 16) + (-3)) ((((k / 121) / 2) % 8) + (-3)) → (Q (some (vi 1)) ((2, f), mm_up (mm_up (mm_up (mm_up (mm_up (mm_up (mm_up S 108 3 ((k / 121) % 2)) 109 0 (((k / 121) / 16) + (-3))) 109 1 ((((k / 121) / 2) % 8) + (-3))) 108 5 1) 108 4 0) 111 0 ((((k % 121) - 1) - 20) / 10)) 111 1 (((k % 121) - 1) % 10), L, P))) ∧ (¬ isP (((k / 121) / 16) + (-3)) ((((k / 121) / 2) % 8) + (-3)) → (Q (some (vi 0)) ((2, f), mm_up (mm_up (mm_up (mm_up (mm_up (mm_up (mm_up S 108 3 ((k / 121) % 2)) 109 0 (((k / 121) / 16) + (-3))) 109 1 ((((k / 121) / 2) % 8) + (-3))) 108 5 1) 108 4 0) 111 0 ((((k % 121) - 1) - 20) / 10)) 111 1 (((k % 121) - 1) % 10), L, P))))))))))))))))))))))) : zz_J zpX3_is_108 (zz_ret Q X 0 0) 0 [some (vr 108), some (vi k), none] [] ((2, f), S, L, P) (0, 0) := zz_J.go [] 400 h

theorem zmX3_is_108 (l : Launch) (hl : l.stackTraces = false) : mm_Spec l yX3_is (ws_ yX3_is cX3_is 3 (some .boolean)) (mm_rm 3 0 0) (zE zX3_is_108) := by
  refine zz_Met.J hl (by decide) (fun C G hnh => ztX3_is_108 G hnh) ?_
  rintro as ⟨⟨t_, f⟩, S, L, P⟩ Q X h
  unfold zX3_is_108 at h
  split at h
  rotate_left
  · exact h.elim
  rename_i h_ k
  obtain ⟨e1_, e2_, h⟩ := mm_and2 h (fun q => q)
  cases mm_beq e1_
  cases mm_beq e2_
  try dsimp only at h
  refine ⟨rfl, ?_⟩
  obtain ⟨hk, q1, q2⟩ := h
  have hP := isP_cb hk.1 hk.2
  have key : ∀ T : Nat → Nat → Int, T = cxW S 108 (isX (cx S 108) k) → ∀ a b : Int, a = k / 1936 - 3 → b = k / 242 % 8 - 3 → (isP a b → Q (some (vi 1)) ((2, f), T, L, P)) ∧ (¬ isP a b → Q (some (vi 0)) ((2, f), T, L, P)) := by
    intro T e a b ea eb
    rw [e, ea, eb]
    refine ⟨fun c => q1 (hP.mp c), fun c => q2 ?_⟩
    cases hc : cbR k with
    | false => rfl
    | true => exact absurd (hP.mpr hc) c
  have mem : ∀ a0 a1 a2 a3 a4 a5 a6 : Int, a0 = k / 1936 - 3 → a1 = k / 242 % 8 - 3 → a2 = k / 121 % 2 → a3 = (if k % 121 = 0 then 0 else if k % 121 < 21 then 1 else 2) → a4 = (if k % 121 = 0 then 0 else if k % 121 < 11 then k % 121 - 1 else if k % 121 < 21 then k % 121 - 11 else (k % 121 - 21) / 10) → a5 = (if k % 121 < 21 then 0 else (k % 121 - 21) % 10) → a6 = (if 10 < k % 121 then 1 else 0) → mm_up (mm_up (mm_up (mm_up (mm_up (mm_up (mm_up S 108 3 a2) 109 0 a0) 109 1 a1) 108 5 a6) 108 4 a3) 111 0 a4) 111 1 a5 = cxW S 108 (isX (cx S 108) k) := by
    intro a0 a1 a2 a3 a4 a5 a6 h0 h1 h2 h3 h4 h5 h6
    have e : isX (cx S 108) k = ru (ru (ru (ru (ru (ru (ru (cx S 108) 2 a2) 0 a0) 1 a1) 6 a6) 3 a3) 4 a4) 5 a5 := by
      funext j
      rw [h0, h1, h2, h3, h4, h5, h6]
      unfold isX unR ru
      by_cases j9 : 9 ≤ j
      · have := cx_9 S 108 j j9
        grind
      · grind
    rw [e]
    exact ((((((congrArg (fun T => mm_up (mm_up (mm_up (mm_up (mm_up (mm_up T 109 0 a0) 109 1 a1) 108 5 a6) 108 4 a3) 111 0 a4) 111 1 a5) (cxW_i2 S 108 a2)).trans (congrArg (fun T => mm_up (mm_up (mm_up (mm_up (mm_up T 109 1 a1) 108 5 a6) 108 4 a3) 111 0 a4) 111 1 a5) (cxW_0 S 108 _ _))).trans (congrArg (fun T => mm_up (mm_up (mm_up (mm_up T 108 5 a6) 108 4 a3) 111 0 a4) 111 1 a5) (cxW_1 S 108 _ _))).trans (congrArg (fun T => mm_up (mm_up (mm_up T 108 4 a3) 111 0 a4) 111 1 a5) (cxW_6 S 108 _ _))).trans (congrArg (fun T => mm_up (mm_up T 111 0 a4) 111 1 a5) (cxW_3 S 108 _ _))).trans (congrArg (fun T => mm_up T 111 1 a5) (cxW_4 S 108 _ _))).trans (cxW_5 S 108 _ _)
  refine zwX3_is_108_0 ?_
  (repeat' (first | omega | exact key _ (mem _ _ _ _ _ _ _ (by omega) (by omega) (by omega) (by (repeat' split) <;> omega) (by (repeat' split) <;> omega) (by (repeat' split) <;> omega) (by (repeat' split) <;> omega)) _ _ (by omega) (by omega) | apply And.intro | intro _)) <;> omega
def zX3_stands_112 : zz_Sp := fun as M Q X => match as with
  | [.inr (.inr (some h_)), .inl k] => bif Nat.beq h_ 112 && Nat.beq M.1.1 2 then ((0 ≤ k ∧ k ≤ 9) ∧ scb (cx M.2.1 112) ∧ (cx M.2.1 112 6 = 0 ∨ cx M.2.1 112 6 = 1) ∧ Q (some (vi (tdR (cx M.2.1 112) k))) ((2, M.1.2), M.2.1, M.2.2.1, M.2.2.2)) else False
  | _ => False

def zpX3_stands_112 : zz_P := [(0, zo_ild 1 1), (1, zo_sw false [(0, 52), (1, 52), (2, 59), (3, 64), (4, 69), (5, 69), (6, 92), (7, 105), (8, 105)] 115), (52, zo_ald 53 0), (53, zo_get 56 2 2 0), (56, zo_ild 57 1), (57, zo_iald 58), (58, zo_iret), (59, zo_ald 60 0), (60, zo_get 63 2 0 3), (63, zo_iret), (64, zo_ald 65 0), (65, zo_get 68 2 0 4), (68, zo_iret), (69, zo_ild 70 1), (70, zo_c 71 (vi 4)), (71, zo_isub 72), (72, zo_ald 73 0), (73, zo_get 76 2 0 4), (76, zo_cge false false 79 90), (79, zo_ald 80 0), (80, zo_get 83 2 2 2), (83, zo_ild 84 1), (84, zo_c 85 (vi 4)), (85, zo_isub 86), (86, zo_iald 87), (87, zo_goto 91), (90, zo_c 91 (vi (-1))), (91, zo_iret), (92, zo_ald 93 0), (93, zo_get 96 2 0 5), (96, zo_ifeq false 99 103), (99, zo_c 100 (vi 1)), (100, zo_goto 104), (103, zo_c 104 (vi 0)), (104, zo_iret), (105, zo_ald 106 0), (106, zo_get 109 2 2 1), (109, zo_ild 110 1), (110, zo_c 112 (vi 7)), (112, zo_isub 113), (113, zo_iald 114), (114, zo_iret), (115, zo_ald 116 0), (116, zo_callv 119 1 2 zX3_isPointOfGame_112), (119, zo_zifeq 122 126), (122, zo_c 123 (vi 1)), (123, zo_goto 127), (126, zo_c 127 (vi 0)), (127, zo_iret)]
theorem ztX3_stands_112 {C : mm_C} (G : mm_G C RX3 cX3_stands (some .int) 2 (mm_rm 3 0 0)) (hnh : mm_nh C) : zz_OKs C zpX3_stands_112 :=
  ⟨zz_of (ok_iload_n G dX3_stands_0 rfl rfl) (z_ild _ _),
   zz_of (ok_tsw G (l := [(0, 52), (1, 52), (2, 59), (3, 64), (4, 69), (5, 69), (6, 92), (7, 105), (8, 105)]) (d := 115) dX3_stands_1 (mm_tswo (by decide) (by decide +kernel)) (mm_tswi (by decide +kernel))) (z_sw _ _ _),
   zz_of (ok_aload_n G dX3_stands_52 rfl rfl) (z_ald _ _),
   zz_of (ok_get G (nx := 56) (ci := 2) (kd := 2) (k := 0) (RX3, TX3, 7) rfl (by decide) rfl q176 dX3_stands_53 rfl) (z_get _ _ _ _),
   zz_of (ok_iload_n G dX3_stands_56 rfl rfl) (z_ild _ _),
   zz_of (ok_iald G dX3_stands_57 rfl) (z_iald _),
   zz_of (ok_iret G dX3_stands_58) (z_iret),
   zz_of (ok_aload_n G dX3_stands_59 rfl rfl) (z_ald _ _),
   zz_of (ok_get G (nx := 63) (ci := 2) (kd := 0) (k := 3) (RX3, TX3, 7) rfl (by decide) rfl q187 dX3_stands_60 rfl) (z_get _ _ _ _),
   zz_of (ok_iret G dX3_stands_63) (z_iret),
   zz_of (ok_aload_n G dX3_stands_64 rfl rfl) (z_ald _ _),
   zz_of (ok_get G (nx := 68) (ci := 2) (kd := 0) (k := 4) (RX3, TX3, 7) rfl (by decide) rfl q190 dX3_stands_65 rfl) (z_get _ _ _ _),
   zz_of (ok_iret G dX3_stands_68) (z_iret),
   zz_of (ok_iload_n G dX3_stands_69 rfl rfl) (z_ild _ _),
   zz_of (ok_iconst G (v := 4) dX3_stands_70 (by decide) rfl) (z_cn 71 4),
   zz_of (ok_isub G dX3_stands_71 rfl) (z_isub _),
   zz_of (ok_aload_n G dX3_stands_72 rfl rfl) (z_ald _ _),
   zz_of (ok_get G (nx := 76) (ci := 2) (kd := 0) (k := 4) (RX3, TX3, 7) rfl (by decide) rfl q190 dX3_stands_73 rfl) (z_get _ _ _ _),
   zz_of (ok_cge G dX3_stands_76 rfl rfl) (z_cge _ _ _ _),
   zz_of (ok_aload_n G dX3_stands_79 rfl rfl) (z_ald _ _),
   zz_of (ok_get G (nx := 83) (ci := 2) (kd := 2) (k := 2) (RX3, TX3, 7) rfl (by decide) rfl q184 dX3_stands_80 rfl) (z_get _ _ _ _),
   zz_of (ok_iload_n G dX3_stands_83 rfl rfl) (z_ild _ _),
   zz_of (ok_iconst G (v := 4) dX3_stands_84 (by decide) rfl) (z_cn 85 4),
   zz_of (ok_isub G dX3_stands_85 rfl) (z_isub _),
   zz_of (ok_iald G dX3_stands_86 rfl) (z_iald _),
   zz_of (ok_goto G dX3_stands_87 rfl) (z_goto _),
   zz_of (ok_iconst G (v := (zI (-1))) dX3_stands_90 (by decide) rfl) (z_cz 91 (-1)),
   zz_of (ok_iret G dX3_stands_91) (z_iret),
   zz_of (ok_aload_n G dX3_stands_92 rfl rfl) (z_ald _ _),
   zz_of (ok_get G (nx := 96) (ci := 2) (kd := 0) (k := 5) (RX3, TX3, 7) rfl (by decide) rfl q194 dX3_stands_93 rfl) (z_get _ _ _ _),
   zz_of (ok_ifeq G dX3_stands_96 rfl rfl) (z_ifeq _ _ _),
   zz_of (ok_iconst G (v := 1) dX3_stands_99 (by decide) rfl) (z_cn 100 1),
   zz_of (ok_goto G dX3_stands_100 rfl) (z_goto _),
   zz_of (ok_iconst G (v := 0) dX3_stands_103 (by decide) rfl) (z_cn 104 0),
   zz_of (ok_iret G dX3_stands_104) (z_iret),
   zz_of (ok_aload_n G dX3_stands_105 rfl rfl) (z_ald _ _),
   zz_of (ok_get G (nx := 109) (ci := 2) (kd := 2) (k := 1) (RX3, TX3, 7) rfl (by decide) rfl q180 dX3_stands_106 rfl) (z_get _ _ _ _),
   zz_of (ok_iload_n G dX3_stands_109 rfl rfl) (z_ild _ _),
   zz_of (ok_bipush G (v := 7) dX3_stands_110 (by decide) rfl) (z_cn 112 7),
   zz_of (ok_isub G dX3_stands_112 rfl) (z_isub _),
   zz_of (ok_iald G dX3_stands_113 rfl) (z_iald _),
   zz_of (ok_iret G dX3_stands_114) (z_iret),
   zz_of (ok_aload_n G dX3_stands_115 rfl rfl) (z_ald _ _),
   zz_of (ok_callv G hnh (zmX3_isPointOfGame_112 _ G.hst) rfl rfl (RX3, TX3, 7) rfl q1502 q1503 q1504 q87 q1505 (by decide +kernel) ⟨by decide, by decide⟩ dX3_stands_116 rfl) (z_callv _ _ _ _),
   zz_of (ok_ifeq G dX3_stands_119 rfl rfl) (z_zifeq _ _),
   zz_of (ok_iconst G (v := 1) dX3_stands_122 (by decide) rfl) (z_cn 123 1),
   zz_of (ok_goto G dX3_stands_123 rfl) (z_goto _),
   zz_of (ok_iconst G (v := 0) dX3_stands_126 (by decide) rfl) (z_cn 127 0),
   zz_of (ok_iret G dX3_stands_127) (z_iret), trivial⟩

theorem zwX3_stands_112_0 {Q : Option zv → zz_M → Prop} {X : Nat → zz_M → Prop} {f : Nat → Nat × Nat} {S L : Nat → Nat → Int} {P : Nat → Nat → Option Nat} {k : Int} (h : R32 k ∧ ((k = 0 → (0 ≤ k ∧ k < 2) ∧ (Q (some (vi (S 113 k.toNat))) ((2, f), S, L, P))) ∧ (k ≠ 0 → (k = 1 → (0 ≤ k ∧ k < 2) ∧ (Q (some (vi (S 113 k.toNat))) ((2, f), S, L, P))) ∧ (k ≠ 1 → (k = 2 → Q (some (vi (S 112 3))) ((2, f), S, L, P)) ∧ (k ≠ 2 → (k = 3 → Q (some (vi (S 112 4))) ((2, f), S, L, P)) ∧ (k ≠ 3 → (k = 4 → R32 (k - 4) ∧ (R32 (S 112 4) ∧ (((S 112 4) ≤ (k - 4) → Q (some (vi (-1))) ((2, f), S, L, P)) ∧ (¬ (S 112 4) ≤ (k - 4) → (0 ≤ (k - 4) ∧ (k - 4) < 2) ∧ (Q (some (vi (S 115 ((k - 4).toNat)))) ((2, f), S, L, P)))))) ∧ (k ≠ 4 → (k = 5 → R32 (k - 4) ∧ (R32 (S 112 4) ∧ (((S 112 4) ≤ (k - 4) → Q (some (vi (-1))) ((2, f), S, L, P)) ∧ (¬ (S 112 4) ≤ (k - 4) → (0 ≤ (k - 4) ∧ (k - 4) < 2) ∧ (Q (some (vi (S 115 ((k - 4).toNat)))) ((2, f), S, L, P)))))) ∧ (k ≠ 5 → (k = 6 → R32 (S 112 5) ∧ (((S 112 5) = 0 → Q (some (vi 0)) ((2, f), S, L, P)) ∧ (¬ (S 112 5) = 0 → Q (some (vi 1)) ((2, f), S, L, P)))) ∧ (k ≠ 6 → (k = 7 → (0 ≤ (k - 7) ∧ (k - 7) < 2) ∧ (Q (some (vi (S 114 ((k - 7).toNat)))) ((2, f), S, L, P))) ∧ (k ≠ 7 → (k = 8 → (0 ≤ (k - 7) ∧ (k - 7) < 2) ∧ (Q (some (vi (S 114 ((k - 7).toNat)))) ((2, f), S, L, P))) ∧ (k ≠ 8 → (scc (cx S 112) ∧ ((wW (cx S 112) 0 || wW (cx S 112) 1) = true → (Q (some (vi 1)) ((2, f), S, L, P))) ∧ ((wW (cx S 112) 0 || wW (cx S 112) 1) = false → (Q (some (vi 0)) ((2, f), S, L, P))))))))))))))) : zz_J zpX3_stands_112 (zz_ret Q X 0 0) 0 [some (vr 112), some (vi k)] [] ((2, f), S, L, P) (0, 0) := zz_J.go [] 400 h

theorem zmX3_stands_112 (l : Launch) (hl : l.stackTraces = false) : mm_Spec l yX3_stands (ws_ yX3_stands cX3_stands 2 (some .int)) (mm_rm 3 0 0) (zE zX3_stands_112) := by
  refine zz_Met.J hl (by decide) (fun C G hnh => ztX3_stands_112 G hnh) ?_
  rintro as ⟨⟨t_, f⟩, S, L, P⟩ Q X h
  unfold zX3_stands_112 at h
  split at h
  rotate_left
  · exact h.elim
  rename_i h_ k
  obtain ⟨e1_, e2_, h⟩ := mm_and2 h (fun q => q)
  cases mm_beq e1_
  cases mm_beq e2_
  try dsimp only at h
  refine ⟨rfl, ?_⟩
  obtain ⟨hk, hb, h6, hq⟩ := h
  have e3 : cx S 112 3 = S 112 4 := rfl
  have e6 : cx S 112 6 = S 112 5 := rfl
  have b3 := hb 3
  rw [e6] at h6
  rw [e3] at b3
  refine zwX3_stands_112_0 ?_
  have kr : ∀ v : Int, v = tdR (cx S 112) k → Q (some (vi v)) ((2, f), S, L, P) := fun v e => by rw [e]; exact hq
  have hk10 : k = 0 ∨ k = 1 ∨ k = 2 ∨ k = 3 ∨ k = 4 ∨ k = 5 ∨ k = 6 ∨ k = 7 ∨ k = 8 ∨ k = 9 := by omega
  rcases hk10 with e | e | e | e | e | e | e | e | e | e <;> subst e
  · (repeat' (first | omega | exact kr _ rfl | apply And.intro | intro _)) <;> omega
  · (repeat' (first | omega | exact kr _ rfl | apply And.intro | intro _)) <;> omega
  · (repeat' (first | omega | exact kr _ rfl | apply And.intro | intro _)) <;> omega
  · (repeat' (first | omega | exact kr _ rfl | apply And.intro | intro _)) <;> omega
  · have : tdR (cx S 112) 4 = if 0 < S 112 4 then S 115 0 else -1 := rfl
    rw [this] at kr
    (repeat' (first | omega | exact kr _ (by rw [if_pos (by omega)]; rfl) | exact kr _ (by rw [if_neg (by omega)]) | apply And.intro | intro _)) <;> omega
  · have : tdR (cx S 112) 5 = if 1 < S 112 4 then S 115 1 else -1 := rfl
    rw [this] at kr
    (repeat' (first | omega | exact kr _ (by rw [if_pos (by omega)]; rfl) | exact kr _ (by rw [if_neg (by omega)]) | apply And.intro | intro _)) <;> omega
  · have : tdR (cx S 112) 6 = S 112 5 := rfl
    rw [this] at kr
    (repeat' (first | omega | exact kr _ (by omega) | apply And.intro | intro _)) <;> omega
  · (repeat' (first | omega | exact kr _ rfl | apply And.intro | intro _)) <;> omega
  · (repeat' (first | omega | exact kr _ rfl | apply And.intro | intro _)) <;> omega
  · have : tdR (cx S 112) 9 = if (wW (cx S 112) 0 || wW (cx S 112) 1) = true then 1 else 0 := rfl
    rw [this] at kr
    (repeat' (first | omega | exact hb.c | exact kr _ (by simp [*]) | apply And.intro | intro _)) <;> omega
def zX3_code_112 : zz_Sp := fun as M Q X => match as with
  | [.inr (.inr (some h_))] => bif Nat.beq h_ 112 && Nat.beq M.1.1 2 then (scV (cx M.2.1 112) ∧ Q (some (vi (nuR (cx M.2.1 112)))) ((2, M.1.2), M.2.1, M.2.2.1, M.2.2.2)) else False
  | _ => False

def zpX3_code_112 : zz_P := [(0, zo_ald 1 0), (1, zo_get 4 2 0 4), (4, zo_ifne false 7 11), (7, zo_c 8 (vi 0)), (8, zo_goto 68), (11, zo_ald 12 0), (12, zo_get 15 2 0 5), (15, zo_ifne false 18 29), (18, zo_c 19 (vi 1)), (19, zo_ald 20 0), (20, zo_get 23 2 2 2), (23, zo_c 24 (vi 0)), (24, zo_ialc 25 0), (25, zo_iadd 26), (26, zo_goto 68), (29, zo_ald 30 0), (30, zo_get 33 2 0 4), (33, zo_c 34 (vi 1)), (34, zo_cne false true 37 49), (37, zo_c 39 (vi 11)), (39, zo_ald 40 0), (40, zo_get 43 2 2 2), (43, zo_c 44 (vi 0)), (44, zo_ialc 45 0), (45, zo_iadd 46), (46, zo_goto 68), (49, zo_c 51 (vi 21)), (51, zo_c 53 (vi 10)), (53, zo_ald 54 0), (54, zo_get 57 2 2 2), (57, zo_c 58 (vi 0)), (58, zo_ialc 59 0), (59, zo_imul 60), (60, zo_iadd 61), (61, zo_ald 62 0), (62, zo_get 65 2 2 2), (65, zo_c 66 (vi 1)), (66, zo_ialc 67 1), (67, zo_iadd 68), (68, zo_ist 69 1), (69, zo_c 71 (vi 8)), (71, zo_ald 72 0), (72, zo_get 75 2 2 0), (75, zo_c 76 (vi 0)), (76, zo_ialc 77 0), (77, zo_c 79 (vi (-3))), (79, zo_isub 80), (80, zo_imul 81), (81, zo_ald 82 0), (82, zo_get 85 2 2 0), (85, zo_c 86 (vi 1)), (86, zo_ialc 87 1), (87, zo_iadd 88), (88, zo_c 90 (vi (-3))), (90, zo_isub 91), (91, zo_c 92 (vi 2)), (92, zo_imul 93), (93, zo_ald 94 0), (94, zo_get 97 2 0 3), (97, zo_iadd 98), (98, zo_c 100 (vi 121)), (100, zo_imul 101), (101, zo_ild 102 1), (102, zo_iadd 103), (103, zo_iret)]
theorem ztX3_code_112 {C : mm_C} (G : mm_G C RX3 cX3_code (some .int) 2 (mm_rm 1 0 0)) (hnh : mm_nh C) : zz_OKs C zpX3_code_112 :=
  ⟨zz_of (ok_aload_n G dX3_code_0 rfl rfl) (z_ald _ _),
   zz_of (ok_get G (nx := 4) (ci := 2) (kd := 0) (k := 4) (RX3, TX3, 7) rfl (by decide) rfl q190 dX3_code_1 rfl) (z_get _ _ _ _),
   zz_of (ok_ifne G dX3_code_4 rfl rfl) (z_ifne _ _ _),
   zz_of (ok_iconst G (v := 0) dX3_code_7 (by decide) rfl) (z_cn 8 0),
   zz_of (ok_goto G dX3_code_8 rfl) (z_goto _),
   zz_of (ok_aload_n G dX3_code_11 rfl rfl) (z_ald _ _),
   zz_of (ok_get G (nx := 15) (ci := 2) (kd := 0) (k := 5) (RX3, TX3, 7) rfl (by decide) rfl q194 dX3_code_12 rfl) (z_get _ _ _ _),
   zz_of (ok_ifne G dX3_code_15 rfl rfl) (z_ifne _ _ _),
   zz_of (ok_iconst G (v := 1) dX3_code_18 (by decide) rfl) (z_cn 19 1),
   zz_of (ok_aload_n G dX3_code_19 rfl rfl) (z_ald _ _),
   zz_of (ok_get G (nx := 23) (ci := 2) (kd := 2) (k := 2) (RX3, TX3, 7) rfl (by decide) rfl q184 dX3_code_20 rfl) (z_get _ _ _ _),
   zz_of (ok_iconst G (v := 0) dX3_code_23 (by decide) rfl) (z_cn 24 0),
   zz_of (ok_iald G dX3_code_24 rfl) (z_ialc _ _),
   zz_of (ok_iadd G dX3_code_25 rfl) (z_iadd _),
   zz_of (ok_goto G dX3_code_26 rfl) (z_goto _),
   zz_of (ok_aload_n G dX3_code_29 rfl rfl) (z_ald _ _),
   zz_of (ok_get G (nx := 33) (ci := 2) (kd := 0) (k := 4) (RX3, TX3, 7) rfl (by decide) rfl q190 dX3_code_30 rfl) (z_get _ _ _ _),
   zz_of (ok_iconst G (v := 1) dX3_code_33 (by decide) rfl) (z_cn 34 1),
   zz_of (ok_cne G dX3_code_34 rfl rfl) (z_cne _ _ _ _),
   zz_of (ok_bipush G (v := 11) dX3_code_37 (by decide) rfl) (z_cn 39 11),
   zz_of (ok_aload_n G dX3_code_39 rfl rfl) (z_ald _ _),
   zz_of (ok_get G (nx := 43) (ci := 2) (kd := 2) (k := 2) (RX3, TX3, 7) rfl (by decide) rfl q184 dX3_code_40 rfl) (z_get _ _ _ _),
   zz_of (ok_iconst G (v := 0) dX3_code_43 (by decide) rfl) (z_cn 44 0),
   zz_of (ok_iald G dX3_code_44 rfl) (z_ialc _ _),
   zz_of (ok_iadd G dX3_code_45 rfl) (z_iadd _),
   zz_of (ok_goto G dX3_code_46 rfl) (z_goto _),
   zz_of (ok_bipush G (v := 21) dX3_code_49 (by decide) rfl) (z_cn 51 21),
   zz_of (ok_bipush G (v := 10) dX3_code_51 (by decide) rfl) (z_cn 53 10),
   zz_of (ok_aload_n G dX3_code_53 rfl rfl) (z_ald _ _),
   zz_of (ok_get G (nx := 57) (ci := 2) (kd := 2) (k := 2) (RX3, TX3, 7) rfl (by decide) rfl q184 dX3_code_54 rfl) (z_get _ _ _ _),
   zz_of (ok_iconst G (v := 0) dX3_code_57 (by decide) rfl) (z_cn 58 0),
   zz_of (ok_iald G dX3_code_58 rfl) (z_ialc _ _),
   zz_of (ok_imul G dX3_code_59 rfl) (z_imul _),
   zz_of (ok_iadd G dX3_code_60 rfl) (z_iadd _),
   zz_of (ok_aload_n G dX3_code_61 rfl rfl) (z_ald _ _),
   zz_of (ok_get G (nx := 65) (ci := 2) (kd := 2) (k := 2) (RX3, TX3, 7) rfl (by decide) rfl q184 dX3_code_62 rfl) (z_get _ _ _ _),
   zz_of (ok_iconst G (v := 1) dX3_code_65 (by decide) rfl) (z_cn 66 1),
   zz_of (ok_iald G dX3_code_66 rfl) (z_ialc _ _),
   zz_of (ok_iadd G dX3_code_67 rfl) (z_iadd _),
   zz_of (ok_istore_n G dX3_code_68 rfl rfl (by decide)) (z_ist _ _),
   zz_of (ok_bipush G (v := 8) dX3_code_69 (by decide) rfl) (z_cn 71 8),
   zz_of (ok_aload_n G dX3_code_71 rfl rfl) (z_ald _ _),
   zz_of (ok_get G (nx := 75) (ci := 2) (kd := 2) (k := 0) (RX3, TX3, 7) rfl (by decide) rfl q176 dX3_code_72 rfl) (z_get _ _ _ _),
   zz_of (ok_iconst G (v := 0) dX3_code_75 (by decide) rfl) (z_cn 76 0),
   zz_of (ok_iald G dX3_code_76 rfl) (z_ialc _ _),
   zz_of (ok_bipush G (v := (zI (-3))) dX3_code_77 (by decide) rfl) (z_cz 79 (-3)),
   zz_of (ok_isub G dX3_code_79 rfl) (z_isub _),
   zz_of (ok_imul G dX3_code_80 rfl) (z_imul _),
   zz_of (ok_aload_n G dX3_code_81 rfl rfl) (z_ald _ _),
   zz_of (ok_get G (nx := 85) (ci := 2) (kd := 2) (k := 0) (RX3, TX3, 7) rfl (by decide) rfl q176 dX3_code_82 rfl) (z_get _ _ _ _),
   zz_of (ok_iconst G (v := 1) dX3_code_85 (by decide) rfl) (z_cn 86 1),
   zz_of (ok_iald G dX3_code_86 rfl) (z_ialc _ _),
   zz_of (ok_iadd G dX3_code_87 rfl) (z_iadd _),
   zz_of (ok_bipush G (v := (zI (-3))) dX3_code_88 (by decide) rfl) (z_cz 90 (-3)),
   zz_of (ok_isub G dX3_code_90 rfl) (z_isub _),
   zz_of (ok_iconst G (v := 2) dX3_code_91 (by decide) rfl) (z_cn 92 2),
   zz_of (ok_imul G dX3_code_92 rfl) (z_imul _),
   zz_of (ok_aload_n G dX3_code_93 rfl rfl) (z_ald _ _),
   zz_of (ok_get G (nx := 97) (ci := 2) (kd := 0) (k := 3) (RX3, TX3, 7) rfl (by decide) rfl q187 dX3_code_94 rfl) (z_get _ _ _ _),
   zz_of (ok_iadd G dX3_code_97 rfl) (z_iadd _),
   zz_of (ok_bipush G (v := 121) dX3_code_98 (by decide) rfl) (z_cn 100 121),
   zz_of (ok_imul G dX3_code_100 rfl) (z_imul _),
   zz_of (ok_iload_n G dX3_code_101 rfl rfl) (z_ild _ _),
   zz_of (ok_iadd G dX3_code_102 rfl) (z_iadd _),
   zz_of (ok_iret G dX3_code_103) (z_iret), trivial⟩

theorem zwX3_code_112_0 {Q : Option zv → zz_M → Prop} {X : Nat → zz_M → Prop} {f : Nat → Nat × Nat} {S L : Nat → Nat → Int} {P : Nat → Nat → Option Nat}  (h : R32 (S 112 4) ∧ ((¬ (S 112 4) = 0 → R32 (S 112 5) ∧ ((¬ (S 112 5) = 0 → R32 (S 112 4) ∧ ((¬ (S 112 4) = 1 → Q (some (vi (((((((8 * ((S 113 0) - (-3))) + (S 113 1)) - (-3)) * 2) + (S 112 3)) * 121) + ((21 + (10 * (S 115 0))) + (S 115 1))))) ((2, f), S, L, P)) ∧ ((S 112 4) = 1 → Q (some (vi (((((((8 * ((S 113 0) - (-3))) + (S 113 1)) - (-3)) * 2) + (S 112 3)) * 121) + (11 + (S 115 0))))) ((2, f), S, L, P)))) ∧ ((S 112 5) = 0 → Q (some (vi (((((((8 * ((S 113 0) - (-3))) + (S 113 1)) - (-3)) * 2) + (S 112 3)) * 121) + (1 + (S 115 0))))) ((2, f), S, L, P)))) ∧ ((S 112 4) = 0 → Q (some (vi (((((((8 * ((S 113 0) - (-3))) + (S 113 1)) - (-3)) * 2) + (S 112 3)) * 121) + 0))) ((2, f), S, L, P)))) : zz_J zpX3_code_112 (zz_ret Q X 0 0) 0 [some (vr 112), none] [] ((2, f), S, L, P) (0, 0) := zz_J.go [] 400 h

theorem zmX3_code_112 (l : Launch) (hl : l.stackTraces = false) : mm_Spec l yX3_code (ws_ yX3_code cX3_code 2 (some .int)) (mm_rm 1 0 0) (zE zX3_code_112) := by
  refine zz_Met.J hl (by decide) (fun C G hnh => ztX3_code_112 G hnh) ?_
  rintro as ⟨⟨t_, f⟩, S, L, P⟩ Q X h
  unfold zX3_code_112 at h
  split at h
  rotate_left
  · exact h.elim
  rename_i h_
  obtain ⟨e1_, e2_, h⟩ := mm_and2 h (fun q => q)
  cases mm_beq e1_
  cases mm_beq e2_
  try dsimp only at h
  refine ⟨rfl, ?_⟩
  obtain ⟨hx, hq⟩ := h
  have hv := hx.2.2
  have e : nuR (cx S 112) = ((S 113 0 + 3) * 8 + S 113 1 + 3) * 242 + 121 * S 112 3 + (if S 112 4 = 0 then 0 else if S 112 4 = 2 then 21 + 10 * S 115 0 + S 115 1 else if S 112 5 = 1 then 11 + S 115 0 else 1 + S 115 0) := rfl
  have e3 : cx S 112 3 = S 112 4 := rfl
  have e6 : cx S 112 6 = S 112 5 := rfl
  unfold hV at hv
  rw [e3, e6] at hv
  have b3 : 0 ≤ S 112 4 ∧ S 112 4 ≤ 2 := by omega
  have b6 : S 112 5 = 0 ∨ S 112 5 = 1 := by omega
  rw [e] at hq
  have kr : ∀ v : Int, v = ((S 113 0 + 3) * 8 + S 113 1 + 3) * 242 + 121 * S 112 3 + (if S 112 4 = 0 then 0 else if S 112 4 = 2 then 21 + 10 * S 115 0 + S 115 1 else if S 112 5 = 1 then 11 + S 115 0 else 1 + S 115 0) → Q (some (vi v)) ((2, f), S, L, P) := fun v e => by rw [e]; exact hq
  refine zwX3_code_112_0 ?_
  (repeat' (first | omega | exact kr _ (by (repeat' split) <;> omega) | apply And.intro | intro _)) <;> omega
def zX3_is_112 : zz_Sp := fun as M Q X => match as with
  | [.inr (.inr (some h_)), .inl k] => bif Nat.beq h_ 112 && Nat.beq M.1.1 2 then ((0 ≤ k ∧ k < 15488) ∧ (cbR k = true → Q (some (vi 1)) ((2, M.1.2), cxW M.2.1 112 (isX (cx M.2.1 112) k), M.2.2.1, M.2.2.2)) ∧ (cbR k = false → Q (some (vi 0)) ((2, M.1.2), cxW M.2.1 112 (isX (cx M.2.1 112) k), M.2.2.1, M.2.2.2))) else False
  | _ => False

def zpX3_is_112 : zz_P := [(0, zo_ild 1 1), (1, zo_c 3 (vi 121)), (3, zo_irem 4), (4, zo_ist 5 2), (5, zo_ald 6 0), (6, zo_ild 7 1), (7, zo_c 9 (vi 121)), (9, zo_idiv 10), (10, zo_c 11 (vi 2)), (11, zo_irem 12), (12, zo_puti 15 2 3), (15, zo_ald 16 0), (16, zo_get 19 2 2 0), (19, zo_c 20 (vi 0)), (20, zo_ild 21 1), (21, zo_c 23 (vi 121)), (23, zo_idiv 24), (24, zo_c 26 (vi 16)), (26, zo_idiv 27), (27, zo_c 29 (vi (-3))), (29, zo_iadd 30), (30, zo_iasc 31 0), (31, zo_ald 32 0), (32, zo_get 35 2 2 0), (35, zo_c 36 (vi 1)), (36, zo_ild 37 1), (37, zo_c 39 (vi 121)), (39, zo_idiv 40), (40, zo_c 41 (vi 2)), (41, zo_idiv 42), (42, zo_c 44 (vi 8)), (44, zo_irem 45), (45, zo_c 47 (vi (-3))), (47, zo_iadd 48), (48, zo_iasc 49 1), (49, zo_ald 50 0), (50, zo_ild 51 2), (51, zo_c 53 (vi 10)), (53, zo_cle false true 56 60), (56, zo_c 57 (vi 1)), (57, zo_goto 61), (60, zo_c 61 (vi 0)), (61, zo_putz true 64 2 5), (64, zo_ald 65 0), (65, zo_ild 66 2), (66, zo_ifne false 69 73), (69, zo_c 70 (vi 0)), (70, zo_goto 84), (73, zo_ild 74 2), (74, zo_c 76 (vi 20)), (76, zo_cgt false true 79 83), (79, zo_c 80 (vi 1)), (80, zo_goto 84), (83, zo_c 84 (vi 2)), (84, zo_puti 87 2 4), (87, zo_ald 88 0), (88, zo_get 91 2 2 2), (91, zo_c 92 (vi 0)), (92, zo_ald 93 0), (93, zo_get 96 2 0 4), (96, zo_c 97 (vi 2)), (97, zo_cne false true 100 112), (100, zo_ild 101 2), (101, zo_c 102 (vi 1)), (102, zo_isub 103), (103, zo_c 105 (vi 20)), (105, zo_isub 106), (106, zo_c 108 (vi 10)), (108, zo_idiv 109), (109, zo_goto 130), (112, zo_ald 113 0), (113, zo_get 116 2 0 4), (116, zo_c 117 (vi 1)), (117, zo_cne false true 120 129), (120, zo_ild 121 2), (121, zo_c 122 (vi 1)), (122, zo_isub 123), (123, zo_c 125 (vi 10)), (125, zo_irem 126), (126, zo_goto 130), (129, zo_c 130 (vi 0)), (130, zo_iasc 131 0), (131, zo_ald 132 0), (132, zo_get 135 2 2 2), (135, zo_c 136 (vi 1)), (136, zo_ald 137 0), (137, zo_get 140 2 0 4), (140, zo_c 141 (vi 2)), (141, zo_cne false true 144 153), (144, zo_ild 145 2), (145, zo_c 146 (vi 1)), (146, zo_isub 147), (147, zo_c 149 (vi 10)), (149, zo_irem 150), (150, zo_goto 154), (153, zo_c 154 (vi 0)), (154, zo_iasc 155 1), (155, zo_ald 156 0), (156, zo_get 159 2 2 0), (159, zo_c 160 (vi 0)), (160, zo_ialc 161 0), (161, zo_ald 162 0), (162, zo_get 165 2 2 0), (165, zo_c 166 (vi 1)), (166, zo_ialc 167 1), (167, zo_calls 170 2 zX1_arePoints), (170, zo_zret true)]
theorem ztX3_is_112 {C : mm_C} (G : mm_G C RX3 cX3_is (some .boolean) 3 (mm_rm 3 0 0)) (hnh : mm_nh C) : zz_OKs C zpX3_is_112 :=
  ⟨zz_of (ok_iload_n G dX3_is_0 rfl rfl) (z_ild _ _),
   zz_of (ok_bipush G (v := 121) dX3_is_1 (by decide) rfl) (z_cn 3 121),
   zz_of (ok_irem G dX3_is_3 rfl) (z_irem _),
   zz_of (ok_istore_n G dX3_is_4 rfl rfl (by decide)) (z_ist _ _),
   zz_of (ok_aload_n G dX3_is_5 rfl rfl) (z_ald _ _),
   zz_of (ok_iload_n G dX3_is_6 rfl rfl) (z_ild _ _),
   zz_of (ok_bipush G (v := 121) dX3_is_7 (by decide) rfl) (z_cn 9 121),
   zz_of (ok_idiv G dX3_is_9 rfl) (z_idiv _),
   zz_of (ok_iconst G (v := 2) dX3_is_10 (by decide) rfl) (z_cn 11 2),
   zz_of (ok_irem G dX3_is_11 rfl) (z_irem _),
   zz_of (ok_puti G (nx := 15) (idx := 25) (ci := 2) (k := 3) (RX3, TX3, 7) rfl (by decide) rfl (mm_pw G (ci := 2) (k := 3) (RX3, TX3, 7) rfl (by decide) rfl q187 dX3_is_12) rfl) (z_puti _ _ _),
   zz_of (ok_aload_n G dX3_is_15 rfl rfl) (z_ald _ _),
   zz_of (ok_get G (nx := 19) (ci := 2) (kd := 2) (k := 0) (RX3, TX3, 7) rfl (by decide) rfl q176 dX3_is_16 rfl) (z_get _ _ _ _),
   zz_of (ok_iconst G (v := 0) dX3_is_19 (by decide) rfl) (z_cn 20 0),
   zz_of (ok_iload_n G dX3_is_20 rfl rfl) (z_ild _ _),
   zz_of (ok_bipush G (v := 121) dX3_is_21 (by decide) rfl) (z_cn 23 121),
   zz_of (ok_idiv G dX3_is_23 rfl) (z_idiv _),
   zz_of (ok_bipush G (v := 16) dX3_is_24 (by decide) rfl) (z_cn 26 16),
   zz_of (ok_idiv G dX3_is_26 rfl) (z_idiv _),
   zz_of (ok_bipush G (v := (zI (-3))) dX3_is_27 (by decide) rfl) (z_cz 29 (-3)),
   zz_of (ok_iadd G dX3_is_29 rfl) (z_iadd _),
   zz_of (ok_iast G dX3_is_30 rfl) (z_iasc _ _),
   zz_of (ok_aload_n G dX3_is_31 rfl rfl) (z_ald _ _),
   zz_of (ok_get G (nx := 35) (ci := 2) (kd := 2) (k := 0) (RX3, TX3, 7) rfl (by decide) rfl q176 dX3_is_32 rfl) (z_get _ _ _ _),
   zz_of (ok_iconst G (v := 1) dX3_is_35 (by decide) rfl) (z_cn 36 1),
   zz_of (ok_iload_n G dX3_is_36 rfl rfl) (z_ild _ _),
   zz_of (ok_bipush G (v := 121) dX3_is_37 (by decide) rfl) (z_cn 39 121),
   zz_of (ok_idiv G dX3_is_39 rfl) (z_idiv _),
   zz_of (ok_iconst G (v := 2) dX3_is_40 (by decide) rfl) (z_cn 41 2),
   zz_of (ok_idiv G dX3_is_41 rfl) (z_idiv _),
   zz_of (ok_bipush G (v := 8) dX3_is_42 (by decide) rfl) (z_cn 44 8),
   zz_of (ok_irem G dX3_is_44 rfl) (z_irem _),
   zz_of (ok_bipush G (v := (zI (-3))) dX3_is_45 (by decide) rfl) (z_cz 47 (-3)),
   zz_of (ok_iadd G dX3_is_47 rfl) (z_iadd _),
   zz_of (ok_iast G dX3_is_48 rfl) (z_iasc _ _),
   zz_of (ok_aload_n G dX3_is_49 rfl rfl) (z_ald _ _),
   zz_of (ok_iload_n G dX3_is_50 rfl rfl) (z_ild _ _),
   zz_of (ok_bipush G (v := 10) dX3_is_51 (by decide) rfl) (z_cn 53 10),
   zz_of (ok_cle G dX3_is_53 rfl rfl) (z_cle _ _ _ _),
   zz_of (ok_iconst G (v := 1) dX3_is_56 (by decide) rfl) (z_cn 57 1),
   zz_of (ok_goto G dX3_is_57 rfl) (z_goto _),
   zz_of (ok_iconst G (v := 0) dX3_is_60 (by decide) rfl) (z_cn 61 0),
   zz_of (ok_putz G (nx := 64) (idx := 32) (ci := 2) (k := 5) (RX3, TX3, 7) rfl (by decide) rfl (mm_pw G (ci := 2) (k := 5) (RX3, TX3, 7) rfl (by decide) rfl q194 dX3_is_61) rfl) (z_putz _ _ _ _),
   zz_of (ok_aload_n G dX3_is_64 rfl rfl) (z_ald _ _),
   zz_of (ok_iload_n G dX3_is_65 rfl rfl) (z_ild _ _),
   zz_of (ok_ifne G dX3_is_66 rfl rfl) (z_ifne _ _ _),
   zz_of (ok_iconst G (v := 0) dX3_is_69 (by decide) rfl) (z_cn 70 0),
   zz_of (ok_goto G dX3_is_70 rfl) (z_goto _),
   zz_of (ok_iload_n G dX3_is_73 rfl rfl) (z_ild _ _),
   zz_of (ok_bipush G (v := 20) dX3_is_74 (by decide) rfl) (z_cn 76 20),
   zz_of (ok_cgt G dX3_is_76 rfl rfl) (z_cgt _ _ _ _),
   zz_of (ok_iconst G (v := 1) dX3_is_79 (by decide) rfl) (z_cn 80 1),
   zz_of (ok_goto G dX3_is_80 rfl) (z_goto _),
   zz_of (ok_iconst G (v := 2) dX3_is_83 (by decide) rfl) (z_cn 84 2),
   zz_of (ok_puti G (nx := 87) (idx := 29) (ci := 2) (k := 4) (RX3, TX3, 7) rfl (by decide) rfl (mm_pw G (ci := 2) (k := 4) (RX3, TX3, 7) rfl (by decide) rfl q190 dX3_is_84) rfl) (z_puti _ _ _),
   zz_of (ok_aload_n G dX3_is_87 rfl rfl) (z_ald _ _),
   zz_of (ok_get G (nx := 91) (ci := 2) (kd := 2) (k := 2) (RX3, TX3, 7) rfl (by decide) rfl q184 dX3_is_88 rfl) (z_get _ _ _ _),
   zz_of (ok_iconst G (v := 0) dX3_is_91 (by decide) rfl) (z_cn 92 0),
   zz_of (ok_aload_n G dX3_is_92 rfl rfl) (z_ald _ _),
   zz_of (ok_get G (nx := 96) (ci := 2) (kd := 0) (k := 4) (RX3, TX3, 7) rfl (by decide) rfl q190 dX3_is_93 rfl) (z_get _ _ _ _),
   zz_of (ok_iconst G (v := 2) dX3_is_96 (by decide) rfl) (z_cn 97 2),
   zz_of (ok_cne G dX3_is_97 rfl rfl) (z_cne _ _ _ _),
   zz_of (ok_iload_n G dX3_is_100 rfl rfl) (z_ild _ _),
   zz_of (ok_iconst G (v := 1) dX3_is_101 (by decide) rfl) (z_cn 102 1),
   zz_of (ok_isub G dX3_is_102 rfl) (z_isub _),
   zz_of (ok_bipush G (v := 20) dX3_is_103 (by decide) rfl) (z_cn 105 20),
   zz_of (ok_isub G dX3_is_105 rfl) (z_isub _),
   zz_of (ok_bipush G (v := 10) dX3_is_106 (by decide) rfl) (z_cn 108 10),
   zz_of (ok_idiv G dX3_is_108 rfl) (z_idiv _),
   zz_of (ok_goto G dX3_is_109 rfl) (z_goto _),
   zz_of (ok_aload_n G dX3_is_112 rfl rfl) (z_ald _ _),
   zz_of (ok_get G (nx := 116) (ci := 2) (kd := 0) (k := 4) (RX3, TX3, 7) rfl (by decide) rfl q190 dX3_is_113 rfl) (z_get _ _ _ _),
   zz_of (ok_iconst G (v := 1) dX3_is_116 (by decide) rfl) (z_cn 117 1),
   zz_of (ok_cne G dX3_is_117 rfl rfl) (z_cne _ _ _ _),
   zz_of (ok_iload_n G dX3_is_120 rfl rfl) (z_ild _ _),
   zz_of (ok_iconst G (v := 1) dX3_is_121 (by decide) rfl) (z_cn 122 1),
   zz_of (ok_isub G dX3_is_122 rfl) (z_isub _),
   zz_of (ok_bipush G (v := 10) dX3_is_123 (by decide) rfl) (z_cn 125 10),
   zz_of (ok_irem G dX3_is_125 rfl) (z_irem _),
   zz_of (ok_goto G dX3_is_126 rfl) (z_goto _),
   zz_of (ok_iconst G (v := 0) dX3_is_129 (by decide) rfl) (z_cn 130 0),
   zz_of (ok_iast G dX3_is_130 rfl) (z_iasc _ _),
   zz_of (ok_aload_n G dX3_is_131 rfl rfl) (z_ald _ _),
   zz_of (ok_get G (nx := 135) (ci := 2) (kd := 2) (k := 2) (RX3, TX3, 7) rfl (by decide) rfl q184 dX3_is_132 rfl) (z_get _ _ _ _),
   zz_of (ok_iconst G (v := 1) dX3_is_135 (by decide) rfl) (z_cn 136 1),
   zz_of (ok_aload_n G dX3_is_136 rfl rfl) (z_ald _ _),
   zz_of (ok_get G (nx := 140) (ci := 2) (kd := 0) (k := 4) (RX3, TX3, 7) rfl (by decide) rfl q190 dX3_is_137 rfl) (z_get _ _ _ _),
   zz_of (ok_iconst G (v := 2) dX3_is_140 (by decide) rfl) (z_cn 141 2),
   zz_of (ok_cne G dX3_is_141 rfl rfl) (z_cne _ _ _ _),
   zz_of (ok_iload_n G dX3_is_144 rfl rfl) (z_ild _ _),
   zz_of (ok_iconst G (v := 1) dX3_is_145 (by decide) rfl) (z_cn 146 1),
   zz_of (ok_isub G dX3_is_146 rfl) (z_isub _),
   zz_of (ok_bipush G (v := 10) dX3_is_147 (by decide) rfl) (z_cn 149 10),
   zz_of (ok_irem G dX3_is_149 rfl) (z_irem _),
   zz_of (ok_goto G dX3_is_150 rfl) (z_goto _),
   zz_of (ok_iconst G (v := 0) dX3_is_153 (by decide) rfl) (z_cn 154 0),
   zz_of (ok_iast G dX3_is_154 rfl) (z_iasc _ _),
   zz_of (ok_aload_n G dX3_is_155 rfl rfl) (z_ald _ _),
   zz_of (ok_get G (nx := 159) (ci := 2) (kd := 2) (k := 0) (RX3, TX3, 7) rfl (by decide) rfl q176 dX3_is_156 rfl) (z_get _ _ _ _),
   zz_of (ok_iconst G (v := 0) dX3_is_159 (by decide) rfl) (z_cn 160 0),
   zz_of (ok_iald G dX3_is_160 rfl) (z_ialc _ _),
   zz_of (ok_aload_n G dX3_is_161 rfl rfl) (z_ald _ _),
   zz_of (ok_get G (nx := 165) (ci := 2) (kd := 2) (k := 0) (RX3, TX3, 7) rfl (by decide) rfl q176 dX3_is_162 rfl) (z_get _ _ _ _),
   zz_of (ok_iconst G (v := 1) dX3_is_165 (by decide) rfl) (z_cn 166 1),
   zz_of (ok_iald G dX3_is_166 rfl) (z_ialc _ _),
   zz_of (ok_callsN G hnh (zmX1_arePoints _ G.hst) rfl rfl q1590 q1472 q82 q1473 (by decide +kernel) ⟨by decide, by decide⟩ dX3_is_167 rfl) (z_calls _ _ _),
   zz_of (ok_zret G dX3_is_170) (z_zret _), trivial⟩

theorem zwX3_is_112_0 {Q : Option zv → zz_M → Prop} {X : Nat → zz_M → Prop} {f : Nat → Nat × Nat} {S L : Nat → Nat → Int} {P : Nat → Nat → Option Nat} {k : Int} (h : (0 ≤ k ∧ k < 2147483648) ∧ ((0 ≤ k ∧ k < 2147483648) ∧ ((0 ≤ (k / 121) ∧ (k / 121) < 2147483648) ∧ ((0 ≤ k ∧ k < 2147483648) ∧ ((0 ≤ (k / 121) ∧ (k / 121) < 2147483648) ∧ ((0 ≤ k ∧ k < 2147483648) ∧ ((0 ≤ (k / 121) ∧ (k / 121) < 2147483648) ∧ ((0 ≤ ((k / 121) / 2) ∧ ((k / 121) / 2) < 2147483648) ∧ (R32 (k % 121) ∧ (((k % 121) ≤ 10 → R32 (k % 121) ∧ ((¬ (k % 121) = 0 → R32 (k % 121) ∧ ((20 < (k % 121) → R32 2 ∧ ((¬ (2 : Int) = 2 → R32 2 ∧ ((¬ (2 : Int) = 1 → R32 2 ∧ ((¬ (2 : Int) = 2 → (R32 (((k / 121) / 16) + (-3)) ∧ R32 ((((k / 121) / 2) % 8) + (-3)) ∧ (isP (((k / 121) / 16) + (-3)) ((((k / 121) / 2) % 8) + (-3)) → (Q (some (vi 1)) ((2, f), mm_up (mm_up (mm_up (mm_up (mm_up (mm_up (mm_up S 112 3 ((k / 121) % 2)) 113 0 (((k / 121) / 16) + (-3))) 113 1 ((((k / 121) / 2) % 8) + (-3))) 112 5 0) 112 4 2) 115 0 0) 115 1 0, L, P))) ∧ (¬ isP (((k / 121) / 16) + (-3)) ((((k / 121) / 2) % 8) + (-3)) → (Q (some (vi 0)) ((2, f), mm_up (mm_up (mm_up (mm_up (mm_up (mm_up (mm_up S 112 3 ((k / 121) % 2)) 113 0 (((k / 121) / 16) + (-3))) 113 1 ((((k / 121) / 2) % 8) + (-3))) 112 5 0) 112 4 2) 115 0 0) 115 1 0, L, P))))) ∧ ((2 : Int) = 2 → (0 ≤ ((k % 121) - 1) ∧ ((k % 121) - 1) < 2147483648) ∧ ((R32 (((k / 121) / 16) + (-3)) ∧ R32 ((((k / 121) / 2) % 8) + (-3)) ∧ (isP (((k / 121) / 16) + (-3)) ((((k / 121) / 2) % 8) + (-3)) → (Q (some (vi 1)) ((2, f), mm_up (mm_up (mm_up (mm_up (mm_up (mm_up (mm_up S 112 3 ((k / 121) % 2)) 113 0 (((k / 121) / 16) + (-3))) 113 1 ((((k / 121) / 2) % 8) + (-3))) 112 5 0) 112 4 2) 115 0 0) 115 1 (((k % 121) - 1) % 10), L, P))) ∧ (¬ isP (((k / 121) / 16) + (-3)) ((((k / 121) / 2) % 8) + (-3)) → (Q (some (vi 0)) ((2, f), mm_up (mm_up (mm_up (mm_up (mm_up (mm_up (mm_up S 112 3 ((k / 121) % 2)) 113 0 (((k / 121) / 16) + (-3))) 113 1 ((((k / 121) / 2) % 8) + (-3))) 112 5 0) 112 4 2) 115 0 0) 115 1 (((k % 121) - 1) % 10), L, P)))))))) ∧ ((2 : Int) = 1 → (0 ≤ ((k % 121) - 1) ∧ ((k % 121) - 1) < 2147483648) ∧ (R32 2 ∧ ((¬ (2 : Int) = 2 → (R32 (((k / 121) / 16) + (-3)) ∧ R32 ((((k / 121) / 2) % 8) + (-3)) ∧ (isP (((k / 121) / 16) + (-3)) ((((k / 121) / 2) % 8) + (-3)) → (Q (some (vi 1)) ((2, f), mm_up (mm_up (mm_up (mm_up (mm_up (mm_up (mm_up S 112 3 ((k / 121) % 2)) 113 0 (((k / 121) / 16) + (-3))) 113 1 ((((k / 121) / 2) % 8) + (-3))) 112 5 0) 112 4 2) 115 0 (((k % 121) - 1) % 10)) 115 1 0, L, P))) ∧ (¬ isP (((k / 121) / 16) + (-3)) ((((k / 121) / 2) % 8) + (-3)) → (Q (some (vi 0)) ((2, f), mm_up (mm_up (mm_up (mm_up (mm_up (mm_up (mm_up S 112 3 ((k / 121) % 2)) 113 0 (((k / 121) / 16) + (-3))) 113 1 ((((k / 121) / 2) % 8) + (-3))) 112 5 0) 112 4 2) 115 0 (((k % 121) - 1) % 10)) 115 1 0, L, P))))) ∧ ((2 : Int) = 2 → (0 ≤ ((k % 121) - 1) ∧ ((k % 121) - 1) < 2147483648) ∧ ((R32 (((k / 121) / 16) + (-3)) ∧ R32 ((((k / 121) / 2) % 8) + (-3)) ∧ (isP (((k / 121) / 16) + (-3)) ((((k / 121) / 2) % 8) + (-3)) → (Q (some (vi 1)) ((2, f), mm_up (mm_up (mm_up (mm_up (mm_up (mm_up (mm_up S 112 3 ((k / 121) % 2)) 113 0 (((k / 121) / 16) + (-3))) 113 1 ((((k / 121) / 2) % 8) + (-3))) 112 5 0) 112 4 2) 115 0 (((k % 121) - 1) % 10)) 115 1 (((k % 121) - 1) % 10), L, P))) ∧ (¬ isP (((k / 121) / 16) + (-3)) ((((k / 121) / 2) % 8) + (-3)) → (Q (some (vi 0)) ((2, f), mm_up (mm_up (mm_up (mm_up (mm_up (mm_up (mm_up S 112 3 ((k / 121) % 2)) 113 0 (((k / 121) / 16) + (-3))) 113 1 ((((k / 121) / 2) % 8) + (-3))) 112 5 0) 112 4 2) 115 0 (((k % 121) - 1) % 10)) 115 1 (((k % 121) - 1) % 10), L, P))))))))))) ∧ ((2 : Int) = 2 → (0 ≤ (((k % 121) - 1) - 20) ∧ (((k % 121) - 1) - 20) < 2147483648) ∧ (R32 2 ∧ ((¬ (2 : Int) = 2 → (R32 (((k / 121) / 16) + (-3)) ∧ R32 ((((k / 121) / 2) % 8) + (-3)) ∧ (isP (((k / 121) / 16) + (-3)) ((((k / 121) / 2) % 8) + (-3)) → (Q (some (vi 1)) ((2, f), mm_up (mm_up (mm_up (mm_up (mm_up (mm_up (mm_up S 112 3 ((k / 121) % 2)) 113 0 (((k / 121) / 16) + (-3))) 113 1 ((((k / 121) / 2) % 8) + (-3))) 112 5 0) 112 4 2) 115 0 ((((k % 121) - 1) - 20) / 10)) 115 1 0, L, P))) ∧ (¬ isP (((k / 121) / 16) + (-3)) ((((k / 121) / 2) % 8) + (-3)) → (Q (some (vi 0)) ((2, f), mm_up (mm_up (mm_up (mm_up (mm_up (mm_up (mm_up S 112 3 ((k / 121) % 2)) 113 0 (((k / 121) / 16) + (-3))) 113 1 ((((k / 121) / 2) % 8) + (-3))) 112 5 0) 112 4 2) 115 0 ((((k % 121) - 1) - 20) / 10)) 115 1 0, L, P))))) ∧ ((2 : Int) = 2 → (0 ≤ ((k % 121) - 1) ∧ ((k % 121) - 1) < 2147483648) ∧ ((R32 (((k / 121) / 16) + (-3)) ∧ R32 ((((k / 121) / 2) % 8) + (-3)) ∧ (isP (((k / 121) / 16) + (-3)) ((((k / 121) / 2) % 8) + (-3)) → (Q (some (vi 1)) ((2, f), mm_up (mm_up (mm_up (mm_up (mm_up (mm_up (mm_up S 112 3 ((k / 121) % 2)) 113 0 (((k / 121) / 16) + (-3))) 113 1 ((((k / 121) / 2) % 8) + (-3))) 112 5 0) 112 4 2) 115 0 ((((k % 121) - 1) - 20) / 10)) 115 1 (((k % 121) - 1) % 10), L, P))) ∧ (¬ isP (((k / 121) / 16) + (-3)) ((((k / 121) / 2) % 8) + (-3)) → (Q (some (vi 0)) ((2, f), mm_up (mm_up (mm_up (mm_up (mm_up (mm_up (mm_up S 112 3 ((k / 121) % 2)) 113 0 (((k / 121) / 16) + (-3))) 113 1 ((((k / 121) / 2) % 8) + (-3))) 112 5 0) 112 4 2) 115 0 ((((k % 121) - 1) - 20) / 10)) 115 1 (((k % 121) - 1) % 10), L, P))))))))))) ∧ (¬ 20 < (k % 121) → R32 1 ∧ ((¬ (1 : Int) = 2 → R32 1 ∧ ((¬ (1 : Int) = 1 → R32 1 ∧ ((¬ (1 : Int) = 2 → (R32 (((k / 121) / 16) + (-3)) ∧ R32 ((((k / 121) / 2) % 8) + (-3)) ∧ (isP (((k / 121) / 16) + (-3)) ((((k / 121) / 2) % 8) + (-3)) → (Q (some (vi 1)) ((2, f), mm_up (mm_up (mm_up (mm_up (mm_up (mm_up (mm_up S 112 3 ((k / 121) % 2)) 113 0 (((k / 121) / 16) + (-3))) 113 1 ((((k / 121) / 2) % 8) + (-3))) 112 5 0) 112 4 1) 115 0 0) 115 1 0, L, P))) ∧ (¬ isP (((k / 121) / 16) + (-3)) ((((k / 121) / 2) % 8) + (-3)) → (Q (some (vi 0)) ((2, f), mm_up (mm_up (mm_up (mm_up (mm_up (mm_up (mm_up S 112 3 ((k / 121) % 2)) 113 0 (((k / 121) / 16) + (-3))) 113 1 ((((k / 121) / 2) % 8) + (-3))) 112 5 0) 112 4 1) 115 0 0) 115 1 0, L, P))))) ∧ ((1 : Int) = 2 → (0 ≤ ((k % 121) - 1) ∧ ((k % 121) - 1) < 2147483648) ∧ ((R32 (((k / 121) / 16) + (-3)) ∧ R32 ((((k / 121) / 2) % 8) + (-3)) ∧ (isP (((k / 121) / 16) + (-3)) ((((k / 121) / 2) % 8) + (-3)) → (Q (some (vi 1)) ((2, f), mm_up (mm_up (mm_up (mm_up (mm_up (mm_up (mm_up S 112 3 ((k / 121) % 2)) 113 0 (((k / 121) / 16) + (-3))) 113 1 ((((k / 121) / 2) % 8) + (-3))) 112 5 0) 112 4 1) 115 0 0) 115 1 (((k % 121) - 1) % 10), L, P))) ∧ (¬ isP (((k / 121) / 16) + (-3)) ((((k / 121) / 2) % 8) + (-3)) → (Q (some (vi 0)) ((2, f), mm_up (mm_up (mm_up (mm_up (mm_up (mm_up (mm_up S 112 3 ((k / 121) % 2)) 113 0 (((k / 121) / 16) + (-3))) 113 1 ((((k / 121) / 2) % 8) + (-3))) 112 5 0) 112 4 1) 115 0 0) 115 1 (((k % 121) - 1) % 10), L, P)))))))) ∧ ((1 : Int) = 1 → (0 ≤ ((k % 121) - 1) ∧ ((k % 121) - 1) < 2147483648) ∧ (R32 1 ∧ ((¬ (1 : Int) = 2 → (R32 (((k / 121) / 16) + (-3)) ∧ R32 ((((k / 121) / 2) % 8) + (-3)) ∧ (isP (((k / 121) / 16) + (-3)) ((((k / 121) / 2) % 8) + (-3)) → (Q (some (vi 1)) ((2, f), mm_up (mm_up (mm_up (mm_up (mm_up (mm_up (mm_up S 112 3 ((k / 121) % 2)) 113 0 (((k / 121) / 16) + (-3))) 113 1 ((((k / 121) / 2) % 8) + (-3))) 112 5 0) 112 4 1) 115 0 (((k % 121) - 1) % 10)) 115 1 0, L, P))) ∧ (¬ isP (((k / 121) / 16) + (-3)) ((((k / 121) / 2) % 8) + (-3)) → (Q (some (vi 0)) ((2, f), mm_up (mm_up (mm_up (mm_up (mm_up (mm_up (mm_up S 112 3 ((k / 121) % 2)) 113 0 (((k / 121) / 16) + (-3))) 113 1 ((((k / 121) / 2) % 8) + (-3))) 112 5 0) 112 4 1) 115 0 (((k % 121) - 1) % 10)) 115 1 0, L, P))))) ∧ ((1 : Int) = 2 → (0 ≤ ((k % 121) - 1) ∧ ((k % 121) - 1) < 2147483648) ∧ ((R32 (((k / 121) / 16) + (-3)) ∧ R32 ((((k / 121) / 2) % 8) + (-3)) ∧ (isP (((k / 121) / 16) + (-3)) ((((k / 121) / 2) % 8) + (-3)) → (Q (some (vi 1)) ((2, f), mm_up (mm_up (mm_up (mm_up (mm_up (mm_up (mm_up S 112 3 ((k / 121) % 2)) 113 0 (((k / 121) / 16) + (-3))) 113 1 ((((k / 121) / 2) % 8) + (-3))) 112 5 0) 112 4 1) 115 0 (((k % 121) - 1) % 10)) 115 1 (((k % 121) - 1) % 10), L, P))) ∧ (¬ isP (((k / 121) / 16) + (-3)) ((((k / 121) / 2) % 8) + (-3)) → (Q (some (vi 0)) ((2, f), mm_up (mm_up (mm_up (mm_up (mm_up (mm_up (mm_up S 112 3 ((k / 121) % 2)) 113 0 (((k / 121) / 16) + (-3))) 113 1 ((((k / 121) / 2) % 8) + (-3))) 112 5 0) 112 4 1) 115 0 (((k % 121) - 1) % 10)) 115 1 (((k % 121) - 1) % 10), L, P))))))))))) ∧ ((1 : Int) = 2 → (0 ≤ (((k % 121) - 1) - 20) ∧ (((k % 121) - 1) - 20) < 2147483648) ∧ (R32 1 ∧ ((¬ (1 : Int) = 2 → (R32 (((k / 121) / 16) + (-3)) ∧ R32 ((((k / 121) / 2) % 8) + (-3)) ∧ (isP (((k / 121) / 16) + (-3)) ((((k / 121) / 2) % 8) + (-3)) → (Q (some (vi 1)) ((2, f), mm_up (mm_up (mm_up (mm_up (mm_up (mm_up (mm_up S 112 3 ((k / 121) % 2)) 113 0 (((k / 121) / 16) + (-3))) 113 1 ((((k / 121) / 2) % 8) + (-3))) 112 5 0) 112 4 1) 115 0 ((((k % 121) - 1) - 20) / 10)) 115 1 0, L, P))) ∧ (¬ isP (((k / 121) / 16) + (-3)) ((((k / 121) / 2) % 8) + (-3)) → (Q (some (vi 0)) ((2, f), mm_up (mm_up (mm_up (mm_up (mm_up (mm_up (mm_up S 112 3 ((k / 121) % 2)) 113 0 (((k / 121) / 16) + (-3))) 113 1 ((((k / 121) / 2) % 8) + (-3))) 112 5 0) 112 4 1) 115 0 ((((k % 121) - 1) - 20) / 10)) 115 1 0, L, P))))) ∧ ((1 : Int) = 2 → (0 ≤ ((k % 121) - 1) ∧ ((k % 121) - 1) < 2147483648) ∧ ((R32 (((k / 121) / 16) + (-3)) ∧ R32 ((((k / 121) / 2) % 8) + (-3)) ∧ (isP (((k / 121) / 16) + (-3)) ((((k / 121) / 2) % 8) + (-3)) → (Q (some (vi 1)) ((2, f), mm_up (mm_up (mm_up (mm_up (mm_up (mm_up (mm_up S 112 3 ((k / 121) % 2)) 113 0 (((k / 121) / 16) + (-3))) 113 1 ((((k / 121) / 2) % 8) + (-3))) 112 5 0) 112 4 1) 115 0 ((((k % 121) - 1) - 20) / 10)) 115 1 (((k % 121) - 1) % 10), L, P))) ∧ (¬ isP (((k / 121) / 16) + (-3)) ((((k / 121) / 2) % 8) + (-3)) → (Q (some (vi 0)) ((2, f), mm_up (mm_up (mm_up (mm_up (mm_up (mm_up (mm_up S 112 3 ((k / 121) % 2)) 113 0 (((k / 121) / 16) + (-3))) 113 1 ((((k / 121) / 2) % 8) + (-3))) 112 5 0) 112 4 1) 115 0 ((((k % 121) - 1) - 20) / 10)) 115 1 (((k % 121) - 1) % 10), L, P))))))))))))) ∧ ((k % 121) = 0 → R32 0 ∧ ((¬ (0 : Int) = 2 → R32 0 ∧ ((¬ (0 : Int) = 1 → R32 0 ∧ ((¬ (0 : Int) = 2 → (R32 (((k / 121) / 16) + (-3)) ∧ R32 ((((k / 121) / 2) % 8) + (-3)) ∧ (isP (((k / 121) / 16) + (-3)) ((((k / 121) / 2) % 8) + (-3)) → (Q (some (vi 1)) ((2, f), mm_up (mm_up (mm_up (mm_up (mm_up (mm_up (mm_up S 112 3 ((k / 121) % 2)) 113 0 (((k / 121) / 16) + (-3))) 113 1 ((((k / 121) / 2) % 8) + (-3))) 112 5 0) 112 4 0) 115 0 0) 115 1 0, L, P))) ∧ (¬ isP (((k / 121) / 16) + (-3)) ((((k / 121) / 2) % 8) + (-3)) → (Q (some (vi 0)) ((2, f), mm_up (mm_up (mm_up (mm_up (mm_up (mm_up (mm_up S 112 3 ((k / 121) % 2)) 113 0 (((k / 121) / 16) + (-3))) 113 1 ((((k / 121) / 2) % 8) + (-3))) 112 5 0) 112 4 0) 115 0 0) 115 1 0, L, P))))) ∧ ((0 : Int) = 2 → (0 ≤ ((k % 121) - 1) ∧ ((k % 121) - 1) < 2147483648) ∧ ((R32 (((k / 121) / 16) + (-3)) ∧ R32 ((((k / 121) / 2) % 8) + (-3)) ∧ (isP (((k / 121) / 16) + (-3)) ((((k / 121) / 2) % 8) + (-3)) → (Q (some (vi 1)) ((2, f), mm_up (mm_up (mm_up (mm_up (mm_up (mm_up (mm_up S 112 3 ((k / 121) % 2)) 113 0 (((k / 121) / 16) + (-3))) 113 1 ((((k / 121) / 2) % 8) + (-3))) 112 5 0) 112 4 0) 115 0 0) 115 1 (((k % 121) - 1) % 10), L, P))) ∧ (¬ isP (((k / 121) / 16) + (-3)) ((((k / 121) / 2) % 8) + (-3)) → (Q (some (vi 0)) ((2, f), mm_up (mm_up (mm_up (mm_up (mm_up (mm_up (mm_up S 112 3 ((k / 121) % 2)) 113 0 (((k / 121) / 16) + (-3))) 113 1 ((((k / 121) / 2) % 8) + (-3))) 112 5 0) 112 4 0) 115 0 0) 115 1 (((k % 121) - 1) % 10), L, P)))))))) ∧ ((0 : Int) = 1 → (0 ≤ ((k % 121) - 1) ∧ ((k % 121) - 1) < 2147483648) ∧ (R32 0 ∧ ((¬ (0 : Int) = 2 → (R32 (((k / 121) / 16) + (-3)) ∧ R32 ((((k / 121) / 2) % 8) + (-3)) ∧ (isP (((k / 121) / 16) + (-3)) ((((k / 121) / 2) % 8) + (-3)) → (Q (some (vi 1)) ((2, f), mm_up (mm_up (mm_up (mm_up (mm_up (mm_up (mm_up S 112 3 ((k / 121) % 2)) 113 0 (((k / 121) / 16) + (-3))) 113 1 ((((k / 121) / 2) % 8) + (-3))) 112 5 0) 112 4 0) 115 0 (((k % 121) - 1) % 10)) 115 1 0, L, P))) ∧ (¬ isP (((k / 121) / 16) + (-3)) ((((k / 121) / 2) % 8) + (-3)) → (Q (some (vi 0)) ((2, f), mm_up (mm_up (mm_up (mm_up (mm_up (mm_up (mm_up S 112 3 ((k / 121) % 2)) 113 0 (((k / 121) / 16) + (-3))) 113 1 ((((k / 121) / 2) % 8) + (-3))) 112 5 0) 112 4 0) 115 0 (((k % 121) - 1) % 10)) 115 1 0, L, P))))) ∧ ((0 : Int) = 2 → (0 ≤ ((k % 121) - 1) ∧ ((k % 121) - 1) < 2147483648) ∧ ((R32 (((k / 121) / 16) + (-3)) ∧ R32 ((((k / 121) / 2) % 8) + (-3)) ∧ (isP (((k / 121) / 16) + (-3)) ((((k / 121) / 2) % 8) + (-3)) → (Q (some (vi 1)) ((2, f), mm_up (mm_up (mm_up (mm_up (mm_up (mm_up (mm_up S 112 3 ((k / 121) % 2)) 113 0 (((k / 121) / 16) + (-3))) 113 1 ((((k / 121) / 2) % 8) + (-3))) 112 5 0) 112 4 0) 115 0 (((k % 121) - 1) % 10)) 115 1 (((k % 121) - 1) % 10), L, P))) ∧ (¬ isP (((k / 121) / 16) + (-3)) ((((k / 121) / 2) % 8) + (-3)) → (Q (some (vi 0)) ((2, f), mm_up (mm_up (mm_up (mm_up (mm_up (mm_up (mm_up S 112 3 ((k / 121) % 2)) 113 0 (((k / 121) / 16) + (-3))) 113 1 ((((k / 121) / 2) % 8) + (-3))) 112 5 0) 112 4 0) 115 0 (((k % 121) - 1) % 10)) 115 1 (((k % 121) - 1) % 10), L, P))))))))))) ∧ ((0 : Int) = 2 → (0 ≤ (((k % 121) - 1) - 20) ∧ (((k % 121) - 1) - 20) < 2147483648) ∧ (R32 0 ∧ ((¬ (0 : Int) = 2 → (R32 (((k / 121) / 16) + (-3)) ∧ R32 ((((k / 121) / 2) % 8) + (-3)) ∧ (isP (((k / 121) / 16) + (-3)) ((((k / 121) / 2) % 8) + (-3)) → (Q (some (vi 1)) ((2, f), mm_up (mm_up (mm_up (mm_up (mm_up (mm_up (mm_up S 112 3 ((k / 121) % 2)) 113 0 (((k / 121) / 16) + (-3))) 113 1 ((((k / 121) / 2) % 8) + (-3))) 112 5 0) 112 4 0) 115 0 ((((k % 121) - 1) - 20) / 10)) 115 1 0, L, P))) ∧ (¬ isP (((k / 121) / 16) + (-3)) ((((k / 121) / 2) % 8) + (-3)) → (Q (some (vi 0)) ((2, f), mm_up (mm_up (mm_up (mm_up (mm_up (mm_up (mm_up S 112 3 ((k / 121) % 2)) 113 0 (((k / 121) / 16) + (-3))) 113 1 ((((k / 121) / 2) % 8) + (-3))) 112 5 0) 112 4 0) 115 0 ((((k % 121) - 1) - 20) / 10)) 115 1 0, L, P))))) ∧ ((0 : Int) = 2 → (0 ≤ ((k % 121) - 1) ∧ ((k % 121) - 1) < 2147483648) ∧ ((R32 (((k / 121) / 16) + (-3)) ∧ R32 ((((k / 121) / 2) % 8) + (-3)) ∧ (isP (((k / 121) / 16) + (-3)) ((((k / 121) / 2) % 8) + (-3)) → (Q (some (vi 1)) ((2, f), mm_up (mm_up (mm_up (mm_up (mm_up (mm_up (mm_up S 112 3 ((k / 121) % 2)) 113 0 (((k / 121) / 16) + (-3))) 113 1 ((((k / 121) / 2) % 8) + (-3))) 112 5 0) 112 4 0) 115 0 ((((k % 121) - 1) - 20) / 10)) 115 1 (((k % 121) - 1) % 10), L, P))) ∧ (¬ isP (((k / 121) / 16) + (-3)) ((((k / 121) / 2) % 8) + (-3)) → (Q (some (vi 0)) ((2, f), mm_up (mm_up (mm_up (mm_up (mm_up (mm_up (mm_up S 112 3 ((k / 121) % 2)) 113 0 (((k / 121) / 16) + (-3))) 113 1 ((((k / 121) / 2) % 8) + (-3))) 112 5 0) 112 4 0) 115 0 ((((k % 121) - 1) - 20) / 10)) 115 1 (((k % 121) - 1) % 10), L, P))))))))))))) ∧ (¬ (k % 121) ≤ 10 → R32 (k % 121) ∧ ((¬ (k % 121) = 0 → R32 (k % 121) ∧ ((20 < (k % 121) → R32 2 ∧ ((¬ (2 : Int) = 2 → R32 2 ∧ ((¬ (2 : Int) = 1 → R32 2 ∧ ((¬ (2 : Int) = 2 → (R32 (((k / 121) / 16) + (-3)) ∧ R32 ((((k / 121) / 2) % 8) + (-3)) ∧ (isP (((k / 121) / 16) + (-3)) ((((k / 121) / 2) % 8) + (-3)) → (Q (some (vi 1)) ((2, f), mm_up (mm_up (mm_up (mm_up (mm_up (mm_up (mm_up S 112 3 ((k / 121) % 2)) 113 0 (((k / 121) / 16) + (-3))) 113 1 ((((k / 121) / 2) % 8) + (-3))) 112 5 1) 112 4 2) 115 0 0) 115 1 0, L, P))) ∧ (¬ isP (((k / 121) / 16) + (-3)) ((((k / 121) / 2) % 8) + (-3)) → (Q (some (vi 0)) ((2, f), mm_up (mm_up (mm_up (mm_up (mm_up (mm_up (mm_up S 112 3 ((k / 121) % 2)) 113 0 (((k / 121) / 16) + (-3))) 113 1 ((((k / 121) / 2) % 8) + (-3))) 112 5 1) 112 4 2) 115 0 0) 115 1 0, L, P))))) ∧ ((2 : Int) = 2 → (0 ≤ ((k % 121) - 1) ∧ ((k % 121) - 1) < 2147483648) ∧ ((R32 (((k / 121) / 16) + (-3)) ∧ R32 ((((k / 121) / 2) % 8) + (-3)) ∧ (isP (((k / 121) / 16) + (-3)) ((((k / 121) / 2) % 8) + (-3)) → (Q (some (vi 1)) ((2, f), mm_up (mm_up (mm_up (mm_up (mm_up (mm_up (mm_up S 112 3 ((k / 121) % 2)) 113 0 (((k / 121) / 16) + (-3))) 113 1 ((((k / 121) / 2) % 8) + (-3))) 112 5 1) 112 4 2) 115 0 0) 115 1 (((k % 121) - 1) % 10), L, P))) ∧ (¬ isP (((k / 121) / 16) + (-3)) ((((k / 121) / 2) % 8) + (-3)) → (Q (some (vi 0)) ((2, f), mm_up (mm_up (mm_up (mm_up (mm_up (mm_up (mm_up S 112 3 ((k / 121) % 2)) 113 0 (((k / 121) / 16) + (-3))) 113 1 ((((k / 121) / 2) % 8) + (-3))) 112 5 1) 112 4 2) 115 0 0) 115 1 (((k % 121) - 1) % 10), L, P)))))))) ∧ ((2 : Int) = 1 → (0 ≤ ((k % 121) - 1) ∧ ((k % 121) - 1) < 2147483648) ∧ (R32 2 ∧ ((¬ (2 : Int) = 2 → (R32 (((k / 121) / 16) + (-3)) ∧ R32 ((((k / 121) / 2) % 8) + (-3)) ∧ (isP (((k / 121) / 16) + (-3)) ((((k / 121) / 2) % 8) + (-3)) → (Q (some (vi 1)) ((2, f), mm_up (mm_up (mm_up (mm_up (mm_up (mm_up (mm_up S 112 3 ((k / 121) % 2)) 113 0 (((k / 121) / 16) + (-3))) 113 1 ((((k / 121) / 2) % 8) + (-3))) 112 5 1) 112 4 2) 115 0 (((k % 121) - 1) % 10)) 115 1 0, L, P))) ∧ (¬ isP (((k / 121) / 16) + (-3)) ((((k / 121) / 2) % 8) + (-3)) → (Q (some (vi 0)) ((2, f), mm_up (mm_up (mm_up (mm_up (mm_up (mm_up (mm_up S 112 3 ((k / 121) % 2)) 113 0 (((k / 121) / 16) + (-3))) 113 1 ((((k / 121) / 2) % 8) + (-3))) 112 5 1) 112 4 2) 115 0 (((k % 121) - 1) % 10)) 115 1 0, L, P))))) ∧ ((2 : Int) = 2 → (0 ≤ ((k % 121) - 1) ∧ ((k % 121) - 1) < 2147483648) ∧ ((R32 (((k / 121) / 16) + (-3)) ∧ R32 ((((k / 121) / 2) % 8) + (-3)) ∧ (isP (((k / 121) / 16) + (-3)) ((((k / 121) / 2) % 8) + (-3)) → (Q (some (vi 1)) ((2, f), mm_up (mm_up (mm_up (mm_up (mm_up (mm_up (mm_up S 112 3 ((k / 121) % 2)) 113 0 (((k / 121) / 16) + (-3))) 113 1 ((((k / 121) / 2) % 8) + (-3))) 112 5 1) 112 4 2) 115 0 (((k % 121) - 1) % 10)) 115 1 (((k % 121) - 1) % 10), L, P))) ∧ (¬ isP (((k / 121) / 16) + (-3)) ((((k / 121) / 2) % 8) + (-3)) → (Q (some (vi 0)) ((2, f), mm_up (mm_up (mm_up (mm_up (mm_up (mm_up (mm_up S 112 3 ((k / 121) % 2)) 113 0 (((k / 121) / 16) + (-3))) 113 1 ((((k / 121) / 2) % 8) + (-3))) 112 5 1) 112 4 2) 115 0 (((k % 121) - 1) % 10)) 115 1 (((k % 121) - 1) % 10), L, P))))))))))) ∧ ((2 : Int) = 2 → (0 ≤ (((k % 121) - 1) - 20) ∧ (((k % 121) - 1) - 20) < 2147483648) ∧ (R32 2 ∧ ((¬ (2 : Int) = 2 → (R32 (((k / 121) / 16) + (-3)) ∧ R32 ((((k / 121) / 2) % 8) + (-3)) ∧ (isP (((k / 121) / 16) + (-3)) ((((k / 121) / 2) % 8) + (-3)) → (Q (some (vi 1)) ((2, f), mm_up (mm_up (mm_up (mm_up (mm_up (mm_up (mm_up S 112 3 ((k / 121) % 2)) 113 0 (((k / 121) / 16) + (-3))) 113 1 ((((k / 121) / 2) % 8) + (-3))) 112 5 1) 112 4 2) 115 0 ((((k % 121) - 1) - 20) / 10)) 115 1 0, L, P))) ∧ (¬ isP (((k / 121) / 16) + (-3)) ((((k / 121) / 2) % 8) + (-3)) → (Q (some (vi 0)) ((2, f), mm_up (mm_up (mm_up (mm_up (mm_up (mm_up (mm_up S 112 3 ((k / 121) % 2)) 113 0 (((k / 121) / 16) + (-3))) 113 1 ((((k / 121) / 2) % 8) + (-3))) 112 5 1) 112 4 2) 115 0 ((((k % 121) - 1) - 20) / 10)) 115 1 0, L, P))))) ∧ ((2 : Int) = 2 → (0 ≤ ((k % 121) - 1) ∧ ((k % 121) - 1) < 2147483648) ∧ ((R32 (((k / 121) / 16) + (-3)) ∧ R32 ((((k / 121) / 2) % 8) + (-3)) ∧ (isP (((k / 121) / 16) + (-3)) ((((k / 121) / 2) % 8) + (-3)) → (Q (some (vi 1)) ((2, f), mm_up (mm_up (mm_up (mm_up (mm_up (mm_up (mm_up S 112 3 ((k / 121) % 2)) 113 0 (((k / 121) / 16) + (-3))) 113 1 ((((k / 121) / 2) % 8) + (-3))) 112 5 1) 112 4 2) 115 0 ((((k % 121) - 1) - 20) / 10)) 115 1 (((k % 121) - 1) % 10), L, P))) ∧ (¬ isP (((k / 121) / 16) + (-3)) ((((k / 121) / 2) % 8) + (-3)) → (Q (some (vi 0)) ((2, f), mm_up (mm_up (mm_up (mm_up (mm_up (mm_up (mm_up S 112 3 ((k / 121) % 2)) 113 0 (((k / 121) / 16) + (-3))) 113 1 ((((k / 121) / 2) % 8) + (-3))) 112 5 1) 112 4 2) 115 0 ((((k % 121) - 1) - 20) / 10)) 115 1 (((k % 121) - 1) % 10), L, P))))))))))) ∧ (¬ 20 < (k % 121) → R32 1 ∧ ((¬ (1 : Int) = 2 → R32 1 ∧ ((¬ (1 : Int) = 1 → R32 1 ∧ ((¬ (1 : Int) = 2 → (R32 (((k / 121) / 16) + (-3)) ∧ R32 ((((k / 121) / 2) % 8) + (-3)) ∧ (isP (((k / 121) / 16) + (-3)) ((((k / 121) / 2) % 8) + (-3)) → (Q (some (vi 1)) ((2, f), mm_up (mm_up (mm_up (mm_up (mm_up (mm_up (mm_up S 112 3 ((k / 121) % 2)) 113 0 (((k / 121) / 16) + (-3))) 113 1 ((((k / 121) / 2) % 8) + (-3))) 112 5 1) 112 4 1) 115 0 0) 115 1 0, L, P))) ∧ (¬ isP (((k / 121) / 16) + (-3)) ((((k / 121) / 2) % 8) + (-3)) → (Q (some (vi 0)) ((2, f), mm_up (mm_up (mm_up (mm_up (mm_up (mm_up (mm_up S 112 3 ((k / 121) % 2)) 113 0 (((k / 121) / 16) + (-3))) 113 1 ((((k / 121) / 2) % 8) + (-3))) 112 5 1) 112 4 1) 115 0 0) 115 1 0, L, P))))) ∧ ((1 : Int) = 2 → (0 ≤ ((k % 121) - 1) ∧ ((k % 121) - 1) < 2147483648) ∧ ((R32 (((k / 121) / 16) + (-3)) ∧ R32 ((((k / 121) / 2) % 8) + (-3)) ∧ (isP (((k / 121) / 16) + (-3)) ((((k / 121) / 2) % 8) + (-3)) → (Q (some (vi 1)) ((2, f), mm_up (mm_up (mm_up (mm_up (mm_up (mm_up (mm_up S 112 3 ((k / 121) % 2)) 113 0 (((k / 121) / 16) + (-3))) 113 1 ((((k / 121) / 2) % 8) + (-3))) 112 5 1) 112 4 1) 115 0 0) 115 1 (((k % 121) - 1) % 10), L, P))) ∧ (¬ isP (((k / 121) / 16) + (-3)) ((((k / 121) / 2) % 8) + (-3)) → (Q (some (vi 0)) ((2, f), mm_up (mm_up (mm_up (mm_up (mm_up (mm_up (mm_up S 112 3 ((k / 121) % 2)) 113 0 (((k / 121) / 16) + (-3))) 113 1 ((((k / 121) / 2) % 8) + (-3))) 112 5 1) 112 4 1) 115 0 0) 115 1 (((k % 121) - 1) % 10), L, P)))))))) ∧ ((1 : Int) = 1 → (0 ≤ ((k % 121) - 1) ∧ ((k % 121) - 1) < 2147483648) ∧ (R32 1 ∧ ((¬ (1 : Int) = 2 → (R32 (((k / 121) / 16) + (-3)) ∧ R32 ((((k / 121) / 2) % 8) + (-3)) ∧ (isP (((k / 121) / 16) + (-3)) ((((k / 121) / 2) % 8) + (-3)) → (Q (some (vi 1)) ((2, f), mm_up (mm_up (mm_up (mm_up (mm_up (mm_up (mm_up S 112 3 ((k / 121) % 2)) 113 0 (((k / 121) / 16) + (-3))) 113 1 ((((k / 121) / 2) % 8) + (-3))) 112 5 1) 112 4 1) 115 0 (((k % 121) - 1) % 10)) 115 1 0, L, P))) ∧ (¬ isP (((k / 121) / 16) + (-3)) ((((k / 121) / 2) % 8) + (-3)) → (Q (some (vi 0)) ((2, f), mm_up (mm_up (mm_up (mm_up (mm_up (mm_up (mm_up S 112 3 ((k / 121) % 2)) 113 0 (((k / 121) / 16) + (-3))) 113 1 ((((k / 121) / 2) % 8) + (-3))) 112 5 1) 112 4 1) 115 0 (((k % 121) - 1) % 10)) 115 1 0, L, P))))) ∧ ((1 : Int) = 2 → (0 ≤ ((k % 121) - 1) ∧ ((k % 121) - 1) < 2147483648) ∧ ((R32 (((k / 121) / 16) + (-3)) ∧ R32 ((((k / 121) / 2) % 8) + (-3)) ∧ (isP (((k / 121) / 16) + (-3)) ((((k / 121) / 2) % 8) + (-3)) → (Q (some (vi 1)) ((2, f), mm_up (mm_up (mm_up (mm_up (mm_up (mm_up (mm_up S 112 3 ((k / 121) % 2)) 113 0 (((k / 121) / 16) + (-3))) 113 1 ((((k / 121) / 2) % 8) + (-3))) 112 5 1) 112 4 1) 115 0 (((k % 121) - 1) % 10)) 115 1 (((k % 121) - 1) % 10), L, P))) ∧ (¬ isP (((k / 121) / 16) + (-3)) ((((k / 121) / 2) % 8) + (-3)) → (Q (some (vi 0)) ((2, f), mm_up (mm_up (mm_up (mm_up (mm_up (mm_up (mm_up S 112 3 ((k / 121) % 2)) 113 0 (((k / 121) / 16) + (-3))) 113 1 ((((k / 121) / 2) % 8) + (-3))) 112 5 1) 112 4 1) 115 0 (((k % 121) - 1) % 10)) 115 1 (((k % 121) - 1) % 10), L, P))))))))))) ∧ ((1 : Int) = 2 → (0 ≤ (((k % 121) - 1) - 20) ∧ (((k % 121) - 1) - 20) < 2147483648) ∧ (R32 1 ∧ ((¬ (1 : Int) = 2 → (R32 (((k / 121) / 16) + (-3)) ∧ R32 ((((k / 121) / 2) % 8) + (-3)) ∧ (isP (((k / 121) / 16) + (-3)) ((((k / 121) / 2) % 8) + (-3)) → (Q (some (vi 1)) ((2, f), mm_up (mm_up (mm_up (mm_up (mm_up (mm_up (mm_up S 112 3 ((k / 121) % 2)) 113 0 (((k / 121) / 16) + (-3))) 113 1 ((((k / 121) / 2) % 8) + (-3))) 112 5 1) 112 4 1) 115 0 ((((k % 121) - 1) - 20) / 10)) 115 1 0, L, P))) ∧ (¬ isP (((k / 121) / 16) + (-3)) ((((k / 121) / 2) % 8) + (-3)) → (Q (some (vi 0)) ((2, f), mm_up (mm_up (mm_up (mm_up (mm_up (mm_up (mm_up S 112 3 ((k / 121) % 2)) 113 0 (((k / 121) / 16) + (-3))) 113 1 ((((k / 121) / 2) % 8) + (-3))) 112 5 1) 112 4 1) 115 0 ((((k % 121) - 1) - 20) / 10)) 115 1 0, L, P))))) ∧ ((1 : Int) = 2 → (0 ≤ ((k % 121) - 1) ∧ ((k % 121) - 1) < 2147483648) ∧ ((R32 (((k / 121) / 16) + (-3)) ∧ R32 ((((k / 121) / 2) % 8) + (-3)) ∧ (isP (((k / 121) / 16) + (-3)) ((((k / 121) / 2) % 8) + (-3)) → (Q (some (vi 1)) ((2, f), mm_up (mm_up (mm_up (mm_up (mm_up (mm_up (mm_up S 112 3 ((k / 121) % 2)) 113 0 (((k / 121) / 16) + (-3))) 113 1 ((((k / 121) / 2) % 8) + (-3))) 112 5 1) 112 4 1) 115 0 ((((k % 121) - 1) - 20) / 10)) 115 1 (((k % 121) - 1) % 10), L, P))) ∧ (¬ isP (((k / 121) / 16) + (-3)) ((((k / 121) / 2) % 8) + (-3)) → (Q (some (vi 0)) ((2, f), mm_up (mm_up (mm_up (mm_up (mm_up (mm_up (mm_up S 112 3 ((k / 121) % 2)) 113 0 (((k / 121) / 16) + (-3))) 113 1 ((((k / 121) / 2) % 8) + (-3))) 112 5 1) 112 4 1) 115 0 ((((k % 121) - 1) - 20) / 10)) 115 1 (((k % 121) - 1) % 10), L, P))))))))))))) ∧ ((k % 121) = 0 → R32 0 ∧ ((¬ (0 : Int) = 2 → R32 0 ∧ ((¬ (0 : Int) = 1 → R32 0 ∧ ((¬ (0 : Int) = 2 → (R32 (((k / 121) / 16) + (-3)) ∧ R32 ((((k / 121) / 2) % 8) + (-3)) ∧ (isP (((k / 121) / 16) + (-3)) ((((k / 121) / 2) % 8) + (-3)) → (Q (some (vi 1)) ((2, f), mm_up (mm_up (mm_up (mm_up (mm_up (mm_up (mm_up S 112 3 ((k / 121) % 2)) 113 0 (((k / 121) / 16) + (-3))) 113 1 ((((k / 121) / 2) % 8) + (-3))) 112 5 1) 112 4 0) 115 0 0) 115 1 0, L, P))) ∧ (¬ isP (((k / 121) / 16) + (-3)) ((((k / 121) / 2) % 8) + (-3)) → (Q (some (vi 0)) ((2, f), mm_up (mm_up (mm_up (mm_up (mm_up (mm_up (mm_up S 112 3 ((k / 121) % 2)) 113 0 (((k / 121) / 16) + (-3))) 113 1 ((((k / 121) / 2) % 8) + (-3))) 112 5 1) 112 4 0) 115 0 0) 115 1 0, L, P))))) ∧ ((0 : Int) = 2 → (0 ≤ ((k % 121) - 1) ∧ ((k % 121) - 1) < 2147483648) ∧ ((R32 (((k / 121) / 16) + (-3)) ∧ R32 ((((k / 121) / 2) % 8) + (-3)) ∧ (isP (((k / 121) / 16) + (-3)) ((((k / 121) / 2) % 8) + (-3)) → (Q (some (vi 1)) ((2, f), mm_up (mm_up (mm_up (mm_up (mm_up (mm_up (mm_up S 112 3 ((k / 121) % 2)) 113 0 (((k / 121) / 16) + (-3))) 113 1 ((((k / 121) / 2) % 8) + (-3))) 112 5 1) 112 4 0) 115 0 0) 115 1 (((k % 121) - 1) % 10), L, P))) ∧ (¬ isP (((k / 121) / 16) + (-3)) ((((k / 121) / 2) % 8) + (-3)) → (Q (some (vi 0)) ((2, f), mm_up (mm_up (mm_up (mm_up (mm_up (mm_up (mm_up S 112 3 ((k / 121) % 2)) 113 0 (((k / 121) / 16) + (-3))) 113 1 ((((k / 121) / 2) % 8) + (-3))) 112 5 1) 112 4 0) 115 0 0) 115 1 (((k % 121) - 1) % 10), L, P)))))))) ∧ ((0 : Int) = 1 → (0 ≤ ((k % 121) - 1) ∧ ((k % 121) - 1) < 2147483648) ∧ (R32 0 ∧ ((¬ (0 : Int) = 2 → (R32 (((k / 121) / 16) + (-3)) ∧ R32 ((((k / 121) / 2) % 8) + (-3)) ∧ (isP (((k / 121) / 16) + (-3)) ((((k / 121) / 2) % 8) + (-3)) → (Q (some (vi 1)) ((2, f), mm_up (mm_up (mm_up (mm_up (mm_up (mm_up (mm_up S 112 3 ((k / 121) % 2)) 113 0 (((k / 121) / 16) + (-3))) 113 1 ((((k / 121) / 2) % 8) + (-3))) 112 5 1) 112 4 0) 115 0 (((k % 121) - 1) % 10)) 115 1 0, L, P))) ∧ (¬ isP (((k / 121) / 16) + (-3)) ((((k / 121) / 2) % 8) + (-3)) → (Q (some (vi 0)) ((2, f), mm_up (mm_up (mm_up (mm_up (mm_up (mm_up (mm_up S 112 3 ((k / 121) % 2)) 113 0 (((k / 121) / 16) + (-3))) 113 1 ((((k / 121) / 2) % 8) + (-3))) 112 5 1) 112 4 0) 115 0 (((k % 121) - 1) % 10)) 115 1 0, L, P))))) ∧ ((0 : Int) = 2 → (0 ≤ ((k % 121) - 1) ∧ ((k % 121) - 1) < 2147483648) ∧ ((R32 (((k / 121) / 16) + (-3)) ∧ R32 ((((k / 121) / 2) % 8) + (-3)) ∧ (isP (((k / 121) / 16) + (-3)) ((((k / 121) / 2) % 8) + (-3)) → (Q (some (vi 1)) ((2, f), mm_up (mm_up (mm_up (mm_up (mm_up (mm_up (mm_up S 112 3 ((k / 121) % 2)) 113 0 (((k / 121) / 16) + (-3))) 113 1 ((((k / 121) / 2) % 8) + (-3))) 112 5 1) 112 4 0) 115 0 (((k % 121) - 1) % 10)) 115 1 (((k % 121) - 1) % 10), L, P))) ∧ (¬ isP (((k / 121) / 16) + (-3)) ((((k / 121) / 2) % 8) + (-3)) → (Q (some (vi 0)) ((2, f), mm_up (mm_up (mm_up (mm_up (mm_up (mm_up (mm_up S 112 3 ((k / 121) % 2)) 113 0 (((k / 121) / 16) + (-3))) 113 1 ((((k / 121) / 2) % 8) + (-3))) 112 5 1) 112 4 0) 115 0 (((k % 121) - 1) % 10)) 115 1 (((k % 121) - 1) % 10), L, P))))))))))) ∧ ((0 : Int) = 2 → (0 ≤ (((k % 121) - 1) - 20) ∧ (((k % 121) - 1) - 20) < 2147483648) ∧ (R32 0 ∧ ((¬ (0 : Int) = 2 → (R32 (((k / 121) / 16) + (-3)) ∧ R32 ((((k / 121) / 2) % 8) + (-3)) ∧ (isP (((k / 121) / 16) + (-3)) ((((k / 121) / 2) % 8) + (-3)) → (Q (some (vi 1)) ((2, f), mm_up (mm_up (mm_up (mm_up (mm_up (mm_up (mm_up S 112 3 ((k / 121) % 2)) 113 0 (((k / 121) / 16) + (-3))) 113 1 ((((k / 121) / 2) % 8) + (-3))) 112 5 1) 112 4 0) 115 0 ((((k % 121) - 1) - 20) / 10)) 115 1 0, L, P))) ∧ (¬ isP (((k / 121) / 16) + (-3)) ((((k / 121) / 2) % 8) + (-3)) → (Q (some (vi 0)) ((2, f), mm_up (mm_up (mm_up (mm_up (mm_up (mm_up (mm_up S 112 3 ((k / 121) % 2)) 113 0 (((k / 121) / 16) + (-3))) 113 1 ((((k / 121) / 2) % 8) + (-3))) 112 5 1) 112 4 0) 115 0 ((((k % 121) - 1) - 20) / 10)) 115 1 0, L, P))))) ∧ ((0 : Int) = 2 → (0 ≤ ((k % 121) - 1) ∧ ((k % 121) - 1) < 2147483648) ∧ ((R32 (((k / 121) / 16) + (-3)) ∧ R32 ((((k / 121) / 2) % 8) + (-3)) ∧ (isP (((k / 121) / 16) + (-3)) ((((k / 121) / 2) % 8) + (-3)) → (Q (some (vi 1)) ((2, f), mm_up (mm_up (mm_up (mm_up (mm_up (mm_up (mm_up S 112 3 ((k / 121) % 2)) 113 0 (((k / 121) / 16) + (-3))) 113 1 ((((k / 121) / 2) % 8) + (-3))) 112 5 1) 112 4 0) 115 0 ((((k % 121) - 1) - 20) / 10)) 115 1 (((k % 121) - 1) % 10), L, P))) ∧ (¬ isP (((k / 121) / 16) + (-3)) ((((k / 121) / 2) % 8) + (-3)) → (Q (some (vi 0)) ((2, f), mm_up (mm_up (mm_up (mm_up (mm_up (mm_up (mm_up S 112 3 ((k / 121) % 2)) 113 0 (((k / 121) / 16) + (-3))) 113 1 ((((k / 121) / 2) % 8) + (-3))) 112 5 1) 112 4 0) 115 0 ((((k % 121) - 1) - 20) / 10)) 115 1 (((k % 121) - 1) % 10), L, P))))))))))))))))))))))) : zz_J zpX3_is_112 (zz_ret Q X 0 0) 0 [some (vr 112), some (vi k), none] [] ((2, f), S, L, P) (0, 0) := zz_J.go [] 400 h

theorem zmX3_is_112 (l : Launch) (hl : l.stackTraces = false) : mm_Spec l yX3_is (ws_ yX3_is cX3_is 3 (some .boolean)) (mm_rm 3 0 0) (zE zX3_is_112) := by
  refine zz_Met.J hl (by decide) (fun C G hnh => ztX3_is_112 G hnh) ?_
  rintro as ⟨⟨t_, f⟩, S, L, P⟩ Q X h
  unfold zX3_is_112 at h
  split at h
  rotate_left
  · exact h.elim
  rename_i h_ k
  obtain ⟨e1_, e2_, h⟩ := mm_and2 h (fun q => q)
  cases mm_beq e1_
  cases mm_beq e2_
  try dsimp only at h
  refine ⟨rfl, ?_⟩
  obtain ⟨hk, q1, q2⟩ := h
  have hP := isP_cb hk.1 hk.2
  have key : ∀ T : Nat → Nat → Int, T = cxW S 112 (isX (cx S 112) k) → ∀ a b : Int, a = k / 1936 - 3 → b = k / 242 % 8 - 3 → (isP a b → Q (some (vi 1)) ((2, f), T, L, P)) ∧ (¬ isP a b → Q (some (vi 0)) ((2, f), T, L, P)) := by
    intro T e a b ea eb
    rw [e, ea, eb]
    refine ⟨fun c => q1 (hP.mp c), fun c => q2 ?_⟩
    cases hc : cbR k with
    | false => rfl
    | true => exact absurd (hP.mpr hc) c
  have mem : ∀ a0 a1 a2 a3 a4 a5 a6 : Int, a0 = k / 1936 - 3 → a1 = k / 242 % 8 - 3 → a2 = k / 121 % 2 → a3 = (if k % 121 = 0 then 0 else if k % 121 < 21 then 1 else 2) → a4 = (if k % 121 = 0 then 0 else if k % 121 < 11 then k % 121 - 1 else if k % 121 < 21 then k % 121 - 11 else (k % 121 - 21) / 10) → a5 = (if k % 121 < 21 then 0 else (k % 121 - 21) % 10) → a6 = (if 10 < k % 121 then 1 else 0) → mm_up (mm_up (mm_up (mm_up (mm_up (mm_up (mm_up S 112 3 a2) 113 0 a0) 113 1 a1) 112 5 a6) 112 4 a3) 115 0 a4) 115 1 a5 = cxW S 112 (isX (cx S 112) k) := by
    intro a0 a1 a2 a3 a4 a5 a6 h0 h1 h2 h3 h4 h5 h6
    have e : isX (cx S 112) k = ru (ru (ru (ru (ru (ru (ru (cx S 112) 2 a2) 0 a0) 1 a1) 6 a6) 3 a3) 4 a4) 5 a5 := by
      funext j
      rw [h0, h1, h2, h3, h4, h5, h6]
      unfold isX unR ru
      by_cases j9 : 9 ≤ j
      · have := cx_9 S 112 j j9
        grind
      · grind
    rw [e]
    exact ((((((congrArg (fun T => mm_up (mm_up (mm_up (mm_up (mm_up (mm_up T 113 0 a0) 113 1 a1) 112 5 a6) 112 4 a3) 115 0 a4) 115 1 a5) (cxW_i2 S 112 a2)).trans (congrArg (fun T => mm_up (mm_up (mm_up (mm_up (mm_up T 113 1 a1) 112 5 a6) 112 4 a3) 115 0 a4) 115 1 a5) (cxW_0 S 112 _ _))).trans (congrArg (fun T => mm_up (mm_up (mm_up (mm_up T 112 5 a6) 112 4 a3) 115 0 a4) 115 1 a5) (cxW_1 S 112 _ _))).trans (congrArg (fun T => mm_up (mm_up (mm_up T 112 4 a3) 115 0 a4) 115 1 a5) (cxW_6 S 112 _ _))).trans (congrArg (fun T => mm_up (mm_up T 115 0 a4) 115 1 a5) (cxW_3 S 112 _ _))).trans (congrArg (fun T => mm_up T 115 1 a5) (cxW_4 S 112 _ _))).trans (cxW_5 S 112 _ _)
  refine zwX3_is_112_0 ?_
  (repeat' (first | omega | exact key _ (mem _ _ _ _ _ _ _ (by omega) (by omega) (by omega) (by (repeat' split) <;> omega) (by (repeat' split) <;> omega) (by (repeat' split) <;> omega) (by (repeat' split) <;> omega)) _ _ (by omega) (by omega) | apply And.intro | intro _)) <;> omega
