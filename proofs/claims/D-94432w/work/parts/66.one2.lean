/-! ===== the scores `one` (108) and `other` (112): rallies ===== -/
set_option maxRecDepth 100000
def zX3_rally_108 : zz_Sp := fun as M Q X => match as with
  | [.inr (.inr (some h_)), .inl how, .inl line] => bif Nat.beq h_ 108 && Nat.beq M.1.1 2 then ((0 ≤ how ∧ how ≤ 2) ∧ R32 line ∧ (cx M.2.1 108 6 = 0 → how = 2 → 0 ≤ line ∧ line ≤ 9) ∧ scb (cx M.2.1 108) ∧ scV (cx M.2.1 108) ∧ ∃ w_ : Nat → Int, wsc M.2.1 w_ ∧ wV w_ ∧ Q (some (vi (raO w_ (cx M.2.1 108) (clH (cx M.2.1 108) how line)))) ((2, M.1.2), cxW M.2.1 108 (crR w_ (cx M.2.1 108) how line), M.2.2.1, M.2.2.2)) else False
  | _ => False

def zpX3_rally_108 : zz_P := [(0, zo_ald 1 0), (1, zo_ild 2 1), (2, zo_ild 3 2), (3, zo_callv 6 3 2 zX3_outcome_108), (6, zo_ist 7 3), (7, zo_ild 8 3), (8, zo_c 9 (vi 1)), (9, zo_cne false true 12 19), (12, zo_ald 13 0), (13, zo_get 16 2 0 3), (16, zo_goto 25), (19, zo_c 20 (vi 1)), (20, zo_ald 21 0), (21, zo_get 24 2 0 3), (24, zo_isub 25), (25, zo_ist 27 4), (27, zo_ald 28 0), (28, zo_get 31 2 0 5), (31, zo_ifeq false 34 75), (34, zo_ald 35 0), (35, zo_get 38 2 2 2), (38, zo_c 39 (vi 0)), (39, zo_ald 40 0), (40, zo_get 43 2 2 2), (43, zo_c 44 (vi 1)), (44, zo_ialc 45 1), (45, zo_iasc 46 0), (46, zo_ald 47 0), (47, zo_dup 48), (48, zo_get 51 2 0 4), (51, zo_c 52 (vi 1)), (52, zo_isub 53), (53, zo_puti 56 2 4), (56, zo_ald 57 0), (57, zo_ald 58 0), (58, zo_get 61 2 0 4), (61, zo_ifle false 64 68), (64, zo_c 65 (vi 1)), (65, zo_goto 69), (68, zo_c 69 (vi 0)), (69, zo_putz true 72 2 5), (72, zo_goto 100), (75, zo_ild 76 1), (76, zo_c 77 (vi 2)), (77, zo_cne false true 80 100), (80, zo_ald 81 0), (81, zo_get 84 2 2 2), (84, zo_ald 85 0), (85, zo_get 88 2 0 4), (88, zo_ild 89 2), (89, zo_iasd 90), (90, zo_ald 91 0), (91, zo_dup 92), (92, zo_get 95 2 0 4), (95, zo_c 96 (vi 1)), (96, zo_iadd 97), (97, zo_puti 100 2 4), (100, zo_ild 101 3), (101, zo_ifle false 104 111), (104, zo_ald 105 0), (105, zo_ild 107 4), (107, zo_callv 110 2 2 zX3_point_108), (110, zo_pop 111), (111, zo_ald 112 0), (112, zo_callv 115 1 2 zX3_changes_108), (115, zo_ild 116 3), (116, zo_iret)]
theorem ztX3_rally_108 {C : mm_C} (G : mm_G C RX3 cX3_rally (some .int) 5 (mm_rm 5 0 0)) (hnh : mm_nh C) : zz_OKs C zpX3_rally_108 :=
  ⟨zz_of (ok_aload_n G dX3_rally_0 rfl rfl) (z_ald _ _),
   zz_of (ok_iload_n G dX3_rally_1 rfl rfl) (z_ild _ _),
   zz_of (ok_iload_n G dX3_rally_2 rfl rfl) (z_ild _ _),
   zz_of (ok_callv G hnh (zmX3_outcome_108 _ G.hst) rfl rfl (RX3, TX3, 7) rfl q1545 q1547 qs20 q87 q1548 (by decide +kernel) ⟨by decide, by decide⟩ dX3_rally_3 rfl) (z_callv _ _ _ _),
   zz_of (ok_istore_n G dX3_rally_6 rfl rfl (by decide)) (z_ist _ _),
   zz_of (ok_iload_n G dX3_rally_7 rfl rfl) (z_ild _ _),
   zz_of (ok_iconst G (v := 1) dX3_rally_8 (by decide) rfl) (z_cn 9 1),
   zz_of (ok_cne G dX3_rally_9 rfl rfl) (z_cne _ _ _ _),
   zz_of (ok_aload_n G dX3_rally_12 rfl rfl) (z_ald _ _),
   zz_of (ok_get G (nx := 16) (ci := 2) (kd := 0) (k := 3) (RX3, TX3, 7) rfl (by decide) rfl q187 dX3_rally_13 rfl) (z_get _ _ _ _),
   zz_of (ok_goto G dX3_rally_16 rfl) (z_goto _),
   zz_of (ok_iconst G (v := 1) dX3_rally_19 (by decide) rfl) (z_cn 20 1),
   zz_of (ok_aload_n G dX3_rally_20 rfl rfl) (z_ald _ _),
   zz_of (ok_get G (nx := 24) (ci := 2) (kd := 0) (k := 3) (RX3, TX3, 7) rfl (by decide) rfl q187 dX3_rally_21 rfl) (z_get _ _ _ _),
   zz_of (ok_isub G dX3_rally_24 rfl) (z_isub _),
   zz_of (ok_istore G dX3_rally_25 rfl (by decide)) (z_ist _ _),
   zz_of (ok_aload_n G dX3_rally_27 rfl rfl) (z_ald _ _),
   zz_of (ok_get G (nx := 31) (ci := 2) (kd := 0) (k := 5) (RX3, TX3, 7) rfl (by decide) rfl q194 dX3_rally_28 rfl) (z_get _ _ _ _),
   zz_of (ok_ifeq G dX3_rally_31 rfl rfl) (z_ifeq _ _ _),
   zz_of (ok_aload_n G dX3_rally_34 rfl rfl) (z_ald _ _),
   zz_of (ok_get G (nx := 38) (ci := 2) (kd := 2) (k := 2) (RX3, TX3, 7) rfl (by decide) rfl q184 dX3_rally_35 rfl) (z_get _ _ _ _),
   zz_of (ok_iconst G (v := 0) dX3_rally_38 (by decide) rfl) (z_cn 39 0),
   zz_of (ok_aload_n G dX3_rally_39 rfl rfl) (z_ald _ _),
   zz_of (ok_get G (nx := 43) (ci := 2) (kd := 2) (k := 2) (RX3, TX3, 7) rfl (by decide) rfl q184 dX3_rally_40 rfl) (z_get _ _ _ _),
   zz_of (ok_iconst G (v := 1) dX3_rally_43 (by decide) rfl) (z_cn 44 1),
   zz_of (ok_iald G dX3_rally_44 rfl) (z_ialc _ _),
   zz_of (ok_iast G dX3_rally_45 rfl) (z_iasc _ _),
   zz_of (ok_aload_n G dX3_rally_46 rfl rfl) (z_ald _ _),
   zz_of (ok_dup G dX3_rally_47 rfl) (z_dup _),
   zz_of (ok_get G (nx := 51) (ci := 2) (kd := 0) (k := 4) (RX3, TX3, 7) rfl (by decide) rfl q190 dX3_rally_48 rfl) (z_get _ _ _ _),
   zz_of (ok_iconst G (v := 1) dX3_rally_51 (by decide) rfl) (z_cn 52 1),
   zz_of (ok_isub G dX3_rally_52 rfl) (z_isub _),
   zz_of (ok_puti G (nx := 56) (idx := 29) (ci := 2) (k := 4) (RX3, TX3, 7) rfl (by decide) rfl (mm_pw G (ci := 2) (k := 4) (RX3, TX3, 7) rfl (by decide) rfl q190 dX3_rally_53) rfl) (z_puti _ _ _),
   zz_of (ok_aload_n G dX3_rally_56 rfl rfl) (z_ald _ _),
   zz_of (ok_aload_n G dX3_rally_57 rfl rfl) (z_ald _ _),
   zz_of (ok_get G (nx := 61) (ci := 2) (kd := 0) (k := 4) (RX3, TX3, 7) rfl (by decide) rfl q190 dX3_rally_58 rfl) (z_get _ _ _ _),
   zz_of (ok_ifle G dX3_rally_61 rfl rfl) (z_ifle _ _ _),
   zz_of (ok_iconst G (v := 1) dX3_rally_64 (by decide) rfl) (z_cn 65 1),
   zz_of (ok_goto G dX3_rally_65 rfl) (z_goto _),
   zz_of (ok_iconst G (v := 0) dX3_rally_68 (by decide) rfl) (z_cn 69 0),
   zz_of (ok_putz G (nx := 72) (idx := 32) (ci := 2) (k := 5) (RX3, TX3, 7) rfl (by decide) rfl (mm_pw G (ci := 2) (k := 5) (RX3, TX3, 7) rfl (by decide) rfl q194 dX3_rally_69) rfl) (z_putz _ _ _ _),
   zz_of (ok_goto G dX3_rally_72 rfl) (z_goto _),
   zz_of (ok_iload_n G dX3_rally_75 rfl rfl) (z_ild _ _),
   zz_of (ok_iconst G (v := 2) dX3_rally_76 (by decide) rfl) (z_cn 77 2),
   zz_of (ok_cne G dX3_rally_77 rfl rfl) (z_cne _ _ _ _),
   zz_of (ok_aload_n G dX3_rally_80 rfl rfl) (z_ald _ _),
   zz_of (ok_get G (nx := 84) (ci := 2) (kd := 2) (k := 2) (RX3, TX3, 7) rfl (by decide) rfl q184 dX3_rally_81 rfl) (z_get _ _ _ _),
   zz_of (ok_aload_n G dX3_rally_84 rfl rfl) (z_ald _ _),
   zz_of (ok_get G (nx := 88) (ci := 2) (kd := 0) (k := 4) (RX3, TX3, 7) rfl (by decide) rfl q190 dX3_rally_85 rfl) (z_get _ _ _ _),
   zz_of (ok_iload_n G dX3_rally_88 rfl rfl) (z_ild _ _),
   zz_of (ok_iast G dX3_rally_89 rfl) (z_iasd _),
   zz_of (ok_aload_n G dX3_rally_90 rfl rfl) (z_ald _ _),
   zz_of (ok_dup G dX3_rally_91 rfl) (z_dup _),
   zz_of (ok_get G (nx := 95) (ci := 2) (kd := 0) (k := 4) (RX3, TX3, 7) rfl (by decide) rfl q190 dX3_rally_92 rfl) (z_get _ _ _ _),
   zz_of (ok_iconst G (v := 1) dX3_rally_95 (by decide) rfl) (z_cn 96 1),
   zz_of (ok_iadd G dX3_rally_96 rfl) (z_iadd _),
   zz_of (ok_puti G (nx := 100) (idx := 29) (ci := 2) (k := 4) (RX3, TX3, 7) rfl (by decide) rfl (mm_pw G (ci := 2) (k := 4) (RX3, TX3, 7) rfl (by decide) rfl q190 dX3_rally_97) rfl) (z_puti _ _ _),
   zz_of (ok_iload_n G dX3_rally_100 rfl rfl) (z_ild _ _),
   zz_of (ok_ifle G dX3_rally_101 rfl rfl) (z_ifle _ _ _),
   zz_of (ok_aload_n G dX3_rally_104 rfl rfl) (z_ald _ _),
   zz_of (ok_iload G dX3_rally_105 rfl) (z_ild _ _),
   zz_of (ok_callv G hnh (zmX3_point_108 _ G.hst) rfl rfl (RX3, TX3, 7) rfl q1549 q1551 qs21 q87 q1552 (by decide +kernel) ⟨by decide, by decide⟩ dX3_rally_107 rfl) (z_callv _ _ _ _),
   zz_of (ok_pop G dX3_rally_110 rfl) (z_pop _),
   zz_of (ok_aload_n G dX3_rally_111 rfl rfl) (z_ald _ _),
   zz_of (ok_callv G hnh (zmX3_changes_108 _ G.hst) rfl rfl (RX3, TX3, 7) rfl q1553 q1555 qs22 q87 q1556 (by decide +kernel) ⟨by decide, by decide⟩ dX3_rally_112 rfl) (z_callv _ _ _ _),
   zz_of (ok_iload_n G dX3_rally_115 rfl rfl) (z_ild _ _),
   zz_of (ok_iret G dX3_rally_116) (z_iret), trivial⟩

theorem zwX3_rally_108_0 {Q : Option zv → zz_M → Prop} {X : Nat → zz_M → Prop} {f : Nat → Nat × Nat} {S L : Nat → Nat → Int} {P : Nat → Nat → Option Nat} {how : Int} {line : Int} (h : ((0 ≤ how ∧ how ≤ 2) ∧ R32 line ∧ (cx S 108 6 = 0 → how = 2 → 0 ≤ line ∧ line ≤ 9) ∧ scb (cx S 108) ∧ (cx S 108 2 = 0 ∨ cx S 108 2 = 1) ∧ (cx S 108 6 = 0 ∨ cx S 108 6 = 1) ∧ ∃ w_1 : Nat → Int, wsc S w_1 ∧ wV w_1 ∧ (R32 (raO w_1 (cx S 108) (clH (cx S 108) how line)) ∧ ((¬ (raO w_1 (cx S 108) (clH (cx S 108) how line)) = 1 → R32 (S 108 5) ∧ (((S 108 5) = 0 → R32 how ∧ ((¬ how = 2 → zz_J zpX3_rally_108 (zz_ret Q X 0 0) 100 [some (vr 108), none, none, some (vi (raO w_1 (cx S 108) (clH (cx S 108) how line))), some (vi (1 - (S 108 3)))] [] ((2, f), S, L, P) (0, 0)) ∧ (how = 2 → (0 ≤ (S 108 4) ∧ (S 108 4) < 2) ∧ (zz_J zpX3_rally_108 (zz_ret Q X 0 0) 100 [some (vr 108), none, none, some (vi (raO w_1 (cx S 108) (clH (cx S 108) how line))), some (vi (1 - (S 108 3)))] [] ((2, f), mm_up (mm_up S 111 ((S 108 4).toNat) line) 108 4 ((S 108 4) + 1), L, P) (0, 0))))) ∧ (¬ (S 108 5) = 0 → R32 ((S 108 4) - 1) ∧ ((((S 108 4) - 1) ≤ 0 → zz_J zpX3_rally_108 (zz_ret Q X 0 0) 100 [some (vr 108), none, none, some (vi (raO w_1 (cx S 108) (clH (cx S 108) how line))), some (vi (1 - (S 108 3)))] [] ((2, f), mm_up (mm_up (mm_up S 111 0 (S 111 1)) 108 4 ((S 108 4) - 1)) 108 5 0, L, P) (0, 0)) ∧ (¬ ((S 108 4) - 1) ≤ 0 → zz_J zpX3_rally_108 (zz_ret Q X 0 0) 100 [some (vr 108), none, none, some (vi (raO w_1 (cx S 108) (clH (cx S 108) how line))), some (vi (1 - (S 108 3)))] [] ((2, f), mm_up (mm_up (mm_up S 111 0 (S 111 1)) 108 4 ((S 108 4) - 1)) 108 5 1, L, P) (0, 0)))))) ∧ ((raO w_1 (cx S 108) (clH (cx S 108) how line)) = 1 → R32 (S 108 5) ∧ (((S 108 5) = 0 → R32 how ∧ ((¬ how = 2 → zz_J zpX3_rally_108 (zz_ret Q X 0 0) 100 [some (vr 108), none, none, some (vi (raO w_1 (cx S 108) (clH (cx S 108) how line))), some (vi (S 108 3))] [] ((2, f), S, L, P) (0, 0)) ∧ (how = 2 → (0 ≤ (S 108 4) ∧ (S 108 4) < 2) ∧ (zz_J zpX3_rally_108 (zz_ret Q X 0 0) 100 [some (vr 108), none, none, some (vi (raO w_1 (cx S 108) (clH (cx S 108) how line))), some (vi (S 108 3))] [] ((2, f), mm_up (mm_up S 111 ((S 108 4).toNat) line) 108 4 ((S 108 4) + 1), L, P) (0, 0))))) ∧ (¬ (S 108 5) = 0 → R32 ((S 108 4) - 1) ∧ ((((S 108 4) - 1) ≤ 0 → zz_J zpX3_rally_108 (zz_ret Q X 0 0) 100 [some (vr 108), none, none, some (vi (raO w_1 (cx S 108) (clH (cx S 108) how line))), some (vi (S 108 3))] [] ((2, f), mm_up (mm_up (mm_up S 111 0 (S 111 1)) 108 4 ((S 108 4) - 1)) 108 5 0, L, P) (0, 0)) ∧ (¬ ((S 108 4) - 1) ≤ 0 → zz_J zpX3_rally_108 (zz_ret Q X 0 0) 100 [some (vr 108), none, none, some (vi (raO w_1 (cx S 108) (clH (cx S 108) how line))), some (vi (S 108 3))] [] ((2, f), mm_up (mm_up (mm_up S 111 0 (S 111 1)) 108 4 ((S 108 4) - 1)) 108 5 1, L, P) (0, 0)))))))))) : zz_J zpX3_rally_108 (zz_ret Q X 0 0) 0 [some (vr 108), some (vi how), some (vi line), none, none] [] ((2, f), S, L, P) (0, 0) := zz_J.go [(100, [1, 2])] 400 h
theorem zwX3_rally_108_100 {Q : Option zv → zz_M → Prop} {X : Nat → zz_M → Prop} {f : Nat → Nat × Nat} {S L : Nat → Nat → Int} {P : Nat → Nat → Option Nat} {x3 : Int} {x4 : Int} (h : R32 x3 ∧ ((x3 ≤ 0 → (scc (cx S 108) ∧ 0 ≤ cx S 108 3 ∧ (cx S 108 6 = 0 ∨ cx S 108 6 = 1) ∧ (-60 ≤ S 200 2 ∧ S 200 2 ≤ 60) ∧ ∃ w_1 : Nat → Int, wsc S w_1 ∧ (Q (some (vi x3)) ((2, f), cxW S 108 (cchR w_1 (cx S 108)), L, P)))) ∧ (¬ x3 ≤ 0 → ((x4 = 0 ∨ x4 = 1) ∧ scb (cx S 108) ∧ ∃ w_2 : Nat → Int, wsc S w_2 ∧ (ptw (cx S 108) x4.toNat = true → ((scc (cx (cxW S 108 (pnt w_2 (cx S 108) x4.toNat)) 108) ∧ 0 ≤ cx (cxW S 108 (pnt w_2 (cx S 108) x4.toNat)) 108 3 ∧ (cx (cxW S 108 (pnt w_2 (cx S 108) x4.toNat)) 108 6 = 0 ∨ cx (cxW S 108 (pnt w_2 (cx S 108) x4.toNat)) 108 6 = 1) ∧ (-60 ≤ (cxW S 108 (pnt w_2 (cx S 108) x4.toNat)) 200 2 ∧ (cxW S 108 (pnt w_2 (cx S 108) x4.toNat)) 200 2 ≤ 60) ∧ ∃ w_3 : Nat → Int, wsc (cxW S 108 (pnt w_2 (cx S 108) x4.toNat)) w_3 ∧ (Q (some (vi x3)) ((2, f), cxW (cxW S 108 (pnt w_2 (cx S 108) x4.toNat)) 108 (cchR w_3 (cx (cxW S 108 (pnt w_2 (cx S 108) x4.toNat)) 108)), L, P))))) ∧ (ptw (cx S 108) x4.toNat = false → ((scc (cx (cxW S 108 (pnt w_2 (cx S 108) x4.toNat)) 108) ∧ 0 ≤ cx (cxW S 108 (pnt w_2 (cx S 108) x4.toNat)) 108 3 ∧ (cx (cxW S 108 (pnt w_2 (cx S 108) x4.toNat)) 108 6 = 0 ∨ cx (cxW S 108 (pnt w_2 (cx S 108) x4.toNat)) 108 6 = 1) ∧ (-60 ≤ (cxW S 108 (pnt w_2 (cx S 108) x4.toNat)) 200 2 ∧ (cxW S 108 (pnt w_2 (cx S 108) x4.toNat)) 200 2 ≤ 60) ∧ ∃ w_4 : Nat → Int, wsc (cxW S 108 (pnt w_2 (cx S 108) x4.toNat)) w_4 ∧ (Q (some (vi x3)) ((2, f), cxW (cxW S 108 (pnt w_2 (cx S 108) x4.toNat)) 108 (cchR w_4 (cx (cxW S 108 (pnt w_2 (cx S 108) x4.toNat)) 108)), L, P))))))))) : zz_J zpX3_rally_108 (zz_ret Q X 0 0) 100 [some (vr 108), none, none, some (vi x3), some (vi x4)] [] ((2, f), S, L, P) (0, 0) := zz_J.go [(100, [1, 2])] 400 h

theorem zmX3_rally_108 (l : Launch) (hl : l.stackTraces = false) : mm_Spec l yX3_rally (ws_ yX3_rally cX3_rally 5 (some .int)) (mm_rm 5 0 0) (zE zX3_rally_108) := by
  refine zz_Met.J hl (by decide) (fun C G hnh => ztX3_rally_108 G hnh) ?_
  rintro as ⟨⟨t_, f⟩, S, L, P⟩ Q X h
  unfold zX3_rally_108 at h
  split at h
  rotate_left
  · exact h.elim
  rename_i h_ how line
  obtain ⟨e1_, e2_, h⟩ := mm_and2 h (fun q => q)
  cases mm_beq e1_
  cases mm_beq e2_
  try dsimp only at h
  refine ⟨rfl, ?_⟩
  obtain ⟨hh, hl, hl2, hb, hx, w, hw, hv, hq⟩ := h
  have h2 := hx.2.1
  have h36 : 0 ≤ cx S 108 3 ∧ cx S 108 3 ≤ 2 ∧ (cx S 108 6 = 0 ∨ cx S 108 6 = 1) ∧ (cx S 108 6 = 0 → cx S 108 3 ≤ 1) := by
    rcases hx.2.2 with ⟨a, b⟩ | ⟨a, b, -⟩ | ⟨a, b, -⟩ <;> omega
  have e2 : cx S 108 2 = S 108 3 := rfl
  have e3 : cx S 108 3 = S 108 4 := rfl
  have e5 : cx S 108 5 = S 111 1 := rfl
  have e6 : cx S 108 6 = S 108 5 := rfl
  have hrw := raO_p (w := w) (h := clH (cx S 108) how line) h2
  obtain ⟨hA1, hA2, hA3⟩ := crA_b hx hb hl2
  have hA9 := crA_9 (how := how) (line := line) (cx_9 S 108)
  have ecA := cx_cxW S 108 _ hA9
  have hwA := wsc_cxW (x := crA (cx S 108) how line) hw (show 108 = 204 ∨ 108 = 108 ∨ 108 = 112 by decide)
  have hcl := hwA.2.1
  have t100 : ∀ p : Int, (raO w (cx S 108) (clH (cx S 108) how line) ≠ 0 → p = rlW w (cx S 108) (clH (cx S 108) how line)) → zz_J zpX3_rally_108 (zz_ret Q X 0 0) 100 [some (vr 108), none, none, some (vi (raO w (cx S 108) (clH (cx S 108) how line))), some (vi p)] [] ((2, f), cxW S 108 (crA (cx S 108) how line), L, P) (0, 0) := by
    intro p hp
    have hv2 := hv.2.1
    refine zwX3_rally_108_100 ?_
    rw [ecA, hcl]
    refine ⟨by omega, fun a => ⟨(scb.c hA1), hA2, hA3, by omega, w, hwA, ?_⟩, fun a => ?_⟩
    · rw [cxW_cxW]
      have e : crR w (cx S 108) how line = cchR w (crA (cx S 108) how line) := by
        unfold crR
        rw [if_pos (by omega)]
      rw [e] at hq
      exact hq
    · have hne : rlW w (cx S 108) (clH (cx S 108) how line) ≠ -1 := by omega
      have ep := hp (by omega)
      have hp01 : p = 0 ∨ p = 1 := by omega
      have hp2 : p.toNat < 2 := by omega
      have h9 := pnt_9 (w := w) (x := crA (cx S 108) how line) (p := p.toNat) hp2 hA9
      have ecx := cx_cxW S 108 _ h9
      have hsc := pnt_scc (w := w) hA1 hv hp2
      have h36' := pnt_36 (w := w) (x := crA (cx S 108) how line) hp2 hA2 hA3
      have hw2 := wsc_cxW (x := pnt w (crA (cx S 108) how line) p.toNat) hw (show 108 = 204 ∨ 108 = 108 ∨ 108 = 112 by decide)
      have hcl2 := hw2.2.1
      have e : crR w (cx S 108) how line = cchR w (pnt w (crA (cx S 108) how line) p.toNat) := by
        unfold crR
        rw [if_neg hne, ep]
      rw [e] at hq
      refine ⟨hp01, hA1, w, hwA, fun b => ?_, fun b => ?_⟩
      all_goals
        rw [cxW_cxW, ecx, hcl2]
        refine ⟨hsc, h36'.1, h36'.2, by omega, w, hw2, ?_⟩
        rw [cxW_cxW]
        exact hq
  have fin : ∀ (T : Nat → Nat → Int) (p : Int), T = cxW S 108 (crA (cx S 108) how line) → (raO w (cx S 108) (clH (cx S 108) how line) ≠ 0 → p = rlW w (cx S 108) (clH (cx S 108) how line)) → zz_J zpX3_rally_108 (zz_ret Q X 0 0) 100 [some (vr 108), none, none, some (vi (raO w (cx S 108) (clH (cx S 108) how line))), some (vi p)] [] ((2, f), T, L, P) (0, 0) := fun T p e => by rw [e]; exact t100 p
  -- the three ways of the score
  have f1 : cx S 108 6 = 1 → 0 < cx S 108 3 - 1 → mm_up (mm_up (mm_up S 111 0 (S 111 1)) 108 4 (S 108 4 - 1)) 108 5 1 = cxW S 108 (crA (cx S 108) how line) := by
    intro a b
    have e : crA (cx S 108) how line = ru (ru (ru (cx S 108) 4 (S 111 1)) 3 (S 108 4 - 1)) 6 1 := by
      unfold crA crG
      rw [if_pos a, if_pos b]
      rfl
    rw [e]
    exact ((congrArg (fun T => mm_up (mm_up T 108 4 (S 108 4 - 1)) 108 5 1) (cxW_i4 S 108 (S 111 1))).trans (congrArg (fun T => mm_up T 108 5 1) (cxW_3 S 108 _ _))).trans (cxW_6 S 108 _ _)
  have f2 : cx S 108 6 = 1 → ¬ 0 < cx S 108 3 - 1 → mm_up (mm_up (mm_up S 111 0 (S 111 1)) 108 4 (S 108 4 - 1)) 108 5 0 = cxW S 108 (crA (cx S 108) how line) := by
    intro a b
    have e : crA (cx S 108) how line = ru (ru (ru (cx S 108) 4 (S 111 1)) 3 (S 108 4 - 1)) 6 0 := by
      unfold crA crG
      rw [if_pos a, if_neg b]
      rfl
    rw [e]
    exact ((congrArg (fun T => mm_up (mm_up T 108 4 (S 108 4 - 1)) 108 5 0) (cxW_i4 S 108 (S 111 1))).trans (congrArg (fun T => mm_up T 108 5 0) (cxW_3 S 108 _ _))).trans (cxW_6 S 108 _ _)
  have f3 : cx S 108 6 = 0 → how = 2 → mm_up (mm_up S 111 (S 108 4).toNat line) 108 4 (S 108 4 + 1) = cxW S 108 (crA (cx S 108) how line) := by
    intro a b
    have e : crA (cx S 108) how line = crC (cx S 108) line := by unfold crA; rw [if_neg (by omega), if_pos b]
    rw [e]
    unfold crC
    have : cx S 108 3 = 0 ∨ cx S 108 3 = 1 := by omega
    rcases this with c | c
    · rw [if_pos c]
      rw [e3] at c ⊢
      rw [c]
      exact (congrArg (fun T => mm_up T 108 4 ((0 : Int) + 1)) (cxW_i4 S 108 line)).trans (cxW_3 S 108 _ _)
    · rw [if_neg (by omega)]
      rw [e3] at c ⊢
      rw [c]
      exact (congrArg (fun T => mm_up T 108 4 ((1 : Int) + 1)) (cxW_i5 S 108 line)).trans (cxW_3 S 108 _ _)
  have f4 : cx S 108 6 = 0 → how ≠ 2 → S = cxW S 108 (crA (cx S 108) how line) := by
    intro a b
    have e : crA (cx S 108) how line = cx S 108 := by unfold crA; rw [if_neg (by omega), if_neg b]
    rw [e, cxW_id]
  refine zwX3_rally_108_0 ⟨hh, hl, hl2, hb, h2, h36.2.2.1, w, hw, hv, by omega, fun a => ?_, fun a => ?_⟩
  · refine ⟨by omega, fun c => ⟨by omega, fun d => fin _ _ (f4 (by omega) d) (fun _ => by omega), fun d => ⟨by omega, fin _ _ (f3 (by omega) d) (fun _ => by omega)⟩⟩, fun c => ⟨by omega, fun d => fin _ _ (f2 (by omega) (by omega)) (fun _ => by omega), fun d => fin _ _ (f1 (by omega) (by omega)) (fun _ => by omega)⟩⟩
  · refine ⟨by omega, fun c => ⟨by omega, fun d => fin _ _ (f4 (by omega) d) (fun _ => by omega), fun d => ⟨by omega, fin _ _ (f3 (by omega) d) (fun _ => by omega)⟩⟩, fun c => ⟨by omega, fun d => fin _ _ (f2 (by omega) (by omega)) (fun _ => by omega), fun d => fin _ _ (f1 (by omega) (by omega)) (fun _ => by omega)⟩⟩
def zX3_rally_112 : zz_Sp := fun as M Q X => match as with
  | [.inr (.inr (some h_)), .inl how, .inl line] => bif Nat.beq h_ 112 && Nat.beq M.1.1 2 then ((0 ≤ how ∧ how ≤ 2) ∧ R32 line ∧ (cx M.2.1 112 6 = 0 → how = 2 → 0 ≤ line ∧ line ≤ 9) ∧ scb (cx M.2.1 112) ∧ scV (cx M.2.1 112) ∧ ∃ w_ : Nat → Int, wsc M.2.1 w_ ∧ wV w_ ∧ Q (some (vi (raO w_ (cx M.2.1 112) (clH (cx M.2.1 112) how line)))) ((2, M.1.2), cxW M.2.1 112 (crR w_ (cx M.2.1 112) how line), M.2.2.1, M.2.2.2)) else False
  | _ => False

def zpX3_rally_112 : zz_P := [(0, zo_ald 1 0), (1, zo_ild 2 1), (2, zo_ild 3 2), (3, zo_callv 6 3 2 zX3_outcome_112), (6, zo_ist 7 3), (7, zo_ild 8 3), (8, zo_c 9 (vi 1)), (9, zo_cne false true 12 19), (12, zo_ald 13 0), (13, zo_get 16 2 0 3), (16, zo_goto 25), (19, zo_c 20 (vi 1)), (20, zo_ald 21 0), (21, zo_get 24 2 0 3), (24, zo_isub 25), (25, zo_ist 27 4), (27, zo_ald 28 0), (28, zo_get 31 2 0 5), (31, zo_ifeq false 34 75), (34, zo_ald 35 0), (35, zo_get 38 2 2 2), (38, zo_c 39 (vi 0)), (39, zo_ald 40 0), (40, zo_get 43 2 2 2), (43, zo_c 44 (vi 1)), (44, zo_ialc 45 1), (45, zo_iasc 46 0), (46, zo_ald 47 0), (47, zo_dup 48), (48, zo_get 51 2 0 4), (51, zo_c 52 (vi 1)), (52, zo_isub 53), (53, zo_puti 56 2 4), (56, zo_ald 57 0), (57, zo_ald 58 0), (58, zo_get 61 2 0 4), (61, zo_ifle false 64 68), (64, zo_c 65 (vi 1)), (65, zo_goto 69), (68, zo_c 69 (vi 0)), (69, zo_putz true 72 2 5), (72, zo_goto 100), (75, zo_ild 76 1), (76, zo_c 77 (vi 2)), (77, zo_cne false true 80 100), (80, zo_ald 81 0), (81, zo_get 84 2 2 2), (84, zo_ald 85 0), (85, zo_get 88 2 0 4), (88, zo_ild 89 2), (89, zo_iasd 90), (90, zo_ald 91 0), (91, zo_dup 92), (92, zo_get 95 2 0 4), (95, zo_c 96 (vi 1)), (96, zo_iadd 97), (97, zo_puti 100 2 4), (100, zo_ild 101 3), (101, zo_ifle false 104 111), (104, zo_ald 105 0), (105, zo_ild 107 4), (107, zo_callv 110 2 2 zX3_point_112), (110, zo_pop 111), (111, zo_ald 112 0), (112, zo_callv 115 1 2 zX3_changes_112), (115, zo_ild 116 3), (116, zo_iret)]
theorem ztX3_rally_112 {C : mm_C} (G : mm_G C RX3 cX3_rally (some .int) 5 (mm_rm 5 0 0)) (hnh : mm_nh C) : zz_OKs C zpX3_rally_112 :=
  ⟨zz_of (ok_aload_n G dX3_rally_0 rfl rfl) (z_ald _ _),
   zz_of (ok_iload_n G dX3_rally_1 rfl rfl) (z_ild _ _),
   zz_of (ok_iload_n G dX3_rally_2 rfl rfl) (z_ild _ _),
   zz_of (ok_callv G hnh (zmX3_outcome_112 _ G.hst) rfl rfl (RX3, TX3, 7) rfl q1545 q1547 qs20 q87 q1548 (by decide +kernel) ⟨by decide, by decide⟩ dX3_rally_3 rfl) (z_callv _ _ _ _),
   zz_of (ok_istore_n G dX3_rally_6 rfl rfl (by decide)) (z_ist _ _),
   zz_of (ok_iload_n G dX3_rally_7 rfl rfl) (z_ild _ _),
   zz_of (ok_iconst G (v := 1) dX3_rally_8 (by decide) rfl) (z_cn 9 1),
   zz_of (ok_cne G dX3_rally_9 rfl rfl) (z_cne _ _ _ _),
   zz_of (ok_aload_n G dX3_rally_12 rfl rfl) (z_ald _ _),
   zz_of (ok_get G (nx := 16) (ci := 2) (kd := 0) (k := 3) (RX3, TX3, 7) rfl (by decide) rfl q187 dX3_rally_13 rfl) (z_get _ _ _ _),
   zz_of (ok_goto G dX3_rally_16 rfl) (z_goto _),
   zz_of (ok_iconst G (v := 1) dX3_rally_19 (by decide) rfl) (z_cn 20 1),
   zz_of (ok_aload_n G dX3_rally_20 rfl rfl) (z_ald _ _),
   zz_of (ok_get G (nx := 24) (ci := 2) (kd := 0) (k := 3) (RX3, TX3, 7) rfl (by decide) rfl q187 dX3_rally_21 rfl) (z_get _ _ _ _),
   zz_of (ok_isub G dX3_rally_24 rfl) (z_isub _),
   zz_of (ok_istore G dX3_rally_25 rfl (by decide)) (z_ist _ _),
   zz_of (ok_aload_n G dX3_rally_27 rfl rfl) (z_ald _ _),
   zz_of (ok_get G (nx := 31) (ci := 2) (kd := 0) (k := 5) (RX3, TX3, 7) rfl (by decide) rfl q194 dX3_rally_28 rfl) (z_get _ _ _ _),
   zz_of (ok_ifeq G dX3_rally_31 rfl rfl) (z_ifeq _ _ _),
   zz_of (ok_aload_n G dX3_rally_34 rfl rfl) (z_ald _ _),
   zz_of (ok_get G (nx := 38) (ci := 2) (kd := 2) (k := 2) (RX3, TX3, 7) rfl (by decide) rfl q184 dX3_rally_35 rfl) (z_get _ _ _ _),
   zz_of (ok_iconst G (v := 0) dX3_rally_38 (by decide) rfl) (z_cn 39 0),
   zz_of (ok_aload_n G dX3_rally_39 rfl rfl) (z_ald _ _),
   zz_of (ok_get G (nx := 43) (ci := 2) (kd := 2) (k := 2) (RX3, TX3, 7) rfl (by decide) rfl q184 dX3_rally_40 rfl) (z_get _ _ _ _),
   zz_of (ok_iconst G (v := 1) dX3_rally_43 (by decide) rfl) (z_cn 44 1),
   zz_of (ok_iald G dX3_rally_44 rfl) (z_ialc _ _),
   zz_of (ok_iast G dX3_rally_45 rfl) (z_iasc _ _),
   zz_of (ok_aload_n G dX3_rally_46 rfl rfl) (z_ald _ _),
   zz_of (ok_dup G dX3_rally_47 rfl) (z_dup _),
   zz_of (ok_get G (nx := 51) (ci := 2) (kd := 0) (k := 4) (RX3, TX3, 7) rfl (by decide) rfl q190 dX3_rally_48 rfl) (z_get _ _ _ _),
   zz_of (ok_iconst G (v := 1) dX3_rally_51 (by decide) rfl) (z_cn 52 1),
   zz_of (ok_isub G dX3_rally_52 rfl) (z_isub _),
   zz_of (ok_puti G (nx := 56) (idx := 29) (ci := 2) (k := 4) (RX3, TX3, 7) rfl (by decide) rfl (mm_pw G (ci := 2) (k := 4) (RX3, TX3, 7) rfl (by decide) rfl q190 dX3_rally_53) rfl) (z_puti _ _ _),
   zz_of (ok_aload_n G dX3_rally_56 rfl rfl) (z_ald _ _),
   zz_of (ok_aload_n G dX3_rally_57 rfl rfl) (z_ald _ _),
   zz_of (ok_get G (nx := 61) (ci := 2) (kd := 0) (k := 4) (RX3, TX3, 7) rfl (by decide) rfl q190 dX3_rally_58 rfl) (z_get _ _ _ _),
   zz_of (ok_ifle G dX3_rally_61 rfl rfl) (z_ifle _ _ _),
   zz_of (ok_iconst G (v := 1) dX3_rally_64 (by decide) rfl) (z_cn 65 1),
   zz_of (ok_goto G dX3_rally_65 rfl) (z_goto _),
   zz_of (ok_iconst G (v := 0) dX3_rally_68 (by decide) rfl) (z_cn 69 0),
   zz_of (ok_putz G (nx := 72) (idx := 32) (ci := 2) (k := 5) (RX3, TX3, 7) rfl (by decide) rfl (mm_pw G (ci := 2) (k := 5) (RX3, TX3, 7) rfl (by decide) rfl q194 dX3_rally_69) rfl) (z_putz _ _ _ _),
   zz_of (ok_goto G dX3_rally_72 rfl) (z_goto _),
   zz_of (ok_iload_n G dX3_rally_75 rfl rfl) (z_ild _ _),
   zz_of (ok_iconst G (v := 2) dX3_rally_76 (by decide) rfl) (z_cn 77 2),
   zz_of (ok_cne G dX3_rally_77 rfl rfl) (z_cne _ _ _ _),
   zz_of (ok_aload_n G dX3_rally_80 rfl rfl) (z_ald _ _),
   zz_of (ok_get G (nx := 84) (ci := 2) (kd := 2) (k := 2) (RX3, TX3, 7) rfl (by decide) rfl q184 dX3_rally_81 rfl) (z_get _ _ _ _),
   zz_of (ok_aload_n G dX3_rally_84 rfl rfl) (z_ald _ _),
   zz_of (ok_get G (nx := 88) (ci := 2) (kd := 0) (k := 4) (RX3, TX3, 7) rfl (by decide) rfl q190 dX3_rally_85 rfl) (z_get _ _ _ _),
   zz_of (ok_iload_n G dX3_rally_88 rfl rfl) (z_ild _ _),
   zz_of (ok_iast G dX3_rally_89 rfl) (z_iasd _),
   zz_of (ok_aload_n G dX3_rally_90 rfl rfl) (z_ald _ _),
   zz_of (ok_dup G dX3_rally_91 rfl) (z_dup _),
   zz_of (ok_get G (nx := 95) (ci := 2) (kd := 0) (k := 4) (RX3, TX3, 7) rfl (by decide) rfl q190 dX3_rally_92 rfl) (z_get _ _ _ _),
   zz_of (ok_iconst G (v := 1) dX3_rally_95 (by decide) rfl) (z_cn 96 1),
   zz_of (ok_iadd G dX3_rally_96 rfl) (z_iadd _),
   zz_of (ok_puti G (nx := 100) (idx := 29) (ci := 2) (k := 4) (RX3, TX3, 7) rfl (by decide) rfl (mm_pw G (ci := 2) (k := 4) (RX3, TX3, 7) rfl (by decide) rfl q190 dX3_rally_97) rfl) (z_puti _ _ _),
   zz_of (ok_iload_n G dX3_rally_100 rfl rfl) (z_ild _ _),
   zz_of (ok_ifle G dX3_rally_101 rfl rfl) (z_ifle _ _ _),
   zz_of (ok_aload_n G dX3_rally_104 rfl rfl) (z_ald _ _),
   zz_of (ok_iload G dX3_rally_105 rfl) (z_ild _ _),
   zz_of (ok_callv G hnh (zmX3_point_112 _ G.hst) rfl rfl (RX3, TX3, 7) rfl q1549 q1551 qs21 q87 q1552 (by decide +kernel) ⟨by decide, by decide⟩ dX3_rally_107 rfl) (z_callv _ _ _ _),
   zz_of (ok_pop G dX3_rally_110 rfl) (z_pop _),
   zz_of (ok_aload_n G dX3_rally_111 rfl rfl) (z_ald _ _),
   zz_of (ok_callv G hnh (zmX3_changes_112 _ G.hst) rfl rfl (RX3, TX3, 7) rfl q1553 q1555 qs22 q87 q1556 (by decide +kernel) ⟨by decide, by decide⟩ dX3_rally_112 rfl) (z_callv _ _ _ _),
   zz_of (ok_iload_n G dX3_rally_115 rfl rfl) (z_ild _ _),
   zz_of (ok_iret G dX3_rally_116) (z_iret), trivial⟩

theorem zwX3_rally_112_0 {Q : Option zv → zz_M → Prop} {X : Nat → zz_M → Prop} {f : Nat → Nat × Nat} {S L : Nat → Nat → Int} {P : Nat → Nat → Option Nat} {how : Int} {line : Int} (h : ((0 ≤ how ∧ how ≤ 2) ∧ R32 line ∧ (cx S 112 6 = 0 → how = 2 → 0 ≤ line ∧ line ≤ 9) ∧ scb (cx S 112) ∧ (cx S 112 2 = 0 ∨ cx S 112 2 = 1) ∧ (cx S 112 6 = 0 ∨ cx S 112 6 = 1) ∧ ∃ w_1 : Nat → Int, wsc S w_1 ∧ wV w_1 ∧ (R32 (raO w_1 (cx S 112) (clH (cx S 112) how line)) ∧ ((¬ (raO w_1 (cx S 112) (clH (cx S 112) how line)) = 1 → R32 (S 112 5) ∧ (((S 112 5) = 0 → R32 how ∧ ((¬ how = 2 → zz_J zpX3_rally_112 (zz_ret Q X 0 0) 100 [some (vr 112), none, none, some (vi (raO w_1 (cx S 112) (clH (cx S 112) how line))), some (vi (1 - (S 112 3)))] [] ((2, f), S, L, P) (0, 0)) ∧ (how = 2 → (0 ≤ (S 112 4) ∧ (S 112 4) < 2) ∧ (zz_J zpX3_rally_112 (zz_ret Q X 0 0) 100 [some (vr 112), none, none, some (vi (raO w_1 (cx S 112) (clH (cx S 112) how line))), some (vi (1 - (S 112 3)))] [] ((2, f), mm_up (mm_up S 115 ((S 112 4).toNat) line) 112 4 ((S 112 4) + 1), L, P) (0, 0))))) ∧ (¬ (S 112 5) = 0 → R32 ((S 112 4) - 1) ∧ ((((S 112 4) - 1) ≤ 0 → zz_J zpX3_rally_112 (zz_ret Q X 0 0) 100 [some (vr 112), none, none, some (vi (raO w_1 (cx S 112) (clH (cx S 112) how line))), some (vi (1 - (S 112 3)))] [] ((2, f), mm_up (mm_up (mm_up S 115 0 (S 115 1)) 112 4 ((S 112 4) - 1)) 112 5 0, L, P) (0, 0)) ∧ (¬ ((S 112 4) - 1) ≤ 0 → zz_J zpX3_rally_112 (zz_ret Q X 0 0) 100 [some (vr 112), none, none, some (vi (raO w_1 (cx S 112) (clH (cx S 112) how line))), some (vi (1 - (S 112 3)))] [] ((2, f), mm_up (mm_up (mm_up S 115 0 (S 115 1)) 112 4 ((S 112 4) - 1)) 112 5 1, L, P) (0, 0)))))) ∧ ((raO w_1 (cx S 112) (clH (cx S 112) how line)) = 1 → R32 (S 112 5) ∧ (((S 112 5) = 0 → R32 how ∧ ((¬ how = 2 → zz_J zpX3_rally_112 (zz_ret Q X 0 0) 100 [some (vr 112), none, none, some (vi (raO w_1 (cx S 112) (clH (cx S 112) how line))), some (vi (S 112 3))] [] ((2, f), S, L, P) (0, 0)) ∧ (how = 2 → (0 ≤ (S 112 4) ∧ (S 112 4) < 2) ∧ (zz_J zpX3_rally_112 (zz_ret Q X 0 0) 100 [some (vr 112), none, none, some (vi (raO w_1 (cx S 112) (clH (cx S 112) how line))), some (vi (S 112 3))] [] ((2, f), mm_up (mm_up S 115 ((S 112 4).toNat) line) 112 4 ((S 112 4) + 1), L, P) (0, 0))))) ∧ (¬ (S 112 5) = 0 → R32 ((S 112 4) - 1) ∧ ((((S 112 4) - 1) ≤ 0 → zz_J zpX3_rally_112 (zz_ret Q X 0 0) 100 [some (vr 112), none, none, some (vi (raO w_1 (cx S 112) (clH (cx S 112) how line))), some (vi (S 112 3))] [] ((2, f), mm_up (mm_up (mm_up S 115 0 (S 115 1)) 112 4 ((S 112 4) - 1)) 112 5 0, L, P) (0, 0)) ∧ (¬ ((S 112 4) - 1) ≤ 0 → zz_J zpX3_rally_112 (zz_ret Q X 0 0) 100 [some (vr 112), none, none, some (vi (raO w_1 (cx S 112) (clH (cx S 112) how line))), some (vi (S 112 3))] [] ((2, f), mm_up (mm_up (mm_up S 115 0 (S 115 1)) 112 4 ((S 112 4) - 1)) 112 5 1, L, P) (0, 0)))))))))) : zz_J zpX3_rally_112 (zz_ret Q X 0 0) 0 [some (vr 112), some (vi how), some (vi line), none, none] [] ((2, f), S, L, P) (0, 0) := zz_J.go [(100, [1, 2])] 400 h
theorem zwX3_rally_112_100 {Q : Option zv → zz_M → Prop} {X : Nat → zz_M → Prop} {f : Nat → Nat × Nat} {S L : Nat → Nat → Int} {P : Nat → Nat → Option Nat} {x3 : Int} {x4 : Int} (h : R32 x3 ∧ ((x3 ≤ 0 → (scc (cx S 112) ∧ 0 ≤ cx S 112 3 ∧ (cx S 112 6 = 0 ∨ cx S 112 6 = 1) ∧ (-60 ≤ S 200 2 ∧ S 200 2 ≤ 60) ∧ ∃ w_1 : Nat → Int, wsc S w_1 ∧ (Q (some (vi x3)) ((2, f), cxW S 112 (cchR w_1 (cx S 112)), L, P)))) ∧ (¬ x3 ≤ 0 → ((x4 = 0 ∨ x4 = 1) ∧ scb (cx S 112) ∧ ∃ w_2 : Nat → Int, wsc S w_2 ∧ (ptw (cx S 112) x4.toNat = true → ((scc (cx (cxW S 112 (pnt w_2 (cx S 112) x4.toNat)) 112) ∧ 0 ≤ cx (cxW S 112 (pnt w_2 (cx S 112) x4.toNat)) 112 3 ∧ (cx (cxW S 112 (pnt w_2 (cx S 112) x4.toNat)) 112 6 = 0 ∨ cx (cxW S 112 (pnt w_2 (cx S 112) x4.toNat)) 112 6 = 1) ∧ (-60 ≤ (cxW S 112 (pnt w_2 (cx S 112) x4.toNat)) 200 2 ∧ (cxW S 112 (pnt w_2 (cx S 112) x4.toNat)) 200 2 ≤ 60) ∧ ∃ w_3 : Nat → Int, wsc (cxW S 112 (pnt w_2 (cx S 112) x4.toNat)) w_3 ∧ (Q (some (vi x3)) ((2, f), cxW (cxW S 112 (pnt w_2 (cx S 112) x4.toNat)) 112 (cchR w_3 (cx (cxW S 112 (pnt w_2 (cx S 112) x4.toNat)) 112)), L, P))))) ∧ (ptw (cx S 112) x4.toNat = false → ((scc (cx (cxW S 112 (pnt w_2 (cx S 112) x4.toNat)) 112) ∧ 0 ≤ cx (cxW S 112 (pnt w_2 (cx S 112) x4.toNat)) 112 3 ∧ (cx (cxW S 112 (pnt w_2 (cx S 112) x4.toNat)) 112 6 = 0 ∨ cx (cxW S 112 (pnt w_2 (cx S 112) x4.toNat)) 112 6 = 1) ∧ (-60 ≤ (cxW S 112 (pnt w_2 (cx S 112) x4.toNat)) 200 2 ∧ (cxW S 112 (pnt w_2 (cx S 112) x4.toNat)) 200 2 ≤ 60) ∧ ∃ w_4 : Nat → Int, wsc (cxW S 112 (pnt w_2 (cx S 112) x4.toNat)) w_4 ∧ (Q (some (vi x3)) ((2, f), cxW (cxW S 112 (pnt w_2 (cx S 112) x4.toNat)) 112 (cchR w_4 (cx (cxW S 112 (pnt w_2 (cx S 112) x4.toNat)) 112)), L, P))))))))) : zz_J zpX3_rally_112 (zz_ret Q X 0 0) 100 [some (vr 112), none, none, some (vi x3), some (vi x4)] [] ((2, f), S, L, P) (0, 0) := zz_J.go [(100, [1, 2])] 400 h

theorem zmX3_rally_112 (l : Launch) (hl : l.stackTraces = false) : mm_Spec l yX3_rally (ws_ yX3_rally cX3_rally 5 (some .int)) (mm_rm 5 0 0) (zE zX3_rally_112) := by
  refine zz_Met.J hl (by decide) (fun C G hnh => ztX3_rally_112 G hnh) ?_
  rintro as ⟨⟨t_, f⟩, S, L, P⟩ Q X h
  unfold zX3_rally_112 at h
  split at h
  rotate_left
  · exact h.elim
  rename_i h_ how line
  obtain ⟨e1_, e2_, h⟩ := mm_and2 h (fun q => q)
  cases mm_beq e1_
  cases mm_beq e2_
  try dsimp only at h
  refine ⟨rfl, ?_⟩
  obtain ⟨hh, hl, hl2, hb, hx, w, hw, hv, hq⟩ := h
  have h2 := hx.2.1
  have h36 : 0 ≤ cx S 112 3 ∧ cx S 112 3 ≤ 2 ∧ (cx S 112 6 = 0 ∨ cx S 112 6 = 1) ∧ (cx S 112 6 = 0 → cx S 112 3 ≤ 1) := by
    rcases hx.2.2 with ⟨a, b⟩ | ⟨a, b, -⟩ | ⟨a, b, -⟩ <;> omega
  have e2 : cx S 112 2 = S 112 3 := rfl
  have e3 : cx S 112 3 = S 112 4 := rfl
  have e5 : cx S 112 5 = S 115 1 := rfl
  have e6 : cx S 112 6 = S 112 5 := rfl
  have hrw := raO_p (w := w) (h := clH (cx S 112) how line) h2
  obtain ⟨hA1, hA2, hA3⟩ := crA_b hx hb hl2
  have hA9 := crA_9 (how := how) (line := line) (cx_9 S 112)
  have ecA := cx_cxW S 112 _ hA9
  have hwA := wsc_cxW (x := crA (cx S 112) how line) hw (show 112 = 204 ∨ 112 = 108 ∨ 112 = 112 by decide)
  have hcl := hwA.2.1
  have t100 : ∀ p : Int, (raO w (cx S 112) (clH (cx S 112) how line) ≠ 0 → p = rlW w (cx S 112) (clH (cx S 112) how line)) → zz_J zpX3_rally_112 (zz_ret Q X 0 0) 100 [some (vr 112), none, none, some (vi (raO w (cx S 112) (clH (cx S 112) how line))), some (vi p)] [] ((2, f), cxW S 112 (crA (cx S 112) how line), L, P) (0, 0) := by
    intro p hp
    have hv2 := hv.2.1
    refine zwX3_rally_112_100 ?_
    rw [ecA, hcl]
    refine ⟨by omega, fun a => ⟨(scb.c hA1), hA2, hA3, by omega, w, hwA, ?_⟩, fun a => ?_⟩
    · rw [cxW_cxW]
      have e : crR w (cx S 112) how line = cchR w (crA (cx S 112) how line) := by
        unfold crR
        rw [if_pos (by omega)]
      rw [e] at hq
      exact hq
    · have hne : rlW w (cx S 112) (clH (cx S 112) how line) ≠ -1 := by omega
      have ep := hp (by omega)
      have hp01 : p = 0 ∨ p = 1 := by omega
      have hp2 : p.toNat < 2 := by omega
      have h9 := pnt_9 (w := w) (x := crA (cx S 112) how line) (p := p.toNat) hp2 hA9
      have ecx := cx_cxW S 112 _ h9
      have hsc := pnt_scc (w := w) hA1 hv hp2
      have h36' := pnt_36 (w := w) (x := crA (cx S 112) how line) hp2 hA2 hA3
      have hw2 := wsc_cxW (x := pnt w (crA (cx S 112) how line) p.toNat) hw (show 112 = 204 ∨ 112 = 108 ∨ 112 = 112 by decide)
      have hcl2 := hw2.2.1
      have e : crR w (cx S 112) how line = cchR w (pnt w (crA (cx S 112) how line) p.toNat) := by
        unfold crR
        rw [if_neg hne, ep]
      rw [e] at hq
      refine ⟨hp01, hA1, w, hwA, fun b => ?_, fun b => ?_⟩
      all_goals
        rw [cxW_cxW, ecx, hcl2]
        refine ⟨hsc, h36'.1, h36'.2, by omega, w, hw2, ?_⟩
        rw [cxW_cxW]
        exact hq
  have fin : ∀ (T : Nat → Nat → Int) (p : Int), T = cxW S 112 (crA (cx S 112) how line) → (raO w (cx S 112) (clH (cx S 112) how line) ≠ 0 → p = rlW w (cx S 112) (clH (cx S 112) how line)) → zz_J zpX3_rally_112 (zz_ret Q X 0 0) 100 [some (vr 112), none, none, some (vi (raO w (cx S 112) (clH (cx S 112) how line))), some (vi p)] [] ((2, f), T, L, P) (0, 0) := fun T p e => by rw [e]; exact t100 p
  -- the three ways of the score
  have f1 : cx S 112 6 = 1 → 0 < cx S 112 3 - 1 → mm_up (mm_up (mm_up S 115 0 (S 115 1)) 112 4 (S 112 4 - 1)) 112 5 1 = cxW S 112 (crA (cx S 112) how line) := by
    intro a b
    have e : crA (cx S 112) how line = ru (ru (ru (cx S 112) 4 (S 115 1)) 3 (S 112 4 - 1)) 6 1 := by
      unfold crA crG
      rw [if_pos a, if_pos b]
      rfl
    rw [e]
    exact ((congrArg (fun T => mm_up (mm_up T 112 4 (S 112 4 - 1)) 112 5 1) (cxW_i4 S 112 (S 115 1))).trans (congrArg (fun T => mm_up T 112 5 1) (cxW_3 S 112 _ _))).trans (cxW_6 S 112 _ _)
  have f2 : cx S 112 6 = 1 → ¬ 0 < cx S 112 3 - 1 → mm_up (mm_up (mm_up S 115 0 (S 115 1)) 112 4 (S 112 4 - 1)) 112 5 0 = cxW S 112 (crA (cx S 112) how line) := by
    intro a b
    have e : crA (cx S 112) how line = ru (ru (ru (cx S 112) 4 (S 115 1)) 3 (S 112 4 - 1)) 6 0 := by
      unfold crA crG
      rw [if_pos a, if_neg b]
      rfl
    rw [e]
    exact ((congrArg (fun T => mm_up (mm_up T 112 4 (S 112 4 - 1)) 112 5 0) (cxW_i4 S 112 (S 115 1))).trans (congrArg (fun T => mm_up T 112 5 0) (cxW_3 S 112 _ _))).trans (cxW_6 S 112 _ _)
  have f3 : cx S 112 6 = 0 → how = 2 → mm_up (mm_up S 115 (S 112 4).toNat line) 112 4 (S 112 4 + 1) = cxW S 112 (crA (cx S 112) how line) := by
    intro a b
    have e : crA (cx S 112) how line = crC (cx S 112) line := by unfold crA; rw [if_neg (by omega), if_pos b]
    rw [e]
    unfold crC
    have : cx S 112 3 = 0 ∨ cx S 112 3 = 1 := by omega
    rcases this with c | c
    · rw [if_pos c]
      rw [e3] at c ⊢
      rw [c]
      exact (congrArg (fun T => mm_up T 112 4 ((0 : Int) + 1)) (cxW_i4 S 112 line)).trans (cxW_3 S 112 _ _)
    · rw [if_neg (by omega)]
      rw [e3] at c ⊢
      rw [c]
      exact (congrArg (fun T => mm_up T 112 4 ((1 : Int) + 1)) (cxW_i5 S 112 line)).trans (cxW_3 S 112 _ _)
  have f4 : cx S 112 6 = 0 → how ≠ 2 → S = cxW S 112 (crA (cx S 112) how line) := by
    intro a b
    have e : crA (cx S 112) how line = cx S 112 := by unfold crA; rw [if_neg (by omega), if_neg b]
    rw [e, cxW_id]
  refine zwX3_rally_112_0 ⟨hh, hl, hl2, hb, h2, h36.2.2.1, w, hw, hv, by omega, fun a => ?_, fun a => ?_⟩
  · refine ⟨by omega, fun c => ⟨by omega, fun d => fin _ _ (f4 (by omega) d) (fun _ => by omega), fun d => ⟨by omega, fin _ _ (f3 (by omega) d) (fun _ => by omega)⟩⟩, fun c => ⟨by omega, fun d => fin _ _ (f2 (by omega) (by omega)) (fun _ => by omega), fun d => fin _ _ (f1 (by omega) (by omega)) (fun _ => by omega)⟩⟩
  · refine ⟨by omega, fun c => ⟨by omega, fun d => fin _ _ (f4 (by omega) d) (fun _ => by omega), fun d => ⟨by omega, fin _ _ (f3 (by omega) d) (fun _ => by omega)⟩⟩, fun c => ⟨by omega, fun d => fin _ _ (f2 (by omega) (by omega)) (fun _ => by omega), fun d => fin _ _ (f1 (by omega) (by omega)) (fun _ => by omega)⟩⟩
