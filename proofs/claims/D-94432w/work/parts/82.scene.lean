/-! ===== what a rule is asked in ===== -/
set_option maxRecDepth 100000
theorem q_go {M : zz_M} {h ci k x : Nat} {G : Nat → Prop} {G0 : Prop} (hs : zsh M h = (1, ci)) (hx : zpt M h k = some x) (g : G x) : zsh M h = (1, ci) ∧ (∀ b : Nat, zpt M h k = some b → G b) ∧ (zpt M h k = none → G0) := by
  refine ⟨hs, fun b e => ?_, fun e => ?_⟩
  · rw [hx] at e
    cases e
    exact g
  · rw [hx] at e
    cases e
def zJ18_ordinal : zz_Sp := fun as M Q X => match as with
  | [.inr (.inr (some h_))] => (1200 ≤ h_ ∧ h_ ≤ 1204) ∧ Q (some (vi ((h_ - 1200 : Nat) : Int))) M
  | _ => False

def zpJ18_ordinal : zz_P := [(0, zo_ald 1 0), (1, zo_ordF 4), (4, zo_iret)]
theorem ztJ18_ordinal {C : mm_C} (G : mm_G C RJ18 cJ18_ordinal (some .int) 1 (mm_rm 1 0 0)) (hnh : mm_nh C) : zz_OKs C zpJ18_ordinal :=
  ⟨zz_of (ok_aload_n G dJ18_ordinal_0 rfl rfl) (z_ald _ _),
   zz_of (ok_ordF G q2280 dJ18_ordinal_1 rfl) (z_ordF _),
   zz_of (ok_iret G dJ18_ordinal_4) (z_iret), trivial⟩

theorem zwJ18_ordinal_0 {Q : Option zv → zz_M → Prop} {X : Nat → zz_M → Prop} {M : zz_M} {h_ : Nat} (h : (1200 ≤ h_ ∧ h_ ≤ 1204) ∧ (Q (some (vi ((h_ - 1200 : Nat) : Int))) M)) : zz_J zpJ18_ordinal (zz_ret Q X 0 0) 0 [some (vr h_)] [] M (0, 0) := zz_J.go [] 400 h

theorem zmJ18_ordinal (l : Launch) (hl : l.stackTraces = false) : mm_Spec l yJ18_ordinal (ws_ yJ18_ordinal cJ18_ordinal 1 (some .int)) (mm_rm 1 0 0) (zE zJ18_ordinal) := by
  refine zz_Met.J hl (by decide) (fun C G hnh => ztJ18_ordinal G hnh) ?_
  rintro as M Q X h
  unfold zJ18_ordinal at h
  split at h
  rotate_left
  · exact h.elim
  rename_i h_
  refine ⟨rfl, ?_⟩
  exact zwJ18_ordinal_0 h
def zX5_at : zz_Sp := fun as M Q X => match as with
  | [.inr (.inr (some h_)), .inr (.inr (some s)), .inl p] => bif Nat.beq h_ 103 && Nat.beq M.1.1 2 then (Q (some (vr 103)) ((2, M.1.2), mm_up M.2.1 103 1 p, M.2.2.1, mm_up M.2.2.2 103 0 (some s))) else False
  | _ => False

def zpX5_at : zz_P := [(0, zo_ald 1 0), (1, zo_ald 2 1), (2, zo_putr 5 4 0), (5, zo_ald 6 0), (6, zo_ild 7 2), (7, zo_puti 10 4 1), (10, zo_ald 11 0), (11, zo_aret)]
theorem ztX5_at {C : mm_C} (G : mm_G C RX5 cX5_at (some (.object "ChaseCourt$Scene")) 3 (mm_rm 1 0 0)) (hnh : mm_nh C) : zz_OKs C zpX5_at :=
  ⟨zz_of (ok_aload_n G dX5_at_0 rfl rfl) (z_ald _ _),
   zz_of (ok_aload_n G dX5_at_1 rfl rfl) (z_ald _ _),
   zz_of (ok_putr G (nx := 5) (idx := 15) (ci := 4) (k := 0) (RX5, TX5, 3) rfl (by decide) rfl (mm_pw G (ci := 4) (k := 0) (RX5, TX5, 3) rfl (by decide) rfl q304 dX5_at_2) rfl) (z_putr _ _ _),
   zz_of (ok_aload_n G dX5_at_5 rfl rfl) (z_ald _ _),
   zz_of (ok_iload_n G dX5_at_6 rfl rfl) (z_ild _ _),
   zz_of (ok_puti G (nx := 10) (idx := 19) (ci := 4) (k := 1) (RX5, TX5, 3) rfl (by decide) rfl (mm_pw G (ci := 4) (k := 1) (RX5, TX5, 3) rfl (by decide) rfl q306 dX5_at_7) rfl) (z_puti _ _ _),
   zz_of (ok_aload_n G dX5_at_10 rfl rfl) (z_ald _ _),
   zz_of (ok_aret G (Or.inl ⟨_, rfl⟩) dX5_at_11) (z_aret), trivial⟩

theorem zwX5_at_0 {Q : Option zv → zz_M → Prop} {X : Nat → zz_M → Prop} {f : Nat → Nat × Nat} {S L : Nat → Nat → Int} {P : Nat → Nat → Option Nat} {s : Nat} {p : Int} (h : Q (some (vr 103)) ((2, f), mm_up S 103 1 p, L, mm_up P 103 0 (some s))) : zz_J zpX5_at (zz_ret Q X 0 0) 0 [some (vr 103), some (vr s), some (vi p)] [] ((2, f), S, L, P) (0, 0) := zz_J.go [] 400 h

theorem zmX5_at (l : Launch) (hl : l.stackTraces = false) : mm_Spec l yX5_at (ws_ yX5_at cX5_at 3 (some (.object "ChaseCourt$Scene"))) (mm_rm 1 0 0) (zE zX5_at) := by
  refine zz_Met.J hl (by decide) (fun C G hnh => ztX5_at G hnh) ?_
  rintro as ⟨⟨t_, f⟩, S, L, P⟩ Q X h
  unfold zX5_at at h
  split at h
  rotate_left
  · exact h.elim
  rename_i h_ s p
  obtain ⟨e1_, e2_, h⟩ := mm_and2 h (fun q => q)
  cases mm_beq e1_
  cases mm_beq e2_
  try dsimp only at h
  refine ⟨rfl, ?_⟩
  exact zwX5_at_0 h
def zX5_serves : zz_Sp := fun as M Q X => match as with
  | [.inr (.inr (some h_))] => bif Nat.beq h_ 103 && Nat.beq M.1.1 2 then (∃ q_ p_ : Nat, M.2.2.2 103 0 = some q_ ∧ (q_ = 204 ∨ q_ = 108) ∧ M.2.1 103 1 = (p_ : Int) ∧ p_ < 2 ∧ (cx M.2.1 q_ 2 = 0 ∨ cx M.2.1 q_ 2 = 1) ∧ (cx M.2.1 q_ 2 = (p_ : Int) → Q (some (vi 1)) ((2, M.1.2), M.2.1, M.2.2.1, M.2.2.2)) ∧ (¬ cx M.2.1 q_ 2 = (p_ : Int) → Q (some (vi 0)) ((2, M.1.2), M.2.1, M.2.2.1, M.2.2.2))) else False
  | _ => False

def zpX5_serves : zz_P := [(0, zo_ald 1 0), (1, zo_getq 4 4 0), (4, zo_getp 7 2 0 3), (7, zo_ald 8 0), (8, zo_get 11 4 0 1), (11, zo_cne false false 14 18), (14, zo_c 15 (vi 1)), (15, zo_goto 19), (18, zo_c 19 (vi 0)), (19, zo_zret true)]
theorem ztX5_serves {C : mm_C} (G : mm_G C RX5 cX5_serves (some .boolean) 1 (mm_rm 1 0 0)) (hnh : mm_nh C) : zz_OKs C zpX5_serves :=
  ⟨zz_of (ok_aload_n G dX5_serves_0 rfl rfl) (z_ald _ _),
   zz_of (ok_get G (nx := 4) (ci := 4) (kd := 2) (k := 0) (RX5, TX5, 3) rfl (by decide) rfl q304 dX5_serves_1 rfl) (z_getq _ _ _),
   zz_of (ok_getN G (nx := 7) (ci := 2) (kd := 0) (k := 3) (RX3, TX3, 7) rfl (by decide) rfl q188 dX5_serves_4 rfl) (z_getp _ _ _ _),
   zz_of (ok_aload_n G dX5_serves_7 rfl rfl) (z_ald _ _),
   zz_of (ok_get G (nx := 11) (ci := 4) (kd := 0) (k := 1) (RX5, TX5, 3) rfl (by decide) rfl q306 dX5_serves_8 rfl) (z_get _ _ _ _),
   zz_of (ok_cne G dX5_serves_11 rfl rfl) (z_cne _ _ _ _),
   zz_of (ok_iconst G (v := 1) dX5_serves_14 (by decide) rfl) (z_cn 15 1),
   zz_of (ok_goto G dX5_serves_15 rfl) (z_goto _),
   zz_of (ok_iconst G (v := 0) dX5_serves_18 (by decide) rfl) (z_cn 19 0),
   zz_of (ok_zret G dX5_serves_19) (z_zret _), trivial⟩

theorem zwX5_serves_0 {Q : Option zv → zz_M → Prop} {X : Nat → zz_M → Prop} {f : Nat → Nat × Nat} {S L : Nat → Nat → Int} {P : Nat → Nat → Option Nat}  (h : zsh ((2, f), S, L, P) 103 = (1, 4) ∧ (∀ b1 : Nat, zpt ((2, f), S, L, P) 103 0 = some b1 → zsh ((2, f), S, L, P) b1 = (1, 2) ∧ (R32 (S b1 3) ∧ (R32 (S 103 1) ∧ ((¬ (S b1 3) = (S 103 1) → Q (some (vi 0)) ((2, f), S, L, P)) ∧ ((S b1 3) = (S 103 1) → Q (some (vi 1)) ((2, f), S, L, P)))))) ∧ (zpt ((2, f), S, L, P) 103 0 = none → False)) : zz_J zpX5_serves (zz_ret Q X 0 0) 0 [some (vr 103)] [] ((2, f), S, L, P) (0, 0) := zz_J.go [] 400 h

theorem zmX5_serves (l : Launch) (hl : l.stackTraces = false) : mm_Spec l yX5_serves (ws_ yX5_serves cX5_serves 1 (some .boolean)) (mm_rm 1 0 0) (zE zX5_serves) := by
  refine zz_Met.J hl (by decide) (fun C G hnh => ztX5_serves G hnh) ?_
  rintro as ⟨⟨t_, f⟩, S, L, P⟩ Q X h
  unfold zX5_serves at h
  split at h
  rotate_left
  · exact h.elim
  rename_i h_
  obtain ⟨e1_, e2_, h⟩ := mm_and2 h (fun q => q)
  cases mm_beq e1_
  cases mm_beq e2_
  try dsimp only at h
  refine ⟨rfl, ?_⟩
  obtain ⟨q, p, hP, hq, hp, hp2, h2, q1, q2⟩ := h
  refine zwX5_serves_0 (q_go rfl hP ?_)
  rcases hq with e | e <;> subst e
  · refine ⟨rfl, ?_⟩
    have e2 : cx S 204 2 = S 204 3 := rfl
    rw [e2] at h2 q1 q2
    rw [hp]
    exact ⟨by omega, by omega, fun c => q2 c, fun c => q1 c⟩
  · refine ⟨rfl, ?_⟩
    have e2 : cx S 108 2 = S 108 3 := rfl
    rw [e2] at h2 q1 q2
    rw [hp]
    exact ⟨by omega, by omega, fun c => q2 c, fun c => q1 c⟩
def zX5_of : zz_Sp := fun as M Q X => match as with
  | [.inr (.inr (some h_)), .inr (.inr (some e))] => bif Nat.beq h_ 103 && Nat.beq M.1.1 2 then (∃ q_ p_ : Nat, M.2.2.2 103 0 = some q_ ∧ (q_ = 204 ∨ q_ = 108) ∧ M.2.1 103 1 = (p_ : Int) ∧ p_ < 2 ∧ scV (cx M.2.1 q_) ∧ (1200 ≤ e ∧ e ≤ 1204) ∧ Q (some (vi (fcX (cx M.2.1 q_) p_ (e - 1200)))) ((2, M.1.2), M.2.1, M.2.2.1, M.2.2.2)) else False
  | _ => False

def zpX5_of : zz_P := [(0, zo_ald 1 1), (1, zo_cfc (mm_rm 2 0 0) 4 0 0 zJ18_ordinal), (4, zo_sw false [(0, 36), (1, 52), (2, 70), (3, 117)] 125), (36, zo_ald 37 0), (37, zo_getq 40 4 0), (40, zo_getq 43 2 0), (43, zo_ald 44 0), (44, zo_get 47 4 0 1), (47, zo_ialp 48), (48, zo_c 50 (vi (-3))), (50, zo_isub 51), (51, zo_iret), (52, zo_ald 53 0), (53, zo_getq 56 4 0), (56, zo_getq 59 2 0), (59, zo_c 60 (vi 1)), (60, zo_ald 61 0), (61, zo_get 64 4 0 1), (64, zo_isub 65), (65, zo_ialp 66), (66, zo_c 68 (vi (-3))), (68, zo_isub 69), (69, zo_iret), (70, zo_ald 71 0), (71, zo_getq 74 4 0), (74, zo_getp 77 2 0 4), (77, zo_ifne false 80 85), (80, zo_c 82 (vi 10)), (82, zo_goto 116), (85, zo_ald 86 0), (86, zo_getq 89 4 0), (89, zo_getq 92 2 2), (92, zo_ald 93 0), (93, zo_getq 96 4 0), (96, zo_getp 99 2 0 5), (99, zo_ifeq false 102 106), (102, zo_c 103 (vi 0)), (103, zo_goto 115), (106, zo_ald 107 0), (107, zo_getq 110 4 0), (110, zo_getp 113 2 0 4), (113, zo_c 114 (vi 1)), (114, zo_isub 115), (115, zo_ialp 116), (116, zo_iret), (117, zo_ald 118 0), (118, zo_getq 121 4 0), (121, zo_getp 124 2 0 4), (124, zo_iret), (125, zo_ald 126 0), (126, zo_getq 129 4 0), (129, zo_getq 132 2 1), (132, zo_ald 133 0), (133, zo_get 136 4 0 1), (136, zo_ialp 137), (137, zo_iret)]
theorem ztX5_of {C : mm_C} (G : mm_G C RX5 cX5_of (some .int) 2 (mm_rm 2 0 0)) (hnh : mm_nh C) : zz_OKs C zpX5_of :=
  ⟨zz_of (ok_aload_n G dX5_of_0 rfl rfl) (z_ald _ _),
   zz_of (ok_calfc G (hnh.q 1) (zmJ18_ordinal _ G.hst) q1439 q1440 q1443 q1442 q119 q1444 rfl (by decide +kernel) ⟨Nat.le_of_ble_eq_true rfl, Nat.le_of_ble_eq_true rfl⟩ dX5_of_1 rfl) (z_cfc _ _ _ _ _),
   zz_of (ok_tsw G (l := [(0, 36), (1, 52), (2, 70), (3, 117)]) (d := 125) dX5_of_4 (mm_tswo (by decide) (by decide +kernel)) (mm_tswi (by decide +kernel))) (z_sw _ _ _),
   zz_of (ok_aload_n G dX5_of_36 rfl rfl) (z_ald _ _),
   zz_of (ok_get G (nx := 40) (ci := 4) (kd := 2) (k := 0) (RX5, TX5, 3) rfl (by decide) rfl q304 dX5_of_37 rfl) (z_getq _ _ _),
   zz_of (ok_getN G (nx := 43) (ci := 2) (kd := 2) (k := 0) (RX3, TX3, 7) rfl (by decide) rfl q177 dX5_of_40 rfl) (z_getq _ _ _),
   zz_of (ok_aload_n G dX5_of_43 rfl rfl) (z_ald _ _),
   zz_of (ok_get G (nx := 47) (ci := 4) (kd := 0) (k := 1) (RX5, TX5, 3) rfl (by decide) rfl q306 dX5_of_44 rfl) (z_get _ _ _ _),
   zz_of (ok_iald G dX5_of_47 rfl) (z_ialp _),
   zz_of (ok_bipush G (v := (zI (-3))) dX5_of_48 (by decide) rfl) (z_cz 50 (-3)),
   zz_of (ok_isub G dX5_of_50 rfl) (z_isub _),
   zz_of (ok_iret G dX5_of_51) (z_iret),
   zz_of (ok_aload_n G dX5_of_52 rfl rfl) (z_ald _ _),
   zz_of (ok_get G (nx := 56) (ci := 4) (kd := 2) (k := 0) (RX5, TX5, 3) rfl (by decide) rfl q304 dX5_of_53 rfl) (z_getq _ _ _),
   zz_of (ok_getN G (nx := 59) (ci := 2) (kd := 2) (k := 0) (RX3, TX3, 7) rfl (by decide) rfl q177 dX5_of_56 rfl) (z_getq _ _ _),
   zz_of (ok_iconst G (v := 1) dX5_of_59 (by decide) rfl) (z_cn 60 1),
   zz_of (ok_aload_n G dX5_of_60 rfl rfl) (z_ald _ _),
   zz_of (ok_get G (nx := 64) (ci := 4) (kd := 0) (k := 1) (RX5, TX5, 3) rfl (by decide) rfl q306 dX5_of_61 rfl) (z_get _ _ _ _),
   zz_of (ok_isub G dX5_of_64 rfl) (z_isub _),
   zz_of (ok_iald G dX5_of_65 rfl) (z_ialp _),
   zz_of (ok_bipush G (v := (zI (-3))) dX5_of_66 (by decide) rfl) (z_cz 68 (-3)),
   zz_of (ok_isub G dX5_of_68 rfl) (z_isub _),
   zz_of (ok_iret G dX5_of_69) (z_iret),
   zz_of (ok_aload_n G dX5_of_70 rfl rfl) (z_ald _ _),
   zz_of (ok_get G (nx := 74) (ci := 4) (kd := 2) (k := 0) (RX5, TX5, 3) rfl (by decide) rfl q304 dX5_of_71 rfl) (z_getq _ _ _),
   zz_of (ok_getN G (nx := 77) (ci := 2) (kd := 0) (k := 4) (RX3, TX3, 7) rfl (by decide) rfl q191 dX5_of_74 rfl) (z_getp _ _ _ _),
   zz_of (ok_ifne G dX5_of_77 rfl rfl) (z_ifne _ _ _),
   zz_of (ok_bipush G (v := 10) dX5_of_80 (by decide) rfl) (z_cn 82 10),
   zz_of (ok_goto G dX5_of_82 rfl) (z_goto _),
   zz_of (ok_aload_n G dX5_of_85 rfl rfl) (z_ald _ _),
   zz_of (ok_get G (nx := 89) (ci := 4) (kd := 2) (k := 0) (RX5, TX5, 3) rfl (by decide) rfl q304 dX5_of_86 rfl) (z_getq _ _ _),
   zz_of (ok_getN G (nx := 92) (ci := 2) (kd := 2) (k := 2) (RX3, TX3, 7) rfl (by decide) rfl q185 dX5_of_89 rfl) (z_getq _ _ _),
   zz_of (ok_aload_n G dX5_of_92 rfl rfl) (z_ald _ _),
   zz_of (ok_get G (nx := 96) (ci := 4) (kd := 2) (k := 0) (RX5, TX5, 3) rfl (by decide) rfl q304 dX5_of_93 rfl) (z_getq _ _ _),
   zz_of (ok_getN G (nx := 99) (ci := 2) (kd := 0) (k := 5) (RX3, TX3, 7) rfl (by decide) rfl q195 dX5_of_96 rfl) (z_getp _ _ _ _),
   zz_of (ok_ifeq G dX5_of_99 rfl rfl) (z_ifeq _ _ _),
   zz_of (ok_iconst G (v := 0) dX5_of_102 (by decide) rfl) (z_cn 103 0),
   zz_of (ok_goto G dX5_of_103 rfl) (z_goto _),
   zz_of (ok_aload_n G dX5_of_106 rfl rfl) (z_ald _ _),
   zz_of (ok_get G (nx := 110) (ci := 4) (kd := 2) (k := 0) (RX5, TX5, 3) rfl (by decide) rfl q304 dX5_of_107 rfl) (z_getq _ _ _),
   zz_of (ok_getN G (nx := 113) (ci := 2) (kd := 0) (k := 4) (RX3, TX3, 7) rfl (by decide) rfl q191 dX5_of_110 rfl) (z_getp _ _ _ _),
   zz_of (ok_iconst G (v := 1) dX5_of_113 (by decide) rfl) (z_cn 114 1),
   zz_of (ok_isub G dX5_of_114 rfl) (z_isub _),
   zz_of (ok_iald G dX5_of_115 rfl) (z_ialp _),
   zz_of (ok_iret G dX5_of_116) (z_iret),
   zz_of (ok_aload_n G dX5_of_117 rfl rfl) (z_ald _ _),
   zz_of (ok_get G (nx := 121) (ci := 4) (kd := 2) (k := 0) (RX5, TX5, 3) rfl (by decide) rfl q304 dX5_of_118 rfl) (z_getq _ _ _),
   zz_of (ok_getN G (nx := 124) (ci := 2) (kd := 0) (k := 4) (RX3, TX3, 7) rfl (by decide) rfl q191 dX5_of_121 rfl) (z_getp _ _ _ _),
   zz_of (ok_iret G dX5_of_124) (z_iret),
   zz_of (ok_aload_n G dX5_of_125 rfl rfl) (z_ald _ _),
   zz_of (ok_get G (nx := 129) (ci := 4) (kd := 2) (k := 0) (RX5, TX5, 3) rfl (by decide) rfl q304 dX5_of_126 rfl) (z_getq _ _ _),
   zz_of (ok_getN G (nx := 132) (ci := 2) (kd := 2) (k := 1) (RX3, TX3, 7) rfl (by decide) rfl q182 dX5_of_129 rfl) (z_getq _ _ _),
   zz_of (ok_aload_n G dX5_of_132 rfl rfl) (z_ald _ _),
   zz_of (ok_get G (nx := 136) (ci := 4) (kd := 0) (k := 1) (RX5, TX5, 3) rfl (by decide) rfl q306 dX5_of_133 rfl) (z_get _ _ _ _),
   zz_of (ok_iald G dX5_of_136 rfl) (z_ialp _),
   zz_of (ok_iret G dX5_of_137) (z_iret), trivial⟩

theorem zwX5_of_0 {Q : Option zv → zz_M → Prop} {X : Nat → zz_M → Prop} {f : Nat → Nat × Nat} {S L : Nat → Nat → Int} {P : Nat → Nat → Option Nat} {e : Nat} (h : (1200 ≤ e ∧ e ≤ 1204) ∧ ((1200 ≤ e ∧ e ≤ 1204) ∧ (R32 ((e - 1200 : Nat) : Int) ∧ ((((e - 1200 : Nat) : Int) = 0 → zsh ((2, f), S, L, P) 103 = (1, 4) ∧ (∀ b2 : Nat, zpt ((2, f), S, L, P) 103 0 = some b2 → zsh ((2, f), S, L, P) b2 = (1, 2) ∧ (∀ b3 : Nat, zpt ((2, f), S, L, P) b2 0 = some b3 → ∃ n_ : Nat, zsh ((2, f), S, L, P) b3 = (2, n_) ∧ (n_ : Int) ≤ 2147483647 ∧ (0 ≤ (S 103 1) ∧ (S 103 1) < (n_ : Int)) ∧ (Q (some (vi ((S b3 ((S 103 1).toNat)) - (-3)))) ((2, f), S, L, P))) ∧ (zpt ((2, f), S, L, P) b2 0 = none → False)) ∧ (zpt ((2, f), S, L, P) 103 0 = none → False)) ∧ (((e - 1200 : Nat) : Int) ≠ 0 → (((e - 1200 : Nat) : Int) = 1 → zsh ((2, f), S, L, P) 103 = (1, 4) ∧ (∀ b4 : Nat, zpt ((2, f), S, L, P) 103 0 = some b4 → zsh ((2, f), S, L, P) b4 = (1, 2) ∧ (∀ b5 : Nat, zpt ((2, f), S, L, P) b4 0 = some b5 → ∃ n_ : Nat, zsh ((2, f), S, L, P) b5 = (2, n_) ∧ (n_ : Int) ≤ 2147483647 ∧ (0 ≤ (1 - (S 103 1)) ∧ (1 - (S 103 1)) < (n_ : Int)) ∧ (Q (some (vi ((S b5 ((1 - (S 103 1)).toNat)) - (-3)))) ((2, f), S, L, P))) ∧ (zpt ((2, f), S, L, P) b4 0 = none → False)) ∧ (zpt ((2, f), S, L, P) 103 0 = none → False)) ∧ (((e - 1200 : Nat) : Int) ≠ 1 → (((e - 1200 : Nat) : Int) = 2 → zsh ((2, f), S, L, P) 103 = (1, 4) ∧ (∀ b6 : Nat, zpt ((2, f), S, L, P) 103 0 = some b6 → zsh ((2, f), S, L, P) b6 = (1, 2) ∧ (R32 (S b6 4) ∧ ((¬ (S b6 4) = 0 → zsh ((2, f), S, L, P) 103 = (1, 4) ∧ (∀ b7 : Nat, zpt ((2, f), S, L, P) 103 0 = some b7 → zsh ((2, f), S, L, P) b7 = (1, 2) ∧ (∀ b8 : Nat, zpt ((2, f), S, L, P) b7 2 = some b8 → zsh ((2, f), S, L, P) 103 = (1, 4) ∧ (∀ b9 : Nat, zpt ((2, f), S, L, P) 103 0 = some b9 → zsh ((2, f), S, L, P) b9 = (1, 2) ∧ (R32 (S b9 5) ∧ (((S b9 5) = 0 → zsh ((2, f), S, L, P) 103 = (1, 4) ∧ (∀ b10 : Nat, zpt ((2, f), S, L, P) 103 0 = some b10 → zsh ((2, f), S, L, P) b10 = (1, 2) ∧ (∃ n_ : Nat, zsh ((2, f), S, L, P) b8 = (2, n_) ∧ (n_ : Int) ≤ 2147483647 ∧ (0 ≤ ((S b10 4) - 1) ∧ ((S b10 4) - 1) < (n_ : Int)) ∧ (Q (some (vi (S b8 (((S b10 4) - 1).toNat)))) ((2, f), S, L, P)))) ∧ (zpt ((2, f), S, L, P) 103 0 = none → False)) ∧ (¬ (S b9 5) = 0 → ∃ n_ : Nat, zsh ((2, f), S, L, P) b8 = (2, n_) ∧ (n_ : Int) ≤ 2147483647 ∧ (0 ≤ (0 : Int) ∧ 0 < (n_ : Int)) ∧ (Q (some (vi (S b8 ((0 : Int).toNat)))) ((2, f), S, L, P)))))) ∧ (zpt ((2, f), S, L, P) 103 0 = none → False)) ∧ (zpt ((2, f), S, L, P) b7 2 = none → zsh ((2, f), S, L, P) 103 = (1, 4) ∧ (∀ b11 : Nat, zpt ((2, f), S, L, P) 103 0 = some b11 → zsh ((2, f), S, L, P) b11 = (1, 2) ∧ (R32 (S b11 5) ∧ (((S b11 5) = 0 → zsh ((2, f), S, L, P) 103 = (1, 4) ∧ (∀ b12 : Nat, zpt ((2, f), S, L, P) 103 0 = some b12 → zsh ((2, f), S, L, P) b12 = (1, 2) ∧ (False)) ∧ (zpt ((2, f), S, L, P) 103 0 = none → False)) ∧ (¬ (S b11 5) = 0 → False)))) ∧ (zpt ((2, f), S, L, P) 103 0 = none → False))) ∧ (zpt ((2, f), S, L, P) 103 0 = none → False)) ∧ ((S b6 4) = 0 → Q (some (vi 10)) ((2, f), S, L, P))))) ∧ (zpt ((2, f), S, L, P) 103 0 = none → False)) ∧ (((e - 1200 : Nat) : Int) ≠ 2 → (((e - 1200 : Nat) : Int) = 3 → zsh ((2, f), S, L, P) 103 = (1, 4) ∧ (∀ b13 : Nat, zpt ((2, f), S, L, P) 103 0 = some b13 → zsh ((2, f), S, L, P) b13 = (1, 2) ∧ (Q (some (vi (S b13 4))) ((2, f), S, L, P))) ∧ (zpt ((2, f), S, L, P) 103 0 = none → False)) ∧ (((e - 1200 : Nat) : Int) ≠ 3 → zsh ((2, f), S, L, P) 103 = (1, 4) ∧ (∀ b14 : Nat, zpt ((2, f), S, L, P) 103 0 = some b14 → zsh ((2, f), S, L, P) b14 = (1, 2) ∧ (∀ b15 : Nat, zpt ((2, f), S, L, P) b14 1 = some b15 → ∃ n_ : Nat, zsh ((2, f), S, L, P) b15 = (2, n_) ∧ (n_ : Int) ≤ 2147483647 ∧ (0 ≤ (S 103 1) ∧ (S 103 1) < (n_ : Int)) ∧ (Q (some (vi (S b15 ((S 103 1).toNat)))) ((2, f), S, L, P))) ∧ (zpt ((2, f), S, L, P) b14 1 = none → False)) ∧ (zpt ((2, f), S, L, P) 103 0 = none → False))))))))) : zz_J zpX5_of (zz_ret Q X 0 0) 0 [some (vr 103), some (vr e)] [] ((2, f), S, L, P) (0, 0) := zz_J.go [] 400 h

theorem zmX5_of (l : Launch) (hl : l.stackTraces = false) : mm_Spec l yX5_of (ws_ yX5_of cX5_of 2 (some .int)) (mm_rm 2 0 0) (zE zX5_of) := by
  refine zz_Met.J hl (by decide) (fun C G hnh => ztX5_of G hnh) ?_
  rintro as ⟨⟨t_, f⟩, S, L, P⟩ Q X h
  unfold zX5_of at h
  split at h
  rotate_left
  · exact h.elim
  rename_i h_ e
  obtain ⟨e1_, e2_, h⟩ := mm_and2 h (fun q => q)
  cases mm_beq e1_
  cases mm_beq e2_
  try dsimp only at h
  refine ⟨rfl, ?_⟩
  obtain ⟨q, p, hP, hq, hp, hp2, hV, he, hr⟩ := h
  obtain ⟨j, rfl⟩ : ∃ j, e = 1200 + j := ⟨e - 1200, by omega⟩
  have kr : ∀ v : Int, v = fcX (cx S q) p j → Q (some (vi v)) ((2, f), S, L, P) := fun v hv => by
    rw [hv]
    rw [Nat.add_sub_cancel_left] at hr
    exact hr
  have hh := hV.2.2
  have p01 : p = 0 ∨ p = 1 := by omega
  refine zwX5_of_0 ⟨he, he, by omega, ?_⟩
  rw [Nat.add_sub_cancel_left]
  rcases hq with e1 | e1 <;> subst e1 <;> rcases p01 with e2 | e2 <;> subst e2
  · have h3 : cx S 204 3 = S 204 4 := rfl
    have h6 : cx S 204 6 = S 204 5 := rfl
    have hb : (S 204 4 = 0 ∨ S 204 4 = 1 ∨ S 204 4 = 2) ∧ (S 204 5 = 0 ∨ S 204 5 = 1) ∧ (S 204 5 = 0 → S 204 4 ≤ 1) := by
      rcases hh with ⟨a, b⟩ | ⟨a, b, -⟩ | ⟨a, b, -⟩ <;> rw [h3] at a <;> rw [h6] at b <;> omega
    have hp' : S 103 1 = 0 := hp
    refine ⟨fun c => ?_, fun c => ⟨fun c1 => ?_, fun c1 => ⟨fun c2 => ?_, fun c2 => ⟨fun c3 => ?_, fun c3 => ?_⟩⟩⟩⟩
    · have ej : j = 0 := by omega
      subst ej
      refine q_go rfl hP (q_go (x := 205) rfl rfl ⟨2, rfl, by decide, by omega, kr _ ?_⟩)
      rw [hp']
      show S 205 0 - (-3) = S 205 0 + 3
      omega
    · have ej : j = 1 := by omega
      subst ej
      refine q_go rfl hP (q_go (x := 205) rfl rfl ⟨2, rfl, by decide, by omega, kr _ ?_⟩)
      rw [hp']
      show S 205 1 - (-3) = S 205 1 + 3
      omega
    · have ej : j = 2 := by omega
      subst ej
      have e4 : fcX (cx S 204) 0 2 = if S 204 4 = 0 then 10 else S 207 0 := rfl
      refine q_go rfl hP ⟨rfl, by omega, fun d => q_go rfl hP (q_go (x := 207) rfl rfl (q_go rfl hP ⟨rfl, by omega, fun d2 => q_go rfl hP ⟨rfl, 2, rfl, by decide, by omega, kr _ ?_⟩, fun d2 => ⟨2, rfl, by decide, by decide, kr _ ?_⟩⟩)), fun d => kr _ ?_⟩
      · have e5 : S 204 4 = 1 := by omega
        rw [e4, e5]
        rfl
      · rw [e4, if_neg d]
        rfl
      · rw [e4, if_pos d]
    · have ej : j = 3 := by omega
      subst ej
      exact q_go rfl hP ⟨rfl, kr _ rfl⟩
    · have ej : j = 4 := by omega
      subst ej
      refine q_go rfl hP (q_go (x := 206) rfl rfl ⟨2, rfl, by decide, by omega, kr _ ?_⟩)
      rw [hp']
      rfl
  · have h3 : cx S 204 3 = S 204 4 := rfl
    have h6 : cx S 204 6 = S 204 5 := rfl
    have hb : (S 204 4 = 0 ∨ S 204 4 = 1 ∨ S 204 4 = 2) ∧ (S 204 5 = 0 ∨ S 204 5 = 1) ∧ (S 204 5 = 0 → S 204 4 ≤ 1) := by
      rcases hh with ⟨a, b⟩ | ⟨a, b, -⟩ | ⟨a, b, -⟩ <;> rw [h3] at a <;> rw [h6] at b <;> omega
    have hp' : S 103 1 = 1 := hp
    refine ⟨fun c => ?_, fun c => ⟨fun c1 => ?_, fun c1 => ⟨fun c2 => ?_, fun c2 => ⟨fun c3 => ?_, fun c3 => ?_⟩⟩⟩⟩
    · have ej : j = 0 := by omega
      subst ej
      refine q_go rfl hP (q_go (x := 205) rfl rfl ⟨2, rfl, by decide, by omega, kr _ ?_⟩)
      rw [hp']
      show S 205 1 - (-3) = S 205 1 + 3
      omega
    · have ej : j = 1 := by omega
      subst ej
      refine q_go rfl hP (q_go (x := 205) rfl rfl ⟨2, rfl, by decide, by omega, kr _ ?_⟩)
      rw [hp']
      show S 205 0 - (-3) = S 205 0 + 3
      omega
    · have ej : j = 2 := by omega
      subst ej
      have e4 : fcX (cx S 204) 1 2 = if S 204 4 = 0 then 10 else S 207 0 := rfl
      refine q_go rfl hP ⟨rfl, by omega, fun d => q_go rfl hP (q_go (x := 207) rfl rfl (q_go rfl hP ⟨rfl, by omega, fun d2 => q_go rfl hP ⟨rfl, 2, rfl, by decide, by omega, kr _ ?_⟩, fun d2 => ⟨2, rfl, by decide, by decide, kr _ ?_⟩⟩)), fun d => kr _ ?_⟩
      · have e5 : S 204 4 = 1 := by omega
        rw [e4, e5]
        rfl
      · rw [e4, if_neg d]
        rfl
      · rw [e4, if_pos d]
    · have ej : j = 3 := by omega
      subst ej
      exact q_go rfl hP ⟨rfl, kr _ rfl⟩
    · have ej : j = 4 := by omega
      subst ej
      refine q_go rfl hP (q_go (x := 206) rfl rfl ⟨2, rfl, by decide, by omega, kr _ ?_⟩)
      rw [hp']
      rfl
  · have h3 : cx S 108 3 = S 108 4 := rfl
    have h6 : cx S 108 6 = S 108 5 := rfl
    have hb : (S 108 4 = 0 ∨ S 108 4 = 1 ∨ S 108 4 = 2) ∧ (S 108 5 = 0 ∨ S 108 5 = 1) ∧ (S 108 5 = 0 → S 108 4 ≤ 1) := by
      rcases hh with ⟨a, b⟩ | ⟨a, b, -⟩ | ⟨a, b, -⟩ <;> rw [h3] at a <;> rw [h6] at b <;> omega
    have hp' : S 103 1 = 0 := hp
    refine ⟨fun c => ?_, fun c => ⟨fun c1 => ?_, fun c1 => ⟨fun c2 => ?_, fun c2 => ⟨fun c3 => ?_, fun c3 => ?_⟩⟩⟩⟩
    · have ej : j = 0 := by omega
      subst ej
      refine q_go rfl hP (q_go (x := 109) rfl rfl ⟨2, rfl, by decide, by omega, kr _ ?_⟩)
      rw [hp']
      show S 109 0 - (-3) = S 109 0 + 3
      omega
    · have ej : j = 1 := by omega
      subst ej
      refine q_go rfl hP (q_go (x := 109) rfl rfl ⟨2, rfl, by decide, by omega, kr _ ?_⟩)
      rw [hp']
      show S 109 1 - (-3) = S 109 1 + 3
      omega
    · have ej : j = 2 := by omega
      subst ej
      have e4 : fcX (cx S 108) 0 2 = if S 108 4 = 0 then 10 else S 111 0 := rfl
      refine q_go rfl hP ⟨rfl, by omega, fun d => q_go rfl hP (q_go (x := 111) rfl rfl (q_go rfl hP ⟨rfl, by omega, fun d2 => q_go rfl hP ⟨rfl, 2, rfl, by decide, by omega, kr _ ?_⟩, fun d2 => ⟨2, rfl, by decide, by decide, kr _ ?_⟩⟩)), fun d => kr _ ?_⟩
      · have e5 : S 108 4 = 1 := by omega
        rw [e4, e5]
        rfl
      · rw [e4, if_neg d]
        rfl
      · rw [e4, if_pos d]
    · have ej : j = 3 := by omega
      subst ej
      exact q_go rfl hP ⟨rfl, kr _ rfl⟩
    · have ej : j = 4 := by omega
      subst ej
      refine q_go rfl hP (q_go (x := 110) rfl rfl ⟨2, rfl, by decide, by omega, kr _ ?_⟩)
      rw [hp']
      rfl
  · have h3 : cx S 108 3 = S 108 4 := rfl
    have h6 : cx S 108 6 = S 108 5 := rfl
    have hb : (S 108 4 = 0 ∨ S 108 4 = 1 ∨ S 108 4 = 2) ∧ (S 108 5 = 0 ∨ S 108 5 = 1) ∧ (S 108 5 = 0 → S 108 4 ≤ 1) := by
      rcases hh with ⟨a, b⟩ | ⟨a, b, -⟩ | ⟨a, b, -⟩ <;> rw [h3] at a <;> rw [h6] at b <;> omega
    have hp' : S 103 1 = 1 := hp
    refine ⟨fun c => ?_, fun c => ⟨fun c1 => ?_, fun c1 => ⟨fun c2 => ?_, fun c2 => ⟨fun c3 => ?_, fun c3 => ?_⟩⟩⟩⟩
    · have ej : j = 0 := by omega
      subst ej
      refine q_go rfl hP (q_go (x := 109) rfl rfl ⟨2, rfl, by decide, by omega, kr _ ?_⟩)
      rw [hp']
      show S 109 1 - (-3) = S 109 1 + 3
      omega
    · have ej : j = 1 := by omega
      subst ej
      refine q_go rfl hP (q_go (x := 109) rfl rfl ⟨2, rfl, by decide, by omega, kr _ ?_⟩)
      rw [hp']
      show S 109 0 - (-3) = S 109 0 + 3
      omega
    · have ej : j = 2 := by omega
      subst ej
      have e4 : fcX (cx S 108) 1 2 = if S 108 4 = 0 then 10 else S 111 0 := rfl
      refine q_go rfl hP ⟨rfl, by omega, fun d => q_go rfl hP (q_go (x := 111) rfl rfl (q_go rfl hP ⟨rfl, by omega, fun d2 => q_go rfl hP ⟨rfl, 2, rfl, by decide, by omega, kr _ ?_⟩, fun d2 => ⟨2, rfl, by decide, by decide, kr _ ?_⟩⟩)), fun d => kr _ ?_⟩
      · have e5 : S 108 4 = 1 := by omega
        rw [e4, e5]
        rfl
      · rw [e4, if_neg d]
        rfl
      · rw [e4, if_pos d]
    · have ej : j = 3 := by omega
      subst ej
      exact q_go rfl hP ⟨rfl, kr _ rfl⟩
    · have ej : j = 4 := by omega
      subst ej
      refine q_go rfl hP (q_go (x := 110) rfl rfl ⟨2, rfl, by decide, by omega, kr _ ?_⟩)
      rw [hp']
      rfl
