/-! ===== the model's court ===== -/
set_option maxRecDepth 100000
theorem coN_ix {tx : Nat → Int} {n : Nat} {lo hi : Int} {ix p : Nat} {c : Nat × Rw} (h : coN tx n lo hi ix p = .inr c) : ∃ v, lo ≤ v ∧ v ≤ hi ∧ c.2 = fun w k => if k = ix then v else w k := by
  unfold coN at h
  cases hp : nmP tx n lo hi p with
  | inl w => rw [hp] at h; cases h
  | inr e =>
    rw [hp] at h
    cases h
    exact ⟨e.2, (nmP_v hp).1, (nmP_v hp).2, rfl⟩
/-- the numbers of the court are within -/
def cG (w : Nat → Int) : Prop := (∀ k, k < 192 → 0 ≤ w k ∧ w k ≤ 100) ∧ (1 ≤ w 194 ∧ w 194 ≤ 6) ∧ (0 ≤ w 195 ∧ w 195 ≤ 2) ∧ (0 ≤ w 196 ∧ w 196 ≤ 1)
def cW (g : Rw) : Prop := (∀ w, cG w → cG (g w)) ∧ ∀ w k, (k = 192 ∨ k = 193 ∨ 197 ≤ k) → g w k = w k
theorem cW_ix {ix : Nat} {v : Int} (h : (ix < 192 ∧ 0 ≤ v ∧ v ≤ 100) ∨ (ix = 194 ∧ 1 ≤ v ∧ v ≤ 6) ∨ (ix = 195 ∧ 0 ≤ v ∧ v ≤ 2) ∨ (ix = 196 ∧ 0 ≤ v ∧ v ≤ 1)) : cW (fun w k => if k = ix then v else w k) := by
  refine ⟨fun w hw => ?_, fun w k hk => if_neg (by omega)⟩
  unfold cG at hw ⊢
  refine ⟨fun k hk => ?_, ?_, ?_, ?_⟩
  · have := hw.1 k hk
    grind
  · grind
  · grind
  · grind
theorem coP_cW {tx : Nat → Int} {n a : Nat} {c : Nat × Rw} (h : coP tx n a = .inr c) : cW c.2 := by
  unfold coP at h
  split at h
  · cases hp : nmP tx n 0 3 (rn (qB tx) n a + 5) with
    | inl w => rw [hp] at h; cases h
    | inr e =>
      have hv := nmP_v hp
      rw [hp] at h
      dsimp only at h
      cases hp2 : nmP tx n 0 3 e.1 with
      | inl w => rw [hp2] at h; cases h
      | inr e2 =>
        have hv2 := nmP_v hp2
        rw [hp2] at h
        dsimp only at h
        unfold coR at h
        split at h
        · obtain ⟨v, h1, h2, h3⟩ := coN_ix h
          rw [h3]; exact cW_ix (Or.inl ⟨by omega, h1, h2⟩)
        · split at h
          · obtain ⟨v, h1, h2, h3⟩ := coN_ix h
            rw [h3]; exact cW_ix (Or.inl ⟨by omega, h1, h2⟩)
          · split at h
            · cases hp3 : nmP tx n 0 9 (rn (qB tx) n e2.1 + 4) with
              | inl w => rw [hp3] at h; cases h
              | inr e3 =>
                have hv3 := nmP_v hp3
                rw [hp3] at h
                obtain ⟨v, h1, h2, h3⟩ := coN_ix h
                rw [h3]; exact cW_ix (Or.inl ⟨by omega, h1, h2⟩)
            · cases h
  · split at h
    · obtain ⟨v, h1, h2, h3⟩ := coN_ix h
      rw [h3]; exact cW_ix (Or.inr (Or.inl ⟨rfl, h1, h2⟩))
    · split at h
      · obtain ⟨v, h1, h2, h3⟩ := coN_ix h
        rw [h3]; exact cW_ix (Or.inr (Or.inr (Or.inl ⟨rfl, h1, h2⟩)))
      · split at h
        · obtain ⟨v, h1, h2, h3⟩ := coN_ix h
          rw [h3]; exact cW_ix (Or.inr (Or.inr (Or.inr ⟨rfl, h1, h2⟩)))
        · cases h
theorem ctP_cW {tx : Nat → Int} {n : Nat} {c : Nat × Rw} (h : ctP tx n = .inr c) : cW c.2 := by
  unfold ctP liP at h
  split at h
  · cases h
    exact ⟨fun w hw => hw, fun w k _ => rfl⟩
  · refine liF_v cW (fun a c hc => coP_cW hc) (fun g g' hg hg' => ?_) _ _ _ _ ⟨fun w hw => hw, fun w k _ => rfl⟩ h
    exact ⟨fun w hw => hg'.1 _ (hg.1 w hw), fun w k hk => by show g' (g w) k = w k; rw [hg'.2 _ k hk, hg.2 w k hk]⟩
def smR (w : Nat → Int) (b : Nat) : Nat → Int
  | 0 => 0
  | i + 1 => smR w b i + w (b + i)
/-- chances are whole: those of the first k rows -/
def whB (w : Nat → Int) (k : Nat) : Bool := (List.range k).all (fun j => decide (smR w (12 * j) 12 = 100))
theorem whB_s (w : Nat → Int) (k : Nat) : whB w (k + 1) = (whB w k && decide (smR w (12 * k) 12 = 100)) := by
  unfold whB
  rw [List.range_succ, List.all_append]
  simp
theorem whB_t {w : Nat → Int} {k : Nat} : whB w k = true ↔ ∀ j, j < k → smR w (12 * j) 12 = 100 := by
  unfold whB
  simp only [List.all_eq_true, List.mem_range, decide_eq_true_eq]
/-- a text of the court: its first wrong place, or the row behind it -/
def ctW (tx : Nat → Int) (n : Nat) (w : Nat → Int) : Nat ⊕ (Nat → Int) := match ctP tx n with
  | .inl v => .inl v
  | .inr c => if whB (c.2 w) 16 = true then .inr (c.2 w) else .inl n
theorem smR_in {w : Nat → Int} (hw : cG w) : ∀ i b, b + i ≤ 192 → 0 ≤ smR w b i ∧ smR w b i ≤ 100 * i
  | 0, _, _ => by show (0 : Int) ≤ 0 ∧ (0 : Int) ≤ 100 * 0; decide
  | i + 1, b, h => by
    have := smR_in hw i b (by omega)
    have h2 := hw.1 (b + i) (by omega)
    unfold smR
    omega
/-- behind court: thrown, the tape used up, the fault -/
def ctS (S : Nat → Nat → Int) (t f : Int) : Nat → Nat → Int := mm_up (mm_up (mm_up S 0 0 t) 0 6 0) 0 10 f
theorem ctS_at (S : Nat → Nat → Int) (t f : Int) (h k : Nat) : ctS S t f h k = if h = 0 ∧ k = 10 then f else if h = 0 ∧ k = 6 then 0 else if h = 0 ∧ k = 0 then t else S h k := by
  unfold ctS
  rw [up_eq, up_eq, up_eq]
def zX9_court : zz_Sp := fun as M Q X => match as with
  | [.inr (.inr (some h_))] => bif Nat.beq h_ 0 && Nat.beq M.1.1 1 then (∃ n_ : Nat, M.2.1 0 6 = n_ ∧ n_ ≤ 400 ∧ (∀ k_, k_ < n_ → 0 ≤ M.2.1 4 k_ ∧ M.2.1 4 k_ ≤ 255) ∧ cG (M.2.1 1) ∧ (0 ≤ M.2.1 1 192 ∧ M.2.1 1 192 ≤ 12) ∧ gdF M.2.1 ∧ (∀ w_ : Nat, ctW (M.2.1 4) n_ (M.2.1 1) = .inl w_ → ∀ S_ : Nat → Nat → Int, sc (ctS M.2.1 1 w_) S_ → Q (some (vi 0)) (zm S_ M.2.2.1)) ∧ (∀ r_ : Nat → Int, ctW (M.2.1 4) n_ (M.2.1 1) = .inr r_ → (M.2.1 1 192 = 12 → ∀ S_ : Nat → Nat → Int, sc (ctS M.2.1 2 (-1)) S_ → Q (some (vi 0)) (zm S_ M.2.2.1)) ∧ (M.2.1 1 192 < 12 → ∀ S_ : Nat → Nat → Int, sc (rowS (ctS M.2.1 0 (-1)) (fun k => if k = 192 then M.2.1 1 192 + 1 else r_ k)) S_ → Q (some (vi (M.2.1 1 192 + 1))) (zm S_ M.2.2.1)))) else False
  | _ => False

def zpX9_court : zz_P := [(0, zo_c 1 (vi 0)), (1, zo_ist 2 1), (2, zo_ild 3 1), (3, zo_c 6 (vi 201)), (6, zo_cge false true 9 27), (9, zo_ald 10 0), (10, zo_get 13 8 2 4), (13, zo_ild 14 1), (14, zo_ald 15 0), (15, zo_get 18 8 2 1), (18, zo_ild 19 1), (19, zo_iald 20), (20, zo_iasd 21), (21, zo_inc 24 1 1), (24, zo_goto 2), (27, zo_ald 28 0), (28, zo_c 29 (vi (-1))), (29, zo_puti 32 8 10), (32, zo_ald 33 0), (33, zo_c 34 (vi (-1))), (34, zo_puti 37 8 7), (37, zo_ald 38 0), (38, zo_ald 39 0), (39, zo_get 42 8 0 6), (42, zo_puti 45 8 8), (45, zo_ald 46 0), (46, zo_c 47 (vi 0)), (47, zo_callv 50 2 8 zX9_lines_c), (50, zo_c 51 (vi 0)), (51, zo_ist 52 1), (52, zo_ild 53 1), (53, zo_c 55 (vi 16)), (55, zo_cge false true 58 110), (58, zo_c 59 (vi 0)), (59, zo_ist 60 2), (60, zo_c 61 (vi 0)), (61, zo_ist 62 3), (62, zo_ild 63 3), (63, zo_c 65 (vi 12)), (65, zo_cge false true 68 90), (68, zo_ild 69 2), (69, zo_ald 70 0), (70, zo_get 73 8 2 1), (73, zo_c 74 (vi 0)), (74, zo_c 76 (vi 12)), (76, zo_ild 77 1), (77, zo_imul 78), (78, zo_iadd 79), (79, zo_ild 80 3), (80, zo_iadd 81), (81, zo_iald 82), (82, zo_iadd 83), (83, zo_ist 84 2), (84, zo_inc 87 3 1), (87, zo_goto 62), (90, zo_ild 91 2), (91, zo_c 93 (vi 100)), (93, zo_ceq false true 96 104), (96, zo_ald 97 0), (97, zo_ald 98 0), (98, zo_get 101 8 0 8), (101, zo_callv 104 2 8 zX9_wrong), (104, zo_inc 107 1 1), (107, zo_goto 52), (110, zo_ald 111 0), (111, zo_c 112 (vi 0)), (112, zo_puti 115 8 6), (115, zo_ald 116 0), (116, zo_ald 117 0), (117, zo_get 120 8 0 10), (120, zo_c 121 (vi (-1))), (121, zo_ceq false true 124 128), (124, zo_c 125 (vi 1)), (125, zo_goto 146), (128, zo_ald 129 0), (129, zo_get 132 8 2 1), (132, zo_c 135 (vi 192)), (135, zo_ialc 136 192), (136, zo_c 138 (vi 12)), (138, zo_cne false true 141 145), (141, zo_c 142 (vi 2)), (142, zo_goto 146), (145, zo_c 146 (vi 0)), (146, zo_puti 149 8 0), (149, zo_ald 150 0), (150, zo_get 153 8 0 0), (153, zo_ifle false 156 185), (156, zo_c 157 (vi 0)), (157, zo_ist 158 1), (158, zo_ild 159 1), (159, zo_c 162 (vi 201)), (162, zo_cge false true 165 183), (165, zo_ald 166 0), (166, zo_get 169 8 2 1), (169, zo_ild 170 1), (170, zo_ald 171 0), (171, zo_get 174 8 2 4), (174, zo_ild 175 1), (175, zo_iald 176), (176, zo_iasd 177), (177, zo_inc 180 1 1), (180, zo_goto 158), (183, zo_c 184 (vi 0)), (184, zo_iret), (185, zo_ald 186 0), (186, zo_get 189 8 2 1), (189, zo_c 192 (vi 192)), (192, zo_dup2 193), (193, zo_ialc 194 192), (194, zo_c 195 (vi 1)), (195, zo_iadd 196), (196, zo_iasc 197 192), (197, zo_ald 198 0), (198, zo_get 201 8 2 1), (201, zo_c 204 (vi 192)), (204, zo_ialc 205 192), (205, zo_iret)]
theorem ztX9_court {C : mm_C} (G : mm_G C RX9 cX9_court (some .int) 4 (mm_rm 33 0 0)) (hnh : mm_nh C) : zz_OKs C zpX9_court :=
  ⟨zz_of (ok_iconst G (v := 0) dX9_court_0 (by decide) rfl) (z_cn 1 0),
   zz_of (ok_istore_n G dX9_court_1 rfl rfl (by decide)) (z_ist _ _),
   zz_of (ok_iload_n G dX9_court_2 rfl rfl) (z_ild _ _),
   zz_of (ok_sipush G (v := 201) dX9_court_3 (by decide) rfl) (z_cn 6 201),
   zz_of (ok_cge G dX9_court_6 rfl rfl) (z_cge _ _ _ _),
   zz_of (ok_aload_n G dX9_court_9 rfl rfl) (z_ald _ _),
   zz_of (ok_get G (nx := 13) (ci := 8) (kd := 2) (k := 4) (RX9, TX9, 32) rfl (by decide) rfl q1809 dX9_court_10 rfl) (z_get _ _ _ _),
   zz_of (ok_iload_n G dX9_court_13 rfl rfl) (z_ild _ _),
   zz_of (ok_aload_n G dX9_court_14 rfl rfl) (z_ald _ _),
   zz_of (ok_get G (nx := 18) (ci := 8) (kd := 2) (k := 1) (RX9, TX9, 32) rfl (by decide) rfl q1806 dX9_court_15 rfl) (z_get _ _ _ _),
   zz_of (ok_iload_n G dX9_court_18 rfl rfl) (z_ild _ _),
   zz_of (ok_iald G dX9_court_19 rfl) (z_iald _),
   zz_of (ok_iast G dX9_court_20 rfl) (z_iasd _),
   zz_of (ok_iinc G (v := 1) dX9_court_21 (by decide) rfl (by decide)) (z_incn 24 1 1),
   zz_of (ok_goto G dX9_court_24 rfl) (z_goto _),
   zz_of (ok_aload_n G dX9_court_27 rfl rfl) (z_ald _ _),
   zz_of (ok_iconst G (v := (zI (-1))) dX9_court_28 (by decide) rfl) (z_cz 29 (-1)),
   zz_of (ok_puti G (nx := 32) (idx := 22) (ci := 8) (k := 10) (RX9, TX9, 32) rfl (by decide) rfl (mm_pw G (ci := 8) (k := 10) (RX9, TX9, 32) rfl (by decide) rfl q1815 dX9_court_29) rfl) (z_puti _ _ _),
   zz_of (ok_aload_n G dX9_court_32 rfl rfl) (z_ald _ _),
   zz_of (ok_iconst G (v := (zI (-1))) dX9_court_33 (by decide) rfl) (z_cz 34 (-1)),
   zz_of (ok_puti G (nx := 37) (idx := 77) (ci := 8) (k := 7) (RX9, TX9, 32) rfl (by decide) rfl (mm_pw G (ci := 8) (k := 7) (RX9, TX9, 32) rfl (by decide) rfl q1812 dX9_court_34) rfl) (z_puti _ _ _),
   zz_of (ok_aload_n G dX9_court_37 rfl rfl) (z_ald _ _),
   zz_of (ok_aload_n G dX9_court_38 rfl rfl) (z_ald _ _),
   zz_of (ok_get G (nx := 42) (ci := 8) (kd := 0) (k := 6) (RX9, TX9, 32) rfl (by decide) rfl q1811 dX9_court_39 rfl) (z_get _ _ _ _),
   zz_of (ok_puti G (nx := 45) (idx := 83) (ci := 8) (k := 8) (RX9, TX9, 32) rfl (by decide) rfl (mm_pw G (ci := 8) (k := 8) (RX9, TX9, 32) rfl (by decide) rfl q1813 dX9_court_42) rfl) (z_puti _ _ _),
   zz_of (ok_aload_n G dX9_court_45 rfl rfl) (z_ald _ _),
   zz_of (ok_iconst G (v := 0) dX9_court_46 (by decide) rfl) (z_cn 47 0),
   zz_of (ok_callv G hnh (zmX9_lines_c _ G.hst) rfl rfl (RX9, TX9, 32) rfl q1921 q1923 qs40 q93 q1924 (by decide +kernel) ⟨by decide, by decide⟩ dX9_court_47 rfl) (z_callv _ _ _ _),
   zz_of (ok_iconst G (v := 0) dX9_court_50 (by decide) rfl) (z_cn 51 0),
   zz_of (ok_istore_n G dX9_court_51 rfl rfl (by decide)) (z_ist _ _),
   zz_of (ok_iload_n G dX9_court_52 rfl rfl) (z_ild _ _),
   zz_of (ok_bipush G (v := 16) dX9_court_53 (by decide) rfl) (z_cn 55 16),
   zz_of (ok_cge G dX9_court_55 rfl rfl) (z_cge _ _ _ _),
   zz_of (ok_iconst G (v := 0) dX9_court_58 (by decide) rfl) (z_cn 59 0),
   zz_of (ok_istore_n G dX9_court_59 rfl rfl (by decide)) (z_ist _ _),
   zz_of (ok_iconst G (v := 0) dX9_court_60 (by decide) rfl) (z_cn 61 0),
   zz_of (ok_istore_n G dX9_court_61 rfl rfl (by decide)) (z_ist _ _),
   zz_of (ok_iload_n G dX9_court_62 rfl rfl) (z_ild _ _),
   zz_of (ok_bipush G (v := 12) dX9_court_63 (by decide) rfl) (z_cn 65 12),
   zz_of (ok_cge G dX9_court_65 rfl rfl) (z_cge _ _ _ _),
   zz_of (ok_iload_n G dX9_court_68 rfl rfl) (z_ild _ _),
   zz_of (ok_aload_n G dX9_court_69 rfl rfl) (z_ald _ _),
   zz_of (ok_get G (nx := 73) (ci := 8) (kd := 2) (k := 1) (RX9, TX9, 32) rfl (by decide) rfl q1806 dX9_court_70 rfl) (z_get _ _ _ _),
   zz_of (ok_iconst G (v := 0) dX9_court_73 (by decide) rfl) (z_cn 74 0),
   zz_of (ok_bipush G (v := 12) dX9_court_74 (by decide) rfl) (z_cn 76 12),
   zz_of (ok_iload_n G dX9_court_76 rfl rfl) (z_ild _ _),
   zz_of (ok_imul G dX9_court_77 rfl) (z_imul _),
   zz_of (ok_iadd G dX9_court_78 rfl) (z_iadd _),
   zz_of (ok_iload_n G dX9_court_79 rfl rfl) (z_ild _ _),
   zz_of (ok_iadd G dX9_court_80 rfl) (z_iadd _),
   zz_of (ok_iald G dX9_court_81 rfl) (z_iald _),
   zz_of (ok_iadd G dX9_court_82 rfl) (z_iadd _),
   zz_of (ok_istore_n G dX9_court_83 rfl rfl (by decide)) (z_ist _ _),
   zz_of (ok_iinc G (v := 1) dX9_court_84 (by decide) rfl (by decide)) (z_incn 87 3 1),
   zz_of (ok_goto G dX9_court_87 rfl) (z_goto _),
   zz_of (ok_iload_n G dX9_court_90 rfl rfl) (z_ild _ _),
   zz_of (ok_bipush G (v := 100) dX9_court_91 (by decide) rfl) (z_cn 93 100),
   zz_of (ok_ceq G dX9_court_93 rfl rfl) (z_ceq _ _ _ _),
   zz_of (ok_aload_n G dX9_court_96 rfl rfl) (z_ald _ _),
   zz_of (ok_aload_n G dX9_court_97 rfl rfl) (z_ald _ _),
   zz_of (ok_get G (nx := 101) (ci := 8) (kd := 0) (k := 8) (RX9, TX9, 32) rfl (by decide) rfl q1813 dX9_court_98 rfl) (z_get _ _ _ _),
   zz_of (ok_callv G hnh (zmX9_wrong _ G.hst) rfl rfl (RX9, TX9, 32) rfl q1933 q1935 qs43 q93 q1936 (by decide +kernel) ⟨by decide, by decide⟩ dX9_court_101 rfl) (z_callv _ _ _ _),
   zz_of (ok_iinc G (v := 1) dX9_court_104 (by decide) rfl (by decide)) (z_incn 107 1 1),
   zz_of (ok_goto G dX9_court_107 rfl) (z_goto _),
   zz_of (ok_aload_n G dX9_court_110 rfl rfl) (z_ald _ _),
   zz_of (ok_iconst G (v := 0) dX9_court_111 (by decide) rfl) (z_cn 112 0),
   zz_of (ok_puti G (nx := 115) (idx := 74) (ci := 8) (k := 6) (RX9, TX9, 32) rfl (by decide) rfl (mm_pw G (ci := 8) (k := 6) (RX9, TX9, 32) rfl (by decide) rfl q1811 dX9_court_112) rfl) (z_puti _ _ _),
   zz_of (ok_aload_n G dX9_court_115 rfl rfl) (z_ald _ _),
   zz_of (ok_aload_n G dX9_court_116 rfl rfl) (z_ald _ _),
   zz_of (ok_get G (nx := 120) (ci := 8) (kd := 0) (k := 10) (RX9, TX9, 32) rfl (by decide) rfl q1815 dX9_court_117 rfl) (z_get _ _ _ _),
   zz_of (ok_iconst G (v := (zI (-1))) dX9_court_120 (by decide) rfl) (z_cz 121 (-1)),
   zz_of (ok_ceq G dX9_court_121 rfl rfl) (z_ceq _ _ _ _),
   zz_of (ok_iconst G (v := 1) dX9_court_124 (by decide) rfl) (z_cn 125 1),
   zz_of (ok_goto G dX9_court_125 rfl) (z_goto _),
   zz_of (ok_aload_n G dX9_court_128 rfl rfl) (z_ald _ _),
   zz_of (ok_get G (nx := 132) (ci := 8) (kd := 2) (k := 1) (RX9, TX9, 32) rfl (by decide) rfl q1806 dX9_court_129 rfl) (z_get _ _ _ _),
   zz_of (ok_sipush G (v := 192) dX9_court_132 (by decide) rfl) (z_cn 135 192),
   zz_of (ok_iald G dX9_court_135 rfl) (z_ialc _ _),
   zz_of (ok_bipush G (v := 12) dX9_court_136 (by decide) rfl) (z_cn 138 12),
   zz_of (ok_cne G dX9_court_138 rfl rfl) (z_cne _ _ _ _),
   zz_of (ok_iconst G (v := 2) dX9_court_141 (by decide) rfl) (z_cn 142 2),
   zz_of (ok_goto G dX9_court_142 rfl) (z_goto _),
   zz_of (ok_iconst G (v := 0) dX9_court_145 (by decide) rfl) (z_cn 146 0),
   zz_of (ok_puti G (nx := 149) (idx := 67) (ci := 8) (k := 0) (RX9, TX9, 32) rfl (by decide) rfl (mm_pw G (ci := 8) (k := 0) (RX9, TX9, 32) rfl (by decide) rfl q1805 dX9_court_146) rfl) (z_puti _ _ _),
   zz_of (ok_aload_n G dX9_court_149 rfl rfl) (z_ald _ _),
   zz_of (ok_get G (nx := 153) (ci := 8) (kd := 0) (k := 0) (RX9, TX9, 32) rfl (by decide) rfl q1805 dX9_court_150 rfl) (z_get _ _ _ _),
   zz_of (ok_ifle G dX9_court_153 rfl rfl) (z_ifle _ _ _),
   zz_of (ok_iconst G (v := 0) dX9_court_156 (by decide) rfl) (z_cn 157 0),
   zz_of (ok_istore_n G dX9_court_157 rfl rfl (by decide)) (z_ist _ _),
   zz_of (ok_iload_n G dX9_court_158 rfl rfl) (z_ild _ _),
   zz_of (ok_sipush G (v := 201) dX9_court_159 (by decide) rfl) (z_cn 162 201),
   zz_of (ok_cge G dX9_court_162 rfl rfl) (z_cge _ _ _ _),
   zz_of (ok_aload_n G dX9_court_165 rfl rfl) (z_ald _ _),
   zz_of (ok_get G (nx := 169) (ci := 8) (kd := 2) (k := 1) (RX9, TX9, 32) rfl (by decide) rfl q1806 dX9_court_166 rfl) (z_get _ _ _ _),
   zz_of (ok_iload_n G dX9_court_169 rfl rfl) (z_ild _ _),
   zz_of (ok_aload_n G dX9_court_170 rfl rfl) (z_ald _ _),
   zz_of (ok_get G (nx := 174) (ci := 8) (kd := 2) (k := 4) (RX9, TX9, 32) rfl (by decide) rfl q1809 dX9_court_171 rfl) (z_get _ _ _ _),
   zz_of (ok_iload_n G dX9_court_174 rfl rfl) (z_ild _ _),
   zz_of (ok_iald G dX9_court_175 rfl) (z_iald _),
   zz_of (ok_iast G dX9_court_176 rfl) (z_iasd _),
   zz_of (ok_iinc G (v := 1) dX9_court_177 (by decide) rfl (by decide)) (z_incn 180 1 1),
   zz_of (ok_goto G dX9_court_180 rfl) (z_goto _),
   zz_of (ok_iconst G (v := 0) dX9_court_183 (by decide) rfl) (z_cn 184 0),
   zz_of (ok_iret G dX9_court_184) (z_iret),
   zz_of (ok_aload_n G dX9_court_185 rfl rfl) (z_ald _ _),
   zz_of (ok_get G (nx := 189) (ci := 8) (kd := 2) (k := 1) (RX9, TX9, 32) rfl (by decide) rfl q1806 dX9_court_186 rfl) (z_get _ _ _ _),
   zz_of (ok_sipush G (v := 192) dX9_court_189 (by decide) rfl) (z_cn 192 192),
   zz_of (ok_dup2 G dX9_court_192 rfl) (z_dup2 _),
   zz_of (ok_iald G dX9_court_193 rfl) (z_ialc _ _),
   zz_of (ok_iconst G (v := 1) dX9_court_194 (by decide) rfl) (z_cn 195 1),
   zz_of (ok_iadd G dX9_court_195 rfl) (z_iadd _),
   zz_of (ok_iast G dX9_court_196 rfl) (z_iasc _ _),
   zz_of (ok_aload_n G dX9_court_197 rfl rfl) (z_ald _ _),
   zz_of (ok_get G (nx := 201) (ci := 8) (kd := 2) (k := 1) (RX9, TX9, 32) rfl (by decide) rfl q1806 dX9_court_198 rfl) (z_get _ _ _ _),
   zz_of (ok_sipush G (v := 192) dX9_court_201 (by decide) rfl) (z_cn 204 192),
   zz_of (ok_iald G dX9_court_204 rfl) (z_ialc _ _),
   zz_of (ok_iret G dX9_court_205) (z_iret), trivial⟩

theorem zwX9_court_0 {Q : Option zv → zz_M → Prop} {X : Nat → zz_M → Prop} {S L : Nat → Nat → Int}  (h : zz_J zpX9_court (zz_ret Q X 0 0) 2 [some (vr 0), some (vi 0), none, none] [] (zm S L) (0, 0)) : zz_J zpX9_court (zz_ret Q X 0 0) 0 [some (vr 0), none, none, none] [] (zm S L) (0, 0) := zz_J.go [(2, [2, 3]), (27, [1, 2, 3]), (52, [2, 3]), (62, []), (90, [3]), (110, [1, 2, 3]), (158, [2, 3])] 400 h
theorem zwX9_court_2 {Q : Option zv → zz_M → Prop} {X : Nat → zz_M → Prop} {S L : Nat → Nat → Int} {x1 : Int} (h : R32 x1 ∧ ((201 ≤ x1 → zz_J zpX9_court (zz_ret Q X 0 0) 27 [some (vr 0), none, none, none] [] (zm S L) (0, 0)) ∧ (¬ 201 ≤ x1 → (0 ≤ x1 ∧ x1 < 2616) ∧ ((0 ≤ x1 ∧ x1 < 201) ∧ (zz_J zpX9_court (zz_ret Q X 0 0) 2 [some (vr 0), some (vi (x1 + 1)), none, none] [] (zm (mm_up S 3 x1.toNat (S 1 x1.toNat)) L) (0, 0)))))) : zz_J zpX9_court (zz_ret Q X 0 0) 2 [some (vr 0), some (vi x1), none, none] [] (zm S L) (0, 0) := zz_J.go [(2, [2, 3]), (27, [1, 2, 3]), (52, [2, 3]), (62, []), (90, [3]), (110, [1, 2, 3]), (158, [2, 3])] 400 h
theorem zwX9_court_27 {Q : Option zv → zz_M → Prop} {X : Nat → zz_M → Prop} {S L : Nat → Nat → Int}  (h : (∃ (tx_1 : Nat → Int) (n_1 : Nat), mT (mm_up (mm_up (mm_up S 0 10 (-1)) 0 7 (-1)) 0 8 (S 0 6)) tx_1 n_1 ∧ (mm_up (mm_up (mm_up S 0 10 (-1)) 0 7 (-1)) 0 8 (S 0 6)) 0 7 = -1 ∧ (0 : Int) = 0 ∧ (mm_up (mm_up (mm_up S 0 10 (-1)) 0 7 (-1)) 0 8 (S 0 6)) 0 10 = -1 ∧ (∀ w_1 : Nat, ctP tx_1 n_1 = .inl w_1 → ∀ (z_1 : Nat) (d_1 : Int) (r_1 : Nat → Int), z_1 ≤ n_1 + 6 → (∀ k_1, 201 ≤ k_1 → r_1 k_1 = (mm_up (mm_up (mm_up S 0 10 (-1)) 0 7 (-1)) 0 8 (S 0 6)) 1 k_1) → (zz_J zpX9_court (zz_ret Q X 0 0) 52 [some (vr 0), some (vi 0), none, none] [] (zm (rowS (pS (mm_up (mm_up (mm_up S 0 10 (-1)) 0 7 (-1)) 0 8 (S 0 6)) z_1 w_1 d_1) r_1) L) (0, 0))) ∧ (∀ c_1 : Nat × Rw, ctP tx_1 n_1 = .inr c_1 → (zz_J zpX9_court (zz_ret Q X 0 0) 52 [some (vr 0), some (vi 0), none, none] [] (zm (rowS (pS (mm_up (mm_up (mm_up S 0 10 (-1)) 0 7 (-1)) 0 8 (S 0 6)) n_1 (-1) 0) (c_1.2 ((mm_up (mm_up (mm_up S 0 10 (-1)) 0 7 (-1)) 0 8 (S 0 6)) 1))) L) (0, 0))))) : zz_J zpX9_court (zz_ret Q X 0 0) 27 [some (vr 0), none, none, none] [] (zm S L) (0, 0) := zz_J.go [(2, [2, 3]), (27, [1, 2, 3]), (52, [2, 3]), (62, []), (90, [3]), (110, [1, 2, 3]), (158, [2, 3])] 400 h
theorem zwX9_court_52 {Q : Option zv → zz_M → Prop} {X : Nat → zz_M → Prop} {S L : Nat → Nat → Int} {x1 : Int} (h : R32 x1 ∧ ((16 ≤ x1 → zz_J zpX9_court (zz_ret Q X 0 0) 110 [some (vr 0), none, none, none] [] (zm S L) (0, 0)) ∧ (¬ 16 ≤ x1 → zz_J zpX9_court (zz_ret Q X 0 0) 62 [some (vr 0), some (vi x1), some (vi 0), some (vi 0)] [] (zm S L) (0, 0)))) : zz_J zpX9_court (zz_ret Q X 0 0) 52 [some (vr 0), some (vi x1), none, none] [] (zm S L) (0, 0) := zz_J.go [(2, [2, 3]), (27, [1, 2, 3]), (52, [2, 3]), (62, []), (90, [3]), (110, [1, 2, 3]), (158, [2, 3])] 400 h
theorem zwX9_court_62 {Q : Option zv → zz_M → Prop} {X : Nat → zz_M → Prop} {S L : Nat → Nat → Int} {x1 : Int} {x2 : Int} {x3 : Int} (h : R32 x3 ∧ ((12 ≤ x3 → zz_J zpX9_court (zz_ret Q X 0 0) 90 [some (vr 0), some (vi x1), some (vi x2), none] [] (zm S L) (0, 0)) ∧ (¬ 12 ≤ x3 → (0 ≤ ((0 + (12 * x1)) + x3) ∧ ((0 + (12 * x1)) + x3) < 2616) ∧ (zz_J zpX9_court (zz_ret Q X 0 0) 62 [some (vr 0), some (vi x1), some (vi (x2 + (S 1 (((0 + (12 * x1)) + x3).toNat)))), some (vi (x3 + 1))] [] (zm S L) (0, 0))))) : zz_J zpX9_court (zz_ret Q X 0 0) 62 [some (vr 0), some (vi x1), some (vi x2), some (vi x3)] [] (zm S L) (0, 0) := zz_J.go [(2, [2, 3]), (27, [1, 2, 3]), (52, [2, 3]), (62, []), (90, [3]), (110, [1, 2, 3]), (158, [2, 3])] 400 h
theorem zwX9_court_90 {Q : Option zv → zz_M → Prop} {X : Nat → zz_M → Prop} {S L : Nat → Nat → Int} {x1 : Int} {x2 : Int} (h : R32 x2 ∧ ((x2 = 100 → zz_J zpX9_court (zz_ret Q X 0 0) 52 [some (vr 0), some (vi (x1 + 1)), none, none] [] (zm S L) (0, 0)) ∧ (¬ x2 = 100 → (R32 (S 0 10) ∧ (zz_J zpX9_court (zz_ret Q X 0 0) 52 [some (vr 0), some (vi (x1 + 1)), none, none] [] (zm (mm_up S 0 10 (wrF (S 0 10) (S 0 8))) L) (0, 0)))))) : zz_J zpX9_court (zz_ret Q X 0 0) 90 [some (vr 0), some (vi x1), some (vi x2), none] [] (zm S L) (0, 0) := zz_J.go [(2, [2, 3]), (27, [1, 2, 3]), (52, [2, 3]), (62, []), (90, [3]), (110, [1, 2, 3]), (158, [2, 3])] 400 h
theorem zwX9_court_110 {Q : Option zv → zz_M → Prop} {X : Nat → zz_M → Prop} {S L : Nat → Nat → Int}  (h : R32 (S 0 10) ∧ (((S 0 10) = (-1) → R32 (S 1 192) ∧ ((¬ (S 1 192) = 12 → R32 0 ∧ (((0 : Int) ≤ 0 → Q (some (vi ((S 1 192) + 1))) (zm (mm_up (mm_up (mm_up S 0 6 0) 0 0 0) 1 192 ((S 1 192) + 1)) L)) ∧ (¬ (0 : Int) ≤ 0 → zz_J zpX9_court (zz_ret Q X 0 0) 158 [some (vr 0), some (vi 0), none, none] [] (zm (mm_up (mm_up S 0 6 0) 0 0 0) L) (0, 0)))) ∧ ((S 1 192) = 12 → R32 2 ∧ (((2 : Int) ≤ 0 → Q (some (vi ((S 1 192) + 1))) (zm (mm_up (mm_up (mm_up S 0 6 0) 0 0 2) 1 192 ((S 1 192) + 1)) L)) ∧ (¬ (2 : Int) ≤ 0 → zz_J zpX9_court (zz_ret Q X 0 0) 158 [some (vr 0), some (vi 0), none, none] [] (zm (mm_up (mm_up S 0 6 0) 0 0 2) L) (0, 0)))))) ∧ (¬ (S 0 10) = (-1) → R32 1 ∧ (((1 : Int) ≤ 0 → Q (some (vi ((S 1 192) + 1))) (zm (mm_up (mm_up (mm_up S 0 6 0) 0 0 1) 1 192 ((S 1 192) + 1)) L)) ∧ (¬ (1 : Int) ≤ 0 → zz_J zpX9_court (zz_ret Q X 0 0) 158 [some (vr 0), some (vi 0), none, none] [] (zm (mm_up (mm_up S 0 6 0) 0 0 1) L) (0, 0)))))) : zz_J zpX9_court (zz_ret Q X 0 0) 110 [some (vr 0), none, none, none] [] (zm S L) (0, 0) := zz_J.go [(2, [2, 3]), (27, [1, 2, 3]), (52, [2, 3]), (62, []), (90, [3]), (110, [1, 2, 3]), (158, [2, 3])] 400 h
theorem zwX9_court_158 {Q : Option zv → zz_M → Prop} {X : Nat → zz_M → Prop} {S L : Nat → Nat → Int} {x1 : Int} (h : R32 x1 ∧ ((201 ≤ x1 → Q (some (vi 0)) (zm S L)) ∧ (¬ 201 ≤ x1 → (0 ≤ x1 ∧ x1 < 201) ∧ ((0 ≤ x1 ∧ x1 < 2616) ∧ (zz_J zpX9_court (zz_ret Q X 0 0) 158 [some (vr 0), some (vi (x1 + 1)), none, none] [] (zm (mm_up S 1 x1.toNat (S 3 x1.toNat)) L) (0, 0)))))) : zz_J zpX9_court (zz_ret Q X 0 0) 158 [some (vr 0), some (vi x1), none, none] [] (zm S L) (0, 0) := zz_J.go [(2, [2, 3]), (27, [1, 2, 3]), (52, [2, 3]), (62, []), (90, [3]), (110, [1, 2, 3]), (158, [2, 3])] 400 h

theorem liF_w {α : Type} {tx : Nat → Int} {n : Nat} {p : Nat → Pr α} {cb : α → α → α} (hok : pOK n p) : ∀ (r a : Nat) (g : α) (w : Nat), a ≤ n → liF tx n p cb r a g = .inl w → w ≤ n
  | 0, a, _, w, ha, h => by unfold liF at h; cases h; exact rn_le ha
  | r + 1, a, g, w, ha, h => by
    unfold liF at h
    have hb := rn_le (q := qB tx) ha
    cases hp : p (rn (qB tx) n a) with
    | inl w' => rw [hp] at h; cases h; exact (hok _ hb).2 _ hp
    | inr c =>
      have hc := (hok _ hb).1 _ hp
      have g2 := rn_le (q := qB tx) hc.2
      rw [hp] at h
      dsimp only at h
      split at h
      · cases h
      · split at h
        · next sg => exact liF_w hok r _ _ w (by have := (isSg_t.mp sg).1; omega) h
        · cases h; exact g2
theorem ctP_w {tx : Nat → Int} {n w : Nat} (h : ctP tx n = .inl w) : w ≤ n := by
  unfold ctP liP at h
  split at h
  · cases h
  · exact liF_w coP_ok _ _ _ _ (Nat.zero_le _) h
theorem zmX9_court (l : Launch) (hl : l.stackTraces = false) : mm_Spec l yX9_court (ws_ yX9_court cX9_court 4 (some .int)) (mm_rm 33 0 0) (zE zX9_court) := by
  refine zz_Met.J hl (by decide) (fun C G hnh => ztX9_court G hnh) ?_
  rintro as ⟨⟨t_, f⟩, S, L, P⟩ Q X h
  unfold zX9_court at h
  split at h
  rotate_left
  · exact h.elim
  rename_i h_
  obtain ⟨e1_, e2_, h⟩ := mm_and2 h (fun q => q)
  cases mm_beq e1_
  cases mm_beq e2_
  try dsimp only at h
  refine ⟨rfl, ?_⟩
  refine zz_Jev (M' := zm S L) rfl rfl rfl ?_
  obtain ⟨n, h6, hn, htx, hcg, h192, hg, hq1, hq2⟩ := h
  -- it is wrong: all is as it was
  have t158 : ∀ (r i : Nat) (t f : Int) (T : Nat → Nat → Int), i + r = 201 → gdF T → (∀ k, k < 201 → T 3 k = S 1 k) → (∀ k, k < i → T 1 k = S 1 k) → (∀ k, 201 ≤ k → T 1 k = S 1 k) → (∀ h k, h ≠ 1 → scr h k = false → T h k = ctS S t f h k) → (∀ S_, sc (ctS S t f) S_ → Q (some (vi 0)) (zm S_ L)) → zz_J zpX9_court (zz_ret Q X 0 0) 158 [some (vr 0), some (vi i), none, none] [] (zm T L) (0, 0) := by
    intro r
    induction r with
    | zero =>
      intro i t f T hi gT h3 h1 h1' h0 hq
      refine zwX9_court_158 ⟨by omega, fun _ => hq T ⟨fun a b hab => ?_, gT⟩, fun h => by omega⟩
      by_cases ha : a = 1
      · subst ha
        have e : ctS S t f 1 b = S 1 b := by simp [ctS_at]
        rw [e]
        by_cases hb : b < 201
        · exact h1 b (by omega)
        · exact h1' b (by omega)
      · exact h0 a b ha hab
    | succ r ih =>
      intro i t f T hi gT h3 h1 h1' h0 hq
      refine zwX9_court_158 ⟨by omega, fun h => by omega, fun _ => ⟨by omega, by omega, ?_⟩⟩
      rw [Int.toNat_natCast, h3 i (by omega)]
      refine ih (i + 1) t f _ (by omega) (gT.up _ (by decide) (by omega)) (fun k hk => ?_) (fun k hk => ?_) (fun k hk => ?_) (fun h k hh hs => ?_) hq
      · rw [up_eq, if_neg (by omega)]; exact h3 k hk
      · rw [up_eq]
        by_cases e : k = i
        · rw [if_pos ⟨rfl, e⟩, e]
        · rw [if_neg (by omega)]; exact h1 k (by omega)
      · rw [up_eq, if_neg (by omega)]; exact h1' k hk
      · rw [up_eq, if_neg (by omega)]; exact h0 h k hh hs
  -- the sums are taken
  have t110 : ∀ (f : Int) (w : Nat → Int) (T : Nat → Nat → Int), gdF T → (∀ k, k < 201 → T 3 k = S 1 k) → (∀ k, T 1 k = w k) → (f = -1 → w 192 = S 1 192) → (∀ k, 201 ≤ k → w k = S 1 k) → (∀ h k, h ≠ 1 → scr h k = false → T h k = mm_up S 0 10 f h k) → ((∃ v : Nat, f = v ∧ v ≤ n ∧ ctW (S 4) n (S 1) = .inl v) ∨ (f = -1 ∧ ctW (S 4) n (S 1) = .inr w)) → zz_J zpX9_court (zz_ret Q X 0 0) 110 [some (vr 0), none, none, none] [] (zm T L) (0, 0) := by
    intro f w T gT h3 h1 hw hw2 h0 hcase
    have t10 : T 0 10 = f := by rw [h0 0 10 (by decide) (by simp [scr])]; simp [up_eq]
    have gd0 : ∀ v : Int, gdF (mm_up (mm_up T 0 6 0) 0 0 v) := fun v => (gT.up _ (by decide) (by omega)).up _ (by decide) (by omega)
    have s0 : ∀ (v : Int) (h k : Nat), h ≠ 1 → scr h k = false → mm_up (mm_up T 0 6 0) 0 0 v h k = ctS S v f h k := by
      intro v h k hh hs
      have h00 := h0 h k hh hs
      rw [up_eq, up_eq, h00, ctS_at, up_eq]
      grind
    have s1 : ∀ (v : Int) (k : Nat), mm_up (mm_up T 0 6 0) 0 0 v 1 k = w k := by
      intro v k
      simp [up_eq, h1]
    have s3 : ∀ (v : Int) (k : Nat), k < 201 → mm_up (mm_up T 0 6 0) 0 0 v 3 k = S 1 k := by
      intro v k hk
      simp [up_eq, h3 k hk]
    refine zwX9_court_110 ?_
    simp only [t10, h1, s1]
    rcases hcase with ⟨v, rfl, hv, e⟩ | ⟨rfl, e⟩
    · refine ⟨by omega, fun h => by omega, fun _ => ⟨by omega, fun h => absurd h (by decide), fun _ => ?_⟩⟩
      exact t158 201 0 1 v _ (by decide) (gd0 1) (s3 1) (fun k hk => absurd hk (Nat.not_lt_zero _)) (fun k hk => by rw [s1]; exact hw2 k hk) (s0 1) (hq1 v e)
    · simp only [hw rfl]
      refine ⟨by decide, fun _ => ⟨by omega, fun h => ⟨by omega, fun _ => ?_, fun h => absurd h (by decide)⟩, fun h => ⟨by omega, fun h => absurd h (by decide), fun _ => ?_⟩⟩, fun h => absurd trivial h⟩
      · have := (hq2 w e).2 (by omega) (mm_up (mm_up (mm_up T 0 6 0) 0 0 0) 1 192 (S 1 192 + 1)) ⟨fun a b hab => ?_, (gd0 0).up _ (by decide) (by omega)⟩
        · exact this
        · by_cases ha : a = 1
          · subst ha
            rw [up_eq, s1, rowS_at, if_pos rfl]
            grind
          · rw [up_eq, if_neg (by omega), s0 0 a b ha hab, rowS_at, if_neg ha]
      · exact t158 201 0 2 (-1) _ (by decide) (gd0 2) (s3 2) (fun k hk => absurd hk (Nat.not_lt_zero _)) (fun k hk => by rw [s1]; exact hw2 k hk) (s0 2) ((hq2 w e).1 h)
  -- a row's sum
  have t62 : ∀ (r i : Nat) (k : Nat) (x2 : Int) (T : Nat → Nat → Int), i + r = 12 → k < 16 → zz_J zpX9_court (zz_ret Q X 0 0) 90 [some (vr 0), some (vi k), some (vi (x2 + (smR (T 1) (12 * k) 12 - smR (T 1) (12 * k) i))), none] [] (zm T L) (0, 0) → zz_J zpX9_court (zz_ret Q X 0 0) 62 [some (vr 0), some (vi k), some (vi x2), some (vi i)] [] (zm T L) (0, 0) := by
    intro r
    induction r with
    | zero =>
      intro i k x2 T hi hk hj
      have ei : i = 12 := by omega
      subst ei
      refine zwX9_court_62 ⟨by omega, fun _ => ?_, fun h => absurd h (by decide)⟩
      rw [show x2 + (smR (T 1) (12 * k) 12 - smR (T 1) (12 * k) 12) = x2 by omega] at hj
      exact hj
    | succ r ih =>
      intro i k x2 T hi hk hj
      refine zwX9_court_62 ⟨by omega, fun h => by omega, fun _ => ⟨by omega, ?_⟩⟩
      have e1 : ((0 : Int) + 12 * k + i).toNat = 12 * k + i := by omega
      rw [e1]
      refine ih (i + 1) k _ T (by omega) hk ?_
      have e2 : x2 + T 1 (12 * k + i) + (smR (T 1) (12 * k) 12 - smR (T 1) (12 * k) (i + 1)) = x2 + (smR (T 1) (12 * k) 12 - smR (T 1) (12 * k) i) := by
        rw [show smR (T 1) (12 * k) (i + 1) = smR (T 1) (12 * k) i + T 1 (12 * k + i) from rfl]
        omega
      rw [e2]
      exact hj
  -- a fault already: it stays
  have t52w : ∀ (r k v : Nat) (T : Nat → Nat → Int), k + r = 16 → v ≤ n → T 0 10 = v → zz_J zpX9_court (zz_ret Q X 0 0) 110 [some (vr 0), none, none, none] [] (zm T L) (0, 0) → zz_J zpX9_court (zz_ret Q X 0 0) 52 [some (vr 0), some (vi k), none, none] [] (zm T L) (0, 0) := by
    intro r
    induction r with
    | zero =>
      intro k v T hk hv ht hj
      exact zwX9_court_52 ⟨by omega, fun _ => hj, fun h => by omega⟩
    | succ r ih =>
      intro k v T hk hv ht hj
      have h1 := ih (k + 1) v T (by omega) hv ht hj
      have e10 : mm_up T 0 10 (wrF (v : Int) (T 0 8)) = T := up_same (by rw [ht, wrF, if_neg (by omega)])
      refine zwX9_court_52 ⟨by omega, fun h => by omega, fun _ => t62 12 0 k 0 T (by decide) (by omega) ?_⟩
      generalize 0 + (smR (T 1) (12 * k) 12 - smR (T 1) (12 * k) 0) = x
      refine zz_Jev (lv' := [some (vr 0), some (vi k), some (vi (zI x).toInt), none]) (congrArg (fun z => [some (ev (vr 0)), some (ev (vi k)), some z, none]) (vi_norm x)) rfl rfl ?_
      refine zwX9_court_90 ⟨i32_r _, fun _ => h1, fun _ => ⟨by rw [ht]; omega, ?_⟩⟩
      rw [ht, e10]
      exact h1
  -- no fault in the lines
  have t52 : ∀ (r k : Nat) (w : Nat → Int) (T : Nat → Nat → Int), k + r = 16 → gdF T → (∀ j, j < 201 → T 3 j = S 1 j) → (∀ j, T 1 j = w j) → cG w → w 192 = S 1 192 → (∀ j, 201 ≤ j → w j = S 1 j) → T 0 8 = n → T 0 10 = -1 → (∀ h k, h ≠ 1 → scr h k = false → T h k = mm_up S 0 10 (-1) h k) → whB w k = true → ctW (S 4) n (S 1) = (if whB w 16 = true then .inr w else .inl n) → zz_J zpX9_court (zz_ret Q X 0 0) 52 [some (vr 0), some (vi k), none, none] [] (zm T L) (0, 0) := by
    intro r
    induction r with
    | zero =>
      intro k w T hk gT h3 h1 hcw hw hw2 h8 h10 h0 hwh e
      have ek : k = 16 := by omega
      subst ek
      rw [if_pos hwh] at e
      exact zwX9_court_52 ⟨by omega, fun _ => t110 (-1) w T gT h3 h1 (fun _ => hw) hw2 h0 (Or.inr ⟨rfl, e⟩), fun h => absurd h (by decide)⟩
    | succ r ih =>
      intro k w T hk gT h3 h1 hcw hw hw2 h8 h10 h0 hwh e
      have hT1 : T 1 = w := funext h1
      have hs := smR_in hcw 12 (12 * k) (by omega)
      refine zwX9_court_52 ⟨by omega, fun h => by omega, fun _ => t62 12 0 k 0 T (by decide) (by omega) ?_⟩
      rw [hT1, show (0 : Int) + (smR w (12 * k) 12 - smR w (12 * k) 0) = smR w (12 * k) 12 by show (0 : Int) + (smR w (12 * k) 12 - 0) = _; omega]
      refine zwX9_court_90 ⟨by omega, fun c => ?_, fun c => ⟨by rw [h10]; decide, ?_⟩⟩
      · refine ih (k + 1) w T (by omega) gT h3 h1 hcw hw hw2 h8 h10 h0 ?_ e
        rw [whB_s, hwh, decide_eq_true c]
        rfl
      · rw [h10, h8, wrF, if_pos rfl]
        have e16 : whB w 16 = false := by
          rw [← Bool.not_eq_true, whB_t]
          exact fun q => c (q k (by omega))
        rw [if_neg (by rw [e16]; decide)] at e
        refine t52w r (k + 1) n _ (by omega) (Nat.le_refl _) (by simp [up_eq]) (t110 n w _ (gT.up _ (by decide) (by omega)) (fun j hj => by simp [up_eq, h3 j hj]) (fun j => by simp [up_eq, h1]) (fun _ => hw) hw2 (fun h k hh hs => ?_) (Or.inl ⟨n, rfl, Nat.le_refl _, e⟩))
        have := h0 h k hh hs
        rw [up_eq, this, up_eq, up_eq]
        grind
  -- the row is kept, the lines are read
  have t27 : ∀ T : Nat → Nat → Int, gdF T → (∀ k, k < 201 → T 3 k = S 1 k) → (∀ h k, scr h k = false → T h k = S h k) → zz_J zpX9_court (zz_ret Q X 0 0) 27 [some (vr 0), none, none, none] [] (zm T L) (0, 0) := by
    intro T gT h3 h0
    have t6 : T 0 6 = n := by rw [h0 0 6 (by simp [scr])]; exact h6
    have t1 : ∀ k, T 1 k = S 1 k := fun k => h0 1 k (by simp [scr])
    have t4 : ∀ k, T 4 k = S 4 k := fun k => h0 4 k (by simp [scr])
    have hT1 : T 1 = S 1 := funext t1
    refine zwX9_court_27 ?_
    rw [t6]
    generalize hU : mm_up (mm_up (mm_up T 0 10 (-1)) 0 7 (-1)) 0 8 (n : Int) = U
    have gU : gdF U := by
      rw [← hU]
      exact ((gT.up _ (by decide) (by omega)).up _ (by decide) (by omega)).up _ (by decide) (by omega)
    have u1 : U 1 = S 1 := by rw [← hU, ← hT1]; funext k; simp [up_eq]
    have u3 : ∀ k, k < 201 → U 3 k = S 1 k := fun k hk => by rw [← hU]; simp [up_eq, h3 k hk]
    have u8 : U 0 8 = n := by rw [← hU]; simp [up_eq]
    have u0 : ∀ (a : Nat) (f d : Int) (r : Nat → Int) (h k : Nat), h ≠ 1 → scr h k = false → rowS (pS U a f d) r h k = mm_up S 0 10 f h k := by
      intro a f d r h k hh hs
      have h00 := h0 h k hs
      rw [scr_f] at hs
      rw [rowS_at, if_neg hh, pS_at, up_eq, ← hU, up_eq, up_eq, up_eq, h00]
      grind
    have gR : ∀ (a : Nat) (f d : Int) (r : Nat → Int), gdF (rowS (pS U a f d) r) := by
      intro a f d r
      have h1 := gU.pS (a : Int) f d
      unfold gdF at h1 ⊢
      have ef : fcS (rowS (pS U a f d) r) = fcS (pS U a f d) := by
        funext j
        unfold fcS
        grind [rowS_at]
      rw [ef]
      exact h1
    refine ⟨S 4, n, ?_, by rw [← hU]; simp [up_eq], rfl, by rw [← hU]; simp [up_eq], fun w e z d r hz hr => ?_, fun c e => ?_⟩
    · exact ⟨hn, u8, htx, Or.inl ⟨by rw [← hU]; simp [up_eq], fun k _ => by rw [← hU]; simp [up_eq, t4]⟩⟩
    · rw [u1] at hr
      have hw := ctP_w e
      have e2 : ctW (S 4) n (S 1) = .inl w := by unfold ctW; rw [e]
      refine t52w 16 0 w _ (by decide) hw rfl (t110 w r _ (gR _ _ _ _) (fun k hk => u3 k hk) (fun k => rfl) (fun h => by omega) hr (u0 _ _ _ _) (Or.inl ⟨w, rfl, hw, e2⟩))
    · rw [u1]
      have hc := ctP_cW e
      refine t52 16 0 (c.2 (S 1)) _ (by decide) (gR _ _ _ _) (fun k hk => u3 k hk) (fun k => rfl) (hc.1 _ hcg) (hc.2 _ _ (Or.inl rfl)) (fun j hj => hc.2 _ _ (by omega)) u8 rfl (u0 _ _ _ _) (by rw [whB_t]; exact fun j hj => absurd hj (Nat.not_lt_zero _)) ?_
      unfold ctW
      rw [e]
  have t2 : ∀ (r i : Nat) (T : Nat → Nat → Int), i + r = 201 → gdF T → (∀ k, k < i → T 3 k = S 1 k) → (∀ h k, scr h k = false → T h k = S h k) → zz_J zpX9_court (zz_ret Q X 0 0) 2 [some (vr 0), some (vi i), none, none] [] (zm T L) (0, 0) := by
    intro r
    induction r with
    | zero =>
      intro i T hi gT h3 h0
      exact zwX9_court_2 ⟨by omega, fun _ => t27 T gT (fun k hk => h3 k (by omega)) h0, fun h => by omega⟩
    | succ r ih =>
      intro i T hi gT h3 h0
      refine zwX9_court_2 ⟨by omega, fun h => by omega, fun _ => ⟨by omega, by omega, ?_⟩⟩
      rw [Int.toNat_natCast, h0 1 i (by simp [scr])]
      have gT' : gdF (mm_up T 3 i (S 1 i)) := gT.up _ (by decide) (by omega)
      refine ih (i + 1) _ (by omega) gT' (fun k hk => ?_) (fun h k hs => ?_)
      · rw [up_eq]
        by_cases e : k = i
        · rw [if_pos ⟨rfl, e⟩, e]
        · rw [if_neg (by omega)]; exact h3 k (by omega)
      · rw [up_eq, if_neg (by rintro ⟨rfl, rfl⟩; rw [scr_3] at hs; cases hs)]; exact h0 h k hs
  exact zwX9_court_0 (t2 201 0 S (by decide) hg (fun k hk => absurd hk (Nat.not_lt_zero _)) (fun _ _ _ => rfl))
