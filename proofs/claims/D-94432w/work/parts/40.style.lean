/-! ===== the model's styles ===== -/
set_option maxRecDepth 100000
/-- cells that are worked with and forgotten -/
def scr (h k : Nat) : Bool := decide (h = 3) || decide (h = 5) || (decide (h = 0) && (decide (k = 7) || decide (k = 8) || decide (k = 9) || decide (k = 11) || decide (k = 13) || decide (k = 14) || decide (k = 15)))
theorem scr_f {h k : Nat} : scr h k = false ↔ ¬ (h = 3 ∨ h = 5 ∨ (h = 0 ∧ (k = 7 ∨ k = 8 ∨ k = 9 ∨ k = 11 ∨ k = 13 ∨ k = 14 ∨ k = 15))) := by
  unfold scr
  rw [← Bool.not_eq_true]
  simp only [Bool.or_eq_true, Bool.and_eq_true, decide_eq_true_eq]
  grind
def scE (S S' : Nat → Nat → Int) : Prop := ∀ h k, scr h k = false → S' h k = S h k
def gdF (S : Nat → Nat → Int) : Prop := bF (fcS S) ∧ (S 0 13 = 0 ∨ S 0 13 = 1) ∧ (S 0 14 = 0 ∨ S 0 14 = 1)
def sc (S S' : Nat → Nat → Int) : Prop := scE S S' ∧ gdF S'
theorem scE.tr {S T U : Nat → Nat → Int} (h : scE S T) (h' : scE T U) : scE S U := fun a b hab => by rw [h' a b hab, h a b hab]
theorem scE.rf {S : Nat → Nat → Int} : scE S S := fun _ _ _ => rfl
theorem scE.up {S T : Nat → Nat → Int} (h : scE S T) {a b : Nat} (v : Int) (hs : scr a b = true) : scE S (mm_up T a b v) := by
  intro x y hxy
  rw [up_eq, if_neg (by rintro ⟨rfl, rfl⟩; rw [hs] at hxy; cases hxy)]
  exact h x y hxy
theorem sc.tr {S T U : Nat → Nat → Int} (h : scE S T) (h' : sc T U) : sc S U := ⟨h.tr h'.1, h'.2⟩
theorem scr_5 (k : Nat) : scr 5 k = true := by simp [scr]
theorem scr_3 (k : Nat) : scr 3 k = true := by simp [scr]
/-- the facts of player p at the score x -/
def fcX (x : Nat → Int) (p : Nat) : Fc := fun k => if k = 0 then x p + 3 else if k = 1 then x (1 - p) + 3 else if k = 2 then (if x 3 = 0 then 10 else x 4) else if k = 3 then x 3 else if k = 4 then x (7 + p) else if k = 5 then (if x 2 = p then 1 else 0) else if k = 6 then (if x 6 = 1 then 1 else 0) else 0
/-- the text of a rule in the row -/
def trT (m : Nat → Int) (r : Nat) : Nat → Int := fun k => m (211 + 401 * r + k)
def trN (m : Nat → Int) (r : Nat) : Nat := (m (210 + 401 * r)).toNat
def trG (m : Nat → Int) (r : Nat) : Prop := r < 6 ∧ 0 ≤ m (210 + 401 * r) ∧ m (210 + 401 * r) ≤ 400 ∧ (∀ k, k < trN m r → 0 ≤ trT m r k ∧ trT m r k ≤ 255) ∧ ∃ c, ruP (trT m r) (trN m r) = .inr c
/-- what a rule says -/
def ruV (tx : Nat → Int) (n : Nat) (F : Fc) : Int := match ruP tx n with
  | .inl _ => 0
  | .inr c => (c.2 F).getD 0
def stR (m x : Nat → Int) (p : Nat) : Int := if m (199 + p) = -1 then 0 else ruV (trT m (m (199 + p)).toNat) (trN m (m (199 + p)).toNat) (fcX x p)
def plG (m : Nat → Int) (p : Nat) : Prop := m (199 + p) = -1 ∨ (0 ≤ m (199 + p) ∧ trG m (m (199 + p)).toNat)
theorem liF_v {α : Type} {tx : Nat → Int} {n : Nat} {p : Nat → Pr α} {cb : α → α → α} (P : α → Prop) (hp : ∀ a c, p a = .inr c → P c.2) (hc : ∀ g h, P g → P h → P (cb g h)) : ∀ (r a : Nat) (g : α) (c : Nat × α), P g → liF tx n p cb r a g = .inr c → P c.2
  | 0, _, _, _, _, h => by unfold liF at h; cases h
  | r + 1, a, g, c, hg, h => by
    unfold liF at h
    cases hq : p (rn (qB tx) n a) with
    | inl w => rw [hq] at h; cases h
    | inr e =>
      have he := hc _ _ hg (hp _ _ hq)
      rw [hq] at h
      dsimp only at h
      split at h
      · cases h; exact he
      · split at h
        · exact liF_v P hp hc r _ _ c he h
        · cases h
theorem ruP_v {tx : Nat → Int} {n : Nat} {c : Nat × (Fc → Option Int)} (h : ruP tx n = .inr c) : ∀ F v, c.2 F = some v → 0 ≤ v ∧ v ≤ 3 := by
  unfold ruP liP at h
  split at h
  · cases h
    intro F v hv
    cases hv
  · refine liF_v (fun g => ∀ F v, g F = some v → 0 ≤ v ∧ v ≤ 3) (fun a c hc => rlP_v hc) (fun g g' hg hg' F v hv => ?_) _ _ _ _ (fun F v hv => by cases hv) h
    dsimp only at hv
    cases hgF : g F with
    | none => rw [hgF] at hv; exact hg' F v hv
    | some u => rw [hgF] at hv; cases hv; exact hg F v hgF
theorem ruV_in (tx : Nat → Int) (n : Nat) (F : Fc) : 0 ≤ ruV tx n F ∧ ruV tx n F ≤ 3 := by
  unfold ruV
  cases h : ruP tx n with
  | inl w => show (0 : Int) ≤ 0 ∧ (0 : Int) ≤ 3; decide
  | inr c =>
    show 0 ≤ (c.2 F).getD 0 ∧ (c.2 F).getD 0 ≤ 3
    cases hv : c.2 F with
    | none => exact ⟨Int.le_refl _, by decide⟩
    | some v => exact ruP_v h F v hv
theorem stR_in (m x : Nat → Int) (p : Nat) : 0 ≤ stR m x p ∧ stR m x p ≤ 3 := by
  unfold stR
  split
  · exact ⟨Int.le_refl _, by decide⟩
  · exact ruV_in _ _ _
def zX9_styleOf : zz_Sp := fun as M Q X => match as with
  | [.inr (.inr (some h_)), .inl p] => bif Nat.beq h_ 0 && Nat.beq M.1.1 1 then ((p = 0 ∨ p = 1) ∧ by5 (M.2.1 6) ∧ plG (M.2.1 1) p.toNat ∧ gdF M.2.1 ∧ R32 (M.2.1 0 10) ∧ (∀ S_ : Nat → Nat → Int, sc M.2.1 S_ → Q (some (vi (stR (M.2.1 1) (M.2.1 6) p.toNat))) (zm S_ M.2.2.1))) else False
  | _ => False

def zpX9_styleOf : zz_P := [(0, zo_ald 1 0), (1, zo_get 4 8 2 1), (4, zo_c 7 (vi 199)), (7, zo_ild 8 1), (8, zo_iadd 9), (9, zo_iald 10), (10, zo_c 11 (vi (-1))), (11, zo_cne false true 14 16), (14, zo_c 15 (vi 0)), (15, zo_iret), (16, zo_ald 17 0), (17, zo_get 20 8 2 12), (20, zo_c 21 (vi 0)), (21, zo_ald 22 0), (22, zo_get 25 8 2 16), (25, zo_ild 26 1), (26, zo_iald 27), (27, zo_c 28 (vi 3)), (28, zo_iadd 29), (29, zo_iasc 30 0), (30, zo_ald 31 0), (31, zo_get 34 8 2 12), (34, zo_c 35 (vi 1)), (35, zo_ald 36 0), (36, zo_get 39 8 2 16), (39, zo_c 40 (vi 1)), (40, zo_ild 41 1), (41, zo_isub 42), (42, zo_iald 43), (43, zo_c 44 (vi 3)), (44, zo_iadd 45), (45, zo_iasc 46 1), (46, zo_ald 47 0), (47, zo_get 50 8 2 12), (50, zo_c 51 (vi 2)), (51, zo_ald 52 0), (52, zo_get 55 8 2 16), (55, zo_c 56 (vi 3)), (56, zo_ialc 57 3), (57, zo_ifne false 60 65), (60, zo_c 62 (vi 10)), (62, zo_goto 71), (65, zo_ald 66 0), (66, zo_get 69 8 2 16), (69, zo_c 70 (vi 4)), (70, zo_ialc 71 4), (71, zo_iasc 72 2), (72, zo_ald 73 0), (73, zo_get 76 8 2 12), (76, zo_c 77 (vi 3)), (77, zo_ald 78 0), (78, zo_get 81 8 2 16), (81, zo_c 82 (vi 3)), (82, zo_ialc 83 3), (83, zo_iasc 84 3), (84, zo_ald 85 0), (85, zo_get 88 8 2 12), (88, zo_c 89 (vi 4)), (89, zo_ald 90 0), (90, zo_get 93 8 2 16), (93, zo_c 95 (vi 7)), (95, zo_ild 96 1), (96, zo_iadd 97), (97, zo_iald 98), (98, zo_iasc 99 4), (99, zo_ald 100 0), (100, zo_ald 101 0), (101, zo_get 104 8 2 16), (104, zo_c 105 (vi 2)), (105, zo_ialc 106 2), (106, zo_ild 107 1), (107, zo_cne false false 110 114), (110, zo_c 111 (vi 1)), (111, zo_goto 115), (114, zo_c 115 (vi 0)), (115, zo_putz true 118 8 13), (118, zo_ald 119 0), (119, zo_ald 120 0), (120, zo_get 123 8 2 16), (123, zo_c 125 (vi 6)), (125, zo_ialc 126 6), (126, zo_c 127 (vi 1)), (127, zo_cne false true 130 134), (130, zo_c 131 (vi 1)), (131, zo_goto 135), (134, zo_c 135 (vi 0)), (135, zo_putz true 138 8 14), (138, zo_ald 139 0), (139, zo_get 142 8 0 10), (142, zo_ist 143 2), (143, zo_ald 144 0), (144, zo_c 145 (vi (-1))), (145, zo_puti 148 8 10), (148, zo_ald 149 0), (149, zo_c 152 (vi 210)), (152, zo_c 155 (vi 401)), (155, zo_ald 156 0), (156, zo_get 159 8 2 1), (159, zo_c 162 (vi 199)), (162, zo_ild 163 1), (163, zo_iadd 164), (164, zo_iald 165), (165, zo_imul 166), (166, zo_iadd 167), (167, zo_c 168 (vi 1)), (168, zo_iadd 169), (169, zo_puti 172 8 7), (172, zo_ald 173 0), (173, zo_ald 174 0), (174, zo_get 177 8 2 1), (177, zo_ald 178 0), (178, zo_get 181 8 0 7), (181, zo_c 182 (vi 1)), (182, zo_isub 183), (183, zo_iald 184), (184, zo_puti 187 8 8), (187, zo_ald 188 0), (188, zo_c 189 (vi (-1))), (189, zo_puti 192 8 15), (192, zo_ald 193 0), (193, zo_c 194 (vi 1)), (194, zo_callv 197 2 8 zX9_lines_r), (197, zo_ald 198 0), (198, zo_ild 199 2), (199, zo_puti 202 8 10), (202, zo_ald 203 0), (203, zo_get 206 8 0 15), (206, zo_c 207 (vi (-1))), (207, zo_cne false true 210 214), (210, zo_c 211 (vi 0)), (211, zo_goto 218), (214, zo_ald 215 0), (215, zo_get 218 8 0 15), (218, zo_iret)]
theorem ztX9_styleOf {C : mm_C} (G : mm_G C RX9 cX9_styleOf (some .int) 3 (mm_rm 33 0 0)) (hnh : mm_nh C) : zz_OKs C zpX9_styleOf :=
  ⟨zz_of (ok_aload_n G dX9_styleOf_0 rfl rfl) (z_ald _ _),
   zz_of (ok_get G (nx := 4) (ci := 8) (kd := 2) (k := 1) (RX9, TX9, 32) rfl (by decide) rfl q1806 dX9_styleOf_1 rfl) (z_get _ _ _ _),
   zz_of (ok_sipush G (v := 199) dX9_styleOf_4 (by decide) rfl) (z_cn 7 199),
   zz_of (ok_iload_n G dX9_styleOf_7 rfl rfl) (z_ild _ _),
   zz_of (ok_iadd G dX9_styleOf_8 rfl) (z_iadd _),
   zz_of (ok_iald G dX9_styleOf_9 rfl) (z_iald _),
   zz_of (ok_iconst G (v := (zI (-1))) dX9_styleOf_10 (by decide) rfl) (z_cz 11 (-1)),
   zz_of (ok_cne G dX9_styleOf_11 rfl rfl) (z_cne _ _ _ _),
   zz_of (ok_iconst G (v := 0) dX9_styleOf_14 (by decide) rfl) (z_cn 15 0),
   zz_of (ok_iret G dX9_styleOf_15) (z_iret),
   zz_of (ok_aload_n G dX9_styleOf_16 rfl rfl) (z_ald _ _),
   zz_of (ok_get G (nx := 20) (ci := 8) (kd := 2) (k := 12) (RX9, TX9, 32) rfl (by decide) rfl q1817 dX9_styleOf_17 rfl) (z_get _ _ _ _),
   zz_of (ok_iconst G (v := 0) dX9_styleOf_20 (by decide) rfl) (z_cn 21 0),
   zz_of (ok_aload_n G dX9_styleOf_21 rfl rfl) (z_ald _ _),
   zz_of (ok_get G (nx := 25) (ci := 8) (kd := 2) (k := 16) (RX9, TX9, 32) rfl (by decide) rfl q1821 dX9_styleOf_22 rfl) (z_get _ _ _ _),
   zz_of (ok_iload_n G dX9_styleOf_25 rfl rfl) (z_ild _ _),
   zz_of (ok_iald G dX9_styleOf_26 rfl) (z_iald _),
   zz_of (ok_iconst G (v := 3) dX9_styleOf_27 (by decide) rfl) (z_cn 28 3),
   zz_of (ok_iadd G dX9_styleOf_28 rfl) (z_iadd _),
   zz_of (ok_iast G dX9_styleOf_29 rfl) (z_iasc _ _),
   zz_of (ok_aload_n G dX9_styleOf_30 rfl rfl) (z_ald _ _),
   zz_of (ok_get G (nx := 34) (ci := 8) (kd := 2) (k := 12) (RX9, TX9, 32) rfl (by decide) rfl q1817 dX9_styleOf_31 rfl) (z_get _ _ _ _),
   zz_of (ok_iconst G (v := 1) dX9_styleOf_34 (by decide) rfl) (z_cn 35 1),
   zz_of (ok_aload_n G dX9_styleOf_35 rfl rfl) (z_ald _ _),
   zz_of (ok_get G (nx := 39) (ci := 8) (kd := 2) (k := 16) (RX9, TX9, 32) rfl (by decide) rfl q1821 dX9_styleOf_36 rfl) (z_get _ _ _ _),
   zz_of (ok_iconst G (v := 1) dX9_styleOf_39 (by decide) rfl) (z_cn 40 1),
   zz_of (ok_iload_n G dX9_styleOf_40 rfl rfl) (z_ild _ _),
   zz_of (ok_isub G dX9_styleOf_41 rfl) (z_isub _),
   zz_of (ok_iald G dX9_styleOf_42 rfl) (z_iald _),
   zz_of (ok_iconst G (v := 3) dX9_styleOf_43 (by decide) rfl) (z_cn 44 3),
   zz_of (ok_iadd G dX9_styleOf_44 rfl) (z_iadd _),
   zz_of (ok_iast G dX9_styleOf_45 rfl) (z_iasc _ _),
   zz_of (ok_aload_n G dX9_styleOf_46 rfl rfl) (z_ald _ _),
   zz_of (ok_get G (nx := 50) (ci := 8) (kd := 2) (k := 12) (RX9, TX9, 32) rfl (by decide) rfl q1817 dX9_styleOf_47 rfl) (z_get _ _ _ _),
   zz_of (ok_iconst G (v := 2) dX9_styleOf_50 (by decide) rfl) (z_cn 51 2),
   zz_of (ok_aload_n G dX9_styleOf_51 rfl rfl) (z_ald _ _),
   zz_of (ok_get G (nx := 55) (ci := 8) (kd := 2) (k := 16) (RX9, TX9, 32) rfl (by decide) rfl q1821 dX9_styleOf_52 rfl) (z_get _ _ _ _),
   zz_of (ok_iconst G (v := 3) dX9_styleOf_55 (by decide) rfl) (z_cn 56 3),
   zz_of (ok_iald G dX9_styleOf_56 rfl) (z_ialc _ _),
   zz_of (ok_ifne G dX9_styleOf_57 rfl rfl) (z_ifne _ _ _),
   zz_of (ok_bipush G (v := 10) dX9_styleOf_60 (by decide) rfl) (z_cn 62 10),
   zz_of (ok_goto G dX9_styleOf_62 rfl) (z_goto _),
   zz_of (ok_aload_n G dX9_styleOf_65 rfl rfl) (z_ald _ _),
   zz_of (ok_get G (nx := 69) (ci := 8) (kd := 2) (k := 16) (RX9, TX9, 32) rfl (by decide) rfl q1821 dX9_styleOf_66 rfl) (z_get _ _ _ _),
   zz_of (ok_iconst G (v := 4) dX9_styleOf_69 (by decide) rfl) (z_cn 70 4),
   zz_of (ok_iald G dX9_styleOf_70 rfl) (z_ialc _ _),
   zz_of (ok_iast G dX9_styleOf_71 rfl) (z_iasc _ _),
   zz_of (ok_aload_n G dX9_styleOf_72 rfl rfl) (z_ald _ _),
   zz_of (ok_get G (nx := 76) (ci := 8) (kd := 2) (k := 12) (RX9, TX9, 32) rfl (by decide) rfl q1817 dX9_styleOf_73 rfl) (z_get _ _ _ _),
   zz_of (ok_iconst G (v := 3) dX9_styleOf_76 (by decide) rfl) (z_cn 77 3),
   zz_of (ok_aload_n G dX9_styleOf_77 rfl rfl) (z_ald _ _),
   zz_of (ok_get G (nx := 81) (ci := 8) (kd := 2) (k := 16) (RX9, TX9, 32) rfl (by decide) rfl q1821 dX9_styleOf_78 rfl) (z_get _ _ _ _),
   zz_of (ok_iconst G (v := 3) dX9_styleOf_81 (by decide) rfl) (z_cn 82 3),
   zz_of (ok_iald G dX9_styleOf_82 rfl) (z_ialc _ _),
   zz_of (ok_iast G dX9_styleOf_83 rfl) (z_iasc _ _),
   zz_of (ok_aload_n G dX9_styleOf_84 rfl rfl) (z_ald _ _),
   zz_of (ok_get G (nx := 88) (ci := 8) (kd := 2) (k := 12) (RX9, TX9, 32) rfl (by decide) rfl q1817 dX9_styleOf_85 rfl) (z_get _ _ _ _),
   zz_of (ok_iconst G (v := 4) dX9_styleOf_88 (by decide) rfl) (z_cn 89 4),
   zz_of (ok_aload_n G dX9_styleOf_89 rfl rfl) (z_ald _ _),
   zz_of (ok_get G (nx := 93) (ci := 8) (kd := 2) (k := 16) (RX9, TX9, 32) rfl (by decide) rfl q1821 dX9_styleOf_90 rfl) (z_get _ _ _ _),
   zz_of (ok_bipush G (v := 7) dX9_styleOf_93 (by decide) rfl) (z_cn 95 7),
   zz_of (ok_iload_n G dX9_styleOf_95 rfl rfl) (z_ild _ _),
   zz_of (ok_iadd G dX9_styleOf_96 rfl) (z_iadd _),
   zz_of (ok_iald G dX9_styleOf_97 rfl) (z_iald _),
   zz_of (ok_iast G dX9_styleOf_98 rfl) (z_iasc _ _),
   zz_of (ok_aload_n G dX9_styleOf_99 rfl rfl) (z_ald _ _),
   zz_of (ok_aload_n G dX9_styleOf_100 rfl rfl) (z_ald _ _),
   zz_of (ok_get G (nx := 104) (ci := 8) (kd := 2) (k := 16) (RX9, TX9, 32) rfl (by decide) rfl q1821 dX9_styleOf_101 rfl) (z_get _ _ _ _),
   zz_of (ok_iconst G (v := 2) dX9_styleOf_104 (by decide) rfl) (z_cn 105 2),
   zz_of (ok_iald G dX9_styleOf_105 rfl) (z_ialc _ _),
   zz_of (ok_iload_n G dX9_styleOf_106 rfl rfl) (z_ild _ _),
   zz_of (ok_cne G dX9_styleOf_107 rfl rfl) (z_cne _ _ _ _),
   zz_of (ok_iconst G (v := 1) dX9_styleOf_110 (by decide) rfl) (z_cn 111 1),
   zz_of (ok_goto G dX9_styleOf_111 rfl) (z_goto _),
   zz_of (ok_iconst G (v := 0) dX9_styleOf_114 (by decide) rfl) (z_cn 115 0),
   zz_of (ok_putz G (nx := 118) (idx := 159) (ci := 8) (k := 13) (RX9, TX9, 32) rfl (by decide) rfl (mm_pw G (ci := 8) (k := 13) (RX9, TX9, 32) rfl (by decide) rfl q1818 dX9_styleOf_115) rfl) (z_putz _ _ _ _),
   zz_of (ok_aload_n G dX9_styleOf_118 rfl rfl) (z_ald _ _),
   zz_of (ok_aload_n G dX9_styleOf_119 rfl rfl) (z_ald _ _),
   zz_of (ok_get G (nx := 123) (ci := 8) (kd := 2) (k := 16) (RX9, TX9, 32) rfl (by decide) rfl q1821 dX9_styleOf_120 rfl) (z_get _ _ _ _),
   zz_of (ok_bipush G (v := 6) dX9_styleOf_123 (by decide) rfl) (z_cn 125 6),
   zz_of (ok_iald G dX9_styleOf_125 rfl) (z_ialc _ _),
   zz_of (ok_iconst G (v := 1) dX9_styleOf_126 (by decide) rfl) (z_cn 127 1),
   zz_of (ok_cne G dX9_styleOf_127 rfl rfl) (z_cne _ _ _ _),
   zz_of (ok_iconst G (v := 1) dX9_styleOf_130 (by decide) rfl) (z_cn 131 1),
   zz_of (ok_goto G dX9_styleOf_131 rfl) (z_goto _),
   zz_of (ok_iconst G (v := 0) dX9_styleOf_134 (by decide) rfl) (z_cn 135 0),
   zz_of (ok_putz G (nx := 138) (idx := 165) (ci := 8) (k := 14) (RX9, TX9, 32) rfl (by decide) rfl (mm_pw G (ci := 8) (k := 14) (RX9, TX9, 32) rfl (by decide) rfl q1819 dX9_styleOf_135) rfl) (z_putz _ _ _ _),
   zz_of (ok_aload_n G dX9_styleOf_138 rfl rfl) (z_ald _ _),
   zz_of (ok_get G (nx := 142) (ci := 8) (kd := 0) (k := 10) (RX9, TX9, 32) rfl (by decide) rfl q1815 dX9_styleOf_139 rfl) (z_get _ _ _ _),
   zz_of (ok_istore_n G dX9_styleOf_142 rfl rfl (by decide)) (z_ist _ _),
   zz_of (ok_aload_n G dX9_styleOf_143 rfl rfl) (z_ald _ _),
   zz_of (ok_iconst G (v := (zI (-1))) dX9_styleOf_144 (by decide) rfl) (z_cz 145 (-1)),
   zz_of (ok_puti G (nx := 148) (idx := 22) (ci := 8) (k := 10) (RX9, TX9, 32) rfl (by decide) rfl (mm_pw G (ci := 8) (k := 10) (RX9, TX9, 32) rfl (by decide) rfl q1815 dX9_styleOf_145) rfl) (z_puti _ _ _),
   zz_of (ok_aload_n G dX9_styleOf_148 rfl rfl) (z_ald _ _),
   zz_of (ok_sipush G (v := 210) dX9_styleOf_149 (by decide) rfl) (z_cn 152 210),
   zz_of (ok_sipush G (v := 401) dX9_styleOf_152 (by decide) rfl) (z_cn 155 401),
   zz_of (ok_aload_n G dX9_styleOf_155 rfl rfl) (z_ald _ _),
   zz_of (ok_get G (nx := 159) (ci := 8) (kd := 2) (k := 1) (RX9, TX9, 32) rfl (by decide) rfl q1806 dX9_styleOf_156 rfl) (z_get _ _ _ _),
   zz_of (ok_sipush G (v := 199) dX9_styleOf_159 (by decide) rfl) (z_cn 162 199),
   zz_of (ok_iload_n G dX9_styleOf_162 rfl rfl) (z_ild _ _),
   zz_of (ok_iadd G dX9_styleOf_163 rfl) (z_iadd _),
   zz_of (ok_iald G dX9_styleOf_164 rfl) (z_iald _),
   zz_of (ok_imul G dX9_styleOf_165 rfl) (z_imul _),
   zz_of (ok_iadd G dX9_styleOf_166 rfl) (z_iadd _),
   zz_of (ok_iconst G (v := 1) dX9_styleOf_167 (by decide) rfl) (z_cn 168 1),
   zz_of (ok_iadd G dX9_styleOf_168 rfl) (z_iadd _),
   zz_of (ok_puti G (nx := 172) (idx := 77) (ci := 8) (k := 7) (RX9, TX9, 32) rfl (by decide) rfl (mm_pw G (ci := 8) (k := 7) (RX9, TX9, 32) rfl (by decide) rfl q1812 dX9_styleOf_169) rfl) (z_puti _ _ _),
   zz_of (ok_aload_n G dX9_styleOf_172 rfl rfl) (z_ald _ _),
   zz_of (ok_aload_n G dX9_styleOf_173 rfl rfl) (z_ald _ _),
   zz_of (ok_get G (nx := 177) (ci := 8) (kd := 2) (k := 1) (RX9, TX9, 32) rfl (by decide) rfl q1806 dX9_styleOf_174 rfl) (z_get _ _ _ _),
   zz_of (ok_aload_n G dX9_styleOf_177 rfl rfl) (z_ald _ _),
   zz_of (ok_get G (nx := 181) (ci := 8) (kd := 0) (k := 7) (RX9, TX9, 32) rfl (by decide) rfl q1812 dX9_styleOf_178 rfl) (z_get _ _ _ _),
   zz_of (ok_iconst G (v := 1) dX9_styleOf_181 (by decide) rfl) (z_cn 182 1),
   zz_of (ok_isub G dX9_styleOf_182 rfl) (z_isub _),
   zz_of (ok_iald G dX9_styleOf_183 rfl) (z_iald _),
   zz_of (ok_puti G (nx := 187) (idx := 83) (ci := 8) (k := 8) (RX9, TX9, 32) rfl (by decide) rfl (mm_pw G (ci := 8) (k := 8) (RX9, TX9, 32) rfl (by decide) rfl q1813 dX9_styleOf_184) rfl) (z_puti _ _ _),
   zz_of (ok_aload_n G dX9_styleOf_187 rfl rfl) (z_ald _ _),
   zz_of (ok_iconst G (v := (zI (-1))) dX9_styleOf_188 (by decide) rfl) (z_cz 189 (-1)),
   zz_of (ok_puti G (nx := 192) (idx := 194) (ci := 8) (k := 15) (RX9, TX9, 32) rfl (by decide) rfl (mm_pw G (ci := 8) (k := 15) (RX9, TX9, 32) rfl (by decide) rfl q1820 dX9_styleOf_189) rfl) (z_puti _ _ _),
   zz_of (ok_aload_n G dX9_styleOf_192 rfl rfl) (z_ald _ _),
   zz_of (ok_iconst G (v := 1) dX9_styleOf_193 (by decide) rfl) (z_cn 194 1),
   zz_of (ok_callv G hnh (zmX9_lines_r _ G.hst) rfl rfl (RX9, TX9, 32) rfl q1921 q1923 qs40 q93 q1924 (by decide +kernel) ⟨by decide, by decide⟩ dX9_styleOf_194 rfl) (z_callv _ _ _ _),
   zz_of (ok_aload_n G dX9_styleOf_197 rfl rfl) (z_ald _ _),
   zz_of (ok_iload_n G dX9_styleOf_198 rfl rfl) (z_ild _ _),
   zz_of (ok_puti G (nx := 202) (idx := 22) (ci := 8) (k := 10) (RX9, TX9, 32) rfl (by decide) rfl (mm_pw G (ci := 8) (k := 10) (RX9, TX9, 32) rfl (by decide) rfl q1815 dX9_styleOf_199) rfl) (z_puti _ _ _),
   zz_of (ok_aload_n G dX9_styleOf_202 rfl rfl) (z_ald _ _),
   zz_of (ok_get G (nx := 206) (ci := 8) (kd := 0) (k := 15) (RX9, TX9, 32) rfl (by decide) rfl q1820 dX9_styleOf_203 rfl) (z_get _ _ _ _),
   zz_of (ok_iconst G (v := (zI (-1))) dX9_styleOf_206 (by decide) rfl) (z_cz 207 (-1)),
   zz_of (ok_cne G dX9_styleOf_207 rfl rfl) (z_cne _ _ _ _),
   zz_of (ok_iconst G (v := 0) dX9_styleOf_210 (by decide) rfl) (z_cn 211 0),
   zz_of (ok_goto G dX9_styleOf_211 rfl) (z_goto _),
   zz_of (ok_aload_n G dX9_styleOf_214 rfl rfl) (z_ald _ _),
   zz_of (ok_get G (nx := 218) (ci := 8) (kd := 0) (k := 15) (RX9, TX9, 32) rfl (by decide) rfl q1820 dX9_styleOf_215 rfl) (z_get _ _ _ _),
   zz_of (ok_iret G dX9_styleOf_218) (z_iret), trivial⟩

theorem zwX9_styleOf_0 {Q : Option zv → zz_M → Prop} {X : Nat → zz_M → Prop} {S L : Nat → Nat → Int} {p : Int} (h : (0 ≤ (199 + p) ∧ (199 + p) < 2616) ∧ (R32 (S 1 ((199 + p).toNat)) ∧ ((¬ (S 1 ((199 + p).toNat)) = (-1) → zz_J zpX9_styleOf (zz_ret Q X 0 0) 16 [some (vr 0), some (vi p), none] [] (zm S L) (0, 0)) ∧ ((S 1 ((199 + p).toNat)) = (-1) → Q (some (vi 0)) (zm S L))))) : zz_J zpX9_styleOf (zz_ret Q X 0 0) 0 [some (vr 0), some (vi p), none] [] (zm S L) (0, 0) := zz_J.go [(16, [2]), (72, [2]), (118, [2]), (138, [2]), (197, [1])] 400 h
theorem zwX9_styleOf_16 {Q : Option zv → zz_M → Prop} {X : Nat → zz_M → Prop} {S L : Nat → Nat → Int} {x1 : Int} (h : (0 ≤ x1 ∧ x1 < 9) ∧ ((0 ≤ (1 - x1) ∧ (1 - x1) < 9) ∧ (R32 (S 6 3) ∧ ((¬ (S 6 3) = 0 → zz_J zpX9_styleOf (zz_ret Q X 0 0) 72 [some (vr 0), some (vi x1), none] [] (zm (mm_up (mm_up (mm_up S 5 0 ((S 6 x1.toNat) + 3)) 5 1 ((S 6 ((1 - x1).toNat)) + 3)) 5 2 (S 6 4)) L) (0, 0)) ∧ ((S 6 3) = 0 → zz_J zpX9_styleOf (zz_ret Q X 0 0) 72 [some (vr 0), some (vi x1), none] [] (zm (mm_up (mm_up (mm_up S 5 0 ((S 6 x1.toNat) + 3)) 5 1 ((S 6 ((1 - x1).toNat)) + 3)) 5 2 10) L) (0, 0)))))) : zz_J zpX9_styleOf (zz_ret Q X 0 0) 16 [some (vr 0), some (vi x1), none] [] (zm S L) (0, 0) := zz_J.go [(16, [2]), (72, [2]), (118, [2]), (138, [2]), (197, [1])] 400 h
theorem zwX9_styleOf_72 {Q : Option zv → zz_M → Prop} {X : Nat → zz_M → Prop} {S L : Nat → Nat → Int} {x1 : Int} (h : (0 ≤ (7 + x1) ∧ (7 + x1) < 9) ∧ (R32 (S 6 2) ∧ (R32 x1 ∧ ((¬ (S 6 2) = x1 → zz_J zpX9_styleOf (zz_ret Q X 0 0) 118 [some (vr 0), some (vi x1), none] [] (zm (mm_up (mm_up (mm_up S 5 3 (S 6 3)) 5 4 (S 6 ((7 + x1).toNat))) 0 13 0) L) (0, 0)) ∧ ((S 6 2) = x1 → zz_J zpX9_styleOf (zz_ret Q X 0 0) 118 [some (vr 0), some (vi x1), none] [] (zm (mm_up (mm_up (mm_up S 5 3 (S 6 3)) 5 4 (S 6 ((7 + x1).toNat))) 0 13 1) L) (0, 0)))))) : zz_J zpX9_styleOf (zz_ret Q X 0 0) 72 [some (vr 0), some (vi x1), none] [] (zm S L) (0, 0) := zz_J.go [(16, [2]), (72, [2]), (118, [2]), (138, [2]), (197, [1])] 400 h
theorem zwX9_styleOf_118 {Q : Option zv → zz_M → Prop} {X : Nat → zz_M → Prop} {S L : Nat → Nat → Int} {x1 : Int} (h : R32 (S 6 6) ∧ ((¬ (S 6 6) = 1 → zz_J zpX9_styleOf (zz_ret Q X 0 0) 138 [some (vr 0), some (vi x1), none] [] (zm (mm_up S 0 14 0) L) (0, 0)) ∧ ((S 6 6) = 1 → zz_J zpX9_styleOf (zz_ret Q X 0 0) 138 [some (vr 0), some (vi x1), none] [] (zm (mm_up S 0 14 1) L) (0, 0)))) : zz_J zpX9_styleOf (zz_ret Q X 0 0) 118 [some (vr 0), some (vi x1), none] [] (zm S L) (0, 0) := zz_J.go [(16, [2]), (72, [2]), (118, [2]), (138, [2]), (197, [1])] 400 h
theorem zwX9_styleOf_138 {Q : Option zv → zz_M → Prop} {X : Nat → zz_M → Prop} {S L : Nat → Nat → Int} {x1 : Int} (h : (0 ≤ (199 + x1) ∧ (199 + x1) < 2616) ∧ ((0 ≤ (((210 + (401 * (S 1 ((199 + x1).toNat)))) + 1) - 1) ∧ (((210 + (401 * (S 1 ((199 + x1).toNat)))) + 1) - 1) < 2616) ∧ ((∃ (tx_1 : Nat → Int) (n_1 : Nat), mT (mm_up (mm_up (mm_up (mm_up S 0 10 (-1)) 0 7 ((210 + (401 * (S 1 ((199 + x1).toNat)))) + 1)) 0 8 (S 1 ((((210 + (401 * (S 1 ((199 + x1).toNat)))) + 1) - 1).toNat))) 0 15 (-1)) tx_1 n_1 ∧ (1 : Int) = 1 ∧ (mm_up (mm_up (mm_up (mm_up S 0 10 (-1)) 0 7 ((210 + (401 * (S 1 ((199 + x1).toNat)))) + 1)) 0 8 (S 1 ((((210 + (401 * (S 1 ((199 + x1).toNat)))) + 1) - 1).toNat))) 0 15 (-1)) 0 10 = -1 ∧ bF (fcS (mm_up (mm_up (mm_up (mm_up S 0 10 (-1)) 0 7 ((210 + (401 * (S 1 ((199 + x1).toNat)))) + 1)) 0 8 (S 1 ((((210 + (401 * (S 1 ((199 + x1).toNat)))) + 1) - 1).toNat))) 0 15 (-1))) ∧ ((mm_up (mm_up (mm_up (mm_up S 0 10 (-1)) 0 7 ((210 + (401 * (S 1 ((199 + x1).toNat)))) + 1)) 0 8 (S 1 ((((210 + (401 * (S 1 ((199 + x1).toNat)))) + 1) - 1).toNat))) 0 15 (-1)) 0 13 = 0 ∨ (mm_up (mm_up (mm_up (mm_up S 0 10 (-1)) 0 7 ((210 + (401 * (S 1 ((199 + x1).toNat)))) + 1)) 0 8 (S 1 ((((210 + (401 * (S 1 ((199 + x1).toNat)))) + 1) - 1).toNat))) 0 15 (-1)) 0 13 = 1) ∧ ((mm_up (mm_up (mm_up (mm_up S 0 10 (-1)) 0 7 ((210 + (401 * (S 1 ((199 + x1).toNat)))) + 1)) 0 8 (S 1 ((((210 + (401 * (S 1 ((199 + x1).toNat)))) + 1) - 1).toNat))) 0 15 (-1)) 0 14 = 0 ∨ (mm_up (mm_up (mm_up (mm_up S 0 10 (-1)) 0 7 ((210 + (401 * (S 1 ((199 + x1).toNat)))) + 1)) 0 8 (S 1 ((((210 + (401 * (S 1 ((199 + x1).toNat)))) + 1) - 1).toNat))) 0 15 (-1)) 0 14 = 1) ∧ (mm_up (mm_up (mm_up (mm_up S 0 10 (-1)) 0 7 ((210 + (401 * (S 1 ((199 + x1).toNat)))) + 1)) 0 8 (S 1 ((((210 + (401 * (S 1 ((199 + x1).toNat)))) + 1) - 1).toNat))) 0 15 (-1)) 0 15 = -1 ∧ (∀ w_1 : Nat, ruP tx_1 n_1 = .inl w_1 → ∀ (z_1 : Nat) (d_1 s_1 : Int), z_1 ≤ n_1 + 6 → (zz_J zpX9_styleOf (zz_ret Q X 0 0) 197 [some (vr 0), none, some (vi (S 0 10))] [] (zm (pS (mm_up (mm_up (mm_up (mm_up (mm_up S 0 10 (-1)) 0 7 ((210 + (401 * (S 1 ((199 + x1).toNat)))) + 1)) 0 8 (S 1 ((((210 + (401 * (S 1 ((199 + x1).toNat)))) + 1) - 1).toNat))) 0 15 (-1)) 0 15 s_1) z_1 w_1 d_1) L) (0, 0))) ∧ (∀ c_1 : Nat × (Fc → Option Int), ruP tx_1 n_1 = .inr c_1 → (zz_J zpX9_styleOf (zz_ret Q X 0 0) 197 [some (vr 0), none, some (vi (S 0 10))] [] (zm (pS (mm_up (mm_up (mm_up (mm_up (mm_up S 0 10 (-1)) 0 7 ((210 + (401 * (S 1 ((199 + x1).toNat)))) + 1)) 0 8 (S 1 ((((210 + (401 * (S 1 ((199 + x1).toNat)))) + 1) - 1).toNat))) 0 15 (-1)) 0 15 ((c_1.2 (fcS (mm_up (mm_up (mm_up (mm_up S 0 10 (-1)) 0 7 ((210 + (401 * (S 1 ((199 + x1).toNat)))) + 1)) 0 8 (S 1 ((((210 + (401 * (S 1 ((199 + x1).toNat)))) + 1) - 1).toNat))) 0 15 (-1)))).getD (-1))) n_1 (-1) 0) L) (0, 0))))))) : zz_J zpX9_styleOf (zz_ret Q X 0 0) 138 [some (vr 0), some (vi x1), none] [] (zm S L) (0, 0) := zz_J.go [(16, [2]), (72, [2]), (118, [2]), (138, [2]), (197, [1])] 400 h
theorem zwX9_styleOf_197 {Q : Option zv → zz_M → Prop} {X : Nat → zz_M → Prop} {S L : Nat → Nat → Int} {x2 : Int} (h : R32 (S 0 15) ∧ ((¬ (S 0 15) = (-1) → Q (some (vi (S 0 15))) (zm (mm_up S 0 10 x2) L)) ∧ ((S 0 15) = (-1) → Q (some (vi 0)) (zm (mm_up S 0 10 x2) L)))) : zz_J zpX9_styleOf (zz_ret Q X 0 0) 197 [some (vr 0), none, some (vi x2)] [] (zm S L) (0, 0) := zz_J.go [(16, [2]), (72, [2]), (118, [2]), (138, [2]), (197, [1])] 400 h

theorem zmX9_styleOf (l : Launch) (hl : l.stackTraces = false) : mm_Spec l yX9_styleOf (ws_ yX9_styleOf cX9_styleOf 3 (some .int)) (mm_rm 33 0 0) (zE zX9_styleOf) := by
  refine zz_Met.J hl (by decide) (fun C G hnh => ztX9_styleOf G hnh) ?_
  rintro as ⟨⟨t_, f⟩, S, L, P⟩ Q X h
  unfold zX9_styleOf at h
  split at h
  rotate_left
  · exact h.elim
  rename_i h_ p
  obtain ⟨e1_, e2_, h⟩ := mm_and2 h (fun q => q)
  cases mm_beq e1_
  cases mm_beq e2_
  try dsimp only at h
  refine ⟨rfl, ?_⟩
  refine zz_Jev (M' := zm S L) rfl rfl rfl ?_
  obtain ⟨hp, hb, hpl, hg, hR, hq⟩ := h
  obtain ⟨u, hu, rfl⟩ : ∃ u : Nat, u < 2 ∧ p = u := by
    rcases hp with e | e
    · exact ⟨0, by decide, e⟩
    · exact ⟨1, by decide, e⟩
  rw [Int.toNat_natCast] at hpl hq
  have e1 : ((199 : Int) + u).toNat = 199 + u := by omega
  have e2 : ((1 : Int) - u).toNat = 1 - u := by omega
  have e3 : ((7 : Int) + u).toNat = 7 + u := by omega
  have bp := hb u
  have bp1 := hb (1 - u)
  have b7 := hb (7 + u)
  have b2 := hb 2
  have b3 := hb 3
  have b4 := hb 4
  have b6 := hb 6
  -- behind the text
  have t197 : ∀ (T : Nat → Nat → Int) (s : Int) (o : Option Int), scE (mm_up S 0 10 (T 0 10)) T → gdF T → s = o.getD (-1) → (∀ v, o = some v → 0 ≤ v ∧ v ≤ 3) → T 0 15 = s → o.getD 0 = stR (S 1) (S 6) u → zz_J zpX9_styleOf (zz_ret Q X 0 0) 197 [some (vr 0), none, some (vi (S 0 10))] [] (zm T L) (0, 0) := by
    intro T s o hT gT hs ho h15 hv
    have hsc : sc S (mm_up T 0 10 (S 0 10)) := by
      refine ⟨fun a b hab => ?_, ?_⟩
      · rw [up_eq]
        by_cases h : a = 0 ∧ b = 10
        · rw [if_pos h, h.1, h.2]
        · rw [if_neg h, hT a b hab, up_eq, if_neg h]
      · have ef : fcS (mm_up T 0 10 (S 0 10)) = fcS T := by
          funext k
          grind [fcS, up_eq]
        unfold gdF at gT ⊢
        rw [ef]
        simpa [up_eq] using gT
    have hq := hq _ hsc
    rw [← hv] at hq
    refine zwX9_styleOf_197 ?_
    rw [h15]
    cases o with
    | none =>
      have hs : s = -1 := hs
      exact ⟨by omega, fun h => absurd hs h, fun _ => hq⟩
    | some v =>
      have hs : s = v := hs
      have := ho v rfl
      refine ⟨by omega, fun _ => ?_, fun h => by omega⟩
      rw [hs]
      exact hq
  -- the facts are set
  have t138 : ∀ T : Nat → Nat → Int, scE S T → S 1 (199 + u) ≠ -1 → fcS T = fcX (S 6) u → (T 0 13 = 0 ∨ T 0 13 = 1) → (T 0 14 = 0 ∨ T 0 14 = 1) → zz_J zpX9_styleOf (zz_ret Q X 0 0) 138 [some (vr 0), some (vi u), none] [] (zm T L) (0, 0) := by
    intro T hT hne hF h13 h14
    obtain ⟨hr0, hr6, hn0, hn4, htx, c, hc⟩ := hpl.resolve_left hne
    generalize hr : (S 1 (199 + u)).toNat = r at hr6 hn0 hn4 htx hc
    have er : S 1 (199 + u) = r := by omega
    have t1 : ∀ k, T 1 k = S 1 k := fun k => hT 1 k (by simp [scr])
    have t10 : T 0 10 = S 0 10 := hT 0 10 (by simp [scr])
    have bFc : bF (fcX (S 6) u) := by
      intro k
      unfold fcX
      grind
    have eix : ((210 : Int) + 401 * T 1 (199 + u) + 1 - 1).toNat = 210 + 401 * r := by rw [t1, er]; omega
    have hfc : ∀ (T' : Nat → Nat → Int), (∀ k, T' 5 k = T 5 k) → T' 0 13 = T 0 13 → T' 0 14 = T 0 14 → fcS T' = fcS T := by
      intro T' q1 q2 q3
      funext k
      unfold fcS
      rw [q1, q2, q3]
    refine zwX9_styleOf_138 ?_
    simp only [e1, eix]
    simp only [t1, t10, er]
    refine ⟨by omega, by omega, trT (S 1) r, trN (S 1) r, ?_, trivial, ?_, ?_, ?_, ?_, ?_, fun w e => (by rw [hc] at e; cases e), fun c2 ec => ?_⟩
    · refine ⟨by unfold trN; omega, ?_, htx, Or.inr ⟨211 + 401 * r, ?_, by unfold trN; omega, fun k hk => ?_⟩⟩
      · simp only [up_eq]
        unfold trN
        simp
        omega
      · simp only [up_eq]
        simp
        omega
      · simp only [up_eq]
        simp
        exact t1 _
    · simp [up_eq]
    · rw [hfc _ (by simp [up_eq]) (by simp [up_eq]) (by simp [up_eq]), hF]; exact bFc
    · simpa [up_eq] using h13
    · simpa [up_eq] using h14
    · simp [up_eq]
    · rw [hc] at ec
      cases ec
      have ef : ∀ T' : Nat → Nat → Int, (∀ k, T' 5 k = T 5 k) → T' 0 13 = T 0 13 → T' 0 14 = T 0 14 → fcS T' = fcX (S 6) u := fun T' q1 q2 q3 => by rw [hfc T' q1 q2 q3, hF]
      refine t197 _ _ (c.2 (fcX (S 6) u)) ?_ ⟨?_, ?_, ?_⟩ rfl (ruP_v hc _) ?_ ?_
      · intro a b hab
        have h0 := hT a b hab
        rw [scr_f] at hab
        simp only [pS_at, up_eq]
        grind
      · rw [ef _ (by intro k; simp [pS_at, up_eq]) (by simp [pS_at, up_eq]) (by simp [pS_at, up_eq])]; exact bFc
      · simpa [pS_at, up_eq] using h13
      · simpa [pS_at, up_eq] using h14
      · rw [ef _ (by intro k; simp [up_eq]) (by simp [up_eq]) (by simp [up_eq])]
        simp [pS_at, up_eq]
      · unfold stR ruV
        rw [if_neg hne, hr, hc]
  have t118 : ∀ T : Nat → Nat → Int, scE S T → S 1 (199 + u) ≠ -1 → (∀ k, k < 6 → fcS T k = fcX (S 6) u k) → (T 0 13 = 0 ∨ T 0 13 = 1) → zz_J zpX9_styleOf (zz_ret Q X 0 0) 118 [some (vr 0), some (vi u), none] [] (zm T L) (0, 0) := by
    intro T hT hne hF h13
    have t6 : ∀ k, T 6 k = S 6 k := fun k => hT 6 k (by simp [scr])
    have fin : ∀ v : Int, v = fcX (S 6) u 6 → (v = 0 ∨ v = 1) → zz_J zpX9_styleOf (zz_ret Q X 0 0) 138 [some (vr 0), some (vi u), none] [] (zm (mm_up T 0 14 v) L) (0, 0) := by
      intro v hv hv1
      refine t138 _ (hT.up v (by simp [scr])) hne ?_ (by simpa [up_eq] using h13) (by simpa [up_eq] using hv1)
      funext k
      by_cases hk : k < 6
      · rw [← hF k hk]
        unfold fcS
        grind [up_eq]
      · unfold fcS
        by_cases h6 : k = 6
        · subst h6
          simp [up_eq, hv]
        · have : fcX (S 6) u k = 0 := by unfold fcX; grind
          rw [this]
          grind
    refine zwX9_styleOf_118 ?_
    simp only [t6]
    refine ⟨by omega, fun h => fin 0 ?_ (Or.inl rfl), fun h => fin 1 ?_ (Or.inr rfl)⟩
    · simp [fcX, h]
    · simp [fcX, h]
  have t72 : ∀ T : Nat → Nat → Int, scE S T → S 1 (199 + u) ≠ -1 → (∀ k, k < 3 → T 5 k = fcX (S 6) u k) → zz_J zpX9_styleOf (zz_ret Q X 0 0) 72 [some (vr 0), some (vi u), none] [] (zm T L) (0, 0) := by
    intro T hT hne hF
    have t6 : ∀ k, T 6 k = S 6 k := fun k => hT 6 k (by simp [scr])
    have fin : ∀ v : Int, v = fcX (S 6) u 5 → (v = 0 ∨ v = 1) → zz_J zpX9_styleOf (zz_ret Q X 0 0) 118 [some (vr 0), some (vi u), none] [] (zm (mm_up (mm_up (mm_up T 5 3 (S 6 3)) 5 4 (S 6 (7 + u))) 0 13 v) L) (0, 0) := by
      intro v hv hv1
      refine t118 _ (((hT.up _ (scr_5 _)).up _ (scr_5 _)).up v (by simp [scr])) hne ?_ (by simpa [up_eq] using hv1)
      intro k hk
      by_cases h3 : k < 3
      · rw [← hF k h3]
        unfold fcS
        grind [up_eq]
      · have : k = 3 ∨ k = 4 ∨ k = 5 := by omega
        rcases this with h | h | h <;> subst h
        · simp [fcS, fcX, up_eq]
        · simp [fcS, fcX, up_eq]
        · simp [fcS, up_eq, hv]
    refine zwX9_styleOf_72 ?_
    have t6u : ∀ v k, mm_up T 5 3 v 6 k = S 6 k := fun v k => by simp [up_eq, t6]
    simp only [e3, t6, t6u]
    refine ⟨by omega, by omega, by omega, fun h => fin 0 ?_ (Or.inl rfl), fun h => fin 1 ?_ (Or.inr rfl)⟩
    · simp [fcX, h]
    · simp [fcX, h]
  have t16 : S 1 (199 + u) ≠ -1 → zz_J zpX9_styleOf (zz_ret Q X 0 0) 16 [some (vr 0), some (vi u), none] [] (zm S L) (0, 0) := by
    intro hne
    have fin : ∀ v : Int, v = fcX (S 6) u 2 → zz_J zpX9_styleOf (zz_ret Q X 0 0) 72 [some (vr 0), some (vi u), none] [] (zm (mm_up (mm_up (mm_up S 5 0 (S 6 u + 3)) 5 1 (S 6 (1 - u) + 3)) 5 2 v) L) (0, 0) := by
      intro v hv
      refine t72 _ (((scE.rf.up _ (scr_5 _)).up _ (scr_5 _)).up _ (scr_5 _)) hne ?_
      intro k hk
      have : k = 0 ∨ k = 1 ∨ k = 2 := by omega
      rcases this with h | h | h <;> subst h
      · simp [fcX, up_eq]
      · simp [fcX, up_eq]
      · simp [up_eq, hv]
    refine zwX9_styleOf_16 ?_
    have s6u : ∀ v k, mm_up S 5 0 v 6 k = S 6 k := fun v k => by simp [up_eq]
    simp only [e2, Int.toNat_natCast, s6u]
    refine ⟨by omega, by omega, by omega, fun h => fin _ ?_, fun h => fin _ ?_⟩
    · simp [fcX, h]
    · simp [fcX, h]
  have bw1 : R32 (S 1 (199 + u)) := by
    rcases hpl with h | ⟨h0, hr6, -⟩
    · rw [h]; decide
    · omega
  refine zwX9_styleOf_0 ?_
  simp only [e1]
  refine ⟨by omega, bw1, fun h => t16 h, fun h => ?_⟩
  have hv : stR (S 1) (S 6) u = 0 := by unfold stR; rw [if_pos h]
  rw [hv] at hq
  exact hq S ⟨scE.rf, hg⟩
