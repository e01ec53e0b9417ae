/-! ===== the component's parser: a line of the court ===== -/
set_option maxRecDepth 100000
/-- the draft's cells as a row says -/
def drU (S : Nat → Nat → Int) (d : Nat) (w : Nat → Int) : Nat → Nat → Int := fun h k => if d + 10 ≤ h ∧ h < d + 26 ∧ k < 12 then w (12 * (h - (d + 10)) + k) else if h = d ∧ k = 1 then w 194 else if h = d ∧ k = 2 then w 195 else if h = d ∧ k = 3 then w 196 else S h k
theorem drU_o {S : Nat → Nat → Int} {d h : Nat} {w : Nat → Int} (h1 : h < d ∨ d + 26 ≤ h) : drU S d w h = S h := by
  funext k
  unfold drU
  rw [if_neg (by omega), if_neg (by omega), if_neg (by omega), if_neg (by omega)]
theorem drW_U {S : Nat → Nat → Int} {d : Nat} {w : Nat → Int} : drW (drU S d w) d w := by
  refine ⟨fun i k hi hk => ?_, ?_, ?_, ?_⟩
  · unfold drU
    rw [if_pos (by omega), show d + 10 + i - (d + 10) = i by omega]
  · unfold drU
    rw [if_neg (by omega), if_pos ⟨rfl, rfl⟩]
  · unfold drU
    rw [if_neg (by omega), if_neg (by omega), if_pos ⟨rfl, rfl⟩]
  · unfold drU
    rw [if_neg (by omega), if_neg (by omega), if_neg (by omega), if_pos ⟨rfl, rfl⟩]
theorem drU_U {S : Nat → Nat → Int} {d : Nat} {v w : Nat → Int} : drU (drU S d v) d w = drU S d w := by
  funext h k
  unfold drU
  by_cases c : d + 10 ≤ h ∧ h < d + 26 ∧ k < 12
  · rw [if_pos c, if_pos c]
  · rw [if_neg c, if_neg c, if_neg c]
    by_cases c1 : h = d ∧ k = 1
    · rw [if_pos c1, if_pos c1]
    · rw [if_neg c1, if_neg c1, if_neg c1]
      by_cases c2 : h = d ∧ k = 2
      · rw [if_pos c2, if_pos c2]
      · rw [if_neg c2, if_neg c2, if_neg c2]
        by_cases c3 : h = d ∧ k = 3
        · rw [if_pos c3, if_pos c3]
        · rw [if_neg c3, if_neg c3, if_neg c3]
theorem drU_id {S : Nat → Nat → Int} {d : Nat} {w : Nat → Int} (h : drW S d w) : drU S d w = S := by
  obtain ⟨h1, h2, h3, h4⟩ := h
  funext x k
  unfold drU
  by_cases c : d + 10 ≤ x ∧ x < d + 26 ∧ k < 12
  · rw [if_pos c]
    have := h1 (x - (d + 10)) k (by omega) c.2.2
    rw [show d + 10 + (x - (d + 10)) = x by omega] at this
    exact this.symm
  · rw [if_neg c]
    by_cases c1 : x = d ∧ k = 1
    · rw [if_pos c1, c1.1, c1.2]; exact h2.symm
    · rw [if_neg c1]
      by_cases c2 : x = d ∧ k = 2
      · rw [if_pos c2, c2.1, c2.2]; exact h3.symm
      · rw [if_neg c2]
        by_cases c3 : x = d ∧ k = 3
        · rw [if_pos c3, c3.1, c3.2]; exact h4.symm
        · rw [if_neg c3]
/-- one number of the draft is set -/
theorem drU_set {t u d x y ix : Nat} {v : Int} {f f1 : Nat → Nat × Nat} {S S1 L L1 : Nat → Nat → Int} {P P1 : Nat → Nat → Option Nat} {w : Nat → Int} (hW : drW S d w) (d2 : 2000 ≤ d) (dt : d + 26 ≤ t) (hix : (ix < 192 ∧ x = d + 10 + ix / 12 ∧ y = ix % 12) ∨ (x = d ∧ ((ix = 194 ∧ y = 1) ∨ (ix = 195 ∧ y = 2) ∨ (ix = 196 ∧ y = 3)))) (g : gr t u f S L P f1 S1 L1 P1) : gr t u f (drU S d (fun k => if k = ix then v else w k)) L P f1 (mm_up S1 x y v) L1 P1 := by
  refine ⟨g.1, g.2.1, fun h k hh hk => ?_, g.2.2.2.1, g.2.2.2.2.1, g.2.2.2.2.2⟩
  rw [up_eq, g.2.2.1 h k hh hk]
  have e := congrFun (congrFun (drU_id hW) h) k
  unfold drU at e ⊢
  by_cases c : d + 10 ≤ h ∧ h < d + 26 ∧ k < 12
  · rw [if_pos c] at e ⊢
    by_cases z : h = x ∧ k = y
    · rw [if_pos z]
      exact (if_pos (by omega)).symm
    · rw [if_neg z]
      exact e.symm.trans (if_neg (by omega)).symm
  · rw [if_neg c] at e ⊢
    by_cases c1 : h = d ∧ k = 1
    · rw [if_pos c1] at e ⊢
      by_cases z : h = x ∧ k = y
      · rw [if_pos z]
        exact (if_pos (by omega)).symm
      · rw [if_neg z]
        exact e.symm.trans (if_neg (by omega)).symm
    · rw [if_neg c1] at e ⊢
      by_cases c2 : h = d ∧ k = 2
      · rw [if_pos c2] at e ⊢
        by_cases z : h = x ∧ k = y
        · rw [if_pos z]
          exact (if_pos (by omega)).symm
        · rw [if_neg z]
          exact e.symm.trans (if_neg (by omega)).symm
      · rw [if_neg c2] at e ⊢
        by_cases c3 : h = d ∧ k = 3
        · rw [if_pos c3] at e ⊢
          by_cases z : h = x ∧ k = y
          · rw [if_pos z]
            exact (if_pos (by omega)).symm
          · rw [if_neg z]
            exact e.symm.trans (if_neg (by omega)).symm
        · rw [if_neg c3, if_neg (by omega)]
theorem drU_row {t u d i o : Nat} {v : Int} {f f1 : Nat → Nat × Nat} {S S1 L L1 : Nat → Nat → Int} {P P1 : Nat → Nat → Option Nat} {w : Nat → Int} (hW : drW S d w) (d2 : 2000 ≤ d) (dt : d + 26 ≤ t) (hi : i < 16) (ho : o < 12) (g : gr t u f S L P f1 S1 L1 P1) : gr t u f (drU S d (fun k => if k = 12 * i + o then v else w k)) L P f1 (mm_up S1 (d + 10 + i) o v) L1 P1 :=
  drU_set hW d2 dt (Or.inl (by omega)) g
theorem drS.fr {f f' : Nat → Nat × Nat} {S S' L L' : Nat → Nat → Int} {P P' : Nat → Nat → Option Nat} {d : Nat} (h : drS ((2, f), S, L, P) d) (d2 : 2000 ≤ d) (e : ∀ h, d ≤ h → h < d + 26 → f' h = f h ∧ P' h = P h) : drS ((2, f'), S', L', P') d := by
  obtain ⟨h1, h2, h3, h4⟩ := h
  have zs : ∀ x, d ≤ x → x < d + 26 → zsh ((2, f'), S', L', P') x = zsh ((2, f), S, L, P) x := fun x a b => (zsh_hi (by omega)).trans ((e x a b).1.trans (zsh_hi (by omega)).symm)
  have zp : ∀ x k, d ≤ x → x < d + 26 → zpt ((2, f'), S', L', P') x k = zpt ((2, f), S, L, P) x k := fun x k a b => (zpt_hi (by omega)).trans ((congrFun (e x a b).2 k).trans (zpt_hi (by omega)).symm)
  exact ⟨(zs d (by omega) (by omega)).trans h1, (zp d 6 (by omega) (by omega)).trans h2, (zs _ (by omega) (by omega)).trans h3, fun i hi => ⟨(zs _ (by omega) (by omega)).trans (h4 i hi).1, (zp _ i (by omega) (by omega)).trans (h4 i hi).2⟩⟩
theorem hsW_rn {tx : Nat → Int} {n b : Nat} {w : List Nat} (h : hsW tx n b w = true) : rn (qL tx) n b = b + w.length := by
  unfold hsW at h
  rw [Bool.and_eq_true, decide_eq_true_eq] at h
  exact h.1
theorem hsF_cg {b c : Nat → Int} : ∀ n, (∀ i, i < n → b i = c i) → hsF b n = hsF c n
  | 0, _ => rfl
  | n + 1, h => by
    unfold hsF
    rw [hsF_cg n (fun i hi => h i (by omega)), h n (by omega)]
theorem hsF_k : (hsF (fun i => (mm_kI 1100 i).toInt) 5 = 108278378 ∧ hsF (fun i => (mm_kI 1101 i).toInt) 5 = 98120385) ∧ hsF (fun i => (mm_kI 1102 i).toInt) 4 = 3056822 ∧ hsF (fun i => (mm_kI 1103 i).toInt) 4 = 3125530 := by decide +kernel
section
variable {tx : Nat → Int} {n p q i : Nat}
theorem coz_r4 (hq : rn (qB tx) n p = q) (h : hsW tx n q (wo 4) = true) : coR tx n (12 * (i : Int)) p = coN tx n 0 100 (12 * i + 0) (q + 3) := by
  unfold coR
  rw [hq, if_pos h, show (12 * (i : Int) + 0).toNat = 12 * i + 0 by omega]
theorem coz_r5 (hq : rn (qB tx) n p = q) (h4 : hsW tx n q (wo 4) = false) (h : hsW tx n q (wo 5) = true) : coR tx n (12 * (i : Int)) p = coN tx n 0 100 (12 * i + 1) (q + 4) := by
  unfold coR
  rw [hq, if_neg (by rw [h4]; decide), if_pos h, show (12 * (i : Int) + 1).toNat = 12 * i + 1 by omega]
theorem coz_r6 (hq : rn (qB tx) n p = q) (h4 : hsW tx n q (wo 4) = false) (h5 : hsW tx n q (wo 5) = false) (h : hsW tx n q (wo 6) = true) : coR tx n (12 * (i : Int)) p = (match nmP tx n 0 9 (q + 4) with | .inl v => .inl v | .inr l => coN tx n 0 100 (12 * (i : Int) + (2 + l.2)).toNat l.1) := by
  unfold coR
  rw [hq, if_neg (by rw [h4]; decide), if_neg (by rw [h5]; decide), if_pos h]
  rfl
theorem coz_rn (hq : rn (qB tx) n p = q) (h4 : hsW tx n q (wo 4) = false) (h5 : hsW tx n q (wo 5) = false) (h6 : hsW tx n q (wo 6) = false) : coR tx n (12 * (i : Int)) p = .inl q := by
  unfold coR
  rw [hq, if_neg (by rw [h4]; decide), if_neg (by rw [h5]; decide), if_neg (by rw [h6]; decide)]
theorem coz_0 (hq : rn (qB tx) n p = q) (h : hsW tx n q (wo 0) = true) : coP tx n p = (match nmP tx n 0 3 (q + 5) with | .inl w => .inl w | .inr s => match nmP tx n 0 3 s.1 with | .inl w => .inl w | .inr h => coR tx n (12 * (4 * s.2 + h.2)) h.1) := by
  unfold coP
  rw [hq, if_pos h]
  rfl
theorem coz_1 (hq : rn (qB tx) n p = q) (h : hsW tx n q (wo 1) = true) : coP tx n p = coN tx n 1 6 194 (q + 5) := by
  unfold coP
  rw [hq, if_neg (hsW_no h (by decide)), if_pos h]
theorem coz_2 (hq : rn (qB tx) n p = q) (h : hsW tx n q (wo 2) = true) : coP tx n p = coN tx n 0 2 195 (q + 4) := by
  unfold coP
  rw [hq, if_neg (hsW_no h (by decide)), if_neg (hsW_no h (by decide)), if_pos h]
theorem coz_3 (hq : rn (qB tx) n p = q) (h : hsW tx n q (wo 3) = true) : coP tx n p = coN tx n 0 1 196 (q + 4) := by
  unfold coP
  rw [hq, if_neg (hsW_no h (by decide)), if_neg (hsW_no h (by decide)), if_neg (hsW_no h (by decide)), if_pos h]
theorem coz_n (hq : rn (qB tx) n p = q) (h : ∀ j, j < 4 → hsW tx n q (wo j) = false) : coP tx n p = .inl q := by
  unfold coP
  rw [hq, if_neg (by rw [h 0 (by decide)]; decide), if_neg (by rw [h 1 (by decide)]; decide), if_neg (by rw [h 2 (by decide)]; decide), if_neg (by rw [h 3 (by decide)]; decide)]
end
def zX1_courtLine : zz_Sp := fun as M Q X => match as with
  | [.inr (.inr (some h_)), .inr (.inr (some d))] => bif Nat.beq h_ 100 && Nat.beq M.1.1 2 then (∃ (tx_ w_ : Nat → Int) (n_ a_ t_ : Nat), qT M.2.1 tx_ n_ ∧ M.2.1 101 3 = (a_ : Int) ∧ a_ ≤ n_ ∧ frF M.1.2 t_ ∧ (2000 ≤ d ∧ d + 26 ≤ t_) ∧ drS ((2, M.1.2), M.2.1, M.2.2.1, M.2.2.2) d ∧ drW M.2.1 d w_ ∧ (∀ v_ : Nat, coP tx_ n_ a_ = .inl v_ → ∀ (S_ L_ : Nat → Nat → Int) (P_ : Nat → Nat → Option Nat) (f_ : Nat → Nat × Nat) (u_ : Nat), gr t_ u_ M.1.2 M.2.1 M.2.2.1 M.2.2.2 f_ S_ L_ P_ → S_ 101 4 = (v_ : Int) → X 0 ((2, f_), S_, L_, P_)) ∧ (∀ r_ : Nat × Rw, coP tx_ n_ a_ = .inr r_ → ∀ (S_ L_ : Nat → Nat → Int) (P_ : Nat → Nat → Option Nat) (f_ : Nat → Nat × Nat) (u_ : Nat), gr t_ u_ M.1.2 (drU M.2.1 d (r_.2 w_)) M.2.2.1 M.2.2.2 f_ S_ L_ P_ → S_ 101 3 = (r_.1 : Int) → Q none ((2, f_), S_, L_, P_))) else False
  | _ => False

def zpX1_courtLine : zz_P := [(0, zo_ald 1 0), (1, zo_get 4 0 2 2), (4, zo_ast 5 2), (5, zo_ald 6 2), (6, zo_cvG (mm_rm 10 24 2200) 9 1 3 zX4_word), (9, zo_ast 10 3), (10, zo_c 11 (vi (-1))), (11, zo_ist 13 4), (13, zo_ald 14 3), (14, zo_callvp 17 1 19 zJ8_hashCode), (17, zo_sw false [(3056822, 90), (3125530, 105), (98120385, 75), (108278378, 60)] 117), (60, zo_ald 61 3), (61, zo_c 63 (vr 1000)), (63, zo_callvp 66 2 19 zJ8_equals_k), (66, zo_zifeq 69 117), (69, zo_c 70 (vi 0)), (70, zo_ist 72 4), (72, zo_goto 117), (75, zo_ald 76 3), (76, zo_c 78 (vr 1001)), (78, zo_callvp 81 2 19 zJ8_equals_k), (81, zo_zifeq 84 117), (84, zo_c 85 (vi 1)), (85, zo_ist 87 4), (87, zo_goto 117), (90, zo_ald 91 3), (91, zo_c 93 (vr 1002)), (93, zo_callvp 96 2 19 zJ8_equals_k), (96, zo_zifeq 99 117), (99, zo_c 100 (vi 2)), (100, zo_ist 102 4), (102, zo_goto 117), (105, zo_ald 106 3), (106, zo_c 108 (vr 1003)), (108, zo_callvp 111 2 19 zJ8_equals_k), (111, zo_zifeq 114 117), (114, zo_c 115 (vi 3)), (115, zo_ist 117 4), (117, zo_ild 119 4), (119, zo_sw false [(0, 148), (1, 267), (2, 279), (3, 290)] 301), (148, zo_ald 149 2), (149, zo_c 150 (vi 0)), (150, zo_c 151 (vi 3)), (151, zo_cvF (mm_rm 10 24 2200) 154 3 3 1 6 zX4_number), (154, zo_ist 156 5), (156, zo_ald 157 1), (157, zo_getr 160 1 6), (160, zo_c 161 (vi 4)), (161, zo_ild 163 5), (163, zo_imul 164), (164, zo_ald 165 2), (165, zo_c 166 (vi 0)), (166, zo_c 167 (vi 3)), (167, zo_cvF (mm_rm 10 24 2200) 170 3 3 1 6 zX4_number), (170, zo_iadd 171), (171, zo_aald 172), (172, zo_ast 174 6), (174, zo_ald 175 2), (175, zo_cvG (mm_rm 10 24 2200) 178 1 3 zX4_word), (178, zo_ast 180 7), (180, zo_ald 182 7), (182, zo_c 184 (vr 1004)), (184, zo_callvp 187 2 19 zJ8_equals_k), (187, zo_zifeq 190 194), (190, zo_c 191 (vi 0)), (191, zo_goto 223), (194, zo_ald 196 7), (196, zo_c 198 (vr 1005)), (198, zo_callvp 201 2 19 zJ8_equals_k), (201, zo_zifeq 204 208), (204, zo_c 205 (vi 1)), (205, zo_goto 223), (208, zo_ald 210 7), (210, zo_c 212 (vr 1006)), (212, zo_callvp 215 2 19 zJ8_equals_k), (215, zo_zifeq 218 222), (218, zo_c 219 (vi 2)), (219, zo_goto 223), (222, zo_c 223 (vi (-1))), (223, zo_ist 225 8), (225, zo_ild 227 8), (227, zo_c 228 (vi (-1))), (228, zo_cne false true 231 236), (231, zo_ald 232 2), (232, zo_cvF (mm_rm 10 24 2200) 235 1 3 1 6 zX4_wrong), (235, zo_athr 20 0), (236, zo_ild 238 8), (238, zo_c 239 (vi 2)), (239, zo_cne false true 242 254), (242, zo_ild 244 8), (244, zo_ald 245 2), (245, zo_c 246 (vi 0)), (246, zo_c 248 (vi 9)), (248, zo_cvF (mm_rm 10 24 2200) 251 3 3 1 6 zX4_number), (251, zo_iadd 252), (252, zo_ist 254 8), (254, zo_ald 256 6), (256, zo_ild 258 8), (258, zo_ald 259 2), (259, zo_c 260 (vi 0)), (260, zo_c 262 (vi 100)), (262, zo_cvF (mm_rm 10 24 2200) 265 3 3 1 6 zX4_number), (265, zo_iasp 266), (266, zo_vret), (267, zo_ald 268 1), (268, zo_ald 269 2), (269, zo_c 270 (vi 1)), (270, zo_c 272 (vi 6)), (272, zo_cvF (mm_rm 10 24 2200) 275 3 3 1 6 zX4_number), (275, zo_putip 278 1 1), (278, zo_vret), (279, zo_ald 280 1), (280, zo_ald 281 2), (281, zo_c 282 (vi 0)), (282, zo_c 283 (vi 2)), (283, zo_cvF (mm_rm 10 24 2200) 286 3 3 1 6 zX4_number), (286, zo_putip 289 1 2), (289, zo_vret), (290, zo_ald 291 1), (291, zo_ald 292 2), (292, zo_c 293 (vi 0)), (293, zo_c 294 (vi 1)), (294, zo_cvF (mm_rm 10 24 2200) 297 3 3 1 6 zX4_number), (297, zo_putip 300 1 3), (300, zo_vret), (301, zo_ald 302 2), (302, zo_cvF (mm_rm 10 24 2200) 305 1 3 1 6 zX4_wrong), (305, zo_athr 20 0)]
theorem ztX1_courtLine {C : mm_C} (G : mm_G C RX1 cX1_courtLine none 9 (mm_rm 10 24 2200)) (hnh : mm_nh C) : zz_OKs C zpX1_courtLine :=
  ⟨zz_of (ok_aload_n G dX1_courtLine_0 rfl rfl) (z_ald _ _),
   zz_of (ok_get G (nx := 4) (ci := 0) (kd := 2) (k := 2) (RX1, TX1, 19) rfl (by decide) rfl q404 dX1_courtLine_1 rfl) (z_get _ _ _ _),
   zz_of (ok_astore_n G dX1_courtLine_4 rfl rfl (by decide)) (z_ast _ _),
   zz_of (ok_aload_n G dX1_courtLine_5 rfl rfl) (z_ald _ _),
   zz_of (ok_calv G (hnh.q 6) (zmX4_word _ G.hst) (RX4, TX4, 7) rfl q629 q630 q631 q88 q632 (by decide +kernel) ⟨Nat.le_of_ble_eq_true rfl, Nat.le_of_ble_eq_true rfl⟩ dX1_courtLine_6 rfl) (z_cvG _ _ _ _ _),
   zz_of (ok_astore_n G dX1_courtLine_9 rfl rfl (by decide)) (z_ast _ _),
   zz_of (ok_iconst G (v := (zI (-1))) dX1_courtLine_10 (by decide) rfl) (z_cz 11 (-1)),
   zz_of (ok_istore G dX1_courtLine_11 rfl (by decide)) (z_ist _ _),
   zz_of (ok_aload_n G dX1_courtLine_13 rfl rfl) (z_ald _ _),
   zz_of (ok_callv G hnh (zmJ8_hashCode _ G.hst) rfl rfl (RJ8, TJ8, 4) rfl q983 q984 q985 q100 q986 (by decide +kernel) ⟨by decide, by decide⟩ dX1_courtLine_14 rfl) (z_callvp _ _ _ _),
   zz_of (ok_lsw G (l := [(3056822, 90), (3125530, 105), (98120385, 75), (108278378, 60)]) (d := 117) dX1_courtLine_17 (by decide +kernel) (mm_lswl (by decide) rfl)) (z_sw _ _ _),
   zz_of (ok_aload_n G dX1_courtLine_60 rfl rfl) (z_ald _ _),
   zz_of (ok_lds G (tx := "rally") (by decide +kernel) dX1_courtLine_61 rfl) (z_cr 63 1000),
   zz_of (ok_callv G hnh (zmJ8_equals_k _ G.hst) rfl rfl (RJ8, TJ8, 4) rfl q1045 q1046 q1047 q100 q1048 (by decide +kernel) ⟨by decide, by decide⟩ dX1_courtLine_63 rfl) (z_callvp _ _ _ _),
   zz_of (ok_ifeq G dX1_courtLine_66 rfl rfl) (z_zifeq _ _),
   zz_of (ok_iconst G (v := 0) dX1_courtLine_69 (by decide) rfl) (z_cn 70 0),
   zz_of (ok_istore G dX1_courtLine_70 rfl (by decide)) (z_ist _ _),
   zz_of (ok_goto G dX1_courtLine_72 rfl) (z_goto _),
   zz_of (ok_aload_n G dX1_courtLine_75 rfl rfl) (z_ald _ _),
   zz_of (ok_lds G (tx := "games") (by decide +kernel) dX1_courtLine_76 rfl) (z_cr 78 1001),
   zz_of (ok_callv G hnh (zmJ8_equals_k _ G.hst) rfl rfl (RJ8, TJ8, 4) rfl q1045 q1046 q1047 q100 q1048 (by decide +kernel) ⟨by decide, by decide⟩ dX1_courtLine_78 rfl) (z_callvp _ _ _ _),
   zz_of (ok_ifeq G dX1_courtLine_81 rfl rfl) (z_zifeq _ _),
   zz_of (ok_iconst G (v := 1) dX1_courtLine_84 (by decide) rfl) (z_cn 85 1),
   zz_of (ok_istore G dX1_courtLine_85 rfl (by decide)) (z_ist _ _),
   zz_of (ok_goto G dX1_courtLine_87 rfl) (z_goto _),
   zz_of (ok_aload_n G dX1_courtLine_90 rfl rfl) (z_ald _ _),
   zz_of (ok_lds G (tx := "club") (by decide +kernel) dX1_courtLine_91 rfl) (z_cr 93 1002),
   zz_of (ok_callv G hnh (zmJ8_equals_k _ G.hst) rfl rfl (RJ8, TJ8, 4) rfl q1045 q1046 q1047 q100 q1048 (by decide +kernel) ⟨by decide, by decide⟩ dX1_courtLine_93 rfl) (z_callvp _ _ _ _),
   zz_of (ok_ifeq G dX1_courtLine_96 rfl rfl) (z_zifeq _ _),
   zz_of (ok_iconst G (v := 2) dX1_courtLine_99 (by decide) rfl) (z_cn 100 2),
   zz_of (ok_istore G dX1_courtLine_100 rfl (by decide)) (z_ist _ _),
   zz_of (ok_goto G dX1_courtLine_102 rfl) (z_goto _),
   zz_of (ok_aload_n G dX1_courtLine_105 rfl rfl) (z_ald _ _),
   zz_of (ok_lds G (tx := "even") (by decide +kernel) dX1_courtLine_106 rfl) (z_cr 108 1003),
   zz_of (ok_callv G hnh (zmJ8_equals_k _ G.hst) rfl rfl (RJ8, TJ8, 4) rfl q1045 q1046 q1047 q100 q1048 (by decide +kernel) ⟨by decide, by decide⟩ dX1_courtLine_108 rfl) (z_callvp _ _ _ _),
   zz_of (ok_ifeq G dX1_courtLine_111 rfl rfl) (z_zifeq _ _),
   zz_of (ok_iconst G (v := 3) dX1_courtLine_114 (by decide) rfl) (z_cn 115 3),
   zz_of (ok_istore G dX1_courtLine_115 rfl (by decide)) (z_ist _ _),
   zz_of (ok_iload G dX1_courtLine_117 rfl) (z_ild _ _),
   zz_of (ok_tsw G (l := [(0, 148), (1, 267), (2, 279), (3, 290)]) (d := 301) dX1_courtLine_119 (mm_tswo (by decide) (by decide +kernel)) (mm_tswi (by decide +kernel))) (z_sw _ _ _),
   zz_of (ok_aload_n G dX1_courtLine_148 rfl rfl) (z_ald _ _),
   zz_of (ok_iconst G (v := 0) dX1_courtLine_149 (by decide) rfl) (z_cn 150 0),
   zz_of (ok_iconst G (v := 3) dX1_courtLine_150 (by decide) rfl) (z_cn 151 3),
   zz_of (ok_calvF G (hnh.q 151) (zmX4_number _ G.hst) (RX4, TX4, 7) rfl q1056 q1057 q1058 q88 q1059 (by decide +kernel) ⟨Nat.le_of_ble_eq_true rfl, Nat.le_of_ble_eq_true rfl⟩ dX1_courtLine_151 rfl) (z_cvF _ _ _ _ _ _ _),
   zz_of (ok_istore G dX1_courtLine_154 rfl (by decide)) (z_ist _ _),
   zz_of (ok_aload_n G dX1_courtLine_156 rfl rfl) (z_ald _ _),
   zz_of (ok_getN G (nx := 160) (ci := 1) (kd := 2) (k := 6) (RX2, TX2, 11) rfl (by decide) rfl q234 dX1_courtLine_157 rfl) (z_getr _ _ _),
   zz_of (ok_iconst G (v := 4) dX1_courtLine_160 (by decide) rfl) (z_cn 161 4),
   zz_of (ok_iload G dX1_courtLine_161 rfl) (z_ild _ _),
   zz_of (ok_imul G dX1_courtLine_163 rfl) (z_imul _),
   zz_of (ok_aload_n G dX1_courtLine_164 rfl rfl) (z_ald _ _),
   zz_of (ok_iconst G (v := 0) dX1_courtLine_165 (by decide) rfl) (z_cn 166 0),
   zz_of (ok_iconst G (v := 3) dX1_courtLine_166 (by decide) rfl) (z_cn 167 3),
   zz_of (ok_calvF G (hnh.q 167) (zmX4_number _ G.hst) (RX4, TX4, 7) rfl q1056 q1057 q1058 q88 q1059 (by decide +kernel) ⟨Nat.le_of_ble_eq_true rfl, Nat.le_of_ble_eq_true rfl⟩ dX1_courtLine_167 rfl) (z_cvF _ _ _ _ _ _ _),
   zz_of (ok_iadd G dX1_courtLine_170 rfl) (z_iadd _),
   zz_of (ok_aald G dX1_courtLine_171 rfl) (z_aald _),
   zz_of (ok_astore G dX1_courtLine_172 rfl (by decide)) (z_ast _ _),
   zz_of (ok_aload_n G dX1_courtLine_174 rfl rfl) (z_ald _ _),
   zz_of (ok_calv G (hnh.q 175) (zmX4_word _ G.hst) (RX4, TX4, 7) rfl q629 q630 q631 q88 q632 (by decide +kernel) ⟨Nat.le_of_ble_eq_true rfl, Nat.le_of_ble_eq_true rfl⟩ dX1_courtLine_175 rfl) (z_cvG _ _ _ _ _),
   zz_of (ok_astore G dX1_courtLine_178 rfl (by decide)) (z_ast _ _),
   zz_of (ok_aload G dX1_courtLine_180 rfl) (z_ald _ _),
   zz_of (ok_lds G (tx := "won") (by decide +kernel) dX1_courtLine_182 rfl) (z_cr 184 1004),
   zz_of (ok_callv G hnh (zmJ8_equals_k _ G.hst) rfl rfl (RJ8, TJ8, 4) rfl q1045 q1046 q1047 q100 q1048 (by decide +kernel) ⟨by decide, by decide⟩ dX1_courtLine_184 rfl) (z_callvp _ _ _ _),
   zz_of (ok_ifeq G dX1_courtLine_187 rfl rfl) (z_zifeq _ _),
   zz_of (ok_iconst G (v := 0) dX1_courtLine_190 (by decide) rfl) (z_cn 191 0),
   zz_of (ok_goto G dX1_courtLine_191 rfl) (z_goto _),
   zz_of (ok_aload G dX1_courtLine_194 rfl) (z_ald _ _),
   zz_of (ok_lds G (tx := "lost") (by decide +kernel) dX1_courtLine_196 rfl) (z_cr 198 1005),
   zz_of (ok_callv G hnh (zmJ8_equals_k _ G.hst) rfl rfl (RJ8, TJ8, 4) rfl q1045 q1046 q1047 q100 q1048 (by decide +kernel) ⟨by decide, by decide⟩ dX1_courtLine_198 rfl) (z_callvp _ _ _ _),
   zz_of (ok_ifeq G dX1_courtLine_201 rfl rfl) (z_zifeq _ _),
   zz_of (ok_iconst G (v := 1) dX1_courtLine_204 (by decide) rfl) (z_cn 205 1),
   zz_of (ok_goto G dX1_courtLine_205 rfl) (z_goto _),
   zz_of (ok_aload G dX1_courtLine_208 rfl) (z_ald _ _),
   zz_of (ok_lds G (tx := "dead") (by decide +kernel) dX1_courtLine_210 rfl) (z_cr 212 1006),
   zz_of (ok_callv G hnh (zmJ8_equals_k _ G.hst) rfl rfl (RJ8, TJ8, 4) rfl q1045 q1046 q1047 q100 q1048 (by decide +kernel) ⟨by decide, by decide⟩ dX1_courtLine_212 rfl) (z_callvp _ _ _ _),
   zz_of (ok_ifeq G dX1_courtLine_215 rfl rfl) (z_zifeq _ _),
   zz_of (ok_iconst G (v := 2) dX1_courtLine_218 (by decide) rfl) (z_cn 219 2),
   zz_of (ok_goto G dX1_courtLine_219 rfl) (z_goto _),
   zz_of (ok_iconst G (v := (zI (-1))) dX1_courtLine_222 (by decide) rfl) (z_cz 223 (-1)),
   zz_of (ok_istore G dX1_courtLine_223 rfl (by decide)) (z_ist _ _),
   zz_of (ok_iload G dX1_courtLine_225 rfl) (z_ild _ _),
   zz_of (ok_iconst G (v := (zI (-1))) dX1_courtLine_227 (by decide) rfl) (z_cz 228 (-1)),
   zz_of (ok_cne G dX1_courtLine_228 rfl rfl) (z_cne _ _ _ _),
   zz_of (ok_aload_n G dX1_courtLine_231 rfl rfl) (z_ald _ _),
   zz_of (ok_calvF G (hnh.q 232) (zmX4_wrong _ G.hst) (RX4, TX4, 7) rfl q955 q956 q957 q88 q958 (by decide +kernel) ⟨Nat.le_of_ble_eq_true rfl, Nat.le_of_ble_eq_true rfl⟩ dX1_courtLine_232 rfl) (z_cvF _ _ _ _ _ _ _),
   zz_of (ok_athr G (ci := 20) (i := 0) (RX10, TX10, 6) rfl rfl (hnh.q 235) dX1_courtLine_235) (z_athr _ _),
   zz_of (ok_iload G dX1_courtLine_236 rfl) (z_ild _ _),
   zz_of (ok_iconst G (v := 2) dX1_courtLine_238 (by decide) rfl) (z_cn 239 2),
   zz_of (ok_cne G dX1_courtLine_239 rfl rfl) (z_cne _ _ _ _),
   zz_of (ok_iload G dX1_courtLine_242 rfl) (z_ild _ _),
   zz_of (ok_aload_n G dX1_courtLine_244 rfl rfl) (z_ald _ _),
   zz_of (ok_iconst G (v := 0) dX1_courtLine_245 (by decide) rfl) (z_cn 246 0),
   zz_of (ok_bipush G (v := 9) dX1_courtLine_246 (by decide) rfl) (z_cn 248 9),
   zz_of (ok_calvF G (hnh.q 248) (zmX4_number _ G.hst) (RX4, TX4, 7) rfl q1056 q1057 q1058 q88 q1059 (by decide +kernel) ⟨Nat.le_of_ble_eq_true rfl, Nat.le_of_ble_eq_true rfl⟩ dX1_courtLine_248 rfl) (z_cvF _ _ _ _ _ _ _),
   zz_of (ok_iadd G dX1_courtLine_251 rfl) (z_iadd _),
   zz_of (ok_istore G dX1_courtLine_252 rfl (by decide)) (z_ist _ _),
   zz_of (ok_aload G dX1_courtLine_254 rfl) (z_ald _ _),
   zz_of (ok_iload G dX1_courtLine_256 rfl) (z_ild _ _),
   zz_of (ok_aload_n G dX1_courtLine_258 rfl rfl) (z_ald _ _),
   zz_of (ok_iconst G (v := 0) dX1_courtLine_259 (by decide) rfl) (z_cn 260 0),
   zz_of (ok_bipush G (v := 100) dX1_courtLine_260 (by decide) rfl) (z_cn 262 100),
   zz_of (ok_calvF G (hnh.q 262) (zmX4_number _ G.hst) (RX4, TX4, 7) rfl q1056 q1057 q1058 q88 q1059 (by decide +kernel) ⟨Nat.le_of_ble_eq_true rfl, Nat.le_of_ble_eq_true rfl⟩ dX1_courtLine_262 rfl) (z_cvF _ _ _ _ _ _ _),
   zz_of (ok_iast G dX1_courtLine_265 rfl) (z_iasp _),
   zz_of (ok_vret G dX1_courtLine_266) (z_vret),
   zz_of (ok_aload_n G dX1_courtLine_267 rfl rfl) (z_ald _ _),
   zz_of (ok_aload_n G dX1_courtLine_268 rfl rfl) (z_ald _ _),
   zz_of (ok_iconst G (v := 1) dX1_courtLine_269 (by decide) rfl) (z_cn 270 1),
   zz_of (ok_bipush G (v := 6) dX1_courtLine_270 (by decide) rfl) (z_cn 272 6),
   zz_of (ok_calvF G (hnh.q 272) (zmX4_number _ G.hst) (RX4, TX4, 7) rfl q1056 q1057 q1058 q88 q1059 (by decide +kernel) ⟨Nat.le_of_ble_eq_true rfl, Nat.le_of_ble_eq_true rfl⟩ dX1_courtLine_272 rfl) (z_cvF _ _ _ _ _ _ _),
   zz_of (ok_puti G (nx := 278) (idx := 151) (ci := 1) (k := 1) (RX2, TX2, 11) rfl (by decide) rfl (mm_pwN G (ci := 1) (k := 1) (RX2, TX2, 11) rfl (by decide) rfl q218 dX1_courtLine_275) rfl) (z_putip _ _ _),
   zz_of (ok_vret G dX1_courtLine_278) (z_vret),
   zz_of (ok_aload_n G dX1_courtLine_279 rfl rfl) (z_ald _ _),
   zz_of (ok_aload_n G dX1_courtLine_280 rfl rfl) (z_ald _ _),
   zz_of (ok_iconst G (v := 0) dX1_courtLine_281 (by decide) rfl) (z_cn 282 0),
   zz_of (ok_iconst G (v := 2) dX1_courtLine_282 (by decide) rfl) (z_cn 283 2),
   zz_of (ok_calvF G (hnh.q 283) (zmX4_number _ G.hst) (RX4, TX4, 7) rfl q1056 q1057 q1058 q88 q1059 (by decide +kernel) ⟨Nat.le_of_ble_eq_true rfl, Nat.le_of_ble_eq_true rfl⟩ dX1_courtLine_283 rfl) (z_cvF _ _ _ _ _ _ _),
   zz_of (ok_puti G (nx := 289) (idx := 153) (ci := 1) (k := 2) (RX2, TX2, 11) rfl (by decide) rfl (mm_pwN G (ci := 1) (k := 2) (RX2, TX2, 11) rfl (by decide) rfl q221 dX1_courtLine_286) rfl) (z_putip _ _ _),
   zz_of (ok_vret G dX1_courtLine_289) (z_vret),
   zz_of (ok_aload_n G dX1_courtLine_290 rfl rfl) (z_ald _ _),
   zz_of (ok_aload_n G dX1_courtLine_291 rfl rfl) (z_ald _ _),
   zz_of (ok_iconst G (v := 0) dX1_courtLine_292 (by decide) rfl) (z_cn 293 0),
   zz_of (ok_iconst G (v := 1) dX1_courtLine_293 (by decide) rfl) (z_cn 294 1),
   zz_of (ok_calvF G (hnh.q 294) (zmX4_number _ G.hst) (RX4, TX4, 7) rfl q1056 q1057 q1058 q88 q1059 (by decide +kernel) ⟨Nat.le_of_ble_eq_true rfl, Nat.le_of_ble_eq_true rfl⟩ dX1_courtLine_294 rfl) (z_cvF _ _ _ _ _ _ _),
   zz_of (ok_puti G (nx := 300) (idx := 155) (ci := 1) (k := 3) (RX2, TX2, 11) rfl (by decide) rfl (mm_pwN G (ci := 1) (k := 3) (RX2, TX2, 11) rfl (by decide) rfl q223 dX1_courtLine_297) rfl) (z_putip _ _ _),
   zz_of (ok_vret G dX1_courtLine_300) (z_vret),
   zz_of (ok_aload_n G dX1_courtLine_301 rfl rfl) (z_ald _ _),
   zz_of (ok_calvF G (hnh.q 302) (zmX4_wrong _ G.hst) (RX4, TX4, 7) rfl q955 q956 q957 q88 q958 (by decide +kernel) ⟨Nat.le_of_ble_eq_true rfl, Nat.le_of_ble_eq_true rfl⟩ dX1_courtLine_302 rfl) (z_cvF _ _ _ _ _ _ _),
   zz_of (ok_athr G (ci := 20) (i := 0) (RX10, TX10, 6) rfl rfl (hnh.q 305) dX1_courtLine_305) (z_athr _ _), trivial⟩

theorem zwX1_courtLine_0 {Q : Option zv → zz_M → Prop} {X : Nat → zz_M → Prop} {f : Nat → Nat × Nat} {S L : Nat → Nat → Int} {P : Nat → Nat → Option Nat} {d : Nat} (h : ∃ c1 s1 : Nat, (0 + c1 ≤ 24 ∧ 0 + s1 ≤ 2200) ∧ (∃ (tx_2 : Nat → Int) (n_2 a_2 b_2 e_2 t_2 : Nat), qT S tx_2 n_2 ∧ S 101 3 = (a_2 : Int) ∧ a_2 ≤ n_2 ∧ rn (qB tx_2) n_2 a_2 = b_2 ∧ rn (qL tx_2) n_2 b_2 = e_2 ∧ frF f t_2 ∧ (9 ≤ c1 ∧ 24 + 5 * (e_2 - b_2) ≤ s1) ∧ (∀ (f_2 : Nat → Nat × Nat) (S_2 L_2 : Nat → Nat → Int) (P_2 : Nat → Nat → Option Nat) (g_2 u_2 : Nat), gr t_2 u_2 f S L P f_2 S_2 L_2 P_2 → S_2 101 3 = (e_2 : Int) → S_2 101 4 = (b_2 : Int) → S_2 101 6 = S 101 6 → stS t_2 u_2 f_2 S_2 P_2 g_2 (e_2 - b_2) (fun i => tx_2 (b_2 + i)) → ((zsh ((2, f_2), S_2, L_2, P_2) g_2 = (1, 19) ∨ zsh ((2, f_2), S_2, L_2, P_2) g_2 = (17, 19)) ∧ (∃ a_3 m_3 : Nat, zsh ((2, f_2), S_2, L_2, P_2) g_2 = (1, 19) ∧ zpt ((2, f_2), S_2, L_2, P_2) g_2 0 = some a_3 ∧ (S_2 g_2 1 = 0 ∧ S_2 g_2 2 = 0 ∧ S_2 g_2 3 = 0) ∧ zsh ((2, f_2), S_2, L_2, P_2) a_3 = (4, m_3) ∧ m_3 ≤ 100000 ∧ (∀ k, k < m_3 → 0 ≤ S_2 a_3 k ∧ S_2 a_3 k ≤ 127) ∧ (∀ S_3 : Nat → Nat → Int, (∀ j k, ¬ (j = g_2 ∧ (k = 2 ∨ k = 3)) → S_3 j k = S_2 j k) → (R32 (hsF (S_2 a_3) m_3) ∧ (((hsF (S_2 a_3) m_3) = 3056822 → (zsh ((2, f_2), S_3, L_2, P_2) g_2 = (1, 19) ∨ zsh ((2, f_2), S_3, L_2, P_2) g_2 = (17, 19)) ∧ (∃ x_4 n_4 m_4 : Nat, stK ((2, f_2), S_3, L_2, P_2) g_2 x_4 n_4 ∧ ctK ((2, f_2), S_3, L_2, P_2) 1002 m_4 ∧ (eqK ((2, f_2), S_3, L_2, P_2) x_4 (1002 + 100) n_4 m_4 → (zz_J zpX1_courtLine (zz_retP Q X 24 2200) 117 [none, some (vr d), some (vr 101), none, some (vi 2), none, none, none, none] [] ((2, f_2), S_3, L_2, P_2) (0 + c1, 0 + s1))) ∧ (¬ eqK ((2, f_2), S_3, L_2, P_2) x_4 (1002 + 100) n_4 m_4 → (zz_J zpX1_courtLine (zz_retP Q X 24 2200) 117 [none, some (vr d), some (vr 101), none, some (vi (-1)), none, none, none, none] [] ((2, f_2), S_3, L_2, P_2) (0 + c1, 0 + s1))))) ∧ ((hsF (S_2 a_3) m_3) ≠ 3056822 → ((hsF (S_2 a_3) m_3) = 3125530 → (zsh ((2, f_2), S_3, L_2, P_2) g_2 = (1, 19) ∨ zsh ((2, f_2), S_3, L_2, P_2) g_2 = (17, 19)) ∧ (∃ x_5 n_5 m_5 : Nat, stK ((2, f_2), S_3, L_2, P_2) g_2 x_5 n_5 ∧ ctK ((2, f_2), S_3, L_2, P_2) 1003 m_5 ∧ (eqK ((2, f_2), S_3, L_2, P_2) x_5 (1003 + 100) n_5 m_5 → (zz_J zpX1_courtLine (zz_retP Q X 24 2200) 117 [none, some (vr d), some (vr 101), none, some (vi 3), none, none, none, none] [] ((2, f_2), S_3, L_2, P_2) (0 + c1, 0 + s1))) ∧ (¬ eqK ((2, f_2), S_3, L_2, P_2) x_5 (1003 + 100) n_5 m_5 → (zz_J zpX1_courtLine (zz_retP Q X 24 2200) 117 [none, some (vr d), some (vr 101), none, some (vi (-1)), none, none, none, none] [] ((2, f_2), S_3, L_2, P_2) (0 + c1, 0 + s1))))) ∧ ((hsF (S_2 a_3) m_3) ≠ 3125530 → ((hsF (S_2 a_3) m_3) = 98120385 → (zsh ((2, f_2), S_3, L_2, P_2) g_2 = (1, 19) ∨ zsh ((2, f_2), S_3, L_2, P_2) g_2 = (17, 19)) ∧ (∃ x_6 n_6 m_6 : Nat, stK ((2, f_2), S_3, L_2, P_2) g_2 x_6 n_6 ∧ ctK ((2, f_2), S_3, L_2, P_2) 1001 m_6 ∧ (eqK ((2, f_2), S_3, L_2, P_2) x_6 (1001 + 100) n_6 m_6 → (zz_J zpX1_courtLine (zz_retP Q X 24 2200) 117 [none, some (vr d), some (vr 101), none, some (vi 1), none, none, none, none] [] ((2, f_2), S_3, L_2, P_2) (0 + c1, 0 + s1))) ∧ (¬ eqK ((2, f_2), S_3, L_2, P_2) x_6 (1001 + 100) n_6 m_6 → (zz_J zpX1_courtLine (zz_retP Q X 24 2200) 117 [none, some (vr d), some (vr 101), none, some (vi (-1)), none, none, none, none] [] ((2, f_2), S_3, L_2, P_2) (0 + c1, 0 + s1))))) ∧ ((hsF (S_2 a_3) m_3) ≠ 98120385 → ((hsF (S_2 a_3) m_3) = 108278378 → (zsh ((2, f_2), S_3, L_2, P_2) g_2 = (1, 19) ∨ zsh ((2, f_2), S_3, L_2, P_2) g_2 = (17, 19)) ∧ (∃ x_7 n_7 m_7 : Nat, stK ((2, f_2), S_3, L_2, P_2) g_2 x_7 n_7 ∧ ctK ((2, f_2), S_3, L_2, P_2) 1000 m_7 ∧ (eqK ((2, f_2), S_3, L_2, P_2) x_7 (1000 + 100) n_7 m_7 → (zz_J zpX1_courtLine (zz_retP Q X 24 2200) 117 [none, some (vr d), some (vr 101), none, some (vi 0), none, none, none, none] [] ((2, f_2), S_3, L_2, P_2) (0 + c1, 0 + s1))) ∧ (¬ eqK ((2, f_2), S_3, L_2, P_2) x_7 (1000 + 100) n_7 m_7 → (zz_J zpX1_courtLine (zz_retP Q X 24 2200) 117 [none, some (vr d), some (vr 101), none, some (vi (-1)), none, none, none, none] [] ((2, f_2), S_3, L_2, P_2) (0 + c1, 0 + s1))))) ∧ ((hsF (S_2 a_3) m_3) ≠ 108278378 → zz_J zpX1_courtLine (zz_retP Q X 24 2200) 117 [none, some (vr d), some (vr 101), none, some (vi (-1)), none, none, none, none] [] ((2, f_2), S_3, L_2, P_2) (0 + c1, 0 + s1))))))))))))) : zz_J zpX1_courtLine (zz_retP Q X 24 2200) 0 [some (vr 100), some (vr d), none, none, none, none, none, none, none] [] ((2, f), S, L, P) (0, 0) := zz_J.go [(117, [0, 3, 5, 6, 7, 8]), (156, [0, 3, 4, 6, 7, 8]), (180, [0, 1, 3, 4, 5, 8]), (225, [0, 1, 3, 4, 5, 7]), (254, [0, 1, 3, 4, 5, 7])] 400 h
theorem zwX1_courtLine_117 {Q : Option zv → zz_M → Prop} {X : Nat → zz_M → Prop} {f : Nat → Nat × Nat} {S L : Nat → Nat → Int} {P : Nat → Nat → Option Nat} {u_ v_ : Nat} {h1 : Nat} {x4 : Int} (h : R32 x4 ∧ ((x4 = 0 → (u_ + 1 ≤ 24 ∧ v_ + 6 ≤ 2200) ∧ (∃ (tx_1 : Nat → Int) (n_1 a_1 t_1 : Nat), qT S tx_1 n_1 ∧ S 101 3 = (a_1 : Int) ∧ a_1 ≤ n_1 ∧ frF f t_1 ∧ (R32 (0 : Int) ∧ R32 (3 : Int)) ∧ (∀ w_1 : Nat, nmP tx_1 n_1 (0 : Int) (3 : Int) a_1 = .inl w_1 → ∀ (S_1 L_1 : Nat → Nat → Int) (P_1 : Nat → Nat → Option Nat) (f_1 : Nat → Nat × Nat), gr t_1 (t_1 + 1) f S L P f_1 S_1 L_1 P_1 → S_1 101 4 = (w_1 : Int) → ((u_ + 1 ≤ 24 ∧ v_ + 6 ≤ 2200) ∧ 0 ≤ 5 ∧ X 0 ((2, f_1), S_1, L_1, P_1))) ∧ (∀ r_1 : Nat × Int, nmP tx_1 n_1 (0 : Int) (3 : Int) a_1 = .inr r_1 → (zz_J zpX1_courtLine (zz_retP Q X 24 2200) 156 [none, some (vr h1), some (vr 101), none, none, some (vi r_1.2), none, none, none] [] ((2, f), rS S r_1.1 (rn (qB tx_1) n_1 a_1), L, P) (u_ + 1, v_ + 6))))) ∧ (x4 ≠ 0 → (x4 = 1 → (u_ + 1 ≤ 24 ∧ v_ + 6 ≤ 2200) ∧ (∃ (tx_2 : Nat → Int) (n_2 a_2 t_2 : Nat), qT S tx_2 n_2 ∧ S 101 3 = (a_2 : Int) ∧ a_2 ≤ n_2 ∧ frF f t_2 ∧ (R32 (1 : Int) ∧ R32 (6 : Int)) ∧ (∀ w_2 : Nat, nmP tx_2 n_2 (1 : Int) (6 : Int) a_2 = .inl w_2 → ∀ (S_2 L_2 : Nat → Nat → Int) (P_2 : Nat → Nat → Option Nat) (f_2 : Nat → Nat × Nat), gr t_2 (t_2 + 1) f S L P f_2 S_2 L_2 P_2 → S_2 101 4 = (w_2 : Int) → ((u_ + 1 ≤ 24 ∧ v_ + 6 ≤ 2200) ∧ 0 ≤ 5 ∧ X 0 ((2, f_2), S_2, L_2, P_2))) ∧ (∀ r_2 : Nat × Int, nmP tx_2 n_2 (1 : Int) (6 : Int) a_2 = .inr r_2 → (zsh ((2, f), rS S r_2.1 (rn (qB tx_2) n_2 a_2), L, P) h1 = (1, 1) ∧ ((u_ + 1 ≤ 24 ∧ v_ + 6 ≤ 2200) ∧ (Q none ((2, f), mm_up (rS S r_2.1 (rn (qB tx_2) n_2 a_2)) h1 1 r_2.2, L, P))))))) ∧ (x4 ≠ 1 → (x4 = 2 → (u_ + 1 ≤ 24 ∧ v_ + 6 ≤ 2200) ∧ (∃ (tx_3 : Nat → Int) (n_3 a_3 t_3 : Nat), qT S tx_3 n_3 ∧ S 101 3 = (a_3 : Int) ∧ a_3 ≤ n_3 ∧ frF f t_3 ∧ (R32 (0 : Int) ∧ R32 (2 : Int)) ∧ (∀ w_3 : Nat, nmP tx_3 n_3 (0 : Int) (2 : Int) a_3 = .inl w_3 → ∀ (S_3 L_3 : Nat → Nat → Int) (P_3 : Nat → Nat → Option Nat) (f_3 : Nat → Nat × Nat), gr t_3 (t_3 + 1) f S L P f_3 S_3 L_3 P_3 → S_3 101 4 = (w_3 : Int) → ((u_ + 1 ≤ 24 ∧ v_ + 6 ≤ 2200) ∧ 0 ≤ 5 ∧ X 0 ((2, f_3), S_3, L_3, P_3))) ∧ (∀ r_3 : Nat × Int, nmP tx_3 n_3 (0 : Int) (2 : Int) a_3 = .inr r_3 → (zsh ((2, f), rS S r_3.1 (rn (qB tx_3) n_3 a_3), L, P) h1 = (1, 1) ∧ ((u_ + 1 ≤ 24 ∧ v_ + 6 ≤ 2200) ∧ (Q none ((2, f), mm_up (rS S r_3.1 (rn (qB tx_3) n_3 a_3)) h1 2 r_3.2, L, P))))))) ∧ (x4 ≠ 2 → (x4 = 3 → (u_ + 1 ≤ 24 ∧ v_ + 6 ≤ 2200) ∧ (∃ (tx_4 : Nat → Int) (n_4 a_4 t_4 : Nat), qT S tx_4 n_4 ∧ S 101 3 = (a_4 : Int) ∧ a_4 ≤ n_4 ∧ frF f t_4 ∧ (R32 (0 : Int) ∧ R32 (1 : Int)) ∧ (∀ w_4 : Nat, nmP tx_4 n_4 (0 : Int) (1 : Int) a_4 = .inl w_4 → ∀ (S_4 L_4 : Nat → Nat → Int) (P_4 : Nat → Nat → Option Nat) (f_4 : Nat → Nat × Nat), gr t_4 (t_4 + 1) f S L P f_4 S_4 L_4 P_4 → S_4 101 4 = (w_4 : Int) → ((u_ + 1 ≤ 24 ∧ v_ + 6 ≤ 2200) ∧ 0 ≤ 5 ∧ X 0 ((2, f_4), S_4, L_4, P_4))) ∧ (∀ r_4 : Nat × Int, nmP tx_4 n_4 (0 : Int) (1 : Int) a_4 = .inr r_4 → (zsh ((2, f), rS S r_4.1 (rn (qB tx_4) n_4 a_4), L, P) h1 = (1, 1) ∧ ((u_ + 1 ≤ 24 ∧ v_ + 6 ≤ 2200) ∧ (Q none ((2, f), mm_up (rS S r_4.1 (rn (qB tx_4) n_4 a_4)) h1 3 r_4.2, L, P))))))) ∧ (x4 ≠ 3 → (u_ + 1 ≤ 24 ∧ v_ + 6 ≤ 2200) ∧ (∃ t_5 : Nat, frF f t_5 ∧ (∀ (S_5 L_5 : Nat → Nat → Int) (P_5 : Nat → Nat → Option Nat) (f_5 : Nat → Nat × Nat), gr t_5 (t_5 + 1) f S L P f_5 S_5 L_5 P_5 → (∀ k, S_5 101 k = S 101 k) → f_5 t_5 = (1, 20) → (zsh ((2, f_5), S_5, L_5, P_5) t_5 = (1, 20) ∧ (((u_ + 1 ≤ 24 ∧ v_ + 6 ≤ 2200) ∧ 0 ≤ 5 ∧ X 0 ((2, f_5), S_5, L_5, P_5)))))))))))) : zz_J zpX1_courtLine (zz_retP Q X 24 2200) 117 [none, some (vr h1), some (vr 101), none, some (vi x4), none, none, none, none] [] ((2, f), S, L, P) (u_, v_) := zz_J.go [(117, [0, 3, 5, 6, 7, 8]), (156, [0, 3, 4, 6, 7, 8]), (180, [0, 1, 3, 4, 5, 8]), (225, [0, 1, 3, 4, 5, 7]), (254, [0, 1, 3, 4, 5, 7])] 400 h
theorem zwX1_courtLine_156 {Q : Option zv → zz_M → Prop} {X : Nat → zz_M → Prop} {f : Nat → Nat × Nat} {S L : Nat → Nat → Int} {P : Nat → Nat → Option Nat} {u_ v_ : Nat} {h1 : Nat} {x5 : Int} (h : ∃ b1 : Nat, zsh ((2, f), S, L, P) h1 = (1, 1) ∧ zpt ((2, f), S, L, P) h1 6 = some b1 ∧ ((u_ + 1 ≤ 24 ∧ v_ + 6 ≤ 2200) ∧ (∃ (tx_2 : Nat → Int) (n_2 a_2 t_2 : Nat), qT S tx_2 n_2 ∧ S 101 3 = (a_2 : Int) ∧ a_2 ≤ n_2 ∧ frF f t_2 ∧ (R32 (0 : Int) ∧ R32 (3 : Int)) ∧ (∀ w_2 : Nat, nmP tx_2 n_2 (0 : Int) (3 : Int) a_2 = .inl w_2 → ∀ (S_2 L_2 : Nat → Nat → Int) (P_2 : Nat → Nat → Option Nat) (f_2 : Nat → Nat × Nat), gr t_2 (t_2 + 1) f S L P f_2 S_2 L_2 P_2 → S_2 101 4 = (w_2 : Int) → ((u_ + 1 ≤ 24 ∧ v_ + 6 ≤ 2200) ∧ 0 ≤ 5 ∧ X 0 ((2, f_2), S_2, L_2, P_2))) ∧ (∀ r_2 : Nat × Int, nmP tx_2 n_2 (0 : Int) (3 : Int) a_2 = .inr r_2 → (∃ t_ n_ : Nat, zsh ((2, f), rS S r_2.1 (rn (qB tx_2) n_2 a_2), L, P) b1 = (t_, n_) ∧ (t_ = 6 ∨ t_ = 7 ∨ t_ = 8) ∧ (n_ : Int) ≤ 2147483647 ∧ (0 ≤ ((4 * x5) + r_2.2) ∧ ((4 * x5) + r_2.2) < (n_ : Int)) ∧ (∀ b3 : Nat, zpt ((2, f), rS S r_2.1 (rn (qB tx_2) n_2 a_2), L, P) b1 (((4 * x5) + r_2.2).toNat) = some b3 → ∃ c4 s4 : Nat, (u_ + 1 + c4 ≤ 24 ∧ v_ + 6 + s4 ≤ 2200) ∧ (∃ (tx_5 : Nat → Int) (n_5 a_5 b_5 e_5 t_5 : Nat), qT (rS S r_2.1 (rn (qB tx_2) n_2 a_2)) tx_5 n_5 ∧ (rS S r_2.1 (rn (qB tx_2) n_2 a_2)) 101 3 = (a_5 : Int) ∧ a_5 ≤ n_5 ∧ rn (qB tx_5) n_5 a_5 = b_5 ∧ rn (qL tx_5) n_5 b_5 = e_5 ∧ frF f t_5 ∧ (9 ≤ c4 ∧ 24 + 5 * (e_5 - b_5) ≤ s4) ∧ (∀ (f_5 : Nat → Nat × Nat) (S_5 L_5 : Nat → Nat → Int) (P_5 : Nat → Nat → Option Nat) (g_5 u_5 : Nat), gr t_5 u_5 f (rS S r_2.1 (rn (qB tx_2) n_2 a_2)) L P f_5 S_5 L_5 P_5 → S_5 101 3 = (e_5 : Int) → S_5 101 4 = (b_5 : Int) → S_5 101 6 = (rS S r_2.1 (rn (qB tx_2) n_2 a_2)) 101 6 → stS t_5 u_5 f_5 S_5 P_5 g_5 (e_5 - b_5) (fun i => tx_5 (b_5 + i)) → (zz_J zpX1_courtLine (zz_retP Q X 24 2200) 180 [none, none, some (vr 101), none, none, none, some (vr b3), some (vr g_5), none] [] ((2, f_5), S_5, L_5, P_5) (u_ + 1 + c4, v_ + 6 + s4))))) ∧ (zpt ((2, f), rS S r_2.1 (rn (qB tx_2) n_2 a_2), L, P) b1 (((4 * x5) + r_2.2).toNat) = none → ∃ c6 s6 : Nat, (u_ + 1 + c6 ≤ 24 ∧ v_ + 6 + s6 ≤ 2200) ∧ (∃ (tx_7 : Nat → Int) (n_7 a_7 b_7 e_7 t_7 : Nat), qT (rS S r_2.1 (rn (qB tx_2) n_2 a_2)) tx_7 n_7 ∧ (rS S r_2.1 (rn (qB tx_2) n_2 a_2)) 101 3 = (a_7 : Int) ∧ a_7 ≤ n_7 ∧ rn (qB tx_7) n_7 a_7 = b_7 ∧ rn (qL tx_7) n_7 b_7 = e_7 ∧ frF f t_7 ∧ (9 ≤ c6 ∧ 24 + 5 * (e_7 - b_7) ≤ s6) ∧ (∀ (f_7 : Nat → Nat × Nat) (S_7 L_7 : Nat → Nat → Int) (P_7 : Nat → Nat → Option Nat) (g_7 u_7 : Nat), gr t_7 u_7 f (rS S r_2.1 (rn (qB tx_2) n_2 a_2)) L P f_7 S_7 L_7 P_7 → S_7 101 3 = (e_7 : Int) → S_7 101 4 = (b_7 : Int) → S_7 101 6 = (rS S r_2.1 (rn (qB tx_2) n_2 a_2)) 101 6 → stS t_7 u_7 f_7 S_7 P_7 g_7 (e_7 - b_7) (fun i => tx_7 (b_7 + i)) → (zz_J zpX1_courtLine (zz_retP Q X 24 2200) 180 [none, none, some (vr 101), none, none, none, some (vn), some (vr g_7), none] [] ((2, f_7), S_7, L_7, P_7) (u_ + 1 + c6, v_ + 6 + s6)))))))))) : zz_J zpX1_courtLine (zz_retP Q X 24 2200) 156 [none, some (vr h1), some (vr 101), none, none, some (vi x5), none, none, none] [] ((2, f), S, L, P) (u_, v_) := zz_J.go [(117, [0, 3, 5, 6, 7, 8]), (156, [0, 3, 4, 6, 7, 8]), (180, [0, 1, 3, 4, 5, 8]), (225, [0, 1, 3, 4, 5, 7]), (254, [0, 1, 3, 4, 5, 7])] 400 h
theorem zwX1_courtLine_180 {Q : Option zv → zz_M → Prop} {X : Nat → zz_M → Prop} {f : Nat → Nat × Nat} {S L : Nat → Nat → Int} {P : Nat → Nat → Option Nat} {u_ v_ : Nat} {h6 : Nat} {h7 : Nat} (h : (zsh ((2, f), S, L, P) h7 = (1, 19) ∨ zsh ((2, f), S, L, P) h7 = (17, 19)) ∧ (∃ x_1 n_1 m_1 : Nat, stK ((2, f), S, L, P) h7 x_1 n_1 ∧ ctK ((2, f), S, L, P) 1004 m_1 ∧ (eqK ((2, f), S, L, P) x_1 (1004 + 100) n_1 m_1 → (zz_J zpX1_courtLine (zz_retP Q X 24 2200) 225 [none, none, some (vr 101), none, none, none, some (vr h6), none, some (vi 0)] [] ((2, f), S, L, P) (u_, v_))) ∧ (¬ eqK ((2, f), S, L, P) x_1 (1004 + 100) n_1 m_1 → ((zsh ((2, f), S, L, P) h7 = (1, 19) ∨ zsh ((2, f), S, L, P) h7 = (17, 19)) ∧ (∃ x_2 n_2 m_2 : Nat, stK ((2, f), S, L, P) h7 x_2 n_2 ∧ ctK ((2, f), S, L, P) 1005 m_2 ∧ (eqK ((2, f), S, L, P) x_2 (1005 + 100) n_2 m_2 → (zz_J zpX1_courtLine (zz_retP Q X 24 2200) 225 [none, none, some (vr 101), none, none, none, some (vr h6), none, some (vi 1)] [] ((2, f), S, L, P) (u_, v_))) ∧ (¬ eqK ((2, f), S, L, P) x_2 (1005 + 100) n_2 m_2 → ((zsh ((2, f), S, L, P) h7 = (1, 19) ∨ zsh ((2, f), S, L, P) h7 = (17, 19)) ∧ (∃ x_3 n_3 m_3 : Nat, stK ((2, f), S, L, P) h7 x_3 n_3 ∧ ctK ((2, f), S, L, P) 1006 m_3 ∧ (eqK ((2, f), S, L, P) x_3 (1006 + 100) n_3 m_3 → (zz_J zpX1_courtLine (zz_retP Q X 24 2200) 225 [none, none, some (vr 101), none, none, none, some (vr h6), none, some (vi 2)] [] ((2, f), S, L, P) (u_, v_))) ∧ (¬ eqK ((2, f), S, L, P) x_3 (1006 + 100) n_3 m_3 → (zz_J zpX1_courtLine (zz_retP Q X 24 2200) 225 [none, none, some (vr 101), none, none, none, some (vr h6), none, some (vi (-1))] [] ((2, f), S, L, P) (u_, v_))))))))))) : zz_J zpX1_courtLine (zz_retP Q X 24 2200) 180 [none, none, some (vr 101), none, none, none, some (vr h6), some (vr h7), none] [] ((2, f), S, L, P) (u_, v_) := zz_J.go [(117, [0, 3, 5, 6, 7, 8]), (156, [0, 3, 4, 6, 7, 8]), (180, [0, 1, 3, 4, 5, 8]), (225, [0, 1, 3, 4, 5, 7]), (254, [0, 1, 3, 4, 5, 7])] 400 h
theorem zwX1_courtLine_225 {Q : Option zv → zz_M → Prop} {X : Nat → zz_M → Prop} {f : Nat → Nat × Nat} {S L : Nat → Nat → Int} {P : Nat → Nat → Option Nat} {u_ v_ : Nat} {h6 : Nat} {x8 : Int} (h : R32 x8 ∧ ((¬ x8 = (-1) → R32 x8 ∧ ((¬ x8 = 2 → zz_J zpX1_courtLine (zz_retP Q X 24 2200) 254 [none, none, some (vr 101), none, none, none, some (vr h6), none, some (vi x8)] [] ((2, f), S, L, P) (u_, v_)) ∧ (x8 = 2 → (u_ + 1 ≤ 24 ∧ v_ + 6 ≤ 2200) ∧ (∃ (tx_1 : Nat → Int) (n_1 a_1 t_1 : Nat), qT S tx_1 n_1 ∧ S 101 3 = (a_1 : Int) ∧ a_1 ≤ n_1 ∧ frF f t_1 ∧ (R32 (0 : Int) ∧ R32 (9 : Int)) ∧ (∀ w_1 : Nat, nmP tx_1 n_1 (0 : Int) (9 : Int) a_1 = .inl w_1 → ∀ (S_1 L_1 : Nat → Nat → Int) (P_1 : Nat → Nat → Option Nat) (f_1 : Nat → Nat × Nat), gr t_1 (t_1 + 1) f S L P f_1 S_1 L_1 P_1 → S_1 101 4 = (w_1 : Int) → ((u_ + 1 ≤ 24 ∧ v_ + 6 ≤ 2200) ∧ 0 ≤ 5 ∧ X 0 ((2, f_1), S_1, L_1, P_1))) ∧ (∀ r_1 : Nat × Int, nmP tx_1 n_1 (0 : Int) (9 : Int) a_1 = .inr r_1 → (zz_J zpX1_courtLine (zz_retP Q X 24 2200) 254 [none, none, some (vr 101), none, none, none, some (vr h6), none, some (vi (x8 + r_1.2))] [] ((2, f), rS S r_1.1 (rn (qB tx_1) n_1 a_1), L, P) (u_ + 1, v_ + 6))))))) ∧ (x8 = (-1) → (u_ + 1 ≤ 24 ∧ v_ + 6 ≤ 2200) ∧ (∃ t_2 : Nat, frF f t_2 ∧ (∀ (S_2 L_2 : Nat → Nat → Int) (P_2 : Nat → Nat → Option Nat) (f_2 : Nat → Nat × Nat), gr t_2 (t_2 + 1) f S L P f_2 S_2 L_2 P_2 → (∀ k, S_2 101 k = S 101 k) → f_2 t_2 = (1, 20) → (zsh ((2, f_2), S_2, L_2, P_2) t_2 = (1, 20) ∧ (((u_ + 1 ≤ 24 ∧ v_ + 6 ≤ 2200) ∧ 0 ≤ 5 ∧ X 0 ((2, f_2), S_2, L_2, P_2))))))))) : zz_J zpX1_courtLine (zz_retP Q X 24 2200) 225 [none, none, some (vr 101), none, none, none, some (vr h6), none, some (vi x8)] [] ((2, f), S, L, P) (u_, v_) := zz_J.go [(117, [0, 3, 5, 6, 7, 8]), (156, [0, 3, 4, 6, 7, 8]), (180, [0, 1, 3, 4, 5, 8]), (225, [0, 1, 3, 4, 5, 7]), (254, [0, 1, 3, 4, 5, 7])] 400 h
theorem zwX1_courtLine_254 {Q : Option zv → zz_M → Prop} {X : Nat → zz_M → Prop} {f : Nat → Nat × Nat} {S L : Nat → Nat → Int} {P : Nat → Nat → Option Nat} {u_ v_ : Nat} {h6 : Nat} {x8 : Int} (h : (u_ + 1 ≤ 24 ∧ v_ + 6 ≤ 2200) ∧ (∃ (tx_1 : Nat → Int) (n_1 a_1 t_1 : Nat), qT S tx_1 n_1 ∧ S 101 3 = (a_1 : Int) ∧ a_1 ≤ n_1 ∧ frF f t_1 ∧ (R32 (0 : Int) ∧ R32 (100 : Int)) ∧ (∀ w_1 : Nat, nmP tx_1 n_1 (0 : Int) (100 : Int) a_1 = .inl w_1 → ∀ (S_1 L_1 : Nat → Nat → Int) (P_1 : Nat → Nat → Option Nat) (f_1 : Nat → Nat × Nat), gr t_1 (t_1 + 1) f S L P f_1 S_1 L_1 P_1 → S_1 101 4 = (w_1 : Int) → ((u_ + 1 ≤ 24 ∧ v_ + 6 ≤ 2200) ∧ 0 ≤ 5 ∧ X 0 ((2, f_1), S_1, L_1, P_1))) ∧ (∀ r_1 : Nat × Int, nmP tx_1 n_1 (0 : Int) (100 : Int) a_1 = .inr r_1 → (∃ n_ : Nat, zsh ((2, f), rS S r_1.1 (rn (qB tx_1) n_1 a_1), L, P) h6 = (2, n_) ∧ (n_ : Int) ≤ 2147483647 ∧ (0 ≤ x8 ∧ x8 < (n_ : Int)) ∧ ((u_ + 1 ≤ 24 ∧ v_ + 6 ≤ 2200) ∧ (Q none ((2, f), mm_up (rS S r_1.1 (rn (qB tx_1) n_1 a_1)) h6 x8.toNat r_1.2, L, P))))))) : zz_J zpX1_courtLine (zz_retP Q X 24 2200) 254 [none, none, some (vr 101), none, none, none, some (vr h6), none, some (vi x8)] [] ((2, f), S, L, P) (u_, v_) := zz_J.go [(117, [0, 3, 5, 6, 7, 8]), (156, [0, 3, 4, 6, 7, 8]), (180, [0, 1, 3, 4, 5, 8]), (225, [0, 1, 3, 4, 5, 7]), (254, [0, 1, 3, 4, 5, 7])] 400 h

theorem zmX1_courtLine (l : Launch) (hl : l.stackTraces = false) : mm_Spec l yX1_courtLine (ws_ yX1_courtLine cX1_courtLine 9 none) (mm_rm 10 24 2200) (zE zX1_courtLine) := by
  refine zz_Met.J hl (by decide) (fun C G hnh => ztX1_courtLine G hnh) ?_
  rintro as ⟨⟨t_, f⟩, S, L, P⟩ Q X h
  unfold zX1_courtLine at h
  split at h
  rotate_left
  · exact h.elim
  rename_i h_ d
  obtain ⟨e1_, e2_, h⟩ := mm_and2 h (fun q => q)
  cases mm_beq e1_
  cases mm_beq e2_
  try dsimp only at h
  refine ⟨rfl, ?_⟩
  refine zz_retP_J ?_
  obtain ⟨tx, w, n, a, t, hT, ha, han, hf, ⟨d2, dt⟩, hD, hW, qw, qr⟩ := h
  have n400 := hT.1
  have t2 := hf.1
  obtain ⟨b, hb⟩ : ∃ b, rn (qB tx) n a = b := ⟨_, rfl⟩
  have hbn : b ≤ n := by rw [← hb]; exact rn_le han
  have hbb : rn (qB tx) n b = b := by rw [← hb]; exact rn_rn han
  have wlb := wl_le (tx := tx) hbn
  have ewl : rn (qL tx) n b - b = wl tx n b := by unfold wl; rw [hbb]
  have l1 := rn_ge (q := qL tx) hbn
  have l2 := rn_le (q := qL tx) hbn
  have lw := wd_R (tx := tx) hbn
  have dr : ∀ {u : Nat} {f' : Nat → Nat × Nat} {S' L' : Nat → Nat → Int} {P' : Nat → Nat → Option Nat} (S2 L2 : Nat → Nat → Int), gr t u f S L P f' S' L' P' → drS ((2, f'), S2, L2, P') d := fun S2 L2 g => hD.fr d2 (fun h h1 h2 => ⟨g.2.1 h (by omega), g.2.2.2.2.1 h (by omega)⟩)
  -- the number of a chance
  have t254 : ∀ (u p i o uu vv : Nat) (f' : Nat → Nat × Nat) (S' L' : Nat → Nat → Int) (P' : Nat → Nat → Option Nat), gr t u f S L P f' S' L' P' → S' 101 3 = (p : Int) → p ≤ n → i < 16 → o < 12 → coP tx n a = coN tx n 0 100 (12 * i + o) p → uu ≤ 23 → vv ≤ 2194 → zz_J zpX1_courtLine (zz_retP Q X 24 2200) 254 [none, none, some (vr 101), none, none, none, some (vr (d + 10 + i)), none, some (vi (o : Int))] [] ((2, f'), S', L', P') (uu, vv) := by
    intro u p i o uu vv f' S' L' P' g1 r3 hp hi ho e hu hv
    refine zwX1_courtLine_254 ⟨by omega, tx, n, p, u, g1.T t2 hT, r3, hp, g1.fr, by decide, fun v hv S2 L2 P2 f2 g2 e2 => ⟨by omega, by decide, qw v ?_ _ _ _ _ _ (g1.tr g2) e2⟩, fun r hr => ⟨12, ((dr _ _ g1).2.2.2 i hi).1, by decide, by omega, by omega, ?_⟩⟩
    · rw [e]; unfold coN; rw [hv]
    · rw [Int.toNat_natCast]
      refine qr (r.1, fun w k => if k = 12 * i + o then r.2 else w k) (by rw [e]; unfold coN; rw [hr]) _ _ _ _ u (drU_row hW d2 dt hi ho (g1.toS fun h k hk => rdC_rS h k hk)) ?_
      rw [up_eq, if_neg (by omega)]
      exact rS_3 _ _ _
  -- what comes of it
  have t225 : ∀ (u i uu vv : Nat) (x8 : Int) (f' : Nat → Nat × Nat) (S' L' : Nat → Nat → Int) (P' : Nat → Nat → Option Nat), gr t u f S L P f' S' L' P' → i < 16 → ((x8 = -1 ∧ ∃ v : Nat, S' 101 4 = (v : Int) ∧ coP tx n a = .inl v) ∨ (∃ p : Nat, S' 101 3 = (p : Int) ∧ p ≤ n ∧ ((x8 = 0 ∧ coP tx n a = coN tx n 0 100 (12 * i + 0) p) ∨ (x8 = 1 ∧ coP tx n a = coN tx n 0 100 (12 * i + 1) p) ∨ (x8 = 2 ∧ coP tx n a = (match nmP tx n 0 9 p with | .inl v => .inl v | .inr l => coN tx n 0 100 (12 * (i : Int) + (2 + l.2)).toNat l.1))))) → uu ≤ 22 → vv ≤ 2188 → zz_J zpX1_courtLine (zz_retP Q X 24 2200) 225 [none, none, some (vr 101), none, none, none, some (vr (d + 10 + i)), none, some (vi x8)] [] ((2, f'), S', L', P') (uu, vv) := by
    intro u i uu vv x8 f' S' L' P' g1 hi hc hu hv
    rcases hc with ⟨rfl, v, r4, e⟩ | ⟨p, r3, hp, ⟨rfl, e⟩ | ⟨rfl, e⟩ | ⟨rfl, e⟩⟩
    · exact zwX1_courtLine_225 ⟨by decide, fun c => absurd rfl c, fun _ => ⟨by omega, u, g1.fr, fun S2 L2 P2 f2 g2 e2 e3 => ⟨(zsh_hi (by have := g1.le; omega)).trans e3, by omega, by decide, qw v e _ _ _ _ _ (g1.tr g2) ((e2 4).trans r4)⟩⟩⟩
    · exact zwX1_courtLine_225 ⟨by decide, fun _ => ⟨by decide, fun _ => t254 u p i 0 uu vv f' S' L' P' g1 r3 hp hi (by decide) e (by omega) (by omega), fun c => absurd c (by decide)⟩, fun c => absurd c (by decide)⟩
    · exact zwX1_courtLine_225 ⟨by decide, fun _ => ⟨by decide, fun _ => t254 u p i 1 uu vv f' S' L' P' g1 r3 hp hi (by decide) e (by omega) (by omega), fun c => absurd c (by decide)⟩, fun c => absurd c (by decide)⟩
    · refine zwX1_courtLine_225 ⟨by decide, fun _ => ⟨by decide, fun c => absurd rfl c, fun _ => ⟨by omega, tx, n, p, u, g1.T t2 hT, r3, hp, g1.fr, by decide, fun v hv S2 L2 P2 f2 g2 e2 => ⟨by omega, by decide, qw v (by rw [e, hv]) _ _ _ _ _ (g1.tr g2) e2⟩, fun r hr => ?_⟩⟩, fun c => absurd c (by decide)⟩
      have hv := nmP_v hr
      have hr1 := (nmP_ok (tx := tx) (n := n) (lo := 0) (hi := 9) _ hp).1 r hr
      have := t254 u r.1 i (2 + r.2.toNat) (uu + 1) (vv + 6) f' (rS S' r.1 (rn (qB tx) n p)) L' P' (g1.toS fun h k hk => rdC_rS h k hk) (rS_3 _ _ _) hr1.2 hi (by omega) (by rw [e, hr]; simp only; rw [show (12 * (i : Int) + (2 + r.2)).toNat = 12 * i + (2 + r.2.toNat) by omega]) (by omega) (by omega)
      rw [show (((2 + r.2.toNat : Nat) : Int)) = 2 + r.2 by omega] at this
      exact this
  -- won, lost, dead
  have t180 : ∀ (u i p q uu vv g7 : Nat) (f' : Nat → Nat × Nat) (S' L' : Nat → Nat → Int) (P' : Nat → Nat → Option Nat), gr t u f S L P f' S' L' P' → i < 16 → p ≤ n → rn (qB tx) n p = q → coP tx n a = coR tx n (12 * (i : Int)) p → S' 101 3 = ((rn (qL tx) n q : Nat) : Int) → S' 101 4 = (q : Int) → stS t u f' S' P' g7 (rn (qL tx) n q - q) (fun i => tx (q + i)) → uu ≤ 20 → vv ≤ 2188 → zz_J zpX1_courtLine (zz_retP Q X 24 2200) 180 [none, none, some (vr 101), none, none, none, some (vr (d + 10 + i)), some (vr g7), none] [] ((2, f'), S', L', P') (uu, vv) := by
    intro u i p q uu vv g7 f' S' L' P' g1 hi hp hq e r3 r4 hst hu hv
    have pb := p3_B (tx := tx) p hp
    rw [hq] at pb
    have q1 := rn_ge (q := qL tx) pb.2
    have q2 := rn_le (q := qL tx) pb.2
    have lq := wd_R (tx := tx) pb.2
    obtain ⟨x, x1, hk, hxs⟩ := hst.k (L := L') (by omega) (fun i hi => by have := lq i hi; omega)
    have key := fun j (hj : j < 18) => eqK_hs (M := ((2, f'), S', L', P')) (x := x) (n := n) (len := rn (qL tx) n q - q) (j := j) hj (by omega) hxs
    have fin : ∀ j, j < 18 → hsW tx n q (wo j) = true → S' 101 3 = ((q + (wo j).length : Nat) : Int) ∧ q + (wo j).length ≤ n := fun j _ h => ⟨by rw [r3, hsW_rn h], hsW_le pb.2 h⟩
    refine zwX1_courtLine_180 ⟨Or.inl hk.1, x, _, _, hk, ct_of (j := 4) (by decide), fun c => ?_, fun c4 => ⟨Or.inl hk.1, x, _, _, hk, ct_of (j := 5) (by decide), fun c => ?_, fun c5 => ⟨Or.inl hk.1, x, _, _, hk, ct_of (j := 6) (by decide), fun c => ?_, fun c6 => ?_⟩⟩⟩
    · have h4 := (key 4 (by decide)).mp c
      have f4 : S' 101 3 = ((q + 3 : Nat) : Int) ∧ q + 3 ≤ n := fin 4 (by decide) h4
      exact t225 u i uu vv 0 f' S' L' P' g1 hi (Or.inr ⟨_, f4.1, f4.2, Or.inl ⟨rfl, e.trans (coz_r4 hq h4)⟩⟩) (by omega) (by omega)
    · have h4 : hsW tx n q (wo 4) = false := Bool.eq_false_iff.mpr fun z => c4 ((key 4 (by decide)).mpr z)
      have h5 := (key 5 (by decide)).mp c
      have f5 : S' 101 3 = ((q + 4 : Nat) : Int) ∧ q + 4 ≤ n := fin 5 (by decide) h5
      exact t225 u i uu vv 1 f' S' L' P' g1 hi (Or.inr ⟨_, f5.1, f5.2, Or.inr (Or.inl ⟨rfl, e.trans (coz_r5 hq h4 h5)⟩)⟩) (by omega) (by omega)
    · have h4 : hsW tx n q (wo 4) = false := Bool.eq_false_iff.mpr fun z => c4 ((key 4 (by decide)).mpr z)
      have h5 : hsW tx n q (wo 5) = false := Bool.eq_false_iff.mpr fun z => c5 ((key 5 (by decide)).mpr z)
      have h6 := (key 6 (by decide)).mp c
      have f6 : S' 101 3 = ((q + 4 : Nat) : Int) ∧ q + 4 ≤ n := fin 6 (by decide) h6
      exact t225 u i uu vv 2 f' S' L' P' g1 hi (Or.inr ⟨_, f6.1, f6.2, Or.inr (Or.inr ⟨rfl, e.trans (coz_r6 hq h4 h5 h6)⟩)⟩) (by omega) (by omega)
    · have h4 : hsW tx n q (wo 4) = false := Bool.eq_false_iff.mpr fun z => c4 ((key 4 (by decide)).mpr z)
      have h5 : hsW tx n q (wo 5) = false := Bool.eq_false_iff.mpr fun z => c5 ((key 5 (by decide)).mpr z)
      have h6 : hsW tx n q (wo 6) = false := Bool.eq_false_iff.mpr fun z => c6 ((key 6 (by decide)).mpr z)
      exact t225 u i uu vv (-1) f' S' L' P' g1 hi (Or.inl ⟨rfl, q, r4, e.trans (coz_rn hq h4 h5 h6)⟩) (by omega) (by omega)
  -- the chance's row
  have t156 : ∀ (u p uu vv : Nat) (x5 : Int) (f' : Nat → Nat × Nat) (S' L' : Nat → Nat → Int) (P' : Nat → Nat → Option Nat), gr t u f S L P f' S' L' P' → S' 101 3 = (p : Int) → p ≤ n → (0 ≤ x5 ∧ x5 ≤ 3) → coP tx n a = (match nmP tx n 0 3 p with | .inl w => .inl w | .inr h => coR tx n (12 * (4 * x5 + h.2)) h.1) → uu ≤ 10 → vv ≤ 100 → zz_J zpX1_courtLine (zz_retP Q X 24 2200) 156 [none, some (vr d), some (vr 101), none, none, some (vi x5), none, none, none] [] ((2, f'), S', L', P') (uu, vv) := by
    intro u p uu vv x5 f' S' L' P' g1 r3 hp h5 e hu hv
    have dd := fun S2 => dr S2 L' g1
    refine zwX1_courtLine_156 ⟨d + 1, (dd _).1, (dd _).2.1, by omega, tx, n, p, u, g1.T t2 hT, r3, hp, g1.fr, by decide, fun v hv S2 L2 P2 f2 g2 e2 => ⟨by omega, by decide, qw v (by rw [e, hv]) _ _ _ _ _ (g1.tr g2) e2⟩, fun r hr => ?_⟩
    have hv' := nmP_v hr
    have hr1 := (nmP_ok (tx := tx) (n := n) (lo := 0) (hi := 3) _ hp).1 r hr
    have pb := p3_B (tx := tx) r.1 hr1.2
    have wr := wl_le (tx := tx) hr1.2
    have ix : (4 * x5 + r.2).toNat < 16 := by omega
    have zq := (dd (rS S' r.1 (rn (qB tx) n p))).2.2.2 _ ix
    refine ⟨6, 16, (dd _).2.2.1, Or.inl rfl, by decide, by omega, fun b3 hb3 => ?_, fun hb3 => (by rw [zq.2] at hb3; cases hb3)⟩
    rw [zq.2] at hb3
    cases hb3
    have gx : gr t u f S L P f' (rS S' r.1 (rn (qB tx) n p)) L' P' := g1.toS fun h k hk => rdC_rS h k hk
    refine ⟨9, 24 + 5 * (rn (qL tx) n (rn (qB tx) n r.1) - rn (qB tx) n r.1), ?_, tx, n, r.1, _, _, u, gx.T t2 hT, rS_3 _ _ _, hr1.2, rfl, rfl, g1.fr, ⟨Nat.le_refl _, Nat.le_refl _⟩, fun f5 S5 L5 P5 g5 u5 gg k3 k4 k6 hst => ?_⟩
    · unfold wl at wr
      omega
    · unfold wl at wr
      refine t180 u5 _ r.1 _ _ _ g5 f5 S5 L5 P5 (gx.tr gg) ix hr1.2 rfl ?_ k3 k4 (hst.mo t2 g1.le (Nat.le_refl _)) (by omega) (by omega)
      rw [e, hr]
      simp only
      rw [show 12 * (((4 * x5 + r.2).toNat : Nat) : Int) = 12 * (4 * x5 + r.2) by omega]
  -- the word
  have t117 : ∀ (u uu vv : Nat) (x4 : Int) (f' : Nat → Nat × Nat) (S' L' : Nat → Nat → Int) (P' : Nat → Nat → Option Nat), gr t u f S L P f' S' L' P' → S' 101 3 = ((rn (qL tx) n b : Nat) : Int) → S' 101 4 = (b : Int) → ((x4 = -1 ∧ ∀ j, j < 4 → hsW tx n b (wo j) = false) ∨ (x4 = 0 ∧ hsW tx n b (wo 0) = true) ∨ (x4 = 1 ∧ hsW tx n b (wo 1) = true) ∨ (x4 = 2 ∧ hsW tx n b (wo 2) = true) ∨ (x4 = 3 ∧ hsW tx n b (wo 3) = true)) → uu ≤ 9 → vv ≤ 24 + 5 * wl tx n b → zz_J zpX1_courtLine (zz_retP Q X 24 2200) 117 [none, some (vr d), some (vr 101), none, some (vi x4), none, none, none, none] [] ((2, f'), S', L', P') (uu, vv) := by
    intro u uu vv x4 f' S' L' P' g1 r3 r4 hc hu hv
    have dd := fun S2 => dr S2 L' g1
    rcases hc with ⟨rfl, hn⟩ | ⟨rfl, h0⟩ | ⟨rfl, h1⟩ | ⟨rfl, h2⟩ | ⟨rfl, h3⟩
    · exact zwX1_courtLine_117 ⟨by decide, fun c => absurd c (by decide), fun _ => ⟨fun c => absurd c (by decide), fun _ => ⟨fun c => absurd c (by decide), fun _ => ⟨fun c => absurd c (by decide), fun _ => ⟨by omega, u, g1.fr, fun S2 L2 P2 f2 g2 e2 e3 => ⟨(zsh_hi (by have := g1.le; omega)).trans e3, by omega, by decide, qw b (coz_n hb hn) _ _ _ _ _ (g1.tr g2) ((e2 4).trans r4)⟩⟩⟩⟩⟩⟩
    · have hw : wl tx n b = 5 := wl_hs (by rw [hbb]; exact h0)
      have hle : b + 5 ≤ n := hsW_le hbn h0
      have r5 : S' 101 3 = ((b + 5 : Nat) : Int) := r3.trans (congrArg Nat.cast (hsW_rn h0))
      refine zwX1_courtLine_117 ⟨by decide, fun _ => ⟨by omega, tx, n, b + 5, u, g1.T t2 hT, r5, hle, g1.fr, by decide, fun v hv S2 L2 P2 f2 g2 e2 => ⟨by omega, by decide, qw v (by rw [coz_0 hb h0, hv]) _ _ _ _ _ (g1.tr g2) e2⟩, fun r hr => ?_⟩, fun c => absurd rfl c⟩
      have hv' := nmP_v hr
      have hr1 := (nmP_ok (tx := tx) (n := n) (lo := 0) (hi := 3) _ hle).1 r hr
      exact t156 u r.1 _ _ r.2 f' _ L' P' (g1.toS fun h k hk => rdC_rS h k hk) (rS_3 _ _ _) hr1.2 hv' (by rw [coz_0 hb h0, hr]) (by omega) (by omega)
    · have hw : wl tx n b = 5 := wl_hs (by rw [hbb]; exact h1)
      have hle : b + 5 ≤ n := hsW_le hbn h1
      have r5 : S' 101 3 = ((b + 5 : Nat) : Int) := r3.trans (congrArg Nat.cast (hsW_rn h1))
      refine zwX1_courtLine_117 ⟨by decide, fun c => absurd c (by decide), fun _ => ⟨fun _ => ⟨by omega, tx, n, b + 5, u, g1.T t2 hT, r5, hle, g1.fr, by decide, fun v hv S2 L2 P2 f2 g2 e2 => ⟨by omega, by decide, qw v (by rw [coz_1 hb h1]; unfold coN; rw [hv]) _ _ _ _ _ (g1.tr g2) e2⟩, fun r hr => ⟨(dd _).1, by omega, ?_⟩⟩, fun c => absurd rfl c⟩⟩
      refine qr (r.1, fun w k => if k = 194 then r.2 else w k) (by rw [coz_1 hb h1]; unfold coN; rw [hr]) _ _ _ _ u (drU_set hW d2 dt (Or.inr ⟨rfl, Or.inl ⟨rfl, rfl⟩⟩) (g1.toS fun h k hk => rdC_rS h k hk)) ?_
      rw [up_eq, if_neg (by omega)]
      exact rS_3 _ _ _
    · have hw : wl tx n b = 4 := wl_hs (by rw [hbb]; exact h2)
      have hle : b + 4 ≤ n := hsW_le hbn h2
      have r5 : S' 101 3 = ((b + 4 : Nat) : Int) := r3.trans (congrArg Nat.cast (hsW_rn h2))
      refine zwX1_courtLine_117 ⟨by decide, fun c => absurd c (by decide), fun _ => ⟨fun c => absurd c (by decide), fun _ => ⟨fun _ => ⟨by omega, tx, n, b + 4, u, g1.T t2 hT, r5, hle, g1.fr, by decide, fun v hv S2 L2 P2 f2 g2 e2 => ⟨by omega, by decide, qw v (by rw [coz_2 hb h2]; unfold coN; rw [hv]) _ _ _ _ _ (g1.tr g2) e2⟩, fun r hr => ⟨(dd _).1, by omega, ?_⟩⟩, fun c => absurd rfl c⟩⟩⟩
      refine qr (r.1, fun w k => if k = 195 then r.2 else w k) (by rw [coz_2 hb h2]; unfold coN; rw [hr]) _ _ _ _ u (drU_set hW d2 dt (Or.inr ⟨rfl, Or.inr (Or.inl ⟨rfl, rfl⟩)⟩) (g1.toS fun h k hk => rdC_rS h k hk)) ?_
      rw [up_eq, if_neg (by omega)]
      exact rS_3 _ _ _
    · have hw : wl tx n b = 4 := wl_hs (by rw [hbb]; exact h3)
      have hle : b + 4 ≤ n := hsW_le hbn h3
      have r5 : S' 101 3 = ((b + 4 : Nat) : Int) := r3.trans (congrArg Nat.cast (hsW_rn h3))
      refine zwX1_courtLine_117 ⟨by decide, fun c => absurd c (by decide), fun _ => ⟨fun c => absurd c (by decide), fun _ => ⟨fun c => absurd c (by decide), fun _ => ⟨fun _ => ⟨by omega, tx, n, b + 4, u, g1.T t2 hT, r5, hle, g1.fr, by decide, fun v hv S2 L2 P2 f2 g2 e2 => ⟨by omega, by decide, qw v (by rw [coz_3 hb h3]; unfold coN; rw [hv]) _ _ _ _ _ (g1.tr g2) e2⟩, fun r hr => ⟨(dd _).1, by omega, ?_⟩⟩, fun c => absurd rfl c⟩⟩⟩⟩
      refine qr (r.1, fun w k => if k = 196 then r.2 else w k) (by rw [coz_3 hb h3]; unfold coN; rw [hr]) _ _ _ _ u (drU_set hW d2 dt (Or.inr ⟨rfl, Or.inr (Or.inr ⟨rfl, rfl⟩)⟩) (g1.toS fun h k hk => rdC_rS h k hk)) ?_
      rw [up_eq, if_neg (by omega)]
      exact rS_3 _ _ _
  refine zwX1_courtLine_0 ⟨9, 24 + 5 * wl tx n b, by omega, tx, n, a, b, _, t, hT, ha, han, hb, rfl, hf, ⟨Nat.le_refl _, by rw [ewl]; exact Nat.le_refl _⟩, fun f2 S2 L2 P2 g u2 gg r3 r4 r6 hst => ?_⟩
  obtain ⟨x, x1, hk, hxs⟩ := hst.k (L := L2) (by omega) (fun i hi => by have := lw i hi; omega)
  have tu := gg.le
  have gx : g ≠ x := fun c => by
    have e1 := hk.1
    have e2 := hk.2.2.2.1
    rw [c, e2] at e1
    exact absurd (show (4 : Nat) = 1 from congrArg Prod.fst e1) (by decide)
  have gt := hst.1
  have keyF : ∀ j L K, j < 18 → (wo j).length = L → hsF (fun i => (mm_kI (1000 + j + 100) i).toInt) L = K → hsW tx n b (wo j) = true → hsF (S2 x) (rn (qL tx) n b - b) = K := fun j L K hj hL hK h => by
    have e := (eqK_hs (M := ((2, f2), S2, L2, P2)) (x := x) (n := n) (len := rn (qL tx) n b - b) (j := j) hj (by omega) hxs).mpr h
    rw [hsF_cg _ e.2, e.1, hL, hK]
  refine ⟨Or.inl hk.1, x, _, hk.1, hk.2.1, hst.2.2.1, hk.2.2.2.1, by omega, fun k hkk => by rw [hxs k hkk]; have := lw k hkk; omega, fun S3 h3 => ?_⟩
  have hk3 : stK ((2, f2), S3, L2, P2) g x (rn (qL tx) n b - b) := by
    refine ⟨hk.1, hk.2.1, ?_, hk.2.2.2.1, hk.2.2.2.2.1, fun i hi => ?_⟩
    · show S3 g 1 = 0
      rw [h3 g 1 (by omega)]
      exact hk.2.2.1
    · show R32 (S3 x i)
      rw [h3 x i (fun c => gx c.1.symm)]
      exact hk.2.2.2.2.2 i hi
  have hxs3 : ∀ i, i < rn (qL tx) n b - b → S3 x i = tx (b + i) := fun i hi => by
    rw [h3 x i (fun c => gx c.1.symm)]
    exact hxs i hi
  have g3 : gr t u2 f S L P f2 S3 L2 P2 := ⟨gg.1, gg.2.1, fun h k hh hk => by rw [h3 h k (fun c => by have := gt.2.1; omega)]; exact gg.2.2.1 h k hh hk, gg.2.2.2.1, gg.2.2.2.2.1, gg.2.2.2.2.2⟩
  have key := fun j (hj : j < 18) => eqK_hs (M := ((2, f2), S3, L2, P2)) (x := x) (n := n) (len := rn (qL tx) n b - b) (j := j) hj (by omega) hxs3
  have k3 : S3 101 3 = ((rn (qL tx) n b : Nat) : Int) := by rw [h3 101 3 (fun c => by have := gt.2.1; omega)]; exact r3
  have k4 : S3 101 4 = (b : Int) := by rw [h3 101 4 (fun c => by have := gt.2.1; omega)]; exact r4
  have F0 := keyF 0 5 _ (by decide) rfl hsF_k.1.1
  have F1 := keyF 1 5 _ (by decide) rfl hsF_k.1.2
  have F2 := keyF 2 4 _ (by decide) rfl hsF_k.2.1
  have F3 := keyF 3 4 _ (by decide) rfl hsF_k.2.2
  have go : ∀ x4 : Int, ((x4 = -1 ∧ ∀ j, j < 4 → hsW tx n b (wo j) = false) ∨ (x4 = 0 ∧ hsW tx n b (wo 0) = true) ∨ (x4 = 1 ∧ hsW tx n b (wo 1) = true) ∨ (x4 = 2 ∧ hsW tx n b (wo 2) = true) ∨ (x4 = 3 ∧ hsW tx n b (wo 3) = true)) → zz_J zpX1_courtLine (zz_retP Q X 24 2200) 117 [none, some (vr d), some (vr 101), none, some (vi x4), none, none, none, none] [] ((2, f2), S3, L2, P2) (0 + 9, 0 + (24 + 5 * wl tx n b)) := fun x4 hc => t117 u2 _ _ x4 f2 S3 L2 P2 g3 k3 k4 hc (by omega) (by omega)
  have none4 : ∀ j0, j0 < 4 → (hsW tx n b (wo j0) = true → False) → (∀ j, j < 4 → j ≠ j0 → hsW tx n b (wo j) = true → False) → ∀ j, j < 4 → hsW tx n b (wo j) = false := fun j0 _ h1 h2 j hj => by
    cases hc : hsW tx n b (wo j) with
    | false => rfl
    | true =>
      by_cases e : j = j0
      · exact (h1 (by rw [← e]; exact hc)).elim
      · exact (h2 j hj e hc).elim
  have oth : ∀ (j0 : Nat) (K : Int), j0 < 4 → hsF (S2 x) (rn (qL tx) n b - b) = K → (∀ j, j < 4 → j ≠ j0 → hsW tx n b (wo j) = true → hsF (S2 x) (rn (qL tx) n b - b) ≠ K) → ¬ eqK ((2, f2), S3, L2, P2) x (1000 + j0 + 100) (rn (qL tx) n b - b) (wo j0).length → ∀ j, j < 4 → hsW tx n b (wo j) = false := fun j0 K hj0 hK hne hno => none4 j0 hj0 (fun c => hno ((key j0 (by omega)).mpr c)) (fun j hj e c => hne j hj e c hK)
  have dif : ∀ (K : Int) (j0 : Nat), (j0 = 0 → K = 108278378) → (j0 = 1 → K = 98120385) → (j0 = 2 → K = 3056822) → (j0 = 3 → K = 3125530) → j0 < 4 → ∀ j, j < 4 → j ≠ j0 → hsW tx n b (wo j) = true → hsF (S2 x) (rn (qL tx) n b - b) ≠ K := by
    intro K j0 e0 e1 e2 e3 hj0 j hj ne hc
    have : j = 0 ∨ j = 1 ∨ j = 2 ∨ j = 3 := by omega
    rcases this with z | z | z | z <;> subst z
    · rw [F0 hc]; omega
    · rw [F1 hc]; omega
    · rw [F2 hc]; omega
    · rw [F3 hc]; omega
  refine ⟨hsF_R _ _, fun c2 => ⟨Or.inl hk3.1, x, _, _, hk3, ct_of (j := 2) (by decide), fun e => go 2 (Or.inr (Or.inr (Or.inr (Or.inl ⟨rfl, (key 2 (by decide)).mp e⟩)))), fun e => go (-1) (Or.inl ⟨rfl, oth 2 _ (by decide) c2 (dif _ 2 (by omega) (by omega) (by omega) (by omega) (by decide)) e⟩)⟩, fun n2 => ⟨fun c3 => ⟨Or.inl hk3.1, x, _, _, hk3, ct_of (j := 3) (by decide), fun e => go 3 (Or.inr (Or.inr (Or.inr (Or.inr ⟨rfl, (key 3 (by decide)).mp e⟩)))), fun e => go (-1) (Or.inl ⟨rfl, oth 3 _ (by decide) c3 (dif _ 3 (by omega) (by omega) (by omega) (by omega) (by decide)) e⟩)⟩, fun n3 => ⟨fun c1 => ⟨Or.inl hk3.1, x, _, _, hk3, ct_of (j := 1) (by decide), fun e => go 1 (Or.inr (Or.inr (Or.inl ⟨rfl, (key 1 (by decide)).mp e⟩))), fun e => go (-1) (Or.inl ⟨rfl, oth 1 _ (by decide) c1 (dif _ 1 (by omega) (by omega) (by omega) (by omega) (by decide)) e⟩)⟩, fun n1 => ⟨fun c0 => ⟨Or.inl hk3.1, x, _, _, hk3, ct_of (j := 0) (by decide), fun e => go 0 (Or.inr (Or.inl ⟨rfl, (key 0 (by decide)).mp e⟩)), fun e => go (-1) (Or.inl ⟨rfl, oth 0 _ (by decide) c0 (dif _ 0 (by omega) (by omega) (by omega) (by omega) (by decide)) e⟩)⟩, fun n0 => go (-1) (Or.inl ⟨rfl, fun j hj => ?_⟩)⟩⟩⟩⟩
  cases hc : hsW tx n b (wo j) with
  | false => rfl
  | true =>
    have : j = 0 ∨ j = 1 ∨ j = 2 ∨ j = 3 := by omega
    rcases this with z | z | z | z <;> subst z
    · exact absurd (F0 hc) n0
    · exact absurd (F1 hc) n1
    · exact absurd (F2 hc) n2
    · exact absurd (F3 hc) n3
