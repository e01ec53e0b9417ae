/-! ===== the model's lines of the court ===== -/
set_option maxRecDepth 100000
abbrev Rw : Type := (Nat → Int) → Nat → Int
def coN (tx : Nat → Int) (n : Nat) (lo hi : Int) (ix p : Nat) : Pr Rw := match nmP tx n lo hi p with
  | .inl w => .inl w
  | .inr v => .inr (v.1, fun w k => if k = ix then v.2 else w k)
def coR (tx : Nat → Int) (n : Nat) (ix : Int) (p : Nat) : Pr Rw :=
  if hsW tx n (rn (qB tx) n p) (wo 4) = true then coN tx n 0 100 (ix + 0).toNat (rn (qB tx) n p + 3)
  else if hsW tx n (rn (qB tx) n p) (wo 5) = true then coN tx n 0 100 (ix + 1).toNat (rn (qB tx) n p + 4)
  else if hsW tx n (rn (qB tx) n p) (wo 6) = true then (match nmP tx n 0 9 (rn (qB tx) n p + 4) with
    | .inl w => .inl w
    | .inr l => coN tx n 0 100 (ix + (2 + l.2)).toNat l.1)
  else .inl (rn (qB tx) n p)
/-- a line of the court -/
def coP (tx : Nat → Int) (n a : Nat) : Pr Rw :=
  if hsW tx n (rn (qB tx) n a) (wo 0) = true then (match nmP tx n 0 3 (rn (qB tx) n a + 5) with
    | .inl w => .inl w
    | .inr s => match nmP tx n 0 3 s.1 with
      | .inl w => .inl w
      | .inr h => coR tx n (12 * (4 * s.2 + h.2)) h.1)
  else if hsW tx n (rn (qB tx) n a) (wo 1) = true then coN tx n 1 6 194 (rn (qB tx) n a + 5)
  else if hsW tx n (rn (qB tx) n a) (wo 2) = true then coN tx n 0 2 195 (rn (qB tx) n a + 4)
  else if hsW tx n (rn (qB tx) n a) (wo 3) = true then coN tx n 0 1 196 (rn (qB tx) n a + 4)
  else .inl (rn (qB tx) n a)
theorem coN_ok {tx : Nat → Int} {n : Nat} {lo hi : Int} {ix : Nat} : pOK n (coN tx n lo hi ix) := by
  intro a ha
  have h := nmP_ok (tx := tx) (n := n) (lo := lo) (hi := hi) a ha
  unfold coN
  cases hp : nmP tx n lo hi a with
  | inl w' => exact ⟨fun c hc => (by cases hc), fun w hw => by cases hw; exact h.2 _ hp⟩
  | inr e => exact ⟨fun c hc => by cases hc; exact h.1 _ hp, fun w hw => by cases hw⟩
theorem pOK.le {α : Type} {n a b : Nat} {x : Pr α} (hab : a ≤ b) (h : (∀ c, x = .inr c → b ≤ c.1 ∧ c.1 ≤ n) ∧ ∀ w, x = .inl w → w ≤ n) : (∀ c, x = .inr c → a ≤ c.1 ∧ c.1 ≤ n) ∧ ∀ w, x = .inl w → w ≤ n := ⟨fun c hc => ⟨Nat.le_trans hab (h.1 c hc).1, (h.1 c hc).2⟩, h.2⟩
theorem coR_ok {tx : Nat → Int} {n : Nat} {ix : Int} : pOK n (coR tx n ix) := by
  intro a ha
  have h1 := rn_ge (q := qB tx) ha
  have h2 := rn_le (q := qB tx) ha
  unfold coR
  split
  · next h => exact pOK.le (by omega) (coN_ok _ (show rn (qB tx) n a + 3 ≤ n from hsW_le h2 h))
  · split
    · next h => exact pOK.le (by omega) (coN_ok _ (show rn (qB tx) n a + 4 ≤ n from hsW_le h2 h))
    · split
      · next h =>
        have h3 : rn (qB tx) n a + 4 ≤ n := hsW_le h2 h
        have hh := nmP_ok (tx := tx) (n := n) (lo := 0) (hi := 9) _ h3
        cases hp : nmP tx n 0 9 (rn (qB tx) n a + 4) with
        | inl w' => exact ⟨fun c hc => (by cases hc), fun w hw => by cases hw; exact hh.2 _ hp⟩
        | inr e =>
          have he := hh.1 _ hp
          exact pOK.le (by omega) (coN_ok _ he.2)
      · exact ⟨fun c hc => (by cases hc), fun w hw => by cases hw; exact h2⟩
theorem coP_ok {tx : Nat → Int} {n : Nat} : pOK n (coP tx n) := by
  intro a ha
  have h1 := rn_ge (q := qB tx) ha
  have h2 := rn_le (q := qB tx) ha
  unfold coP
  split
  · next h =>
    have h3 : rn (qB tx) n a + 5 ≤ n := hsW_le h2 h
    have hh := nmP_ok (tx := tx) (n := n) (lo := 0) (hi := 3) _ h3
    cases hp : nmP tx n 0 3 (rn (qB tx) n a + 5) with
    | inl w' => exact ⟨fun c hc => (by cases hc), fun w hw => by cases hw; exact hh.2 _ hp⟩
    | inr e =>
      have he := hh.1 _ hp
      have hh2 := nmP_ok (tx := tx) (n := n) (lo := 0) (hi := 3) _ he.2
      show ((∀ c, (match nmP tx n 0 3 e.1 with | .inl w => Sum.inl w | .inr h => coR tx n (12 * (4 * e.2 + h.2)) h.1) = Sum.inr c → _) ∧ ∀ w, (match nmP tx n 0 3 e.1 with | .inl w => Sum.inl w | .inr h => coR tx n (12 * (4 * e.2 + h.2)) h.1) = Sum.inl w → _)
      cases hp2 : nmP tx n 0 3 e.1 with
      | inl w' => exact ⟨fun c hc => (by cases hc), fun w hw => by cases hw; exact hh2.2 _ hp2⟩
      | inr e2 =>
        have he2 := hh2.1 _ hp2
        exact pOK.le (by omega) (coR_ok _ he2.2)
  · split
    · next h => exact pOK.le (by omega) (coN_ok _ (show rn (qB tx) n a + 5 ≤ n from hsW_le h2 h))
    · split
      · next h => exact pOK.le (by omega) (coN_ok _ (show rn (qB tx) n a + 4 ≤ n from hsW_le h2 h))
      · split
        · next h => exact pOK.le (by omega) (coN_ok _ (show rn (qB tx) n a + 4 ≤ n from hsW_le h2 h))
        · exact ⟨fun c hc => (by cases hc), fun w hw => by cases hw; exact h2⟩
/-- the row m is set -/
def rowS (S : Nat → Nat → Int) (w : Nat → Int) : Nat → Nat → Int := fun h k => if h = 1 then w k else S h k
theorem rowS_at (S : Nat → Nat → Int) (w : Nat → Int) (h k : Nat) : rowS S w h k = if h = 1 then w k else S h k := rfl
theorem rowS_id (S : Nat → Nat → Int) (z f d : Int) : rowS (pS S z f d) (S 1) = pS S z f d := by
  funext h k
  grind [rowS_at, pS_at]
theorem rowS_up (S : Nat → Nat → Int) (z f d v : Int) (ix : Nat) : mm_up (pS S z f d) 1 ix v = rowS (pS S z f d) (fun k => if k = ix then v else S 1 k) := by
  funext h k
  grind [rowS_at, pS_at, up_eq]
theorem nmP_f {tx : Nat → Int} {n a : Nat} {lo hi : Int} (e : fgB tx n (rn (qB tx) n a) lo hi = true) : nmP tx n lo hi a = .inl (rn (qB tx) n a) := by unfold nmP; rw [if_pos e]
theorem nmP_s {tx : Nat → Int} {n a : Nat} {lo hi : Int} (e : fgB tx n (rn (qB tx) n a) lo hi = false) : nmP tx n lo hi a = .inr (rn (qD tx) n (rn (qB tx) n a), fgV tx (rn (qB tx) n a) (rn (qD tx) n (rn (qB tx) n a) - rn (qB tx) n a)) := by unfold nmP; rw [if_neg (by rw [e]; decide)]
def zX9_courtLine : zz_Sp := fun as M Q X => match as with
  | [.inr (.inr (some h_))] => bif Nat.beq h_ 0 && Nat.beq M.1.1 1 then (∃ (tx_ : Nat → Int) (n_ a_ : Nat), mT M.2.1 tx_ n_ ∧ M.2.1 0 9 = a_ ∧ M.2.1 0 10 = -1 ∧ a_ ≤ n_ ∧ (∀ w_ : Nat, coP tx_ n_ a_ = .inl w_ → ∀ (z_ : Nat) (d_ : Int) (r_ : Nat → Int), z_ ≤ n_ → (∀ k_, 201 ≤ k_ → r_ k_ = M.2.1 1 k_) → Q none (zm (rowS (pS M.2.1 z_ w_ d_) r_) M.2.2.1)) ∧ (∀ c_ : Nat × Rw, coP tx_ n_ a_ = .inr c_ → Q none (zm (rowS (pS M.2.1 c_.1 (-1) (M.2.1 0 11)) (c_.2 (M.2.1 1))) M.2.2.1))) else False
  | _ => False

def zpX9_courtLine : zz_P := [(0, zo_ald 1 0), (1, zo_c 3 (vr 1000)), (3, zo_callv 6 2 8 zX9_has), (6, zo_zifeq 9 141), (9, zo_ald 10 0), (10, zo_c 11 (vi 0)), (11, zo_c 12 (vi 3)), (12, zo_callv 15 3 8 zX9_figures), (15, zo_ist 16 1), (16, zo_ald 17 0), (17, zo_c 18 (vi 0)), (18, zo_c 19 (vi 3)), (19, zo_callv 22 3 8 zX9_figures), (22, zo_ist 23 2), (23, zo_ald 24 0), (24, zo_get 27 8 0 10), (27, zo_c 28 (vi (-1))), (28, zo_ceq false true 31 32), (31, zo_vret), (32, zo_ald 33 0), (33, zo_c 35 (vr 1004)), (35, zo_callv 38 2 8 zX9_has), (38, zo_zifeq 41 45), (41, zo_c 42 (vi 0)), (42, zo_goto 72), (45, zo_ald 46 0), (46, zo_c 48 (vr 1005)), (48, zo_callv 51 2 8 zX9_has), (51, zo_zifeq 54 58), (54, zo_c 55 (vi 1)), (55, zo_goto 72), (58, zo_ald 59 0), (59, zo_c 61 (vr 1006)), (61, zo_callv 64 2 8 zX9_has), (64, zo_zifeq 67 71), (67, zo_c 68 (vi 2)), (68, zo_goto 72), (71, zo_c 72 (vi (-1))), (72, zo_ist 73 3), (73, zo_ild 74 3), (74, zo_c 75 (vi (-1))), (75, zo_cne false true 78 87), (78, zo_ald 79 0), (79, zo_ald 80 0), (80, zo_get 83 8 0 9), (83, zo_callv 86 2 8 zX9_wrong), (86, zo_vret), (87, zo_ild 88 3), (88, zo_c 89 (vi 2)), (89, zo_cne false true 92 102), (92, zo_c 93 (vi 2)), (93, zo_ald 94 0), (94, zo_c 95 (vi 0)), (95, zo_c 97 (vi 9)), (97, zo_callv 100 3 8 zX9_figures), (100, zo_iadd 101), (101, zo_ist 102 3), (102, zo_ald 103 0), (103, zo_c 104 (vi 0)), (104, zo_c 106 (vi 100)), (106, zo_callv 109 3 8 zX9_figures), (109, zo_ist 111 4), (111, zo_ald 112 0), (112, zo_get 115 8 0 10), (115, zo_c 116 (vi (-1))), (116, zo_cne false true 119 138), (119, zo_ald 120 0), (120, zo_get 123 8 2 1), (123, zo_c 124 (vi 0)), (124, zo_c 126 (vi 12)), (126, zo_c 127 (vi 4)), (127, zo_ild 128 1), (128, zo_imul 129), (129, zo_ild 130 2), (130, zo_iadd 131), (131, zo_imul 132), (132, zo_iadd 133), (133, zo_ild 134 3), (134, zo_iadd 135), (135, zo_ild 137 4), (137, zo_iasd 138), (138, zo_goto 228), (141, zo_ald 142 0), (142, zo_c 144 (vr 1001)), (144, zo_callv 147 2 8 zX9_has), (147, zo_zifeq 150 168), (150, zo_ald 151 0), (151, zo_get 154 8 2 1), (154, zo_c 157 (vi 194)), (157, zo_ald 158 0), (158, zo_c 159 (vi 1)), (159, zo_c 161 (vi 6)), (161, zo_callv 164 3 8 zX9_figures), (164, zo_iasc 165 194), (165, zo_goto 228), (168, zo_ald 169 0), (169, zo_c 171 (vr 1002)), (171, zo_callv 174 2 8 zX9_has), (174, zo_zifeq 177 194), (177, zo_ald 178 0), (178, zo_get 181 8 2 1), (181, zo_c 184 (vi 195)), (184, zo_ald 185 0), (185, zo_c 186 (vi 0)), (186, zo_c 187 (vi 2)), (187, zo_callv 190 3 8 zX9_figures), (190, zo_iasc 191 195), (191, zo_goto 228), (194, zo_ald 195 0), (195, zo_c 197 (vr 1003)), (197, zo_callv 200 2 8 zX9_has), (200, zo_zifeq 203 220), (203, zo_ald 204 0), (204, zo_get 207 8 2 1), (207, zo_c 210 (vi 196)), (210, zo_ald 211 0), (211, zo_c 212 (vi 0)), (212, zo_c 213 (vi 1)), (213, zo_callv 216 3 8 zX9_figures), (216, zo_iasc 217 196), (217, zo_goto 228), (220, zo_ald 221 0), (221, zo_ald 222 0), (222, zo_get 225 8 0 9), (225, zo_callv 228 2 8 zX9_wrong), (228, zo_vret)]
theorem ztX9_courtLine {C : mm_C} (G : mm_G C RX9 cX9_courtLine none 5 (mm_rm 31 0 0)) (hnh : mm_nh C) : zz_OKs C zpX9_courtLine :=
  ⟨zz_of (ok_aload_n G dX9_courtLine_0 rfl rfl) (z_ald _ _),
   zz_of (ok_lds G (tx := "rally") (by decide +kernel) dX9_courtLine_1 rfl) (z_cr 3 1000),
   zz_of (ok_callv G hnh (zmX9_has _ G.hst) rfl rfl (RX9, TX9, 32) rfl q1942 q1944 qs45 q93 q1945 (by decide +kernel) ⟨by decide, by decide⟩ dX9_courtLine_3 rfl) (z_callv _ _ _ _),
   zz_of (ok_ifeq G dX9_courtLine_6 rfl rfl) (z_zifeq _ _),
   zz_of (ok_aload_n G dX9_courtLine_9 rfl rfl) (z_ald _ _),
   zz_of (ok_iconst G (v := 0) dX9_courtLine_10 (by decide) rfl) (z_cn 11 0),
   zz_of (ok_iconst G (v := 3) dX9_courtLine_11 (by decide) rfl) (z_cn 12 3),
   zz_of (ok_callv G hnh (zmX9_figures _ G.hst) rfl rfl (RX9, TX9, 32) rfl q1958 q1960 qs46 q93 q1961 (by decide +kernel) ⟨by decide, by decide⟩ dX9_courtLine_12 rfl) (z_callv _ _ _ _),
   zz_of (ok_istore_n G dX9_courtLine_15 rfl rfl (by decide)) (z_ist _ _),
   zz_of (ok_aload_n G dX9_courtLine_16 rfl rfl) (z_ald _ _),
   zz_of (ok_iconst G (v := 0) dX9_courtLine_17 (by decide) rfl) (z_cn 18 0),
   zz_of (ok_iconst G (v := 3) dX9_courtLine_18 (by decide) rfl) (z_cn 19 3),
   zz_of (ok_callv G hnh (zmX9_figures _ G.hst) rfl rfl (RX9, TX9, 32) rfl q1958 q1960 qs46 q93 q1961 (by decide +kernel) ⟨by decide, by decide⟩ dX9_courtLine_19 rfl) (z_callv _ _ _ _),
   zz_of (ok_istore_n G dX9_courtLine_22 rfl rfl (by decide)) (z_ist _ _),
   zz_of (ok_aload_n G dX9_courtLine_23 rfl rfl) (z_ald _ _),
   zz_of (ok_get G (nx := 27) (ci := 8) (kd := 0) (k := 10) (RX9, TX9, 32) rfl (by decide) rfl q1815 dX9_courtLine_24 rfl) (z_get _ _ _ _),
   zz_of (ok_iconst G (v := (zI (-1))) dX9_courtLine_27 (by decide) rfl) (z_cz 28 (-1)),
   zz_of (ok_ceq G dX9_courtLine_28 rfl rfl) (z_ceq _ _ _ _),
   zz_of (ok_vret G dX9_courtLine_31) (z_vret),
   zz_of (ok_aload_n G dX9_courtLine_32 rfl rfl) (z_ald _ _),
   zz_of (ok_lds G (tx := "won") (by decide +kernel) dX9_courtLine_33 rfl) (z_cr 35 1004),
   zz_of (ok_callv G hnh (zmX9_has _ G.hst) rfl rfl (RX9, TX9, 32) rfl q1942 q1944 qs45 q93 q1945 (by decide +kernel) ⟨by decide, by decide⟩ dX9_courtLine_35 rfl) (z_callv _ _ _ _),
   zz_of (ok_ifeq G dX9_courtLine_38 rfl rfl) (z_zifeq _ _),
   zz_of (ok_iconst G (v := 0) dX9_courtLine_41 (by decide) rfl) (z_cn 42 0),
   zz_of (ok_goto G dX9_courtLine_42 rfl) (z_goto _),
   zz_of (ok_aload_n G dX9_courtLine_45 rfl rfl) (z_ald _ _),
   zz_of (ok_lds G (tx := "lost") (by decide +kernel) dX9_courtLine_46 rfl) (z_cr 48 1005),
   zz_of (ok_callv G hnh (zmX9_has _ G.hst) rfl rfl (RX9, TX9, 32) rfl q1942 q1944 qs45 q93 q1945 (by decide +kernel) ⟨by decide, by decide⟩ dX9_courtLine_48 rfl) (z_callv _ _ _ _),
   zz_of (ok_ifeq G dX9_courtLine_51 rfl rfl) (z_zifeq _ _),
   zz_of (ok_iconst G (v := 1) dX9_courtLine_54 (by decide) rfl) (z_cn 55 1),
   zz_of (ok_goto G dX9_courtLine_55 rfl) (z_goto _),
   zz_of (ok_aload_n G dX9_courtLine_58 rfl rfl) (z_ald _ _),
   zz_of (ok_lds G (tx := "dead") (by decide +kernel) dX9_courtLine_59 rfl) (z_cr 61 1006),
   zz_of (ok_callv G hnh (zmX9_has _ G.hst) rfl rfl (RX9, TX9, 32) rfl q1942 q1944 qs45 q93 q1945 (by decide +kernel) ⟨by decide, by decide⟩ dX9_courtLine_61 rfl) (z_callv _ _ _ _),
   zz_of (ok_ifeq G dX9_courtLine_64 rfl rfl) (z_zifeq _ _),
   zz_of (ok_iconst G (v := 2) dX9_courtLine_67 (by decide) rfl) (z_cn 68 2),
   zz_of (ok_goto G dX9_courtLine_68 rfl) (z_goto _),
   zz_of (ok_iconst G (v := (zI (-1))) dX9_courtLine_71 (by decide) rfl) (z_cz 72 (-1)),
   zz_of (ok_istore_n G dX9_courtLine_72 rfl rfl (by decide)) (z_ist _ _),
   zz_of (ok_iload_n G dX9_courtLine_73 rfl rfl) (z_ild _ _),
   zz_of (ok_iconst G (v := (zI (-1))) dX9_courtLine_74 (by decide) rfl) (z_cz 75 (-1)),
   zz_of (ok_cne G dX9_courtLine_75 rfl rfl) (z_cne _ _ _ _),
   zz_of (ok_aload_n G dX9_courtLine_78 rfl rfl) (z_ald _ _),
   zz_of (ok_aload_n G dX9_courtLine_79 rfl rfl) (z_ald _ _),
   zz_of (ok_get G (nx := 83) (ci := 8) (kd := 0) (k := 9) (RX9, TX9, 32) rfl (by decide) rfl q1814 dX9_courtLine_80 rfl) (z_get _ _ _ _),
   zz_of (ok_callv G hnh (zmX9_wrong _ G.hst) rfl rfl (RX9, TX9, 32) rfl q1933 q1935 qs43 q93 q1936 (by decide +kernel) ⟨by decide, by decide⟩ dX9_courtLine_83 rfl) (z_callv _ _ _ _),
   zz_of (ok_vret G dX9_courtLine_86) (z_vret),
   zz_of (ok_iload_n G dX9_courtLine_87 rfl rfl) (z_ild _ _),
   zz_of (ok_iconst G (v := 2) dX9_courtLine_88 (by decide) rfl) (z_cn 89 2),
   zz_of (ok_cne G dX9_courtLine_89 rfl rfl) (z_cne _ _ _ _),
   zz_of (ok_iconst G (v := 2) dX9_courtLine_92 (by decide) rfl) (z_cn 93 2),
   zz_of (ok_aload_n G dX9_courtLine_93 rfl rfl) (z_ald _ _),
   zz_of (ok_iconst G (v := 0) dX9_courtLine_94 (by decide) rfl) (z_cn 95 0),
   zz_of (ok_bipush G (v := 9) dX9_courtLine_95 (by decide) rfl) (z_cn 97 9),
   zz_of (ok_callv G hnh (zmX9_figures _ G.hst) rfl rfl (RX9, TX9, 32) rfl q1958 q1960 qs46 q93 q1961 (by decide +kernel) ⟨by decide, by decide⟩ dX9_courtLine_97 rfl) (z_callv _ _ _ _),
   zz_of (ok_iadd G dX9_courtLine_100 rfl) (z_iadd _),
   zz_of (ok_istore_n G dX9_courtLine_101 rfl rfl (by decide)) (z_ist _ _),
   zz_of (ok_aload_n G dX9_courtLine_102 rfl rfl) (z_ald _ _),
   zz_of (ok_iconst G (v := 0) dX9_courtLine_103 (by decide) rfl) (z_cn 104 0),
   zz_of (ok_bipush G (v := 100) dX9_courtLine_104 (by decide) rfl) (z_cn 106 100),
   zz_of (ok_callv G hnh (zmX9_figures _ G.hst) rfl rfl (RX9, TX9, 32) rfl q1958 q1960 qs46 q93 q1961 (by decide +kernel) ⟨by decide, by decide⟩ dX9_courtLine_106 rfl) (z_callv _ _ _ _),
   zz_of (ok_istore G dX9_courtLine_109 rfl (by decide)) (z_ist _ _),
   zz_of (ok_aload_n G dX9_courtLine_111 rfl rfl) (z_ald _ _),
   zz_of (ok_get G (nx := 115) (ci := 8) (kd := 0) (k := 10) (RX9, TX9, 32) rfl (by decide) rfl q1815 dX9_courtLine_112 rfl) (z_get _ _ _ _),
   zz_of (ok_iconst G (v := (zI (-1))) dX9_courtLine_115 (by decide) rfl) (z_cz 116 (-1)),
   zz_of (ok_cne G dX9_courtLine_116 rfl rfl) (z_cne _ _ _ _),
   zz_of (ok_aload_n G dX9_courtLine_119 rfl rfl) (z_ald _ _),
   zz_of (ok_get G (nx := 123) (ci := 8) (kd := 2) (k := 1) (RX9, TX9, 32) rfl (by decide) rfl q1806 dX9_courtLine_120 rfl) (z_get _ _ _ _),
   zz_of (ok_iconst G (v := 0) dX9_courtLine_123 (by decide) rfl) (z_cn 124 0),
   zz_of (ok_bipush G (v := 12) dX9_courtLine_124 (by decide) rfl) (z_cn 126 12),
   zz_of (ok_iconst G (v := 4) dX9_courtLine_126 (by decide) rfl) (z_cn 127 4),
   zz_of (ok_iload_n G dX9_courtLine_127 rfl rfl) (z_ild _ _),
   zz_of (ok_imul G dX9_courtLine_128 rfl) (z_imul _),
   zz_of (ok_iload_n G dX9_courtLine_129 rfl rfl) (z_ild _ _),
   zz_of (ok_iadd G dX9_courtLine_130 rfl) (z_iadd _),
   zz_of (ok_imul G dX9_courtLine_131 rfl) (z_imul _),
   zz_of (ok_iadd G dX9_courtLine_132 rfl) (z_iadd _),
   zz_of (ok_iload_n G dX9_courtLine_133 rfl rfl) (z_ild _ _),
   zz_of (ok_iadd G dX9_courtLine_134 rfl) (z_iadd _),
   zz_of (ok_iload G dX9_courtLine_135 rfl) (z_ild _ _),
   zz_of (ok_iast G dX9_courtLine_137 rfl) (z_iasd _),
   zz_of (ok_goto G dX9_courtLine_138 rfl) (z_goto _),
   zz_of (ok_aload_n G dX9_courtLine_141 rfl rfl) (z_ald _ _),
   zz_of (ok_lds G (tx := "games") (by decide +kernel) dX9_courtLine_142 rfl) (z_cr 144 1001),
   zz_of (ok_callv G hnh (zmX9_has _ G.hst) rfl rfl (RX9, TX9, 32) rfl q1942 q1944 qs45 q93 q1945 (by decide +kernel) ⟨by decide, by decide⟩ dX9_courtLine_144 rfl) (z_callv _ _ _ _),
   zz_of (ok_ifeq G dX9_courtLine_147 rfl rfl) (z_zifeq _ _),
   zz_of (ok_aload_n G dX9_courtLine_150 rfl rfl) (z_ald _ _),
   zz_of (ok_get G (nx := 154) (ci := 8) (kd := 2) (k := 1) (RX9, TX9, 32) rfl (by decide) rfl q1806 dX9_courtLine_151 rfl) (z_get _ _ _ _),
   zz_of (ok_sipush G (v := 194) dX9_courtLine_154 (by decide) rfl) (z_cn 157 194),
   zz_of (ok_aload_n G dX9_courtLine_157 rfl rfl) (z_ald _ _),
   zz_of (ok_iconst G (v := 1) dX9_courtLine_158 (by decide) rfl) (z_cn 159 1),
   zz_of (ok_bipush G (v := 6) dX9_courtLine_159 (by decide) rfl) (z_cn 161 6),
   zz_of (ok_callv G hnh (zmX9_figures _ G.hst) rfl rfl (RX9, TX9, 32) rfl q1958 q1960 qs46 q93 q1961 (by decide +kernel) ⟨by decide, by decide⟩ dX9_courtLine_161 rfl) (z_callv _ _ _ _),
   zz_of (ok_iast G dX9_courtLine_164 rfl) (z_iasc _ _),
   zz_of (ok_goto G dX9_courtLine_165 rfl) (z_goto _),
   zz_of (ok_aload_n G dX9_courtLine_168 rfl rfl) (z_ald _ _),
   zz_of (ok_lds G (tx := "club") (by decide +kernel) dX9_courtLine_169 rfl) (z_cr 171 1002),
   zz_of (ok_callv G hnh (zmX9_has _ G.hst) rfl rfl (RX9, TX9, 32) rfl q1942 q1944 qs45 q93 q1945 (by decide +kernel) ⟨by decide, by decide⟩ dX9_courtLine_171 rfl) (z_callv _ _ _ _),
   zz_of (ok_ifeq G dX9_courtLine_174 rfl rfl) (z_zifeq _ _),
   zz_of (ok_aload_n G dX9_courtLine_177 rfl rfl) (z_ald _ _),
   zz_of (ok_get G (nx := 181) (ci := 8) (kd := 2) (k := 1) (RX9, TX9, 32) rfl (by decide) rfl q1806 dX9_courtLine_178 rfl) (z_get _ _ _ _),
   zz_of (ok_sipush G (v := 195) dX9_courtLine_181 (by decide) rfl) (z_cn 184 195),
   zz_of (ok_aload_n G dX9_courtLine_184 rfl rfl) (z_ald _ _),
   zz_of (ok_iconst G (v := 0) dX9_courtLine_185 (by decide) rfl) (z_cn 186 0),
   zz_of (ok_iconst G (v := 2) dX9_courtLine_186 (by decide) rfl) (z_cn 187 2),
   zz_of (ok_callv G hnh (zmX9_figures _ G.hst) rfl rfl (RX9, TX9, 32) rfl q1958 q1960 qs46 q93 q1961 (by decide +kernel) ⟨by decide, by decide⟩ dX9_courtLine_187 rfl) (z_callv _ _ _ _),
   zz_of (ok_iast G dX9_courtLine_190 rfl) (z_iasc _ _),
   zz_of (ok_goto G dX9_courtLine_191 rfl) (z_goto _),
   zz_of (ok_aload_n G dX9_courtLine_194 rfl rfl) (z_ald _ _),
   zz_of (ok_lds G (tx := "even") (by decide +kernel) dX9_courtLine_195 rfl) (z_cr 197 1003),
   zz_of (ok_callv G hnh (zmX9_has _ G.hst) rfl rfl (RX9, TX9, 32) rfl q1942 q1944 qs45 q93 q1945 (by decide +kernel) ⟨by decide, by decide⟩ dX9_courtLine_197 rfl) (z_callv _ _ _ _),
   zz_of (ok_ifeq G dX9_courtLine_200 rfl rfl) (z_zifeq _ _),
   zz_of (ok_aload_n G dX9_courtLine_203 rfl rfl) (z_ald _ _),
   zz_of (ok_get G (nx := 207) (ci := 8) (kd := 2) (k := 1) (RX9, TX9, 32) rfl (by decide) rfl q1806 dX9_courtLine_204 rfl) (z_get _ _ _ _),
   zz_of (ok_sipush G (v := 196) dX9_courtLine_207 (by decide) rfl) (z_cn 210 196),
   zz_of (ok_aload_n G dX9_courtLine_210 rfl rfl) (z_ald _ _),
   zz_of (ok_iconst G (v := 0) dX9_courtLine_211 (by decide) rfl) (z_cn 212 0),
   zz_of (ok_iconst G (v := 1) dX9_courtLine_212 (by decide) rfl) (z_cn 213 1),
   zz_of (ok_callv G hnh (zmX9_figures _ G.hst) rfl rfl (RX9, TX9, 32) rfl q1958 q1960 qs46 q93 q1961 (by decide +kernel) ⟨by decide, by decide⟩ dX9_courtLine_213 rfl) (z_callv _ _ _ _),
   zz_of (ok_iast G dX9_courtLine_216 rfl) (z_iasc _ _),
   zz_of (ok_goto G dX9_courtLine_217 rfl) (z_goto _),
   zz_of (ok_aload_n G dX9_courtLine_220 rfl rfl) (z_ald _ _),
   zz_of (ok_aload_n G dX9_courtLine_221 rfl rfl) (z_ald _ _),
   zz_of (ok_get G (nx := 225) (ci := 8) (kd := 0) (k := 9) (RX9, TX9, 32) rfl (by decide) rfl q1814 dX9_courtLine_222 rfl) (z_get _ _ _ _),
   zz_of (ok_callv G hnh (zmX9_wrong _ G.hst) rfl rfl (RX9, TX9, 32) rfl q1933 q1935 qs43 q93 q1936 (by decide +kernel) ⟨by decide, by decide⟩ dX9_courtLine_225 rfl) (z_callv _ _ _ _),
   zz_of (ok_vret G dX9_courtLine_228) (z_vret), trivial⟩

theorem zwX9_courtLine_0 {Q : Option zv → zz_M → Prop} {X : Nat → zz_M → Prop} {S L : Nat → Nat → Int}  (h : (∃ (tx_1 : Nat → Int) (n_1 a_1 j_1 : Nat), 1000 = 1000 + j_1 ∧ j_1 < 18 ∧ mT S tx_1 n_1 ∧ S 0 9 = a_1 ∧ a_1 ≤ n_1 ∧ (hsW tx_1 n_1 (rn (qB tx_1) n_1 a_1) (wo j_1) = true → ((R32 ((mm_up S 0 9 ((rn (qB tx_1) n_1 a_1 + (wo j_1).length : Nat) : Int)) 0 10) ∧ 0 ≤ (mm_up S 0 9 ((rn (qB tx_1) n_1 a_1 + (wo j_1).length : Nat) : Int)) 0 9 ∧ R32 (0 : Int) ∧ R32 (3 : Int) ∧ ((mm_up S 0 9 ((rn (qB tx_1) n_1 a_1 + (wo j_1).length : Nat) : Int)) 0 10 ≠ -1 → (zz_J zpX9_courtLine (zz_ret Q X 0 0) 16 [some (vr 0), some (vi 0), none, none, none] [] (zm (mm_up S 0 9 ((rn (qB tx_1) n_1 a_1 + (wo j_1).length : Nat) : Int)) L) (0, 0))) ∧ ((mm_up S 0 9 ((rn (qB tx_1) n_1 a_1 + (wo j_1).length : Nat) : Int)) 0 10 = -1 → ∃ (tx_2 : Nat → Int) (n_2 a_2 : Nat), mT (mm_up S 0 9 ((rn (qB tx_1) n_1 a_1 + (wo j_1).length : Nat) : Int)) tx_2 n_2 ∧ (mm_up S 0 9 ((rn (qB tx_1) n_1 a_1 + (wo j_1).length : Nat) : Int)) 0 9 = a_2 ∧ a_2 ≤ n_2 ∧ (fgB tx_2 n_2 (rn (qB tx_2) n_2 a_2) (0 : Int) (3 : Int) = true → ∀ (v_2 : Int) (z_2 : Nat), z_2 ≤ n_2 → (zz_J zpX9_courtLine (zz_ret Q X 0 0) 16 [some (vr 0), some (vi v_2), none, none, none] [] (zm (pS (mm_up S 0 9 ((rn (qB tx_1) n_1 a_1 + (wo j_1).length : Nat) : Int)) z_2 (rn (qB tx_2) n_2 a_2 : Nat) ((mm_up S 0 9 ((rn (qB tx_1) n_1 a_1 + (wo j_1).length : Nat) : Int)) 0 11)) L) (0, 0))) ∧ (fgB tx_2 n_2 (rn (qB tx_2) n_2 a_2) (0 : Int) (3 : Int) = false → (zz_J zpX9_courtLine (zz_ret Q X 0 0) 16 [some (vr 0), some (vi (fgV tx_2 (rn (qB tx_2) n_2 a_2) (rn (qD tx_2) n_2 (rn (qB tx_2) n_2 a_2) - rn (qB tx_2) n_2 a_2))), none, none, none] [] (zm (pS (mm_up S 0 9 ((rn (qB tx_1) n_1 a_1 + (wo j_1).length : Nat) : Int)) (rn (qD tx_2) n_2 (rn (qB tx_2) n_2 a_2) : Nat) (-1) ((mm_up S 0 9 ((rn (qB tx_1) n_1 a_1 + (wo j_1).length : Nat) : Int)) 0 11)) L) (0, 0))))))) ∧ (hsW tx_1 n_1 (rn (qB tx_1) n_1 a_1) (wo j_1) = false → (zz_J zpX9_courtLine (zz_ret Q X 0 0) 141 [some (vr 0), none, none, none, none] [] (zm (mm_up S 0 9 ((rn (qB tx_1) n_1 a_1 : Nat) : Int)) L) (0, 0))))) : zz_J zpX9_courtLine (zz_ret Q X 0 0) 0 [some (vr 0), none, none, none, none] [] (zm S L) (0, 0) := zz_J.go [(16, [2, 3, 4]), (23, [3, 4]), (32, [3, 4]), (73, [4]), (102, [4]), (111, []), (141, [1, 2, 3, 4]), (168, [1, 2, 3, 4]), (194, [1, 2, 3, 4])] 400 h
theorem zwX9_courtLine_16 {Q : Option zv → zz_M → Prop} {X : Nat → zz_M → Prop} {S L : Nat → Nat → Int} {x1 : Int} (h : (R32 (S 0 10) ∧ 0 ≤ S 0 9 ∧ R32 (0 : Int) ∧ R32 (3 : Int) ∧ (S 0 10 ≠ -1 → (zz_J zpX9_courtLine (zz_ret Q X 0 0) 23 [some (vr 0), some (vi x1), some (vi 0), none, none] [] (zm S L) (0, 0))) ∧ (S 0 10 = -1 → ∃ (tx_1 : Nat → Int) (n_1 a_1 : Nat), mT S tx_1 n_1 ∧ S 0 9 = a_1 ∧ a_1 ≤ n_1 ∧ (fgB tx_1 n_1 (rn (qB tx_1) n_1 a_1) (0 : Int) (3 : Int) = true → ∀ (v_1 : Int) (z_1 : Nat), z_1 ≤ n_1 → (zz_J zpX9_courtLine (zz_ret Q X 0 0) 23 [some (vr 0), some (vi x1), some (vi v_1), none, none] [] (zm (pS S z_1 (rn (qB tx_1) n_1 a_1 : Nat) (S 0 11)) L) (0, 0))) ∧ (fgB tx_1 n_1 (rn (qB tx_1) n_1 a_1) (0 : Int) (3 : Int) = false → (zz_J zpX9_courtLine (zz_ret Q X 0 0) 23 [some (vr 0), some (vi x1), some (vi (fgV tx_1 (rn (qB tx_1) n_1 a_1) (rn (qD tx_1) n_1 (rn (qB tx_1) n_1 a_1) - rn (qB tx_1) n_1 a_1))), none, none] [] (zm (pS S (rn (qD tx_1) n_1 (rn (qB tx_1) n_1 a_1) : Nat) (-1) (S 0 11)) L) (0, 0)))))) : zz_J zpX9_courtLine (zz_ret Q X 0 0) 16 [some (vr 0), some (vi x1), none, none, none] [] (zm S L) (0, 0) := zz_J.go [(16, [2, 3, 4]), (23, [3, 4]), (32, [3, 4]), (73, [4]), (102, [4]), (111, []), (141, [1, 2, 3, 4]), (168, [1, 2, 3, 4]), (194, [1, 2, 3, 4])] 400 h
theorem zwX9_courtLine_23 {Q : Option zv → zz_M → Prop} {X : Nat → zz_M → Prop} {S L : Nat → Nat → Int} {x1 : Int} {x2 : Int} (h : R32 (S 0 10) ∧ (((S 0 10) = (-1) → zz_J zpX9_courtLine (zz_ret Q X 0 0) 32 [some (vr 0), some (vi x1), some (vi x2), none, none] [] (zm S L) (0, 0)) ∧ (¬ (S 0 10) = (-1) → Q none (zm S L)))) : zz_J zpX9_courtLine (zz_ret Q X 0 0) 23 [some (vr 0), some (vi x1), some (vi x2), none, none] [] (zm S L) (0, 0) := zz_J.go [(16, [2, 3, 4]), (23, [3, 4]), (32, [3, 4]), (73, [4]), (102, [4]), (111, []), (141, [1, 2, 3, 4]), (168, [1, 2, 3, 4]), (194, [1, 2, 3, 4])] 400 h
theorem zwX9_courtLine_32 {Q : Option zv → zz_M → Prop} {X : Nat → zz_M → Prop} {S L : Nat → Nat → Int} {x1 : Int} {x2 : Int} (h : (∃ (tx_1 : Nat → Int) (n_1 a_1 j_1 : Nat), 1004 = 1000 + j_1 ∧ j_1 < 18 ∧ mT S tx_1 n_1 ∧ S 0 9 = a_1 ∧ a_1 ≤ n_1 ∧ (hsW tx_1 n_1 (rn (qB tx_1) n_1 a_1) (wo j_1) = true → (zz_J zpX9_courtLine (zz_ret Q X 0 0) 73 [some (vr 0), some (vi x1), some (vi x2), some (vi 0), none] [] (zm (mm_up S 0 9 ((rn (qB tx_1) n_1 a_1 + (wo j_1).length : Nat) : Int)) L) (0, 0))) ∧ (hsW tx_1 n_1 (rn (qB tx_1) n_1 a_1) (wo j_1) = false → ((∃ (tx_2 : Nat → Int) (n_2 a_2 j_2 : Nat), 1005 = 1000 + j_2 ∧ j_2 < 18 ∧ mT (mm_up S 0 9 ((rn (qB tx_1) n_1 a_1 : Nat) : Int)) tx_2 n_2 ∧ (mm_up S 0 9 ((rn (qB tx_1) n_1 a_1 : Nat) : Int)) 0 9 = a_2 ∧ a_2 ≤ n_2 ∧ (hsW tx_2 n_2 (rn (qB tx_2) n_2 a_2) (wo j_2) = true → (zz_J zpX9_courtLine (zz_ret Q X 0 0) 73 [some (vr 0), some (vi x1), some (vi x2), some (vi 1), none] [] (zm (mm_up (mm_up S 0 9 ((rn (qB tx_1) n_1 a_1 : Nat) : Int)) 0 9 ((rn (qB tx_2) n_2 a_2 + (wo j_2).length : Nat) : Int)) L) (0, 0))) ∧ (hsW tx_2 n_2 (rn (qB tx_2) n_2 a_2) (wo j_2) = false → ((∃ (tx_3 : Nat → Int) (n_3 a_3 j_3 : Nat), 1006 = 1000 + j_3 ∧ j_3 < 18 ∧ mT (mm_up (mm_up S 0 9 ((rn (qB tx_1) n_1 a_1 : Nat) : Int)) 0 9 ((rn (qB tx_2) n_2 a_2 : Nat) : Int)) tx_3 n_3 ∧ (mm_up (mm_up S 0 9 ((rn (qB tx_1) n_1 a_1 : Nat) : Int)) 0 9 ((rn (qB tx_2) n_2 a_2 : Nat) : Int)) 0 9 = a_3 ∧ a_3 ≤ n_3 ∧ (hsW tx_3 n_3 (rn (qB tx_3) n_3 a_3) (wo j_3) = true → (zz_J zpX9_courtLine (zz_ret Q X 0 0) 73 [some (vr 0), some (vi x1), some (vi x2), some (vi 2), none] [] (zm (mm_up (mm_up (mm_up S 0 9 ((rn (qB tx_1) n_1 a_1 : Nat) : Int)) 0 9 ((rn (qB tx_2) n_2 a_2 : Nat) : Int)) 0 9 ((rn (qB tx_3) n_3 a_3 + (wo j_3).length : Nat) : Int)) L) (0, 0))) ∧ (hsW tx_3 n_3 (rn (qB tx_3) n_3 a_3) (wo j_3) = false → (zz_J zpX9_courtLine (zz_ret Q X 0 0) 73 [some (vr 0), some (vi x1), some (vi x2), some (vi (-1)), none] [] (zm (mm_up (mm_up (mm_up S 0 9 ((rn (qB tx_1) n_1 a_1 : Nat) : Int)) 0 9 ((rn (qB tx_2) n_2 a_2 : Nat) : Int)) 0 9 ((rn (qB tx_3) n_3 a_3 : Nat) : Int)) L) (0, 0))))))))))) : zz_J zpX9_courtLine (zz_ret Q X 0 0) 32 [some (vr 0), some (vi x1), some (vi x2), none, none] [] (zm S L) (0, 0) := zz_J.go [(16, [2, 3, 4]), (23, [3, 4]), (32, [3, 4]), (73, [4]), (102, [4]), (111, []), (141, [1, 2, 3, 4]), (168, [1, 2, 3, 4]), (194, [1, 2, 3, 4])] 400 h
theorem zwX9_courtLine_73 {Q : Option zv → zz_M → Prop} {X : Nat → zz_M → Prop} {S L : Nat → Nat → Int} {x1 : Int} {x2 : Int} {x3 : Int} (h : R32 x3 ∧ ((¬ x3 = (-1) → R32 x3 ∧ ((¬ x3 = 2 → zz_J zpX9_courtLine (zz_ret Q X 0 0) 102 [some (vr 0), some (vi x1), some (vi x2), some (vi x3), none] [] (zm S L) (0, 0)) ∧ (x3 = 2 → (R32 (S 0 10) ∧ 0 ≤ S 0 9 ∧ R32 (0 : Int) ∧ R32 (9 : Int) ∧ (S 0 10 ≠ -1 → (zz_J zpX9_courtLine (zz_ret Q X 0 0) 102 [some (vr 0), some (vi x1), some (vi x2), some (vi ((2 : Int) + 0)), none] [] (zm S L) (0, 0))) ∧ (S 0 10 = -1 → ∃ (tx_1 : Nat → Int) (n_1 a_1 : Nat), mT S tx_1 n_1 ∧ S 0 9 = a_1 ∧ a_1 ≤ n_1 ∧ (fgB tx_1 n_1 (rn (qB tx_1) n_1 a_1) (0 : Int) (9 : Int) = true → ∀ (v_1 : Int) (z_1 : Nat), z_1 ≤ n_1 → (zz_J zpX9_courtLine (zz_ret Q X 0 0) 102 [some (vr 0), some (vi x1), some (vi x2), some (vi (2 + v_1)), none] [] (zm (pS S z_1 (rn (qB tx_1) n_1 a_1 : Nat) (S 0 11)) L) (0, 0))) ∧ (fgB tx_1 n_1 (rn (qB tx_1) n_1 a_1) (0 : Int) (9 : Int) = false → (zz_J zpX9_courtLine (zz_ret Q X 0 0) 102 [some (vr 0), some (vi x1), some (vi x2), some (vi (2 + (fgV tx_1 (rn (qB tx_1) n_1 a_1) (rn (qD tx_1) n_1 (rn (qB tx_1) n_1 a_1) - rn (qB tx_1) n_1 a_1)))), none] [] (zm (pS S (rn (qD tx_1) n_1 (rn (qB tx_1) n_1 a_1) : Nat) (-1) (S 0 11)) L) (0, 0)))))))) ∧ (x3 = (-1) → (R32 (S 0 10) ∧ (Q none (zm (mm_up S 0 10 (wrF (S 0 10) (S 0 9))) L)))))) : zz_J zpX9_courtLine (zz_ret Q X 0 0) 73 [some (vr 0), some (vi x1), some (vi x2), some (vi x3), none] [] (zm S L) (0, 0) := zz_J.go [(16, [2, 3, 4]), (23, [3, 4]), (32, [3, 4]), (73, [4]), (102, [4]), (111, []), (141, [1, 2, 3, 4]), (168, [1, 2, 3, 4]), (194, [1, 2, 3, 4])] 400 h
theorem zwX9_courtLine_102 {Q : Option zv → zz_M → Prop} {X : Nat → zz_M → Prop} {S L : Nat → Nat → Int} {x1 : Int} {x2 : Int} {x3 : Int} (h : (R32 (S 0 10) ∧ 0 ≤ S 0 9 ∧ R32 (0 : Int) ∧ R32 (100 : Int) ∧ (S 0 10 ≠ -1 → (zz_J zpX9_courtLine (zz_ret Q X 0 0) 111 [some (vr 0), some (vi x1), some (vi x2), some (vi x3), some (vi 0)] [] (zm S L) (0, 0))) ∧ (S 0 10 = -1 → ∃ (tx_1 : Nat → Int) (n_1 a_1 : Nat), mT S tx_1 n_1 ∧ S 0 9 = a_1 ∧ a_1 ≤ n_1 ∧ (fgB tx_1 n_1 (rn (qB tx_1) n_1 a_1) (0 : Int) (100 : Int) = true → ∀ (v_1 : Int) (z_1 : Nat), z_1 ≤ n_1 → (zz_J zpX9_courtLine (zz_ret Q X 0 0) 111 [some (vr 0), some (vi x1), some (vi x2), some (vi x3), some (vi v_1)] [] (zm (pS S z_1 (rn (qB tx_1) n_1 a_1 : Nat) (S 0 11)) L) (0, 0))) ∧ (fgB tx_1 n_1 (rn (qB tx_1) n_1 a_1) (0 : Int) (100 : Int) = false → (zz_J zpX9_courtLine (zz_ret Q X 0 0) 111 [some (vr 0), some (vi x1), some (vi x2), some (vi x3), some (vi (fgV tx_1 (rn (qB tx_1) n_1 a_1) (rn (qD tx_1) n_1 (rn (qB tx_1) n_1 a_1) - rn (qB tx_1) n_1 a_1)))] [] (zm (pS S (rn (qD tx_1) n_1 (rn (qB tx_1) n_1 a_1) : Nat) (-1) (S 0 11)) L) (0, 0)))))) : zz_J zpX9_courtLine (zz_ret Q X 0 0) 102 [some (vr 0), some (vi x1), some (vi x2), some (vi x3), none] [] (zm S L) (0, 0) := zz_J.go [(16, [2, 3, 4]), (23, [3, 4]), (32, [3, 4]), (73, [4]), (102, [4]), (111, []), (141, [1, 2, 3, 4]), (168, [1, 2, 3, 4]), (194, [1, 2, 3, 4])] 400 h
theorem zwX9_courtLine_111 {Q : Option zv → zz_M → Prop} {X : Nat → zz_M → Prop} {S L : Nat → Nat → Int} {x1 : Int} {x2 : Int} {x3 : Int} {x4 : Int} (h : R32 (S 0 10) ∧ ((¬ (S 0 10) = (-1) → Q none (zm S L)) ∧ ((S 0 10) = (-1) → (0 ≤ ((0 + (12 * ((4 * x1) + x2))) + x3) ∧ ((0 + (12 * ((4 * x1) + x2))) + x3) < 2616) ∧ (Q none (zm (mm_up S 1 (((0 + (12 * ((4 * x1) + x2))) + x3).toNat) x4) L))))) : zz_J zpX9_courtLine (zz_ret Q X 0 0) 111 [some (vr 0), some (vi x1), some (vi x2), some (vi x3), some (vi x4)] [] (zm S L) (0, 0) := zz_J.go [(16, [2, 3, 4]), (23, [3, 4]), (32, [3, 4]), (73, [4]), (102, [4]), (111, []), (141, [1, 2, 3, 4]), (168, [1, 2, 3, 4]), (194, [1, 2, 3, 4])] 400 h
theorem zwX9_courtLine_141 {Q : Option zv → zz_M → Prop} {X : Nat → zz_M → Prop} {S L : Nat → Nat → Int}  (h : (∃ (tx_1 : Nat → Int) (n_1 a_1 j_1 : Nat), 1001 = 1000 + j_1 ∧ j_1 < 18 ∧ mT S tx_1 n_1 ∧ S 0 9 = a_1 ∧ a_1 ≤ n_1 ∧ (hsW tx_1 n_1 (rn (qB tx_1) n_1 a_1) (wo j_1) = true → ((R32 ((mm_up S 0 9 ((rn (qB tx_1) n_1 a_1 + (wo j_1).length : Nat) : Int)) 0 10) ∧ 0 ≤ (mm_up S 0 9 ((rn (qB tx_1) n_1 a_1 + (wo j_1).length : Nat) : Int)) 0 9 ∧ R32 (1 : Int) ∧ R32 (6 : Int) ∧ ((mm_up S 0 9 ((rn (qB tx_1) n_1 a_1 + (wo j_1).length : Nat) : Int)) 0 10 ≠ -1 → (Q none (zm (mm_up (mm_up S 0 9 ((rn (qB tx_1) n_1 a_1 + (wo j_1).length : Nat) : Int)) 1 194 0) L))) ∧ ((mm_up S 0 9 ((rn (qB tx_1) n_1 a_1 + (wo j_1).length : Nat) : Int)) 0 10 = -1 → ∃ (tx_2 : Nat → Int) (n_2 a_2 : Nat), mT (mm_up S 0 9 ((rn (qB tx_1) n_1 a_1 + (wo j_1).length : Nat) : Int)) tx_2 n_2 ∧ (mm_up S 0 9 ((rn (qB tx_1) n_1 a_1 + (wo j_1).length : Nat) : Int)) 0 9 = a_2 ∧ a_2 ≤ n_2 ∧ (fgB tx_2 n_2 (rn (qB tx_2) n_2 a_2) (1 : Int) (6 : Int) = true → ∀ (v_2 : Int) (z_2 : Nat), z_2 ≤ n_2 → (Q none (zm (mm_up (pS (mm_up S 0 9 ((rn (qB tx_1) n_1 a_1 + (wo j_1).length : Nat) : Int)) z_2 (rn (qB tx_2) n_2 a_2 : Nat) ((mm_up S 0 9 ((rn (qB tx_1) n_1 a_1 + (wo j_1).length : Nat) : Int)) 0 11)) 1 194 v_2) L))) ∧ (fgB tx_2 n_2 (rn (qB tx_2) n_2 a_2) (1 : Int) (6 : Int) = false → (Q none (zm (mm_up (pS (mm_up S 0 9 ((rn (qB tx_1) n_1 a_1 + (wo j_1).length : Nat) : Int)) (rn (qD tx_2) n_2 (rn (qB tx_2) n_2 a_2) : Nat) (-1) ((mm_up S 0 9 ((rn (qB tx_1) n_1 a_1 + (wo j_1).length : Nat) : Int)) 0 11)) 1 194 (fgV tx_2 (rn (qB tx_2) n_2 a_2) (rn (qD tx_2) n_2 (rn (qB tx_2) n_2 a_2) - rn (qB tx_2) n_2 a_2))) L))))))) ∧ (hsW tx_1 n_1 (rn (qB tx_1) n_1 a_1) (wo j_1) = false → (zz_J zpX9_courtLine (zz_ret Q X 0 0) 168 [some (vr 0), none, none, none, none] [] (zm (mm_up S 0 9 ((rn (qB tx_1) n_1 a_1 : Nat) : Int)) L) (0, 0))))) : zz_J zpX9_courtLine (zz_ret Q X 0 0) 141 [some (vr 0), none, none, none, none] [] (zm S L) (0, 0) := zz_J.go [(16, [2, 3, 4]), (23, [3, 4]), (32, [3, 4]), (73, [4]), (102, [4]), (111, []), (141, [1, 2, 3, 4]), (168, [1, 2, 3, 4]), (194, [1, 2, 3, 4])] 400 h
theorem zwX9_courtLine_168 {Q : Option zv → zz_M → Prop} {X : Nat → zz_M → Prop} {S L : Nat → Nat → Int}  (h : (∃ (tx_1 : Nat → Int) (n_1 a_1 j_1 : Nat), 1002 = 1000 + j_1 ∧ j_1 < 18 ∧ mT S tx_1 n_1 ∧ S 0 9 = a_1 ∧ a_1 ≤ n_1 ∧ (hsW tx_1 n_1 (rn (qB tx_1) n_1 a_1) (wo j_1) = true → ((R32 ((mm_up S 0 9 ((rn (qB tx_1) n_1 a_1 + (wo j_1).length : Nat) : Int)) 0 10) ∧ 0 ≤ (mm_up S 0 9 ((rn (qB tx_1) n_1 a_1 + (wo j_1).length : Nat) : Int)) 0 9 ∧ R32 (0 : Int) ∧ R32 (2 : Int) ∧ ((mm_up S 0 9 ((rn (qB tx_1) n_1 a_1 + (wo j_1).length : Nat) : Int)) 0 10 ≠ -1 → (Q none (zm (mm_up (mm_up S 0 9 ((rn (qB tx_1) n_1 a_1 + (wo j_1).length : Nat) : Int)) 1 195 0) L))) ∧ ((mm_up S 0 9 ((rn (qB tx_1) n_1 a_1 + (wo j_1).length : Nat) : Int)) 0 10 = -1 → ∃ (tx_2 : Nat → Int) (n_2 a_2 : Nat), mT (mm_up S 0 9 ((rn (qB tx_1) n_1 a_1 + (wo j_1).length : Nat) : Int)) tx_2 n_2 ∧ (mm_up S 0 9 ((rn (qB tx_1) n_1 a_1 + (wo j_1).length : Nat) : Int)) 0 9 = a_2 ∧ a_2 ≤ n_2 ∧ (fgB tx_2 n_2 (rn (qB tx_2) n_2 a_2) (0 : Int) (2 : Int) = true → ∀ (v_2 : Int) (z_2 : Nat), z_2 ≤ n_2 → (Q none (zm (mm_up (pS (mm_up S 0 9 ((rn (qB tx_1) n_1 a_1 + (wo j_1).length : Nat) : Int)) z_2 (rn (qB tx_2) n_2 a_2 : Nat) ((mm_up S 0 9 ((rn (qB tx_1) n_1 a_1 + (wo j_1).length : Nat) : Int)) 0 11)) 1 195 v_2) L))) ∧ (fgB tx_2 n_2 (rn (qB tx_2) n_2 a_2) (0 : Int) (2 : Int) = false → (Q none (zm (mm_up (pS (mm_up S 0 9 ((rn (qB tx_1) n_1 a_1 + (wo j_1).length : Nat) : Int)) (rn (qD tx_2) n_2 (rn (qB tx_2) n_2 a_2) : Nat) (-1) ((mm_up S 0 9 ((rn (qB tx_1) n_1 a_1 + (wo j_1).length : Nat) : Int)) 0 11)) 1 195 (fgV tx_2 (rn (qB tx_2) n_2 a_2) (rn (qD tx_2) n_2 (rn (qB tx_2) n_2 a_2) - rn (qB tx_2) n_2 a_2))) L))))))) ∧ (hsW tx_1 n_1 (rn (qB tx_1) n_1 a_1) (wo j_1) = false → (zz_J zpX9_courtLine (zz_ret Q X 0 0) 194 [some (vr 0), none, none, none, none] [] (zm (mm_up S 0 9 ((rn (qB tx_1) n_1 a_1 : Nat) : Int)) L) (0, 0))))) : zz_J zpX9_courtLine (zz_ret Q X 0 0) 168 [some (vr 0), none, none, none, none] [] (zm S L) (0, 0) := zz_J.go [(16, [2, 3, 4]), (23, [3, 4]), (32, [3, 4]), (73, [4]), (102, [4]), (111, []), (141, [1, 2, 3, 4]), (168, [1, 2, 3, 4]), (194, [1, 2, 3, 4])] 400 h
theorem zwX9_courtLine_194 {Q : Option zv → zz_M → Prop} {X : Nat → zz_M → Prop} {S L : Nat → Nat → Int}  (h : (∃ (tx_1 : Nat → Int) (n_1 a_1 j_1 : Nat), 1003 = 1000 + j_1 ∧ j_1 < 18 ∧ mT S tx_1 n_1 ∧ S 0 9 = a_1 ∧ a_1 ≤ n_1 ∧ (hsW tx_1 n_1 (rn (qB tx_1) n_1 a_1) (wo j_1) = true → ((R32 ((mm_up S 0 9 ((rn (qB tx_1) n_1 a_1 + (wo j_1).length : Nat) : Int)) 0 10) ∧ 0 ≤ (mm_up S 0 9 ((rn (qB tx_1) n_1 a_1 + (wo j_1).length : Nat) : Int)) 0 9 ∧ R32 (0 : Int) ∧ R32 (1 : Int) ∧ ((mm_up S 0 9 ((rn (qB tx_1) n_1 a_1 + (wo j_1).length : Nat) : Int)) 0 10 ≠ -1 → (Q none (zm (mm_up (mm_up S 0 9 ((rn (qB tx_1) n_1 a_1 + (wo j_1).length : Nat) : Int)) 1 196 0) L))) ∧ ((mm_up S 0 9 ((rn (qB tx_1) n_1 a_1 + (wo j_1).length : Nat) : Int)) 0 10 = -1 → ∃ (tx_2 : Nat → Int) (n_2 a_2 : Nat), mT (mm_up S 0 9 ((rn (qB tx_1) n_1 a_1 + (wo j_1).length : Nat) : Int)) tx_2 n_2 ∧ (mm_up S 0 9 ((rn (qB tx_1) n_1 a_1 + (wo j_1).length : Nat) : Int)) 0 9 = a_2 ∧ a_2 ≤ n_2 ∧ (fgB tx_2 n_2 (rn (qB tx_2) n_2 a_2) (0 : Int) (1 : Int) = true → ∀ (v_2 : Int) (z_2 : Nat), z_2 ≤ n_2 → (Q none (zm (mm_up (pS (mm_up S 0 9 ((rn (qB tx_1) n_1 a_1 + (wo j_1).length : Nat) : Int)) z_2 (rn (qB tx_2) n_2 a_2 : Nat) ((mm_up S 0 9 ((rn (qB tx_1) n_1 a_1 + (wo j_1).length : Nat) : Int)) 0 11)) 1 196 v_2) L))) ∧ (fgB tx_2 n_2 (rn (qB tx_2) n_2 a_2) (0 : Int) (1 : Int) = false → (Q none (zm (mm_up (pS (mm_up S 0 9 ((rn (qB tx_1) n_1 a_1 + (wo j_1).length : Nat) : Int)) (rn (qD tx_2) n_2 (rn (qB tx_2) n_2 a_2) : Nat) (-1) ((mm_up S 0 9 ((rn (qB tx_1) n_1 a_1 + (wo j_1).length : Nat) : Int)) 0 11)) 1 196 (fgV tx_2 (rn (qB tx_2) n_2 a_2) (rn (qD tx_2) n_2 (rn (qB tx_2) n_2 a_2) - rn (qB tx_2) n_2 a_2))) L))))))) ∧ (hsW tx_1 n_1 (rn (qB tx_1) n_1 a_1) (wo j_1) = false → ((R32 ((mm_up S 0 9 ((rn (qB tx_1) n_1 a_1 : Nat) : Int)) 0 10) ∧ (Q none (zm (mm_up (mm_up S 0 9 ((rn (qB tx_1) n_1 a_1 : Nat) : Int)) 0 10 (wrF ((mm_up S 0 9 ((rn (qB tx_1) n_1 a_1 : Nat) : Int)) 0 10) ((rn (qB tx_1) n_1 a_1 : Nat) : Int))) L))))))) : zz_J zpX9_courtLine (zz_ret Q X 0 0) 194 [some (vr 0), none, none, none, none] [] (zm S L) (0, 0) := zz_J.go [(16, [2, 3, 4]), (23, [3, 4]), (32, [3, 4]), (73, [4]), (102, [4]), (111, []), (141, [1, 2, 3, 4]), (168, [1, 2, 3, 4]), (194, [1, 2, 3, 4])] 400 h

theorem zmX9_courtLine (l : Launch) (hl : l.stackTraces = false) : mm_Spec l yX9_courtLine (ws_ yX9_courtLine cX9_courtLine 5 none) (mm_rm 31 0 0) (zE zX9_courtLine) := by
  refine zz_Met.J hl (by decide) (fun C G hnh => ztX9_courtLine G hnh) ?_
  rintro as ⟨⟨t_, f⟩, S, L, P⟩ Q X h
  unfold zX9_courtLine at h
  split at h
  rotate_left
  · exact h.elim
  rename_i h_
  obtain ⟨e1_, e2_, h⟩ := mm_and2 h (fun q => q)
  cases mm_beq e1_
  cases mm_beq e2_
  try dsimp only at h
  refine ⟨rfl, ?_⟩
  refine zz_Jev (M' := zm S L) rfl rfl rfl ?_
  obtain ⟨tx, n, a, hT, h9, h10, ha, hq1, hq2⟩ := h
  have hn := hT.1
  generalize hd : S 0 11 = d at hq2
  have hS : S = pS S a (-1) d := by rw [← hd]; exact pS_of h9 h10
  have hb := rn_le (q := qB tx) ha
  have hbb := rn_rn (q := qB tx) ha
  have hf : ∀ (w z : Nat) (d' : Int), coP tx n a = .inl w → z ≤ n → Q none (zm (pS S z w d') L) := by
    intro w z d' e hz
    have := hq1 w e z d' (S 1) hz (fun _ _ => rfl)
    rw [rowS_id] at this
    exact this
  have t111w : ∀ (w z : Nat) (x1 x2 x3 x4 d' : Int), w ≤ n → z ≤ n → coP tx n a = .inl w → zz_J zpX9_courtLine (zz_ret Q X 0 0) 111 [some (vr 0), some (vi x1), some (vi x2), some (vi x3), some (vi x4)] [] (zm (pS S z w d') L) (0, 0) := by
    intro w z x1 x2 x3 x4 d' hw hz e
    refine zwX9_courtLine_111 ?_
    simp only [pS_r10]
    exact ⟨by omega, fun _ => hf w z d' e hz, fun h => by omega⟩
  have t102w : ∀ (w z : Nat) (x1 x2 x3 d' : Int), w ≤ n → z ≤ n → coP tx n a = .inl w → zz_J zpX9_courtLine (zz_ret Q X 0 0) 102 [some (vr 0), some (vi x1), some (vi x2), some (vi x3), none] [] (zm (pS S z w d') L) (0, 0) := by
    intro w z x1 x2 x3 d' hw hz e
    refine zwX9_courtLine_102 ?_
    simp only [pS_r10, pS_r9]
    exact ⟨by omega, by omega, by omega, by omega, fun _ => t111w w z x1 x2 x3 0 d' hw hz e, fun h => by omega⟩
  have t102 : ∀ (k : Nat) (x1 x2 x3 : Int), k ≤ n → 0 ≤ x1 ∧ x1 ≤ 3 → 0 ≤ x2 ∧ x2 ≤ 3 → 0 ≤ x3 ∧ x3 ≤ 11 → coP tx n a = coN tx n 0 100 (12 * (4 * x1 + x2) + x3).toNat k → zz_J zpX9_courtLine (zz_ret Q X 0 0) 102 [some (vr 0), some (vi x1), some (vi x2), some (vi x3), none] [] (zm (pS S k (-1) d) L) (0, 0) := by
    intro k x1 x2 x3 hk b1 b2 b3 e
    unfold coN at e
    refine zwX9_courtLine_102 ?_
    simp only [pS_r10, pS_r9, pS_r11, mT_pS, pS_pS]
    refine ⟨by omega, by omega, by omega, by omega, fun h => absurd rfl h, fun _ => ⟨tx, n, k, hT, rfl, hk, fun c v z hz => ?_, fun c => ?_⟩⟩
    · rw [nmP_f c] at e
      exact t111w _ z x1 x2 x3 v d (rn_le hk) hz e
    · rw [nmP_s c] at e
      have hq := hq2 _ e
      refine zwX9_courtLine_111 ?_
      simp only [pS_r10, rowS_up]
      refine ⟨by omega, fun h => absurd trivial h, fun _ => ⟨by omega, ?_⟩⟩
      rw [show (0 : Int) + 12 * (4 * x1 + x2) + x3 = 12 * (4 * x1 + x2) + x3 by omega]
      exact hq
  have t73 : ∀ (k : Nat) (x1 x2 x3 : Int), k ≤ n → 0 ≤ x1 ∧ x1 ≤ 3 → 0 ≤ x2 ∧ x2 ≤ 3 → ((x3 = 0 ∨ x3 = 1) ∧ coP tx n a = coN tx n 0 100 (12 * (4 * x1 + x2) + x3).toNat k ∨ x3 = 2 ∧ coP tx n a = (match nmP tx n 0 9 k with | .inl w => .inl w | .inr l => coN tx n 0 100 (12 * (4 * x1 + x2) + (2 + l.2)).toNat l.1) ∨ x3 = -1 ∧ coP tx n a = .inl k) → zz_J zpX9_courtLine (zz_ret Q X 0 0) 73 [some (vr 0), some (vi x1), some (vi x2), some (vi x3), none] [] (zm (pS S k (-1) d) L) (0, 0) := by
    intro k x1 x2 x3 hk b1 b2 hx
    refine zwX9_courtLine_73 ?_
    simp only [pS_r10, pS_r9, pS_r11, pS_10, mT_pS, pS_pS, wrF, if_true]
    refine ⟨by omega, fun n1 => ⟨by omega, fun n2 => ?_, fun e2 => ?_⟩, fun e1 => ⟨by omega, ?_⟩⟩
    · rcases hx with ⟨h, e⟩ | ⟨h, -⟩ | ⟨h, -⟩
      · exact t102 k x1 x2 x3 hk b1 b2 (by omega) e
      · omega
      · omega
    · rcases hx with ⟨h, -⟩ | ⟨h, e⟩ | ⟨h, -⟩
      · omega
      · refine ⟨by omega, by omega, by omega, by omega, fun h => absurd rfl h, fun _ => ⟨tx, n, k, hT, rfl, hk, fun c v z hz => ?_, fun c => ?_⟩⟩
        · rw [nmP_f c] at e
          exact t102w _ z x1 x2 _ d (rn_le hk) hz e
        · have hv := nmP_v (nmP_s c)
          have hk2 := (nmP_ok k hk).1 _ (nmP_s c)
          rw [nmP_s c] at e
          exact t102 _ x1 x2 _ hk2.2 b1 b2 (by dsimp only at hv; omega) e
      · omega
    · rcases hx with ⟨h, -⟩ | ⟨h, -⟩ | ⟨-, e⟩
      · omega
      · omega
      · exact hf k k d e hk
  have t32 : ∀ (k : Nat) (x1 x2 : Int), k ≤ n → 0 ≤ x1 ∧ x1 ≤ 3 → 0 ≤ x2 ∧ x2 ≤ 3 → coP tx n a = coR tx n (12 * (4 * x1 + x2)) k → zz_J zpX9_courtLine (zz_ret Q X 0 0) 32 [some (vr 0), some (vi x1), some (vi x2), none, none] [] (zm (pS S k (-1) d) L) (0, 0) := by
    intro k x1 x2 hk b1 b2 e
    unfold coR at e
    have g2 := rn_le (q := qB tx) hk
    have gg := rn_rn (q := qB tx) hk
    refine zwX9_courtLine_32 ?_
    simp only [pS_r10, pS_r9, pS_r11, pS_9, mT_pS, pS_pS]
    refine ⟨tx, n, k, 4, rfl, by decide, hT, rfl, hk, fun c => ?_, fun c => ⟨tx, n, rn (qB tx) n k, 5, rfl, by decide, hT, rfl, g2, ?_⟩⟩
    · rw [if_pos c] at e
      exact t73 _ x1 x2 0 (hsW_le g2 c) b1 b2 (Or.inl ⟨Or.inl rfl, e⟩)
    · rw [gg]
      rw [if_neg (by rw [c]; decide)] at e
      refine ⟨fun c2 => ?_, fun c2 => ⟨tx, n, rn (qB tx) n k, 6, rfl, by decide, hT, rfl, g2, ?_⟩⟩
      · rw [if_pos c2] at e
        exact t73 _ x1 x2 1 (hsW_le g2 c2) b1 b2 (Or.inl ⟨Or.inr rfl, e⟩)
      · rw [gg]
        rw [if_neg (by rw [c2]; decide)] at e
        refine ⟨fun c3 => ?_, fun c3 => ?_⟩
        · rw [if_pos c3] at e
          exact t73 _ x1 x2 2 (hsW_le g2 c3) b1 b2 (Or.inr (Or.inl ⟨rfl, e⟩))
        · rw [if_neg (by rw [c3]; decide)] at e
          exact t73 _ x1 x2 (-1) g2 b1 b2 (Or.inr (Or.inr ⟨rfl, e⟩))
  have t23w : ∀ (w z : Nat) (x1 x2 d' : Int), w ≤ n → z ≤ n → coP tx n a = .inl w → zz_J zpX9_courtLine (zz_ret Q X 0 0) 23 [some (vr 0), some (vi x1), some (vi x2), none, none] [] (zm (pS S z w d') L) (0, 0) := by
    intro w z x1 x2 d' hw hz e
    refine zwX9_courtLine_23 ?_
    simp only [pS_r10]
    exact ⟨by omega, fun h => by omega, fun _ => hf w z d' e hz⟩
  have t16w : ∀ (w z : Nat) (x1 d' : Int), w ≤ n → z ≤ n → coP tx n a = .inl w → zz_J zpX9_courtLine (zz_ret Q X 0 0) 16 [some (vr 0), some (vi x1), none, none, none] [] (zm (pS S z w d') L) (0, 0) := by
    intro w z x1 d' hw hz e
    refine zwX9_courtLine_16 ?_
    simp only [pS_r10, pS_r9]
    exact ⟨by omega, by omega, by omega, by omega, fun _ => t23w w z x1 0 d' hw hz e, fun h => by omega⟩
  have t16 : ∀ (k : Nat) (x1 : Int), k ≤ n → 0 ≤ x1 ∧ x1 ≤ 3 → coP tx n a = (match nmP tx n 0 3 k with | .inl w => .inl w | .inr h => coR tx n (12 * (4 * x1 + h.2)) h.1) → zz_J zpX9_courtLine (zz_ret Q X 0 0) 16 [some (vr 0), some (vi x1), none, none, none] [] (zm (pS S k (-1) d) L) (0, 0) := by
    intro k x1 hk b1 e
    refine zwX9_courtLine_16 ?_
    simp only [pS_r10, pS_r9, pS_r11, mT_pS, pS_pS]
    refine ⟨by omega, by omega, by omega, by omega, fun h => absurd rfl h, fun _ => ⟨tx, n, k, hT, rfl, hk, fun c v z hz => ?_, fun c => ?_⟩⟩
    · rw [nmP_f c] at e
      exact t23w _ z x1 v d (rn_le hk) hz e
    · have hv := nmP_v (nmP_s c)
      have hk2 := (nmP_ok k hk).1 _ (nmP_s c)
      rw [nmP_s c] at e
      refine zwX9_courtLine_23 ?_
      simp only [pS_r10]
      exact ⟨by omega, fun _ => t32 _ x1 _ hk2.2 b1 hv e, fun h => absurd trivial h⟩
  -- a number of the court
  have num : ∀ (k ix : Nat) (lo hi : Int), k ≤ n → ix < 201 → coP tx n a = coN tx n lo hi ix k → (fgB tx n (rn (qB tx) n k) lo hi = true → ∀ (v : Int) (z : Nat), z ≤ n → Q none (zm (mm_up (pS S z (rn (qB tx) n k : Nat) d) 1 ix v) L)) ∧ (fgB tx n (rn (qB tx) n k) lo hi = false → Q none (zm (mm_up (pS S (rn (qD tx) n (rn (qB tx) n k) : Nat) (-1) d) 1 ix (fgV tx (rn (qB tx) n k) (rn (qD tx) n (rn (qB tx) n k) - rn (qB tx) n k))) L)) := by
    intro k ix lo hi hk hix e
    unfold coN at e
    refine ⟨fun c v z hz => ?_, fun c => ?_⟩
    · rw [nmP_f c] at e
      rw [rowS_up]
      exact hq1 _ e z d _ hz (fun j hj => if_neg (by omega))
    · rw [nmP_s c] at e
      rw [rowS_up]
      exact hq2 _ e
  have t194 : coP tx n a = (if hsW tx n (rn (qB tx) n a) (wo 3) = true then coN tx n 0 1 196 (rn (qB tx) n a + 4) else .inl (rn (qB tx) n a)) → zz_J zpX9_courtLine (zz_ret Q X 0 0) 194 [some (vr 0), none, none, none, none] [] (zm (pS S (rn (qB tx) n a : Nat) (-1) d) L) (0, 0) := by
    intro e
    refine zwX9_courtLine_194 ?_
    simp only [pS_r10, pS_r9, pS_r11, pS_9, pS_10, mT_pS, pS_pS, wrF, if_true]
    refine ⟨tx, n, rn (qB tx) n a, 3, rfl, by decide, hT, rfl, hb, ?_⟩
    rw [hbb]
    refine ⟨fun c => ?_, fun c => ⟨by omega, ?_⟩⟩
    · rw [if_pos c] at e
      have h3 : rn (qB tx) n a + 4 ≤ n := hsW_le hb c
      have hN := num _ _ _ _ h3 (by decide) e
      exact ⟨by omega, by omega, by omega, by omega, fun h => absurd rfl h, fun _ => ⟨tx, n, rn (qB tx) n a + 4, hT, rfl, h3, hN.1, hN.2⟩⟩
    · rw [if_neg (by rw [c]; decide)] at e
      exact hf _ _ d e hb
  have t168 : coP tx n a = (if hsW tx n (rn (qB tx) n a) (wo 2) = true then coN tx n 0 2 195 (rn (qB tx) n a + 4) else if hsW tx n (rn (qB tx) n a) (wo 3) = true then coN tx n 0 1 196 (rn (qB tx) n a + 4) else .inl (rn (qB tx) n a)) → zz_J zpX9_courtLine (zz_ret Q X 0 0) 168 [some (vr 0), none, none, none, none] [] (zm (pS S (rn (qB tx) n a : Nat) (-1) d) L) (0, 0) := by
    intro e
    refine zwX9_courtLine_168 ?_
    simp only [pS_r10, pS_r9, pS_r11, pS_9, mT_pS, pS_pS]
    refine ⟨tx, n, rn (qB tx) n a, 2, rfl, by decide, hT, rfl, hb, ?_⟩
    rw [hbb]
    refine ⟨fun c => ?_, fun c => ?_⟩
    · rw [if_pos c] at e
      have h3 : rn (qB tx) n a + 4 ≤ n := hsW_le hb c
      have hN := num _ _ _ _ h3 (by decide) e
      exact ⟨by omega, by omega, by omega, by omega, fun h => absurd rfl h, fun _ => ⟨tx, n, rn (qB tx) n a + 4, hT, rfl, h3, hN.1, hN.2⟩⟩
    · rw [if_neg (by rw [c]; decide)] at e
      exact t194 e
  have t141 : coP tx n a = (if hsW tx n (rn (qB tx) n a) (wo 1) = true then coN tx n 1 6 194 (rn (qB tx) n a + 5) else if hsW tx n (rn (qB tx) n a) (wo 2) = true then coN tx n 0 2 195 (rn (qB tx) n a + 4) else if hsW tx n (rn (qB tx) n a) (wo 3) = true then coN tx n 0 1 196 (rn (qB tx) n a + 4) else .inl (rn (qB tx) n a)) → zz_J zpX9_courtLine (zz_ret Q X 0 0) 141 [some (vr 0), none, none, none, none] [] (zm (pS S (rn (qB tx) n a : Nat) (-1) d) L) (0, 0) := by
    intro e
    refine zwX9_courtLine_141 ?_
    simp only [pS_r10, pS_r9, pS_r11, pS_9, mT_pS, pS_pS]
    refine ⟨tx, n, rn (qB tx) n a, 1, rfl, by decide, hT, rfl, hb, ?_⟩
    rw [hbb]
    refine ⟨fun c => ?_, fun c => ?_⟩
    · rw [if_pos c] at e
      have h3 : rn (qB tx) n a + 5 ≤ n := hsW_le hb c
      have hN := num _ _ _ _ h3 (by decide) e
      exact ⟨by omega, by omega, by omega, by omega, fun h => absurd rfl h, fun _ => ⟨tx, n, rn (qB tx) n a + 5, hT, rfl, h3, hN.1, hN.2⟩⟩
    · rw [if_neg (by rw [c]; decide)] at e
      exact t168 e
  rw [hS]
  refine zwX9_courtLine_0 ?_
  simp only [pS_r10, pS_r9, pS_r11, pS_9, mT_pS, pS_pS]
  refine ⟨tx, n, a, 0, rfl, by decide, hT, rfl, ha, fun c => ?_, fun c => t141 (by unfold coP; rw [if_neg (by rw [c]; decide)])⟩
  have h3 : rn (qB tx) n a + 5 ≤ n := hsW_le hb c
  have e : coP tx n a = (match nmP tx n 0 3 (rn (qB tx) n a + 5) with | .inl w => .inl w | .inr s => match nmP tx n 0 3 s.1 with | .inl w => .inl w | .inr h => coR tx n (12 * (4 * s.2 + h.2)) h.1) := by
    unfold coP
    rw [if_pos c]
  refine ⟨by omega, by omega, by omega, by omega, fun h => absurd rfl h, fun _ => ⟨tx, n, rn (qB tx) n a + 5, hT, rfl, h3, fun c2 v z hz => ?_, fun c2 => ?_⟩⟩
  · rw [nmP_f c2] at e
    exact t16w _ z v d (rn_le h3) hz e
  · have hv := nmP_v (nmP_s c2)
    have hk2 := (nmP_ok _ h3).1 _ (nmP_s c2)
    rw [nmP_s c2] at e
    exact t16 _ _ hk2.2 hv e
