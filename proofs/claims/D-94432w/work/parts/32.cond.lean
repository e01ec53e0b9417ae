/-! ===== the model's methods that read conditions ===== -/
set_option maxRecDepth 100000
def fcS (S : Nat → Nat → Int) : Fc := fun k => if k < 5 then S 5 k else if k = 5 then S 0 13 else if k = 6 then S 0 14 else 0
/-- a reader's end, of an int: wrong at w, or at a place with a value -/
def rdI (S L : Nat → Nat → Int) (n : Nat) (d : Int) (r : Pr (Fc → Int)) (Q : Option Value → mm_M → Prop) : Prop :=
  (∀ w, r = .inl w → ∀ (v : Int) (a' : Nat) (d' : Int), a' ≤ n → Q (some (.int (zI v))) (mZ (pS S a' w d') L)) ∧
  (∀ c, r = .inr c → Q (some (.int (zI (c.2 (fcS S))))) (mZ (pS S c.1 (-1) d) L))
def pX9_part : mm_P := [(0, o_ald 1 0), (1, o_get 4 8 0 10), (4, o_c 5 (.int (zI (-1)))), (5, o_ceq 8 10), (8, o_c 9 (.int 0)), (9, o_iret), (10, o_ald 11 0), (11, o_callv 14 1 8 sX9_skip), (14, o_ald 15 0), (15, o_get 18 8 0 9), (18, o_ald 19 0), (19, o_get 22 8 0 8), (22, o_cge 25 52), (25, o_ald 26 0), (26, o_ald 27 0), (27, o_get 30 8 0 9), (30, o_callv 33 2 8 sX9_letter), (33, o_c 35 (.int 48)), (35, o_c 37 (.int 57)), (37, o_calls 40 3 sX9_isIn), (40, o_ifeq 43 52), (43, o_ald 44 0), (44, o_c 45 (.int 0)), (45, o_c 48 (.int 999)), (48, o_callv 51 3 8 sX9_figures), (51, o_iret), (52, o_ald 53 0), (53, o_c 55 (.ref 1014)), (55, o_callv 58 2 8 sX9_has), (58, o_ifeq 61 65), (61, o_c 62 (.int 0)), (62, o_goto 118), (65, o_ald 66 0), (66, o_c 68 (.ref 1015)), (68, o_callv 71 2 8 sX9_has), (71, o_ifeq 74 78), (74, o_c 75 (.int 1)), (75, o_goto 118), (78, o_ald 79 0), (79, o_c 81 (.ref 1016)), (81, o_callv 84 2 8 sX9_has), (84, o_ifeq 87 91), (87, o_c 88 (.int 2)), (88, o_goto 118), (91, o_ald 92 0), (92, o_c 94 (.ref 1017)), (94, o_callv 97 2 8 sX9_has), (97, o_ifeq 100 104), (100, o_c 101 (.int 3)), (101, o_goto 118), (104, o_ald 105 0), (105, o_c 107 (.ref 1001)), (107, o_callv 110 2 8 sX9_has), (110, o_ifeq 113 117), (113, o_c 114 (.int 4)), (114, o_goto 118), (117, o_c 118 (.int (zI (-1)))), (118, o_ist 119 1), (119, o_ild 120 1), (120, o_c 121 (.int (zI (-1)))), (121, o_cne 124 134), (124, o_ald 125 0), (125, o_ald 126 0), (126, o_get 129 8 0 9), (129, o_callv 132 2 8 sX9_wrong), (132, o_c 133 (.int 0)), (133, o_iret), (134, o_ald 135 0), (135, o_get 138 8 2 12), (138, o_ild 139 1), (139, o_iald 140), (140, o_iret)]
theorem tX9_part {C : mm_C} (G : mm_G C RX9 cX9_part (some .int) 2 (mm_rm 6 0 0)) (hnh : mm_nh C) : mm_OKs C pX9_part :=
  ⟨ok_aload_n G dX9_part_0 rfl rfl,
   ok_get G (RX9, TX9, 32) rfl (by decide) rfl q1815 dX9_part_1 rfl,
   ok_iconst G dX9_part_4 (by decide) rfl,
   ok_ceq G dX9_part_5 rfl rfl,
   ok_iconst G dX9_part_8 (by decide) rfl,
   ok_iret G dX9_part_9,
   ok_aload_n G dX9_part_10 rfl rfl,
   ok_callv G hnh (mX9_skip _ G.hst) rfl rfl (RX9, TX9, 32) rfl q1925 q1927 qs41 q93 q1928 (by decide +kernel) ⟨by decide, by decide⟩ dX9_part_11 rfl,
   ok_aload_n G dX9_part_14 rfl rfl,
   ok_get G (RX9, TX9, 32) rfl (by decide) rfl q1814 dX9_part_15 rfl,
   ok_aload_n G dX9_part_18 rfl rfl,
   ok_get G (RX9, TX9, 32) rfl (by decide) rfl q1813 dX9_part_19 rfl,
   ok_cge G dX9_part_22 rfl rfl,
   ok_aload_n G dX9_part_25 rfl rfl,
   ok_aload_n G dX9_part_26 rfl rfl,
   ok_get G (RX9, TX9, 32) rfl (by decide) rfl q1814 dX9_part_27 rfl,
   ok_callv G hnh (mX9_letter _ G.hst) rfl rfl (RX9, TX9, 32) rfl q1929 q1931 qs42 q93 q1932 (by decide +kernel) ⟨by decide, by decide⟩ dX9_part_30 rfl,
   ok_bipush G dX9_part_33 (by decide) rfl,
   ok_bipush G dX9_part_35 (by decide) rfl,
   ok_calls G hnh (mX9_isIn _ G.hst) rfl rfl q1914 q1915 q93 q1916 (by decide +kernel) ⟨by decide, by decide⟩ dX9_part_37 rfl,
   ok_ifeq G dX9_part_40 rfl rfl,
   ok_aload_n G dX9_part_43 rfl rfl,
   ok_iconst G dX9_part_44 (by decide) rfl,
   ok_sipush G dX9_part_45 (by decide) rfl,
   ok_callv G hnh (mX9_figures _ G.hst) rfl rfl (RX9, TX9, 32) rfl q1958 q1960 qs46 q93 q1961 (by decide +kernel) ⟨by decide, by decide⟩ dX9_part_48 rfl,
   ok_iret G dX9_part_51,
   ok_aload_n G dX9_part_52 rfl rfl,
   ok_lds G (tx := "mine") (by decide +kernel) dX9_part_53 rfl,
   ok_callv G hnh (mX9_has _ G.hst) rfl rfl (RX9, TX9, 32) rfl q1942 q1944 qs45 q93 q1945 (by decide +kernel) ⟨by decide, by decide⟩ dX9_part_55 rfl,
   ok_ifeq G dX9_part_58 rfl rfl,
   ok_iconst G dX9_part_61 (by decide) rfl,
   ok_goto G dX9_part_62 rfl,
   ok_aload_n G dX9_part_65 rfl rfl,
   ok_lds G (tx := "his") (by decide +kernel) dX9_part_66 rfl,
   ok_callv G hnh (mX9_has _ G.hst) rfl rfl (RX9, TX9, 32) rfl q1942 q1944 qs45 q93 q1945 (by decide +kernel) ⟨by decide, by decide⟩ dX9_part_68 rfl,
   ok_ifeq G dX9_part_71 rfl rfl,
   ok_iconst G dX9_part_74 (by decide) rfl,
   ok_goto G dX9_part_75 rfl,
   ok_aload_n G dX9_part_78 rfl rfl,
   ok_lds G (tx := "line") (by decide +kernel) dX9_part_79 rfl,
   ok_callv G hnh (mX9_has _ G.hst) rfl rfl (RX9, TX9, 32) rfl q1942 q1944 qs45 q93 q1945 (by decide +kernel) ⟨by decide, by decide⟩ dX9_part_81 rfl,
   ok_ifeq G dX9_part_84 rfl rfl,
   ok_iconst G dX9_part_87 (by decide) rfl,
   ok_goto G dX9_part_88 rfl,
   ok_aload_n G dX9_part_91 rfl rfl,
   ok_lds G (tx := "chases") (by decide +kernel) dX9_part_92 rfl,
   ok_callv G hnh (mX9_has _ G.hst) rfl rfl (RX9, TX9, 32) rfl q1942 q1944 qs45 q93 q1945 (by decide +kernel) ⟨by decide, by decide⟩ dX9_part_94 rfl,
   ok_ifeq G dX9_part_97 rfl rfl,
   ok_iconst G dX9_part_100 (by decide) rfl,
   ok_goto G dX9_part_101 rfl,
   ok_aload_n G dX9_part_104 rfl rfl,
   ok_lds G (tx := "games") (by decide +kernel) dX9_part_105 rfl,
   ok_callv G hnh (mX9_has _ G.hst) rfl rfl (RX9, TX9, 32) rfl q1942 q1944 qs45 q93 q1945 (by decide +kernel) ⟨by decide, by decide⟩ dX9_part_107 rfl,
   ok_ifeq G dX9_part_110 rfl rfl,
   ok_iconst G dX9_part_113 (by decide) rfl,
   ok_goto G dX9_part_114 rfl,
   ok_iconst G dX9_part_117 (by decide) rfl,
   ok_istore_n G dX9_part_118 rfl rfl (by decide),
   ok_iload_n G dX9_part_119 rfl rfl,
   ok_iconst G dX9_part_120 (by decide) rfl,
   ok_cne G dX9_part_121 rfl rfl,
   ok_aload_n G dX9_part_124 rfl rfl,
   ok_aload_n G dX9_part_125 rfl rfl,
   ok_get G (RX9, TX9, 32) rfl (by decide) rfl q1814 dX9_part_126 rfl,
   ok_callv G hnh (mX9_wrong _ G.hst) rfl rfl (RX9, TX9, 32) rfl q1933 q1935 qs43 q93 q1936 (by decide +kernel) ⟨by decide, by decide⟩ dX9_part_129 rfl,
   ok_iconst G dX9_part_132 (by decide) rfl,
   ok_iret G dX9_part_133,
   ok_aload_n G dX9_part_134 rfl rfl,
   ok_get G (RX9, TX9, 32) rfl (by decide) rfl q1817 dX9_part_135 rfl,
   ok_iload_n G dX9_part_138 rfl rfl,
   ok_iald G dX9_part_139 rfl,
   ok_iret G dX9_part_140, trivial⟩

def sX9_part : mm_Sp := fun as M Q X => ∃ S L tx n, ∃ a : Nat, ∃ d : Int, as = [.ref 0] ∧ M = mZ (pS S a (-1) d) L ∧ mT S tx n ∧ a ≤ n ∧ rdI S L n d (ptP tx n a) Q
theorem mX9_part (l : Launch) (hl : l.stackTraces = false) : mm_Spec l yX9_part (ws_ yX9_part cX9_part 2 (some .int)) (mm_rm 6 0 0) sX9_part := by
  rintro as M Q X ⟨S, L, tx, n, a, d, rfl, rfl, hT, ha, hQ1, hQ2⟩
  have hn := hT.1
  have h8 := hT.2.1
  have hb := rn_le (q := qB tx) ha
  have hbb := rn_rn (q := qB tx) ha
  refine mm_Met.J hl (by decide) (Nat.le_of_ble_eq_true rfl) (fun C G hnh => tX9_part G hnh) (mm_J.go [14] 20 (And.intro (fun _ => ?_) (fun h => absurd (show zI (-1) = zI (-1) from rfl) h)))
  refine ⟨S, L, tx, n, a, -1, d, rfl, rfl, hT, ha, ?_⟩
  unfold ptP at hQ1 hQ2
  generalize rn (qB tx) n a = b at hQ1 hQ2 hb hbb
  have t134 : ∀ (i k : Nat), i < 5 → (Q (some (.int (zI (S 5 i)))) (mZ (pS S (b + k : Nat) (-1) d) L)) → mm_J pX9_part (mm_ret Q X 0 0) 118 [some (.ref 0), none] [.int (zI i)] (mZ (pS S (b + k : Nat) (-1) d) L) (0, 0) := by
    intro i k hi hq
    refine mm_J.go [] 20 (And.intro (fun _ => ⟨(zI_in (by omega) (by omega) (by decide) : vp_in _ 5), ?_, Nat.le_refl _, Nat.le_refl _⟩) (fun h => ?_))
    · show Q (some (.int (zI (S 5 (zI (i : Int)).toNatClampNeg)))) _
      rw [zI_cl (by omega) (by omega), Int.toNat_natCast]
      exact hq
    · have h : zI (i : Int) = zI (-1) := h
      rw [zI_eq (by omega) (by omega) (by omega) (by omega)] at h
      omega
  have hA1 : ∀ j, hsW tx n b (wo j) = true → hsA tx n (rn (qB tx) n b) (wo j) = b + (wo j).length := fun j e => by rw [hbb, hsA, e]; rfl
  have hA0 : ∀ j, hsW tx n b (wo j) = false → hsA tx n (rn (qB tx) n b) (wo j) = b := fun j e => by rw [hbb, hsA, e]; rfl
  have t52 : ¬ (b < n ∧ qD tx b = true) → mm_J pX9_part (mm_ret Q X 0 0) 52 [some (.ref 0), none] [] (mZ (pS S b (-1) d) L) (0, 0) := by
    intro hnd
    rw [if_neg hnd] at hQ1 hQ2
    refine mm_J.go [118, 65] 20 ⟨S, L, tx, n, b, 14, -1, d, by decide, rfl, rfl, hT, hb, And.intro (fun c => ?_) (fun c => ?_)⟩
    rotate_left
    · rw [hbb] at c
      have e := bz1.mp c
      refine mm_Jm (M' := mZ (pS S (b + 4 : Nat) (-1) d) L) (by rw [hA1 14 e]; rfl) (t134 0 4 (by decide) ?_)
      rw [if_pos e] at hQ2
      exact hQ2 _ rfl
    rw [hbb] at c
    have e14 := bz0.mp c
    refine mm_Jm (M' := mZ (pS S b (-1) d) L) (by rw [hA0 14 e14]) ?_
    rw [if_neg (by rw [e14]; decide)] at hQ1 hQ2
    refine mm_J.go [118, 78] 20 ⟨S, L, tx, n, b, 15, -1, d, by decide, rfl, rfl, hT, hb, And.intro (fun c => ?_) (fun c => ?_)⟩
    rotate_left
    · rw [hbb] at c
      have e := bz1.mp c
      refine mm_Jm (M' := mZ (pS S (b + 3 : Nat) (-1) d) L) (by rw [hA1 15 e]; rfl) (t134 1 3 (by decide) ?_)
      rw [if_pos e] at hQ2
      exact hQ2 _ rfl
    rw [hbb] at c
    have e15 := bz0.mp c
    refine mm_Jm (M' := mZ (pS S b (-1) d) L) (by rw [hA0 15 e15]) ?_
    rw [if_neg (by rw [e15]; decide)] at hQ1 hQ2
    refine mm_J.go [118, 91] 20 ⟨S, L, tx, n, b, 16, -1, d, by decide, rfl, rfl, hT, hb, And.intro (fun c => ?_) (fun c => ?_)⟩
    rotate_left
    · rw [hbb] at c
      have e := bz1.mp c
      refine mm_Jm (M' := mZ (pS S (b + 4 : Nat) (-1) d) L) (by rw [hA1 16 e]; rfl) (t134 2 4 (by decide) ?_)
      rw [if_pos e] at hQ2
      exact hQ2 _ rfl
    rw [hbb] at c
    have e16 := bz0.mp c
    refine mm_Jm (M' := mZ (pS S b (-1) d) L) (by rw [hA0 16 e16]) ?_
    rw [if_neg (by rw [e16]; decide)] at hQ1 hQ2
    refine mm_J.go [118, 104] 20 ⟨S, L, tx, n, b, 17, -1, d, by decide, rfl, rfl, hT, hb, And.intro (fun c => ?_) (fun c => ?_)⟩
    rotate_left
    · rw [hbb] at c
      have e := bz1.mp c
      refine mm_Jm (M' := mZ (pS S (b + 6 : Nat) (-1) d) L) (by rw [hA1 17 e]; rfl) (t134 3 6 (by decide) ?_)
      rw [if_pos e] at hQ2
      exact hQ2 _ rfl
    rw [hbb] at c
    have e17 := bz0.mp c
    refine mm_Jm (M' := mZ (pS S b (-1) d) L) (by rw [hA0 17 e17]) ?_
    rw [if_neg (by rw [e17]; decide)] at hQ1 hQ2
    refine mm_J.go [118, 117] 20 ⟨S, L, tx, n, b, 1, -1, d, by decide, rfl, rfl, hT, hb, And.intro (fun c => ?_) (fun c => ?_)⟩
    rotate_left
    · rw [hbb] at c
      have e := bz1.mp c
      refine mm_Jm (M' := mZ (pS S (b + 5 : Nat) (-1) d) L) (by rw [hA1 1 e]; rfl) (t134 4 5 (by decide) ?_)
      rw [if_pos e] at hQ2
      exact hQ2 _ rfl
    rw [hbb] at c
    have e1 := bz0.mp c
    refine mm_Jm (M' := mZ (pS S b (-1) d) L) (by rw [hA0 1 e1]) ?_
    rw [if_neg (by rw [e1]; decide)] at hQ1 hQ2
    refine mm_J.go [] 20 (And.intro (fun h => absurd (show zI (-1) = zI (-1) from rfl) h) (fun _ => ⟨S, L, b, -1, d, b, by decide, rfl, rfl, ?_, Nat.le_refl _, Nat.le_refl _⟩))
    exact mm_Qm (by rw [wrF, if_pos rfl]) (hQ1 b rfl 0 b d hb)
  refine mm_J.go [52] 30 (And.intro (fun h => t52 ?_) (fun h => ?_))
  · have h : zI (S 0 8) ≤ zI (b : Int) := h
    rw [h8, zI_le (by omega) (by omega) (by omega) (by omega)] at h
    exact fun q => absurd q.1 (by omega)
  · have h : ¬ zI (S 0 8) ≤ zI (b : Int) := h
    rw [h8, zI_le (by omega) (by omega) (by omega) (by omega)] at h
    have hx := hT.2.2.1 b (by omega)
    refine ⟨pS S b (-1) d, L, tx, n, b, rfl, rfl, hT.pS _ _ _, by omega, zI (tx b), 48, 57, rfl, And.intro (fun c => t52 ?_) (fun c => ?_)⟩
    · have c := (isin_f (l := 48) (h := 57) ⟨by omega, by omega⟩ (by decide) (by decide)).mp c
      intro q
      have := q.2
      unfold qD at this
      simp only [Bool.and_eq_true, decide_eq_true_eq] at this
      exact c this
    · have c := (isin_t (l := 48) (h := 57) ⟨by omega, by omega⟩ (by decide) (by decide)).mp c
      have hq : b < n ∧ qD tx b = true := ⟨by omega, by unfold qD; simp only [Bool.and_eq_true, decide_eq_true_eq]; exact c⟩
      rw [if_pos hq] at hQ1 hQ2
      refine ⟨S, L, tx, n, b, -1, d, 0, 999, by decide, by decide, by decide, rfl, rfl, fun h => absurd rfl h, fun _ => ⟨hT, hb, fun e v a' ha' => ?_, fun e => ?_⟩⟩
      · rw [hbb] at e
        rw [if_pos e] at hQ1
        rw [hbb]
        exact ⟨hQ1 b rfl v a' d ha', Nat.le_refl _, Nat.le_refl _⟩
      · rw [hbb] at e
        rw [if_neg (by rw [e]; decide)] at hQ2
        rw [hbb]
        exact ⟨hQ2 _ rfl, Nat.le_refl _, Nat.le_refl _⟩
