/-! ===== the model's methods: score, rally, bisque, count, image, back, feed ===== -/
set_option maxRecDepth 100000
def pX9_score : mm_P := [(0, o_ild 1 1), (1, o_c 3 (.int (zI (-3)))), (3, o_c 4 (.int 3)), (4, o_calls 7 3 sX9_isIn), (7, o_ifeq 10 20), (10, o_ild 11 2), (11, o_c 13 (.int (zI (-3)))), (13, o_c 14 (.int 3)), (14, o_calls 17 3 sX9_isIn), (17, o_ifne 20 40), (20, o_ild 21 1), (21, o_c 22 (.int 4)), (22, o_cne 25 30), (25, o_ild 26 2), (26, o_c 27 (.int 3)), (27, o_ceq 30 40), (30, o_ild 31 1), (31, o_c 32 (.int 3)), (32, o_cne 35 44), (35, o_ild 36 2), (36, o_c 37 (.int 4)), (37, o_cne 40 44), (40, o_c 41 (.int 1)), (41, o_goto 45), (44, o_c 45 (.int 0)), (45, o_ist 47 4), (47, o_ald 48 0), (48, o_ild 49 3), (49, o_calls 52 1 sX9_isPlayer), (52, o_ifne 55 59), (55, o_c 56 (.int 1)), (56, o_goto 69), (59, o_ild 61 4), (61, o_ifne 64 68), (64, o_c 65 (.int 2)), (65, o_goto 69), (68, o_c 69 (.int 0)), (69, o_puti 72 8 0), (72, o_ald 73 0), (73, o_get 76 8 0 0), (76, o_ifle 79 80), (79, o_vret), (80, o_ald 81 0), (81, o_get 84 8 2 1), (84, o_c 87 (.int 201)), (87, o_ild 88 1), (88, o_iasc 89 201), (89, o_ald 90 0), (90, o_get 93 8 2 1), (93, o_c 96 (.int 202)), (96, o_ild 97 2), (97, o_iasc 98 202), (98, o_ald 99 0), (99, o_get 102 8 2 1), (102, o_c 105 (.int 203)), (105, o_ild 106 3), (106, o_iasc 107 203), (107, o_ald 108 0), (108, o_get 111 8 2 1), (111, o_c 114 (.int 204)), (114, o_c 115 (.int 0)), (115, o_iasc 116 204), (116, o_ald 117 0), (117, o_get 120 8 2 1), (120, o_c 123 (.int 207)), (123, o_c 124 (.int 0)), (124, o_iasc 125 207), (125, o_vret)]
theorem tX9_score {C : mm_C} (G : mm_G C RX9 cX9_score none 5 (mm_rm 3 0 0)) (hnh : mm_nh C) : mm_OKs C pX9_score :=
  ⟨ok_iload_n G dX9_score_0 rfl rfl,
   ok_bipush G dX9_score_1 (by decide) rfl,
   ok_iconst G dX9_score_3 (by decide) rfl,
   ok_calls G hnh (mX9_isIn _ G.hst) rfl rfl q1914 q1915 q93 q1916 (by decide +kernel) ⟨by decide, by decide⟩ dX9_score_4 rfl,
   ok_ifeq G dX9_score_7 rfl rfl,
   ok_iload_n G dX9_score_10 rfl rfl,
   ok_bipush G dX9_score_11 (by decide) rfl,
   ok_iconst G dX9_score_13 (by decide) rfl,
   ok_calls G hnh (mX9_isIn _ G.hst) rfl rfl q1914 q1915 q93 q1916 (by decide +kernel) ⟨by decide, by decide⟩ dX9_score_14 rfl,
   ok_ifne G dX9_score_17 rfl rfl,
   ok_iload_n G dX9_score_20 rfl rfl,
   ok_iconst G dX9_score_21 (by decide) rfl,
   ok_cne G dX9_score_22 rfl rfl,
   ok_iload_n G dX9_score_25 rfl rfl,
   ok_iconst G dX9_score_26 (by decide) rfl,
   ok_ceq G dX9_score_27 rfl rfl,
   ok_iload_n G dX9_score_30 rfl rfl,
   ok_iconst G dX9_score_31 (by decide) rfl,
   ok_cne G dX9_score_32 rfl rfl,
   ok_iload_n G dX9_score_35 rfl rfl,
   ok_iconst G dX9_score_36 (by decide) rfl,
   ok_cne G dX9_score_37 rfl rfl,
   ok_iconst G dX9_score_40 (by decide) rfl,
   ok_goto G dX9_score_41 rfl,
   ok_iconst G dX9_score_44 (by decide) rfl,
   ok_istore G dX9_score_45 rfl (by decide),
   ok_aload_n G dX9_score_47 rfl rfl,
   ok_iload_n G dX9_score_48 rfl rfl,
   ok_calls G hnh (mX9_isPlayer _ G.hst) rfl rfl q2027 q2028 q93 q2029 (by decide +kernel) ⟨by decide, by decide⟩ dX9_score_49 rfl,
   ok_ifne G dX9_score_52 rfl rfl,
   ok_iconst G dX9_score_55 (by decide) rfl,
   ok_goto G dX9_score_56 rfl,
   ok_iload G dX9_score_59 rfl,
   ok_ifne G dX9_score_61 rfl rfl,
   ok_iconst G dX9_score_64 (by decide) rfl,
   ok_goto G dX9_score_65 rfl,
   ok_iconst G dX9_score_68 (by decide) rfl,
   ok_puti G (idx := 67) (RX9, TX9, 32) rfl (by decide) rfl (mm_pw G (ci := 8) (k := 0) (RX9, TX9, 32) rfl (by decide) rfl q1805 dX9_score_69) rfl,
   ok_aload_n G dX9_score_72 rfl rfl,
   ok_get G (RX9, TX9, 32) rfl (by decide) rfl q1805 dX9_score_73 rfl,
   ok_ifle G dX9_score_76 rfl rfl,
   ok_vret G dX9_score_79,
   ok_aload_n G dX9_score_80 rfl rfl,
   ok_get G (RX9, TX9, 32) rfl (by decide) rfl q1806 dX9_score_81 rfl,
   ok_sipush G dX9_score_84 (by decide) rfl,
   ok_iload_n G dX9_score_87 rfl rfl,
   ok_iasc G dX9_score_88 rfl (by decide),
   ok_aload_n G dX9_score_89 rfl rfl,
   ok_get G (RX9, TX9, 32) rfl (by decide) rfl q1806 dX9_score_90 rfl,
   ok_sipush G dX9_score_93 (by decide) rfl,
   ok_iload_n G dX9_score_96 rfl rfl,
   ok_iasc G dX9_score_97 rfl (by decide),
   ok_aload_n G dX9_score_98 rfl rfl,
   ok_get G (RX9, TX9, 32) rfl (by decide) rfl q1806 dX9_score_99 rfl,
   ok_sipush G dX9_score_102 (by decide) rfl,
   ok_iload_n G dX9_score_105 rfl rfl,
   ok_iasc G dX9_score_106 rfl (by decide),
   ok_aload_n G dX9_score_107 rfl rfl,
   ok_get G (RX9, TX9, 32) rfl (by decide) rfl q1806 dX9_score_108 rfl,
   ok_sipush G dX9_score_111 (by decide) rfl,
   ok_iconst G dX9_score_114 (by decide) rfl,
   ok_iasc G dX9_score_115 rfl (by decide),
   ok_aload_n G dX9_score_116 rfl rfl,
   ok_get G (RX9, TX9, 32) rfl (by decide) rfl q1806 dX9_score_117 rfl,
   ok_sipush G dX9_score_120 (by decide) rfl,
   ok_iconst G dX9_score_123 (by decide) rfl,
   ok_iasc G dX9_score_124 rfl (by decide),
   ok_vret G dX9_score_125, trivial⟩

def isP (a b : Int) : Prop := ((-3 ≤ a ∧ a ≤ 3) ∧ (-3 ≤ b ∧ b ≤ 3)) ∨ (a = 4 ∧ b = 3) ∨ (a = 3 ∧ b = 4)
def scS (S : Nat → Nat → Int) (a b s : Int) : Nat → Nat → Int := mm_up (mm_up (mm_up (mm_up (mm_up (mm_up S 0 0 0) 1 201 a) 1 202 b) 1 203 s) 1 204 0) 1 207 0
def sX9_score : mm_Sp := fun as M Q X => ∃ S L, ∃ a b s : Int, R32 a ∧ R32 b ∧ R32 s ∧ as = [.ref 0, .int (zI a), .int (zI b), .int (zI s)] ∧ M = mZ S L ∧
  (¬ (0 ≤ s ∧ s ≤ 1) → Q none (mZ (mm_up S 0 0 1) L)) ∧ ((0 ≤ s ∧ s ≤ 1) → ¬ isP a b → Q none (mZ (mm_up S 0 0 2) L)) ∧ ((0 ≤ s ∧ s ≤ 1) → isP a b → Q none (mZ (scS S a b s) L))
theorem mX9_score (l : Launch) (hl : l.stackTraces = false) : mm_Spec l yX9_score (ws_ yX9_score cX9_score 5 none) (mm_rm 3 0 0) sX9_score := by
  rintro as M Q X ⟨S, L, a, b, s, ha, hb, hs, rfl, rfl, hQ1, hQ2, hQ0⟩
  have t69 : ∀ (v : Int32) (lv4 : Option Value) (P : Prop), P → ((v = 1 ∧ (P → Q none (mZ (mm_up S 0 0 1) L))) ∨ (v = 2 ∧ (P → Q none (mZ (mm_up S 0 0 2) L)))) → mm_J pX9_score (mm_ret Q X 0 0) 69 [some (.ref 0), some (.int (zI a)), some (.int (zI b)), some (.int (zI s)), lv4] [.int v, .ref 0] (mZ S L) (0, 0) := by
    rintro v lv4 P hP (⟨rfl, h⟩ | ⟨rfl, h⟩)
    · refine mm_J.go [72] 5 ?_
      refine mm_Jm (M' := mZ (mm_up S 0 0 1) L) (by rw [zI_n, mZ_wI]) (mm_J.go [] 40 (And.intro (fun c => ?_) (fun c => ?_)))
      · exact absurd (show (1 : Int32) ≤ 0 from c) (by decide)
      · exact ⟨h hP, Nat.le_refl _, Nat.le_refl _⟩
    · refine mm_J.go [72] 5 ?_
      refine mm_Jm (M' := mZ (mm_up S 0 0 2) L) (by rw [zI_n, mZ_wI]) (mm_J.go [] 40 (And.intro (fun c => ?_) (fun c => ?_)))
      · exact absurd (show (2 : Int32) ≤ 0 from c) (by decide)
      · exact ⟨h hP, Nat.le_refl _, Nat.le_refl _⟩
  have t45 : ∀ v : Int32, ((v = 1 ∧ isP a b) ∨ (v = 0 ∧ ¬ isP a b)) → mm_J pX9_score (mm_ret Q X 0 0) 45 [some (.ref 0), some (.int (zI a)), some (.int (zI b)), some (.int (zI s)), none] [.int v] (mZ S L) (0, 0) := by
    intro v hv
    refine mm_J.go [69] 20 ⟨zI s, rfl, And.intro (fun c => ?_) (fun c => ?_)⟩
    · have c := (isin_t (l := 0) (h := 1) hs (by decide) (by decide)).mp c
      rcases hv with ⟨rfl, h⟩ | ⟨rfl, h⟩
      · refine And.intro (fun _ => ?_) (fun q => absurd (show (1 : Int32) = 0 from q) (by decide))
        refine mm_J.go [72] 5 ?_
        refine mm_Jm (M' := mZ (mm_up S 0 0 0) L) (by rw [zI_n, mZ_wI]) (mm_J.go [] 40 (And.intro (fun f => ?_) (fun f => ?_)))
        · refine ⟨mm_Qm ?_ (hQ0 c h), Nat.le_refl _, Nat.le_refl _⟩
          simp only [zI_n, mZ_wI]
          rfl
        · exact absurd (show (0 : Int32) ≤ 0 by decide) f
      · refine And.intro (fun q => absurd (show (0 : Int32) = 0 from rfl) q) (fun _ => ?_)
        exact t69 2 _ True trivial (Or.inr ⟨rfl, fun _ => hQ2 c h⟩)
    · have c := (isin_f (l := 0) (h := 1) hs (by decide) (by decide)).mp c
      exact t69 1 _ True trivial (Or.inl ⟨rfl, fun _ => hQ1 c⟩)
  have za : ∀ c : Int, R32 c → (zI a = zI c ↔ a = c) := fun c hc => zI_eq ha.1 ha.2 hc.1 hc.2
  have zb : ∀ c : Int, R32 c → (zI b = zI c ↔ b = c) := fun c hc => zI_eq hb.1 hb.2 hc.1 hc.2
  have t20 : ¬ ((-3 ≤ a ∧ a ≤ 3) ∧ (-3 ≤ b ∧ b ≤ 3)) → mm_J pX9_score (mm_ret Q X 0 0) 20 [some (.ref 0), some (.int (zI a)), some (.int (zI b)), some (.int (zI s)), none] [] (mZ S L) (0, 0) := by
    intro hn
    have t30 : ¬ (a = 4 ∧ b = 3) → mm_J pX9_score (mm_ret Q X 0 0) 30 [some (.ref 0), some (.int (zI a)), some (.int (zI b)), some (.int (zI s)), none] [] (mZ S L) (0, 0) := by
      intro hm
      refine mm_J.go [45] 20 (And.intro (fun c => t45 0 (Or.inr ⟨rfl, ?_⟩)) (fun c => And.intro (fun d => t45 0 (Or.inr ⟨rfl, ?_⟩)) (fun d => t45 1 (Or.inl ⟨rfl, ?_⟩))))
      · have c : ¬ a = 3 := fun q => c ((za 3 (by decide)).mpr q)
        unfold isP
        omega
      · have d : ¬ b = 4 := fun q => d ((zb 4 (by decide)).mpr q)
        unfold isP
        omega
      · exact Or.inr (Or.inr ⟨(za 3 (by decide)).mp c, (zb 4 (by decide)).mp d⟩)
    refine mm_J.go [30, 45] 20 (And.intro (fun c => t30 ?_) (fun c => And.intro (fun d => t45 1 (Or.inl ⟨rfl, ?_⟩)) (fun d => t30 ?_)))
    · exact fun q => c ((za 4 (by decide)).mpr q.1)
    · exact Or.inr (Or.inl ⟨(za 4 (by decide)).mp c, (zb 3 (by decide)).mp d⟩)
    · exact fun q => d ((zb 3 (by decide)).mpr q.2)
  refine mm_Met.J hl (by decide) (Nat.le_of_ble_eq_true rfl) (fun C G hnh => tX9_score G hnh) (mm_J.go [20, 45] 30 ?_)
  refine ⟨zI a, zI (-3), 3, rfl, And.intro (fun c => t20 ?_) (fun c => ⟨zI b, zI (-3), 3, rfl, And.intro (fun d => t45 1 (Or.inl ⟨rfl, ?_⟩)) (fun d => t20 ?_)⟩)⟩
  · have c := (isin_f (l := -3) (h := 3) ha (by decide) (by decide)).mp c
    exact fun q => c q.1
  · exact Or.inl ⟨(isin_t (l := -3) (h := 3) ha (by decide) (by decide)).mp c, (isin_t (l := -3) (h := 3) hb (by decide) (by decide)).mp d⟩
  · have d := (isin_f (l := -3) (h := 3) hb (by decide) (by decide)).mp d
    exact fun q => d q.2
def pX9_rally : mm_P := [(0, o_ald 1 0), (1, o_callv 4 1 8 sX9_takes), (4, o_ald 5 0), (5, o_ild 6 1), (6, o_c 7 (.int 2)), (7, o_cne 10 24), (10, o_ild 11 2), (11, o_c 12 (.int 0)), (12, o_c 14 (.int 9)), (14, o_calls 17 3 sX9_isIn), (17, o_ifne 20 24), (20, o_c 21 (.int 1)), (21, o_goto 49), (24, o_ild 25 1), (25, o_c 26 (.int 0)), (26, o_c 27 (.int 2)), (27, o_calls 30 3 sX9_isIn), (30, o_ifne 33 37), (33, o_c 34 (.int 2)), (34, o_goto 49), (37, o_ald 38 0), (38, o_callv 41 1 8 sX9_isOver), (41, o_ifeq 44 48), (44, o_c 45 (.int 3)), (45, o_goto 49), (48, o_c 49 (.int 0)), (49, o_puti 52 8 0), (52, o_ald 53 0), (53, o_get 56 8 0 0), (56, o_ifle 59 61), (59, o_c 60 (.int 0)), (60, o_iret), (61, o_ald 62 0), (62, o_get 65 8 2 16), (65, o_c 66 (.int 2)), (66, o_ialc 67 2), (67, o_ist 68 3), (68, o_ald 69 0), (69, o_ild 70 1), (70, o_c 71 (.int 2)), (71, o_cne 74 80), (74, o_c 75 (.int 2)), (75, o_ild 76 2), (76, o_iadd 77), (77, o_goto 81), (80, o_ild 81 1), (81, o_callv 84 2 8 sX9_rallies), (84, o_ald 85 0), (85, o_callv 88 1 8 sX9_puts), (88, o_ald 89 0), (89, o_get 92 8 0 18), (92, o_c 93 (.int (zI (-1)))), (93, o_cne 96 100), (96, o_c 97 (.int 0)), (97, o_goto 113), (100, o_ald 101 0), (101, o_get 104 8 0 18), (104, o_ild 105 3), (105, o_cne 108 112), (108, o_c 109 (.int 1)), (109, o_goto 113), (112, o_c 113 (.int 2)), (113, o_iret)]
theorem tX9_rally {C : mm_C} (G : mm_G C RX9 cX9_rally (some .int) 4 (mm_rm 4 0 0)) (hnh : mm_nh C) : mm_OKs C pX9_rally :=
  ⟨ok_aload_n G dX9_rally_0 rfl rfl,
   ok_callv G hnh (mX9_takes _ G.hst) rfl rfl (RX9, TX9, 32) rfl q2034 q2036 qs55 q93 q2037 (by decide +kernel) ⟨by decide, by decide⟩ dX9_rally_1 rfl,
   ok_aload_n G dX9_rally_4 rfl rfl,
   ok_iload_n G dX9_rally_5 rfl rfl,
   ok_iconst G dX9_rally_6 (by decide) rfl,
   ok_cne G dX9_rally_7 rfl rfl,
   ok_iload_n G dX9_rally_10 rfl rfl,
   ok_iconst G dX9_rally_11 (by decide) rfl,
   ok_bipush G dX9_rally_12 (by decide) rfl,
   ok_calls G hnh (mX9_isIn _ G.hst) rfl rfl q1914 q1915 q93 q1916 (by decide +kernel) ⟨by decide, by decide⟩ dX9_rally_14 rfl,
   ok_ifne G dX9_rally_17 rfl rfl,
   ok_iconst G dX9_rally_20 (by decide) rfl,
   ok_goto G dX9_rally_21 rfl,
   ok_iload_n G dX9_rally_24 rfl rfl,
   ok_iconst G dX9_rally_25 (by decide) rfl,
   ok_iconst G dX9_rally_26 (by decide) rfl,
   ok_calls G hnh (mX9_isIn _ G.hst) rfl rfl q1914 q1915 q93 q1916 (by decide +kernel) ⟨by decide, by decide⟩ dX9_rally_27 rfl,
   ok_ifne G dX9_rally_30 rfl rfl,
   ok_iconst G dX9_rally_33 (by decide) rfl,
   ok_goto G dX9_rally_34 rfl,
   ok_aload_n G dX9_rally_37 rfl rfl,
   ok_callv G hnh (mX9_isOver _ G.hst) rfl rfl (RX9, TX9, 32) rfl q2070 q2072 qs59 q93 q2073 (by decide +kernel) ⟨by decide, by decide⟩ dX9_rally_38 rfl,
   ok_ifeq G dX9_rally_41 rfl rfl,
   ok_iconst G dX9_rally_44 (by decide) rfl,
   ok_goto G dX9_rally_45 rfl,
   ok_iconst G dX9_rally_48 (by decide) rfl,
   ok_puti G (idx := 67) (RX9, TX9, 32) rfl (by decide) rfl (mm_pw G (ci := 8) (k := 0) (RX9, TX9, 32) rfl (by decide) rfl q1805 dX9_rally_49) rfl,
   ok_aload_n G dX9_rally_52 rfl rfl,
   ok_get G (RX9, TX9, 32) rfl (by decide) rfl q1805 dX9_rally_53 rfl,
   ok_ifle G dX9_rally_56 rfl rfl,
   ok_iconst G dX9_rally_59 (by decide) rfl,
   ok_iret G dX9_rally_60,
   ok_aload_n G dX9_rally_61 rfl rfl,
   ok_get G (RX9, TX9, 32) rfl (by decide) rfl q1821 dX9_rally_62 rfl,
   ok_iconst G dX9_rally_65 (by decide) rfl,
   ok_ialc G dX9_rally_66 rfl (by decide),
   ok_istore_n G dX9_rally_67 rfl rfl (by decide),
   ok_aload_n G dX9_rally_68 rfl rfl,
   ok_iload_n G dX9_rally_69 rfl rfl,
   ok_iconst G dX9_rally_70 (by decide) rfl,
   ok_cne G dX9_rally_71 rfl rfl,
   ok_iconst G dX9_rally_74 (by decide) rfl,
   ok_iload_n G dX9_rally_75 rfl rfl,
   ok_iadd G dX9_rally_76 rfl,
   ok_goto G dX9_rally_77 rfl,
   ok_iload_n G dX9_rally_80 rfl rfl,
   ok_callv G hnh (mX9_rallies _ G.hst) rfl rfl (RX9, TX9, 32) rfl q2074 q2076 qs60 q93 q2077 (by decide +kernel) ⟨by decide, by decide⟩ dX9_rally_81 rfl,
   ok_aload_n G dX9_rally_84 rfl rfl,
   ok_callv G hnh (mX9_puts _ G.hst) rfl rfl (RX9, TX9, 32) rfl q2090 q2092 qs64 q93 q2093 (by decide +kernel) ⟨by decide, by decide⟩ dX9_rally_85 rfl,
   ok_aload_n G dX9_rally_88 rfl rfl,
   ok_get G (RX9, TX9, 32) rfl (by decide) rfl q1823 dX9_rally_89 rfl,
   ok_iconst G dX9_rally_92 (by decide) rfl,
   ok_cne G dX9_rally_93 rfl rfl,
   ok_iconst G dX9_rally_96 (by decide) rfl,
   ok_goto G dX9_rally_97 rfl,
   ok_aload_n G dX9_rally_100 rfl rfl,
   ok_get G (RX9, TX9, 32) rfl (by decide) rfl q1823 dX9_rally_101 rfl,
   ok_iload_n G dX9_rally_104 rfl rfl,
   ok_cne G dX9_rally_105 rfl rfl,
   ok_iconst G dX9_rally_108 (by decide) rfl,
   ok_goto G dX9_rally_109 rfl,
   ok_iconst G dX9_rally_112 (by decide) rfl,
   ok_iret G dX9_rally_113, trivial⟩

def raT (w x : Nat → Int) (how line : Int) : Int := if how = 2 ∧ ¬ (0 ≤ line ∧ line ≤ 9) then 1 else if ¬ (0 ≤ how ∧ how ≤ 2) then 2 else if ovR (w 194) x = true then 3 else 0
def raH (how line : Int) : Int := if how = 2 then 2 + line else how
def raO (w x : Nat → Int) (h : Int) : Int := if rlW w x h = -1 then 0 else if rlW w x h = x 2 then 1 else 2
def raS (S : Nat → Nat → Int) (h : Int) : Nat → Nat → Int := ptS (sx (mm_up (tkS S) 0 0 0) (rlR (S 1) (tkS S 6) h) (rlN (S 1) (tkS S 6) h) (rlW (S 1) (tkS S 6) h))
theorem rlW_01 {w x : Nat → Int} {h : Int} (h01 : x 2 = 0 ∨ x 2 = 1) : rlW w x h = -1 ∨ rlW w x h = 0 ∨ rlW w x h = 1 := by
  unfold rlW
  grind
def sX9_rally : mm_Sp := fun as M Q X => ∃ S L, ∃ how line : Int, R32 how ∧ R32 line ∧ as = [.ref 0, .int (zI how), .int (zI line)] ∧ M = mZ S L ∧ by5 (tkS S 6) ∧ bw (S 1) ∧ (tkS S 6 2 = 0 ∨ tkS S 6 2 = 1) ∧
  (raT (S 1) (tkS S 6) how line ≠ 0 → Q (some (.int 0)) (mZ (mm_up (tkS S) 0 0 (raT (S 1) (tkS S 6) how line)) L)) ∧
  (raT (S 1) (tkS S 6) how line = 0 → Q (some (.int (zI (raO (S 1) (tkS S 6) (raH how line))))) (mZ (raS S (raH how line)) L))
theorem mX9_rally (l : Launch) (hl : l.stackTraces = false) : mm_Spec l yX9_rally (ws_ yX9_rally cX9_rally 4 (some .int)) (mm_rm 4 0 0) sX9_rally := by
  rintro as M Q X ⟨S, L, how, line, hh, hn, rfl, rfl, hb, hw, h01, hQ1, hQ0⟩
  have w4 := hw 194 (by decide) (by decide)
  have zh : zI how = 2 ↔ how = 2 := by rw [zI_n, zI_eq hh.1 hh.2 (by omega) (by omega)]
  have m1 : mm_up (tkS S) 0 0 0 1 = S 1 := by funext k; grind [up_eq, tkS_at]
  have m6 : mm_up (tkS S) 0 0 0 6 = tkS S 6 := by funext k; grind [up_eq, tkS_at]
  have bad : ∀ v : Int, v ≠ 0 → 0 ≤ v → v ≤ 3 → v = raT (S 1) (tkS S 6) how line → mm_J pX9_rally (mm_ret Q X 0 0) 49 [some (.ref 0), some (.int (zI how)), some (.int (zI line)), none] [.int (zI v), .ref 0] (mZ (tkS S) L) (0, 0) := by
    intro v h0 h1 h2 hv
    refine mm_J.go [52] 5 ?_
    refine mm_Jm (M' := mZ (mm_up (tkS S) 0 0 v) L) (mZ_wI _ _ _ _ _) (mm_J.go [] 40 (And.intro (fun c => ?_) (fun c => ?_)))
    · exfalso
      have c : zI v ≤ 0 := c
      rw [zI_n, zI_le (by omega) (by omega) (by omega) (by omega)] at c
      omega
    · subst hv
      exact ⟨hQ1 h0, Nat.le_refl _, Nat.le_refl _⟩
  have good : raT (S 1) (tkS S 6) how line = 0 → mm_J pX9_rally (mm_ret Q X 0 0) 49 [some (.ref 0), some (.int (zI how)), some (.int (zI line)), none] [.int 0, .ref 0] (mZ (tkS S) L) (0, 0) := by
    intro hv
    have hQ := hQ0 hv
    have hr : 0 ≤ raH how line ∧ raH how line ≤ 14 := by
      unfold raT at hv
      unfold raH
      grind
    have t81 : ∀ v : Int32, v = zI (raH how line) → mm_J pX9_rally (mm_ret Q X 0 0) 81 [some (.ref 0), some (.int (zI how)), some (.int (zI line)), some (.int (zI (tkS S 6 2)))] [.int v, .ref 0] (mZ (mm_up (tkS S) 0 0 0) L) (0, 0) := by
      rintro v rfl
      generalize raH how line = h at hQ hr ⊢
      refine mm_J.go [88] 20 ?_
      refine ⟨_, L, h, hr.1, hr.2, rfl, rfl, by rw [m6]; exact hb, by rw [m1]; exact hw, by rw [m6]; exact h01, ?_⟩
      refine ⟨_, L, rfl, rfl, ?_⟩
      rw [m6, m1]
      refine mm_J.go [] 40 ?_
      have e18 : raS S h 0 18 = rlW (S 1) (tkS S 6) h := by
        unfold raS
        rw [ptS_at, if_neg (by simp), sx_18]
      have r01 := rlW_01 (w := S 1) (x := tkS S 6) (h := h) h01
      have f1 : zI (raS S h 0 18) = zI (-1) ↔ rlW (S 1) (tkS S 6) h = -1 := by
        rw [e18]
        exact zI_eq (by omega) (by omega) (by omega) (by omega)
      have f2 : zI (raS S h 0 18) = zI (tkS S 6 2) ↔ rlW (S 1) (tkS S 6) h = tkS S 6 2 := by
        rw [e18]
        exact zI_eq (by omega) (by omega) (by omega) (by omega)
      refine And.intro (fun c => And.intro (fun d => ?_) (fun d => ?_)) (fun c => ?_)
      · have c : ¬ rlW (S 1) (tkS S 6) h = -1 := fun q => c (f1.mpr q)
        have d : ¬ rlW (S 1) (tkS S 6) h = tkS S 6 2 := fun q => d (f2.mpr q)
        have e : raO (S 1) (tkS S 6) h = 2 := by rw [raO, if_neg c, if_neg d]
        rw [e] at hQ
        exact ⟨hQ, Nat.le_refl _, Nat.le_refl _⟩
      · have c : ¬ rlW (S 1) (tkS S 6) h = -1 := fun q => c (f1.mpr q)
        have d := f2.mp d
        have e : raO (S 1) (tkS S 6) h = 1 := by rw [raO, if_neg c, if_pos d]
        rw [e] at hQ
        exact ⟨hQ, Nat.le_refl _, Nat.le_refl _⟩
      · have c := f1.mp c
        have e : raO (S 1) (tkS S 6) h = 0 := by rw [raO, if_pos c]
        rw [e] at hQ
        exact ⟨hQ, Nat.le_refl _, Nat.le_refl _⟩
    refine mm_J.go [52] 5 ?_
    refine mm_Jm (M' := mZ (mm_up (tkS S) 0 0 0) L) (by rw [zI_n, mZ_wI]) (mm_J.go [81] 40 (And.intro (fun c => ?_) (fun c => ?_)))
    · refine And.intro (fun d => ?_) (fun d => ?_)
      · have d : ¬ how = 2 := fun q => d (zh.mpr q)
        exact t81 _ (by rw [raH, if_neg d])
      · have d := zh.mp d
        exact t81 _ (by rw [raH, if_pos d, zI_n, zI_add])
    · exact absurd (show (0 : Int32) ≤ 0 by decide) c
  have t24 : ¬ (how = 2 ∧ ¬ (0 ≤ line ∧ line ≤ 9)) → mm_J pX9_rally (mm_ret Q X 0 0) 24 [some (.ref 0), some (.int (zI how)), some (.int (zI line)), none] [.ref 0] (mZ (tkS S) L) (0, 0) := by
    intro hx
    refine mm_J.go [49] 20 ⟨zI how, 0, 2, rfl, And.intro (fun c => ?_) (fun c => ?_)⟩
    · have c := (isin_t (l := 0) (h := 2) hh (by decide) (by decide)).mp c
      refine ⟨tkS S, L, rfl, rfl, hb.bx, by rw [tkS_1]; omega, by rw [tkS_1]; omega, And.intro (fun d => ?_) (fun d => ?_)⟩
      · rw [bz0, tkS_1] at d
        exact good (by rw [raT, if_neg hx, if_neg (by omega), if_neg (by simp [d])])
      · rw [bz1, tkS_1] at d
        exact bad 3 (by decide) (by decide) (by decide) (by rw [raT, if_neg hx, if_neg (by omega), if_pos d])
    · have c := (isin_f (l := 0) (h := 2) hh (by decide) (by decide)).mp c
      exact bad 2 (by decide) (by decide) (by decide) (by rw [raT, if_neg hx, if_pos c])
  refine mm_Met.J hl (by decide) (Nat.le_of_ble_eq_true rfl) (fun C G hnh => tX9_rally G hnh) (mm_J.go [24, 49] 30 ?_)
  refine ⟨S, L, rfl, rfl, And.intro (fun c => t24 ?_) (fun c => ⟨zI line, 0, 9, rfl, And.intro (fun d => t24 ?_) (fun d => ?_)⟩)⟩
  · exact fun q => c (zh.mpr q.1)
  · have d := (isin_t (l := 0) (h := 9) hn (by decide) (by decide)).mp d
    exact fun q => q.2 d
  · have d := (isin_f (l := 0) (h := 9) hn (by decide) (by decide)).mp d
    exact bad 1 (by decide) (by decide) (by decide) (by rw [raT, if_pos ⟨zh.mp c, d⟩])
def pX9_bisque : mm_P := [(0, o_ald 1 0), (1, o_callv 4 1 8 sX9_takes), (4, o_ald 5 0), (5, o_ild 6 1), (6, o_calls 9 1 sX9_isPlayer), (9, o_ifne 12 16), (12, o_c 13 (.int 1)), (13, o_goto 28), (16, o_ald 17 0), (17, o_callv 20 1 8 sX9_isOver), (20, o_ifeq 23 27), (23, o_c 24 (.int 2)), (24, o_goto 28), (27, o_c 28 (.int 0)), (28, o_puti 31 8 0), (31, o_ald 32 0), (32, o_get 35 8 0 0), (35, o_ifle 38 40), (38, o_c 39 (.int 0)), (39, o_zret), (40, o_ald 41 0), (41, o_ild 42 1), (42, o_callv 45 2 8 sX9_takesBisque), (45, o_ald 46 0), (46, o_callv 49 1 8 sX9_puts), (49, o_ald 50 0), (50, o_get 53 8 0 17), (53, o_c 54 (.int (zI (-1)))), (54, o_ceq 57 61), (57, o_c 58 (.int 1)), (58, o_goto 62), (61, o_c 62 (.int 0)), (62, o_zret)]
theorem tX9_bisque {C : mm_C} (G : mm_G C RX9 cX9_bisque (some .boolean) 2 (mm_rm 4 0 0)) (hnh : mm_nh C) : mm_OKs C pX9_bisque :=
  ⟨ok_aload_n G dX9_bisque_0 rfl rfl,
   ok_callv G hnh (mX9_takes _ G.hst) rfl rfl (RX9, TX9, 32) rfl q2034 q2036 qs55 q93 q2037 (by decide +kernel) ⟨by decide, by decide⟩ dX9_bisque_1 rfl,
   ok_aload_n G dX9_bisque_4 rfl rfl,
   ok_iload_n G dX9_bisque_5 rfl rfl,
   ok_calls G hnh (mX9_isPlayer _ G.hst) rfl rfl q2027 q2028 q93 q2029 (by decide +kernel) ⟨by decide, by decide⟩ dX9_bisque_6 rfl,
   ok_ifne G dX9_bisque_9 rfl rfl,
   ok_iconst G dX9_bisque_12 (by decide) rfl,
   ok_goto G dX9_bisque_13 rfl,
   ok_aload_n G dX9_bisque_16 rfl rfl,
   ok_callv G hnh (mX9_isOver _ G.hst) rfl rfl (RX9, TX9, 32) rfl q2070 q2072 qs59 q93 q2073 (by decide +kernel) ⟨by decide, by decide⟩ dX9_bisque_17 rfl,
   ok_ifeq G dX9_bisque_20 rfl rfl,
   ok_iconst G dX9_bisque_23 (by decide) rfl,
   ok_goto G dX9_bisque_24 rfl,
   ok_iconst G dX9_bisque_27 (by decide) rfl,
   ok_puti G (idx := 67) (RX9, TX9, 32) rfl (by decide) rfl (mm_pw G (ci := 8) (k := 0) (RX9, TX9, 32) rfl (by decide) rfl q1805 dX9_bisque_28) rfl,
   ok_aload_n G dX9_bisque_31 rfl rfl,
   ok_get G (RX9, TX9, 32) rfl (by decide) rfl q1805 dX9_bisque_32 rfl,
   ok_ifle G dX9_bisque_35 rfl rfl,
   ok_iconst G dX9_bisque_38 (by decide) rfl,
   ok_zret G dX9_bisque_39,
   ok_aload_n G dX9_bisque_40 rfl rfl,
   ok_iload_n G dX9_bisque_41 rfl rfl,
   ok_callv G hnh (mX9_takesBisque _ G.hst) rfl rfl (RX9, TX9, 32) rfl q2098 q2100 qs65 q93 q2101 (by decide +kernel) ⟨by decide, by decide⟩ dX9_bisque_42 rfl,
   ok_aload_n G dX9_bisque_45 rfl rfl,
   ok_callv G hnh (mX9_puts _ G.hst) rfl rfl (RX9, TX9, 32) rfl q2090 q2092 qs64 q93 q2093 (by decide +kernel) ⟨by decide, by decide⟩ dX9_bisque_46 rfl,
   ok_aload_n G dX9_bisque_49 rfl rfl,
   ok_get G (RX9, TX9, 32) rfl (by decide) rfl q1822 dX9_bisque_50 rfl,
   ok_iconst G dX9_bisque_53 (by decide) rfl,
   ok_ceq G dX9_bisque_54 rfl rfl,
   ok_iconst G dX9_bisque_57 (by decide) rfl,
   ok_goto G dX9_bisque_58 rfl,
   ok_iconst G dX9_bisque_61 (by decide) rfl,
   ok_zret G dX9_bisque_62, trivial⟩

def bqT (w x : Nat → Int) (p : Int) : Int := if ¬ (0 ≤ p ∧ p ≤ 1) then 1 else if ovR (w 194) x = true then 2 else 0
def bqS (S : Nat → Nat → Int) (p : Nat) : Nat → Nat → Int := ptS (sx (mm_up (tkS S) 0 0 0) (bqR (S 1) (tkS S 6) p) (if ptw (tkS S 6) p = true then (p : Int) else -1) p)
def sX9_bisque : mm_Sp := fun as M Q X => ∃ S L, ∃ p : Int, R32 p ∧ as = [.ref 0, .int (zI p)] ∧ M = mZ S L ∧ by5 (tkS S 6) ∧ bw (S 1) ∧
  (bqT (S 1) (tkS S 6) p ≠ 0 → Q (some (.int 0)) (mZ (mm_up (tkS S) 0 0 (bqT (S 1) (tkS S 6) p)) L)) ∧
  (bqT (S 1) (tkS S 6) p = 0 → Q (some (.int (bz (ptw (tkS S 6) p.toNat)))) (mZ (bqS S p.toNat) L))
theorem mX9_bisque (l : Launch) (hl : l.stackTraces = false) : mm_Spec l yX9_bisque (ws_ yX9_bisque cX9_bisque 2 (some .boolean)) (mm_rm 4 0 0) sX9_bisque := by
  rintro as M Q X ⟨S, L, p, hp, rfl, rfl, hb, hw, hQ1, hQ0⟩
  have w4 := hw 194 (by decide) (by decide)
  have m1 : mm_up (tkS S) 0 0 0 1 = S 1 := by funext k; grind [up_eq, tkS_at]
  have m6 : mm_up (tkS S) 0 0 0 6 = tkS S 6 := by funext k; grind [up_eq, tkS_at]
  have bad : ∀ v : Int, v ≠ 0 → 0 ≤ v → v ≤ 3 → v = bqT (S 1) (tkS S 6) p → mm_J pX9_bisque (mm_ret Q X 0 0) 28 [some (.ref 0), some (.int (zI p))] [.int (zI v), .ref 0] (mZ (tkS S) L) (0, 0) := by
    intro v h0 h1 h2 hv
    refine mm_J.go [31] 5 ?_
    refine mm_Jm (M' := mZ (mm_up (tkS S) 0 0 v) L) (mZ_wI _ _ _ _ _) (mm_J.go [] 40 (And.intro (fun c => ?_) (fun c => ?_)))
    · exfalso
      have c : zI v ≤ 0 := c
      rw [zI_n, zI_le (by omega) (by omega) (by omega) (by omega)] at c
      omega
    · subst hv
      exact ⟨Or.inl rfl, hQ1 h0, Nat.le_refl _, Nat.le_refl _⟩
  refine mm_Met.J hl (by decide) (Nat.le_of_ble_eq_true rfl) (fun C G hnh => tX9_bisque G hnh) (mm_J.go [28] 30 ?_)
  refine ⟨S, L, rfl, rfl, zI p, rfl, And.intro (fun c => ?_) (fun c => ?_)⟩
  · have c := (isin_t (l := 0) (h := 1) hp (by decide) (by decide)).mp c
    refine ⟨tkS S, L, rfl, rfl, hb.bx, by rw [tkS_1]; omega, by rw [tkS_1]; omega, And.intro (fun d => ?_) (fun d => ?_)⟩
    · rw [bz0, tkS_1] at d
      have hv : bqT (S 1) (tkS S 6) p = 0 := by rw [bqT, if_neg (by omega), if_neg (by simp [d])]
      have hQ := hQ0 hv
      obtain ⟨k, hk, rfl⟩ : ∃ k : Nat, k < 2 ∧ p = k := ⟨p.toNat, by omega, by omega⟩
      rw [Int.toNat_natCast] at hQ
      refine mm_J.go [31] 5 ?_
      refine mm_Jm (M' := mZ (mm_up (tkS S) 0 0 0) L) (by rw [zI_n, mZ_wI]) (mm_J.go [49] 40 (And.intro (fun f => ?_) (fun f => ?_)))
      · refine ⟨_, L, k, hk, rfl, rfl, by rw [m6]; exact hb, by rw [m1]; exact hw, _, L, rfl, rfl, ?_⟩
        rw [m6, m1]
        refine mm_J.go [] 20 ?_
        have e17 : bqS S k 0 17 = if ptw (tkS S 6) k = true then (k : Int) else -1 := by
          unfold bqS
          rw [ptS_at, if_neg (by simp), sx_17]
        refine And.intro (fun g => ?_) (fun g => ?_)
        · have g : zI (bqS S k 0 17) = zI (-1) := g
          rw [e17] at g
          by_cases ht : ptw (tkS S 6) k = true
          · rw [if_pos ht, zI_eq (by omega) (by omega) (by omega) (by omega)] at g
            omega
          · exact ⟨Or.inl rfl, bzF hQ (by simpa using ht), Nat.le_refl _, Nat.le_refl _⟩
        · have g : ¬ zI (bqS S k 0 17) = zI (-1) := g
          rw [e17] at g
          by_cases ht : ptw (tkS S 6) k = true
          · exact ⟨Or.inr rfl, bzT hQ ht, Nat.le_refl _, Nat.le_refl _⟩
          · rw [if_neg ht] at g
            exact absurd rfl g
      · exact absurd (show (0 : Int32) ≤ 0 by decide) f
    · rw [bz1, tkS_1] at d
      exact bad 2 (by decide) (by decide) (by decide) (by rw [bqT, if_neg (by omega), if_pos d])
  · have c := (isin_f (l := 0) (h := 1) hp (by decide) (by decide)).mp c
    exact bad 1 (by decide) (by decide) (by decide) (by rw [bqT, if_pos c])
def pX9_count : mm_P := [(0, o_ald 1 0), (1, o_c 2 (.int 0)), (2, o_puti 5 8 0), (5, o_ild 6 1), (6, o_ifne 9 20), (9, o_ald 10 0), (10, o_get 13 8 2 1), (13, o_c 16 (.int 192)), (16, o_ialc 17 192), (17, o_goto 118), (20, o_ild 21 1), (21, o_c 22 (.int 1)), (22, o_cne 25 36), (25, o_ald 26 0), (26, o_get 29 8 2 1), (29, o_c 32 (.int 193)), (32, o_ialc 33 193), (33, o_goto 118), (36, o_ild 37 1), (37, o_c 38 (.int 2)), (38, o_cne 41 52), (41, o_ald 42 0), (42, o_get 45 8 2 1), (45, o_c 48 (.int 194)), (48, o_ialc 49 194), (49, o_goto 118), (52, o_ild 53 1), (53, o_c 54 (.int 3)), (54, o_cne 57 68), (57, o_ald 58 0), (58, o_get 61 8 2 1), (61, o_c 64 (.int 195)), (64, o_ialc 65 195), (65, o_goto 118), (68, o_ild 69 1), (69, o_c 70 (.int 4)), (70, o_cne 73 84), (73, o_ald 74 0), (74, o_get 77 8 2 1), (77, o_c 80 (.int 196)), (80, o_ialc 81 196), (81, o_goto 118), (84, o_ild 85 1), (85, o_c 86 (.int 5)), (86, o_cne 89 100), (89, o_ald 90 0), (90, o_get 93 8 2 1), (93, o_c 96 (.int 197)), (96, o_ialc 97 197), (97, o_goto 118), (100, o_ild 101 1), (101, o_c 103 (.int 6)), (103, o_cne 106 117), (106, o_ald 107 0), (107, o_get 110 8 2 1), (110, o_c 113 (.int 198)), (113, o_ialc 114 198), (114, o_goto 118), (117, o_c 118 (.int (zI (-1)))), (118, o_iret)]
theorem tX9_count {C : mm_C} (G : mm_G C RX9 cX9_count (some .int) 2 (mm_rm 1 0 0)) (hnh : mm_nh C) : mm_OKs C pX9_count :=
  ⟨ok_aload_n G dX9_count_0 rfl rfl,
   ok_iconst G dX9_count_1 (by decide) rfl,
   ok_puti G (idx := 67) (RX9, TX9, 32) rfl (by decide) rfl (mm_pw G (ci := 8) (k := 0) (RX9, TX9, 32) rfl (by decide) rfl q1805 dX9_count_2) rfl,
   ok_iload_n G dX9_count_5 rfl rfl,
   ok_ifne G dX9_count_6 rfl rfl,
   ok_aload_n G dX9_count_9 rfl rfl,
   ok_get G (RX9, TX9, 32) rfl (by decide) rfl q1806 dX9_count_10 rfl,
   ok_sipush G dX9_count_13 (by decide) rfl,
   ok_ialc G dX9_count_16 rfl (by decide),
   ok_goto G dX9_count_17 rfl,
   ok_iload_n G dX9_count_20 rfl rfl,
   ok_iconst G dX9_count_21 (by decide) rfl,
   ok_cne G dX9_count_22 rfl rfl,
   ok_aload_n G dX9_count_25 rfl rfl,
   ok_get G (RX9, TX9, 32) rfl (by decide) rfl q1806 dX9_count_26 rfl,
   ok_sipush G dX9_count_29 (by decide) rfl,
   ok_ialc G dX9_count_32 rfl (by decide),
   ok_goto G dX9_count_33 rfl,
   ok_iload_n G dX9_count_36 rfl rfl,
   ok_iconst G dX9_count_37 (by decide) rfl,
   ok_cne G dX9_count_38 rfl rfl,
   ok_aload_n G dX9_count_41 rfl rfl,
   ok_get G (RX9, TX9, 32) rfl (by decide) rfl q1806 dX9_count_42 rfl,
   ok_sipush G dX9_count_45 (by decide) rfl,
   ok_ialc G dX9_count_48 rfl (by decide),
   ok_goto G dX9_count_49 rfl,
   ok_iload_n G dX9_count_52 rfl rfl,
   ok_iconst G dX9_count_53 (by decide) rfl,
   ok_cne G dX9_count_54 rfl rfl,
   ok_aload_n G dX9_count_57 rfl rfl,
   ok_get G (RX9, TX9, 32) rfl (by decide) rfl q1806 dX9_count_58 rfl,
   ok_sipush G dX9_count_61 (by decide) rfl,
   ok_ialc G dX9_count_64 rfl (by decide),
   ok_goto G dX9_count_65 rfl,
   ok_iload_n G dX9_count_68 rfl rfl,
   ok_iconst G dX9_count_69 (by decide) rfl,
   ok_cne G dX9_count_70 rfl rfl,
   ok_aload_n G dX9_count_73 rfl rfl,
   ok_get G (RX9, TX9, 32) rfl (by decide) rfl q1806 dX9_count_74 rfl,
   ok_sipush G dX9_count_77 (by decide) rfl,
   ok_ialc G dX9_count_80 rfl (by decide),
   ok_goto G dX9_count_81 rfl,
   ok_iload_n G dX9_count_84 rfl rfl,
   ok_iconst G dX9_count_85 (by decide) rfl,
   ok_cne G dX9_count_86 rfl rfl,
   ok_aload_n G dX9_count_89 rfl rfl,
   ok_get G (RX9, TX9, 32) rfl (by decide) rfl q1806 dX9_count_90 rfl,
   ok_sipush G dX9_count_93 (by decide) rfl,
   ok_ialc G dX9_count_96 rfl (by decide),
   ok_goto G dX9_count_97 rfl,
   ok_iload_n G dX9_count_100 rfl rfl,
   ok_bipush G dX9_count_101 (by decide) rfl,
   ok_cne G dX9_count_103 rfl rfl,
   ok_aload_n G dX9_count_106 rfl rfl,
   ok_get G (RX9, TX9, 32) rfl (by decide) rfl q1806 dX9_count_107 rfl,
   ok_sipush G dX9_count_110 (by decide) rfl,
   ok_ialc G dX9_count_113 rfl (by decide),
   ok_goto G dX9_count_114 rfl,
   ok_iconst G dX9_count_117 (by decide) rfl,
   ok_iret G dX9_count_118, trivial⟩

def ctR (w : Nat → Int) (k : Int) : Int := if 0 ≤ k ∧ k ≤ 6 then w (192 + k.toNat) else -1
def sX9_count : mm_Sp := fun as M Q X => ∃ S L, ∃ k : Int, R32 k ∧ as = [.ref 0, .int (zI k)] ∧ M = mZ S L ∧ Q (some (.int (zI (ctR (S 1) k)))) (mZ (mm_up S 0 0 0) L)
theorem mX9_count (l : Launch) (hl : l.stackTraces = false) : mm_Spec l yX9_count (ws_ yX9_count cX9_count 2 (some .int)) (mm_rm 1 0 0) sX9_count := by
  rintro as M Q X ⟨S, L, k, hk, rfl, rfl, hQ⟩
  have zk : ∀ c : Int, R32 c → (zI k = zI c ↔ k = c) := fun c hc => zI_eq hk.1 hk.2 hc.1 hc.2
  have m1 : mm_up S 0 0 0 1 = S 1 := by funext k; grind [up_eq]
  have t : ∀ (v : Int), v = ctR (S 1) k → mm_J pX9_count (mm_ret Q X 0 0) 118 [some (.ref 0), some (.int (zI k))] [.int (zI v)] (mZ (mm_up S 0 0 0) L) (0, 0) := by
    rintro v rfl
    exact mm_J.go [] 3 ⟨hQ, Nat.le_refl _, Nat.le_refl _⟩
  have tt : ∀ (j : Nat), j ≤ 6 → k = j → mm_J pX9_count (mm_ret Q X 0 0) 118 [some (.ref 0), some (.int (zI k))] [.int (zI (mm_up S 0 0 0 1 (192 + j)))] (mZ (mm_up S 0 0 0) L) (0, 0) := by
    intro j hj e
    refine t _ ?_
    rw [m1, ctR, if_pos (by omega), e, Int.toNat_natCast]
  refine mm_Met.J hl (by decide) (Nat.le_of_ble_eq_true rfl) (fun C G hnh => tX9_count G hnh) (mm_J.go [5] 30 ?_)
  refine mm_Jm (M' := mZ (mm_up S 0 0 0) L) (by rw [zI_n, mZ_wI]) (mm_J.go [118] 60 ?_)
  refine And.intro (fun c0 => And.intro (fun c1 => And.intro (fun c2 => And.intro (fun c3 => And.intro (fun c4 => And.intro (fun c5 => And.intro (fun c6 => ?_) (fun c6 => ?_)) (fun c5 => ?_)) (fun c4 => ?_)) (fun c3 => ?_)) (fun c2 => ?_)) (fun c1 => ?_)) (fun c0 => ?_)
  · have d0 : ¬ k = 0 := fun q => c0 ((zk 0 (by decide)).mpr q)
    have d1 : ¬ k = 1 := fun q => c1 ((zk 1 (by decide)).mpr q)
    have d2 : ¬ k = 2 := fun q => c2 ((zk 2 (by decide)).mpr q)
    have d3 : ¬ k = 3 := fun q => c3 ((zk 3 (by decide)).mpr q)
    have d4 : ¬ k = 4 := fun q => c4 ((zk 4 (by decide)).mpr q)
    have d5 : ¬ k = 5 := fun q => c5 ((zk 5 (by decide)).mpr q)
    have d6 : ¬ k = 6 := fun q => c6 ((zk 6 (by decide)).mpr q)
    exact t (-1) (by rw [ctR, if_neg (by omega)])
  · exact tt 6 (by decide) ((zk 6 (by decide)).mp c6)
  · exact tt 5 (by decide) ((zk 5 (by decide)).mp c5)
  · exact tt 4 (by decide) ((zk 4 (by decide)).mp c4)
  · exact tt 3 (by decide) ((zk 3 (by decide)).mp c3)
  · exact tt 2 (by decide) ((zk 2 (by decide)).mp c2)
  · exact tt 1 (by decide) ((zk 1 (by decide)).mp c1)
  · exact tt 0 (by decide) ((zk 0 (by decide)).mp c0)
def pX9_image : mm_P := [(0, o_ald 1 0), (1, o_c 2 (.int 0)), (2, o_puti 5 8 0), (5, o_c 6 (.int 0)), (6, o_ist 7 1), (7, o_ild 8 1), (8, o_c 11 (.int 2616)), (11, o_cge 14 32), (14, o_ald 15 0), (15, o_get 18 8 2 2), (18, o_ild 19 1), (19, o_ald 20 0), (20, o_get 23 8 2 1), (23, o_ild 24 1), (24, o_iald 25), (25, o_iast 26), (26, o_inc 29 1 1), (29, o_goto 7), (32, o_ald 33 0), (33, o_c 34 (.int 1)), (34, o_putz 37 8 3), (37, o_vret)]
theorem tX9_image {C : mm_C} (G : mm_G C RX9 cX9_image none 2 (mm_rm 1 0 0)) (hnh : mm_nh C) : mm_OKs C pX9_image :=
  ⟨ok_aload_n G dX9_image_0 rfl rfl,
   ok_iconst G dX9_image_1 (by decide) rfl,
   ok_puti G (idx := 67) (RX9, TX9, 32) rfl (by decide) rfl (mm_pw G (ci := 8) (k := 0) (RX9, TX9, 32) rfl (by decide) rfl q1805 dX9_image_2) rfl,
   ok_iconst G dX9_image_5 (by decide) rfl,
   ok_istore_n G dX9_image_6 rfl rfl (by decide),
   ok_iload_n G dX9_image_7 rfl rfl,
   ok_sipush G dX9_image_8 (by decide) rfl,
   ok_cge G dX9_image_11 rfl rfl,
   ok_aload_n G dX9_image_14 rfl rfl,
   ok_get G (RX9, TX9, 32) rfl (by decide) rfl q1807 dX9_image_15 rfl,
   ok_iload_n G dX9_image_18 rfl rfl,
   ok_aload_n G dX9_image_19 rfl rfl,
   ok_get G (RX9, TX9, 32) rfl (by decide) rfl q1806 dX9_image_20 rfl,
   ok_iload_n G dX9_image_23 rfl rfl,
   ok_iald G dX9_image_24 rfl,
   ok_iast G dX9_image_25 rfl,
   ok_iinc G dX9_image_26 (by decide) rfl (by decide),
   ok_goto G dX9_image_29 rfl,
   ok_aload_n G dX9_image_32 rfl rfl,
   ok_iconst G dX9_image_33 (by decide) rfl,
   ok_putz G (idx := 309) (RX9, TX9, 32) rfl (by decide) rfl (mm_pw G (ci := 8) (k := 3) (RX9, TX9, 32) rfl (by decide) rfl q1808 dX9_image_34) rfl,
   ok_vret G dX9_image_37, trivial⟩

def imS (S : Nat → Nat → Int) : Nat → Nat → Int := fun h k => if h = 0 ∧ k = 0 then 0 else if h = 0 ∧ k = 3 then 1 else if h = 2 ∧ k < 2616 then S 1 k else S h k
theorem imS_at (S : Nat → Nat → Int) (h k : Nat) : imS S h k = if h = 0 ∧ k = 0 then 0 else if h = 0 ∧ k = 3 then 1 else if h = 2 ∧ k < 2616 then S 1 k else S h k := rfl
def sX9_image : mm_Sp := fun as M Q X => ∃ S L, as = [.ref 0] ∧ M = mZ S L ∧ Q none (mZ (imS S) L)
theorem lX9_image {Q : Option Value → mm_M → Prop} {X : String → mm_M → Prop} {S0 L : Nat → Nat → Int} (hQ : Q none (mZ (imS S0) L)) : ∀ (n i : Nat) (S : Nat → Nat → Int), i + n = 2616 → S = (fun h k => if h = 0 ∧ k = 0 then 0 else if h = 2 ∧ k < i then S0 1 k else S0 h k) → mm_J pX9_image (mm_ret Q X 0 0) 7 [some (.ref 0), some (.int (zI i))] [] (mZ S L) (0, 0)
  | 0, i, S, hi, hS => by
    refine mm_J.go [7] 20 ?_
    have e : i = 2616 := by omega
    refine And.intro (fun h => ?_) (fun h => ?_)
    · refine ⟨Or.inr rfl, mm_Qm ?_ hQ, Nat.le_refl _, Nat.le_refl _⟩
      rw [zI_n, mZ_wI]
      refine mZ_c ?_ rfl
      rw [hS, e]
      funext a b
      grind [up_eq, imS_at]
    · exfalso
      simp (disch := omega) only [zI_n, zI_le] at h
      omega
  | n + 1, i, S, hi, hS => by
    refine mm_J.go [7] 20 ?_
    refine And.intro (fun h => ?_) (fun h => ?_)
    · exfalso
      simp (disch := omega) only [zI_n, zI_le] at h
      omega
    · have v1 : vp_in (zI (i : Int)) 2616 := zI_in (by omega) (by omega) (by decide)
      refine ⟨v1, v1, ?_⟩
      have h1 := lX9_image (X := X) hQ n (i + 1) (mm_up S 2 i (S 1 i)) (by omega) (by
        rw [hS]
        funext h k
        grind [up_eq])
      show mm_J pX9_image (mm_ret Q X 0 0) 7 [some (.ref 0), some (.int (zI i + 1))] [] (mM (mm_up (zS S) 2 (zI i).toNatClampNeg (zI (S 1 (zI i).toNatClampNeg))) (zJ L)) (0, 0)
      rw [zI_n, zI_add, zI_cl (by omega) (by omega), zS_up]
      have e2 : ((i : Int)).toNat = i := by omega
      rw [e2]
      exact h1
theorem mX9_image (l : Launch) (hl : l.stackTraces = false) : mm_Spec l yX9_image (ws_ yX9_image cX9_image 2 none) (mm_rm 1 0 0) sX9_image := by
  rintro as M Q X ⟨S, L, rfl, rfl, hQ⟩
  refine mm_Met.J hl (by decide) (Nat.le_of_ble_eq_true rfl) (fun C G hnh => tX9_image G hnh) (mm_J.go [7] 20 ?_)
  refine mm_Jm (M' := mZ (mm_up S 0 0 0) L) (by rw [zI_n, mZ_wI]) (lX9_image hQ 2616 0 _ rfl (by
    funext h k
    grind [up_eq]))
def pX9_back : mm_P := [(0, o_ald 1 0), (1, o_c 2 (.int 0)), (2, o_puti 5 8 0), (5, o_ald 6 0), (6, o_get 9 8 0 3), (9, o_ifne 12 14), (12, o_c 13 (.int 0)), (13, o_zret), (14, o_c 15 (.int 0)), (15, o_ist 16 1), (16, o_ild 17 1), (17, o_c 20 (.int 2616)), (20, o_cge 23 41), (23, o_ald 24 0), (24, o_get 27 8 2 1), (27, o_ild 28 1), (28, o_ald 29 0), (29, o_get 32 8 2 2), (32, o_ild 33 1), (33, o_iald 34), (34, o_iast 35), (35, o_inc 38 1 1), (38, o_goto 16), (41, o_c 42 (.int 1)), (42, o_zret)]
theorem tX9_back {C : mm_C} (G : mm_G C RX9 cX9_back (some .boolean) 2 (mm_rm 1 0 0)) (hnh : mm_nh C) : mm_OKs C pX9_back :=
  ⟨ok_aload_n G dX9_back_0 rfl rfl,
   ok_iconst G dX9_back_1 (by decide) rfl,
   ok_puti G (idx := 67) (RX9, TX9, 32) rfl (by decide) rfl (mm_pw G (ci := 8) (k := 0) (RX9, TX9, 32) rfl (by decide) rfl q1805 dX9_back_2) rfl,
   ok_aload_n G dX9_back_5 rfl rfl,
   ok_get G (RX9, TX9, 32) rfl (by decide) rfl q1808 dX9_back_6 rfl,
   ok_ifne G dX9_back_9 rfl rfl,
   ok_iconst G dX9_back_12 (by decide) rfl,
   ok_zret G dX9_back_13,
   ok_iconst G dX9_back_14 (by decide) rfl,
   ok_istore_n G dX9_back_15 rfl rfl (by decide),
   ok_iload_n G dX9_back_16 rfl rfl,
   ok_sipush G dX9_back_17 (by decide) rfl,
   ok_cge G dX9_back_20 rfl rfl,
   ok_aload_n G dX9_back_23 rfl rfl,
   ok_get G (RX9, TX9, 32) rfl (by decide) rfl q1806 dX9_back_24 rfl,
   ok_iload_n G dX9_back_27 rfl rfl,
   ok_aload_n G dX9_back_28 rfl rfl,
   ok_get G (RX9, TX9, 32) rfl (by decide) rfl q1807 dX9_back_29 rfl,
   ok_iload_n G dX9_back_32 rfl rfl,
   ok_iald G dX9_back_33 rfl,
   ok_iast G dX9_back_34 rfl,
   ok_iinc G dX9_back_35 (by decide) rfl (by decide),
   ok_goto G dX9_back_38 rfl,
   ok_iconst G dX9_back_41 (by decide) rfl,
   ok_zret G dX9_back_42, trivial⟩

def bkS (S : Nat → Nat → Int) : Nat → Nat → Int := fun h k => if h = 0 ∧ k = 0 then 0 else if h = 1 ∧ k < 2616 then S 2 k else S h k
theorem bkS_at (S : Nat → Nat → Int) (h k : Nat) : bkS S h k = if h = 0 ∧ k = 0 then 0 else if h = 1 ∧ k < 2616 then S 2 k else S h k := rfl
def sX9_back : mm_Sp := fun as M Q X => ∃ S L, as = [.ref 0] ∧ M = mZ S L ∧ R32 (S 0 3) ∧ (S 0 3 = 0 → Q (some (.int 0)) (mZ (mm_up S 0 0 0) L)) ∧ (S 0 3 ≠ 0 → Q (some (.int 1)) (mZ (bkS S) L))
theorem lX9_back {Q : Option Value → mm_M → Prop} {X : String → mm_M → Prop} {S0 L : Nat → Nat → Int} (hQ : Q (some (.int 1)) (mZ (bkS S0) L)) : ∀ (n i : Nat) (S : Nat → Nat → Int), i + n = 2616 → S = (fun h k => if h = 0 ∧ k = 0 then 0 else if h = 1 ∧ k < i then S0 2 k else S0 h k) → mm_J pX9_back (mm_ret Q X 0 0) 16 [some (.ref 0), some (.int (zI i))] [] (mZ S L) (0, 0)
  | 0, i, S, hi, hS => by
    refine mm_J.go [16] 20 ?_
    have e : i = 2616 := by omega
    refine And.intro (fun h => ?_) (fun h => ?_)
    · refine ⟨Or.inr rfl, ?_, Nat.le_refl _, Nat.le_refl _⟩
      rw [hS, e]
      exact hQ
    · exfalso
      simp (disch := omega) only [zI_n, zI_le] at h
      omega
  | n + 1, i, S, hi, hS => by
    refine mm_J.go [16] 20 ?_
    refine And.intro (fun h => ?_) (fun h => ?_)
    · exfalso
      simp (disch := omega) only [zI_n, zI_le] at h
      omega
    · have v1 : vp_in (zI (i : Int)) 2616 := zI_in (by omega) (by omega) (by decide)
      refine ⟨v1, v1, ?_⟩
      have h1 := lX9_back (X := X) hQ n (i + 1) (mm_up S 1 i (S 2 i)) (by omega) (by
        rw [hS]
        funext h k
        grind [up_eq])
      show mm_J pX9_back (mm_ret Q X 0 0) 16 [some (.ref 0), some (.int (zI i + 1))] [] (mM (mm_up (zS S) 1 (zI i).toNatClampNeg (zI (S 2 (zI i).toNatClampNeg))) (zJ L)) (0, 0)
      rw [zI_n, zI_add, zI_cl (by omega) (by omega), zS_up]
      have e2 : ((i : Int)).toNat = i := by omega
      rw [e2]
      exact h1
theorem mX9_back (l : Launch) (hl : l.stackTraces = false) : mm_Spec l yX9_back (ws_ yX9_back cX9_back 2 (some .boolean)) (mm_rm 1 0 0) sX9_back := by
  rintro as M Q X ⟨S, L, rfl, rfl, h3, hQ0, hQ1⟩
  have z : zI (S 0 3) = 0 ↔ S 0 3 = 0 := by rw [zI_n, zI_eq h3.1 h3.2 (by omega) (by omega)]
  refine mm_Met.J hl (by decide) (Nat.le_of_ble_eq_true rfl) (fun C G hnh => tX9_back G hnh) (mm_J.go [5] 20 ?_)
  refine mm_Jm (M' := mZ (mm_up S 0 0 0) L) (by rw [zI_n, mZ_wI]) (mm_J.go [16] 20 (And.intro (fun c => ?_) (fun c => ?_)))
  · exact lX9_back (hQ1 (fun q => c (z.mpr q))) 2616 0 _ rfl (by
      funext h k
      grind [up_eq])
  · exact ⟨Or.inl rfl, hQ0 (z.mp c), Nat.le_refl _, Nat.le_refl _⟩
