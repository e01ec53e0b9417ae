/-! ===== the model's texts ===== -/
set_option maxRecDepth 100000
/-- lines, so many left, from a place on -/
def liF {α : Type} (tx : Nat → Int) (n : Nat) (p : Nat → Pr α) (cb : α → α → α) : Nat → Nat → α → Pr α
  | 0, a, _ => .inl (rn (qB tx) n a)
  | r + 1, a, g => match p (rn (qB tx) n a) with
    | .inl w => .inl w
    | .inr c => if rn (qB tx) n c.1 = n then .inr (n, cb g c.2) else if isSg tx n (rn (qB tx) n c.1) 59 = true then liF tx n p cb r (rn (qB tx) n c.1 + 1) (cb g c.2) else .inl (rn (qB tx) n c.1)
def liP {α : Type} (tx : Nat → Int) (n : Nat) (p : Nat → Pr α) (cb : α → α → α) (g : α) : Pr α := if rn (qB tx) n 0 = n then .inr (n, g) else liF tx n p cb 12 0 g
def ruP (tx : Nat → Int) (n : Nat) : Pr (Fc → Option Int) := liP tx n (rlP tx n) (fun g h F => (g F).or (h F)) (fun _ => none)
def ctP (tx : Nat → Int) (n : Nat) : Pr Rw := liP tx n (coP tx n) (fun g h w => h (g w)) (fun w => w)
theorem rlP_v {tx : Nat → Int} {n a : Nat} {c : Nat × (Fc → Option Int)} (h : rlP tx n a = .inr c) : ∀ F v, c.2 F = some v → 0 ≤ v ∧ v ≤ 3 := by
  unfold rlP at h
  split at h
  · cases hp : nmP tx n 0 3 (rn (qB tx) n a + 5) with
    | inl w => rw [hp] at h; cases h
    | inr e =>
      have hv := nmP_v hp
      rw [hp] at h
      dsimp only at h
      split at h
      · cases hq : soP tx n (atP tx n 6) (rn (qB tx) n e.1 + 2) with
        | inl w => rw [hq] at h; cases h
        | inr e2 =>
          rw [hq] at h
          cases h
          intro F v hF
          dsimp only at hF
          cases hb : e2.2 F with
          | true => rw [hb] at hF; cases hF; exact hv
          | false => rw [hb] at hF; cases hF
      · cases h
        intro F v hF
        cases hF
        exact hv
  · cases h
theorem rn_le6 {q : Nat → Bool} {n a : Nat} (h : a ≤ n + 6) : rn q n a ≤ n + 6 := by
  by_cases ha : a ≤ n
  · have := rn_le (q := q) ha
    omega
  · rw [rn_f (fun h => by omega)]
    exact h
def zX9_lines_r : zz_Sp := fun as M Q X => match as with
  | [.inr (.inr (some h_)), .inl rule] => bif Nat.beq h_ 0 && Nat.beq M.1.1 1 then (∃ (tx_ : Nat → Int) (n_ : Nat), mT M.2.1 tx_ n_ ∧ rule = 1 ∧ M.2.1 0 10 = -1 ∧ bF (fcS M.2.1) ∧ (M.2.1 0 13 = 0 ∨ M.2.1 0 13 = 1) ∧ (M.2.1 0 14 = 0 ∨ M.2.1 0 14 = 1) ∧ M.2.1 0 15 = -1 ∧ (∀ w_ : Nat, ruP tx_ n_ = .inl w_ → ∀ (z_ : Nat) (d_ s_ : Int), z_ ≤ n_ + 6 → Q none (zm (pS (mm_up M.2.1 0 15 s_) z_ w_ d_) M.2.2.1)) ∧ (∀ c_ : Nat × (Fc → Option Int), ruP tx_ n_ = .inr c_ → Q none (zm (pS (mm_up M.2.1 0 15 ((c_.2 (fcS M.2.1)).getD (-1))) n_ (-1) 0) M.2.2.1))) else False
  | _ => False

def zpX9_lines_r : zz_P := [(0, zo_ald 1 0), (1, zo_c 2 (vi 0)), (2, zo_puti 5 8 9), (5, zo_ald 6 0), (6, zo_c 7 (vi 0)), (7, zo_puti 10 8 11), (10, zo_ald 11 0), (11, zo_callv 14 1 8 zX9_skip), (14, zo_ald 15 0), (15, zo_get 18 8 0 9), (18, zo_ald 19 0), (19, zo_get 22 8 0 8), (22, zo_cge false false 25 29), (25, zo_c 26 (vi 1)), (26, zo_goto 30), (29, zo_c 30 (vi 0)), (30, zo_ist 31 2), (31, zo_c 32 (vi 0)), (32, zo_ist 33 3), (33, zo_ild 34 2), (34, zo_ifeq false 37 145), (37, zo_ald 38 0), (38, zo_get 41 8 0 10), (41, zo_c 42 (vi (-1))), (42, zo_cne false true 45 145), (45, zo_ald 46 0), (46, zo_callv 49 1 8 zX9_skip), (49, zo_ild 50 3), (50, zo_c 52 (vi 12)), (52, zo_cne false true 55 66), (55, zo_ald 56 0), (56, zo_ald 57 0), (57, zo_get 60 8 0 9), (60, zo_callv 63 2 8 zX9_wrong), (63, zo_goto 81), (66, zo_ild 67 1), (67, zo_ifeq false 70 77), (70, zo_ald 71 0), (71, zo_callv 74 1 8 zX9_ruleLine), (74, zo_goto 81), (77, zo_ald 78 0), (78, zo_bad), (81, zo_inc 84 3 1), (84, zo_ald 85 0), (85, zo_callv 88 1 8 zX9_skip), (88, zo_ald 89 0), (89, zo_get 92 8 0 10), (92, zo_c 93 (vi (-1))), (93, zo_cne false true 96 107), (96, zo_ald 97 0), (97, zo_get 100 8 0 9), (100, zo_ald 101 0), (101, zo_get 104 8 0 8), (104, zo_cne false false 107 112), (107, zo_c 108 (vi 0)), (108, zo_ist 109 2), (109, zo_goto 33), (112, zo_ald 113 0), (113, zo_c 115 (vi 59)), (115, zo_callv 118 2 8 zX9_isSign), (118, zo_zifeq 121 134), (121, zo_ald 122 0), (122, zo_dup 123), (123, zo_get 126 8 0 9), (126, zo_c 127 (vi 1)), (127, zo_iadd 128), (128, zo_puti 131 8 9), (131, zo_goto 33), (134, zo_ald 135 0), (135, zo_ald 136 0), (136, zo_get 139 8 0 9), (139, zo_callv 142 2 8 zX9_wrong), (142, zo_goto 33), (145, zo_vret)]
theorem ztX9_lines_r {C : mm_C} (G : mm_G C RX9 cX9_lines none 4 (mm_rm 32 0 0)) (hnh : mm_nh C) : zz_OKs C zpX9_lines_r :=
  ⟨zz_of (ok_aload_n G dX9_lines_0 rfl rfl) (z_ald _ _),
   zz_of (ok_iconst G (v := 0) dX9_lines_1 (by decide) rfl) (z_cn 2 0),
   zz_of (ok_puti G (nx := 5) (idx := 80) (ci := 8) (k := 9) (RX9, TX9, 32) rfl (by decide) rfl (mm_pw G (ci := 8) (k := 9) (RX9, TX9, 32) rfl (by decide) rfl q1814 dX9_lines_2) rfl) (z_puti _ _ _),
   zz_of (ok_aload_n G dX9_lines_5 rfl rfl) (z_ald _ _),
   zz_of (ok_iconst G (v := 0) dX9_lines_6 (by decide) rfl) (z_cn 7 0),
   zz_of (ok_puti G (nx := 10) (idx := 129) (ci := 8) (k := 11) (RX9, TX9, 32) rfl (by decide) rfl (mm_pw G (ci := 8) (k := 11) (RX9, TX9, 32) rfl (by decide) rfl q1816 dX9_lines_7) rfl) (z_puti _ _ _),
   zz_of (ok_aload_n G dX9_lines_10 rfl rfl) (z_ald _ _),
   zz_of (ok_callv G hnh (zmX9_skip _ G.hst) rfl rfl (RX9, TX9, 32) rfl q1925 q1927 qs41 q93 q1928 (by decide +kernel) ⟨by decide, by decide⟩ dX9_lines_11 rfl) (z_callv _ _ _ _),
   zz_of (ok_aload_n G dX9_lines_14 rfl rfl) (z_ald _ _),
   zz_of (ok_get G (nx := 18) (ci := 8) (kd := 0) (k := 9) (RX9, TX9, 32) rfl (by decide) rfl q1814 dX9_lines_15 rfl) (z_get _ _ _ _),
   zz_of (ok_aload_n G dX9_lines_18 rfl rfl) (z_ald _ _),
   zz_of (ok_get G (nx := 22) (ci := 8) (kd := 0) (k := 8) (RX9, TX9, 32) rfl (by decide) rfl q1813 dX9_lines_19 rfl) (z_get _ _ _ _),
   zz_of (ok_cge G dX9_lines_22 rfl rfl) (z_cge _ _ _ _),
   zz_of (ok_iconst G (v := 1) dX9_lines_25 (by decide) rfl) (z_cn 26 1),
   zz_of (ok_goto G dX9_lines_26 rfl) (z_goto _),
   zz_of (ok_iconst G (v := 0) dX9_lines_29 (by decide) rfl) (z_cn 30 0),
   zz_of (ok_istore_n G dX9_lines_30 rfl rfl (by decide)) (z_ist _ _),
   zz_of (ok_iconst G (v := 0) dX9_lines_31 (by decide) rfl) (z_cn 32 0),
   zz_of (ok_istore_n G dX9_lines_32 rfl rfl (by decide)) (z_ist _ _),
   zz_of (ok_iload_n G dX9_lines_33 rfl rfl) (z_ild _ _),
   zz_of (ok_ifeq G dX9_lines_34 rfl rfl) (z_ifeq _ _ _),
   zz_of (ok_aload_n G dX9_lines_37 rfl rfl) (z_ald _ _),
   zz_of (ok_get G (nx := 41) (ci := 8) (kd := 0) (k := 10) (RX9, TX9, 32) rfl (by decide) rfl q1815 dX9_lines_38 rfl) (z_get _ _ _ _),
   zz_of (ok_iconst G (v := (zI (-1))) dX9_lines_41 (by decide) rfl) (z_cz 42 (-1)),
   zz_of (ok_cne G dX9_lines_42 rfl rfl) (z_cne _ _ _ _),
   zz_of (ok_aload_n G dX9_lines_45 rfl rfl) (z_ald _ _),
   zz_of (ok_callv G hnh (zmX9_skip _ G.hst) rfl rfl (RX9, TX9, 32) rfl q1925 q1927 qs41 q93 q1928 (by decide +kernel) ⟨by decide, by decide⟩ dX9_lines_46 rfl) (z_callv _ _ _ _),
   zz_of (ok_iload_n G dX9_lines_49 rfl rfl) (z_ild _ _),
   zz_of (ok_bipush G (v := 12) dX9_lines_50 (by decide) rfl) (z_cn 52 12),
   zz_of (ok_cne G dX9_lines_52 rfl rfl) (z_cne _ _ _ _),
   zz_of (ok_aload_n G dX9_lines_55 rfl rfl) (z_ald _ _),
   zz_of (ok_aload_n G dX9_lines_56 rfl rfl) (z_ald _ _),
   zz_of (ok_get G (nx := 60) (ci := 8) (kd := 0) (k := 9) (RX9, TX9, 32) rfl (by decide) rfl q1814 dX9_lines_57 rfl) (z_get _ _ _ _),
   zz_of (ok_callv G hnh (zmX9_wrong _ G.hst) rfl rfl (RX9, TX9, 32) rfl q1933 q1935 qs43 q93 q1936 (by decide +kernel) ⟨by decide, by decide⟩ dX9_lines_60 rfl) (z_callv _ _ _ _),
   zz_of (ok_goto G dX9_lines_63 rfl) (z_goto _),
   zz_of (ok_iload_n G dX9_lines_66 rfl rfl) (z_ild _ _),
   zz_of (ok_ifeq G dX9_lines_67 rfl rfl) (z_ifeq _ _ _),
   zz_of (ok_aload_n G dX9_lines_70 rfl rfl) (z_ald _ _),
   zz_of (ok_callv G hnh (zmX9_ruleLine _ G.hst) rfl rfl (RX9, TX9, 32) rfl q1937 q1939 qs44 q93 q1940 (by decide +kernel) ⟨by decide, by decide⟩ dX9_lines_71 rfl) (z_callv _ _ _ _),
   zz_of (ok_goto G dX9_lines_74 rfl) (z_goto _),
   zz_of (ok_aload_n G dX9_lines_77 rfl rfl) (z_ald _ _),
   zz_of (ok_bad) (z_bad),
   zz_of (ok_iinc G (v := 1) dX9_lines_81 (by decide) rfl (by decide)) (z_incn 84 3 1),
   zz_of (ok_aload_n G dX9_lines_84 rfl rfl) (z_ald _ _),
   zz_of (ok_callv G hnh (zmX9_skip _ G.hst) rfl rfl (RX9, TX9, 32) rfl q1925 q1927 qs41 q93 q1928 (by decide +kernel) ⟨by decide, by decide⟩ dX9_lines_85 rfl) (z_callv _ _ _ _),
   zz_of (ok_aload_n G dX9_lines_88 rfl rfl) (z_ald _ _),
   zz_of (ok_get G (nx := 92) (ci := 8) (kd := 0) (k := 10) (RX9, TX9, 32) rfl (by decide) rfl q1815 dX9_lines_89 rfl) (z_get _ _ _ _),
   zz_of (ok_iconst G (v := (zI (-1))) dX9_lines_92 (by decide) rfl) (z_cz 93 (-1)),
   zz_of (ok_cne G dX9_lines_93 rfl rfl) (z_cne _ _ _ _),
   zz_of (ok_aload_n G dX9_lines_96 rfl rfl) (z_ald _ _),
   zz_of (ok_get G (nx := 100) (ci := 8) (kd := 0) (k := 9) (RX9, TX9, 32) rfl (by decide) rfl q1814 dX9_lines_97 rfl) (z_get _ _ _ _),
   zz_of (ok_aload_n G dX9_lines_100 rfl rfl) (z_ald _ _),
   zz_of (ok_get G (nx := 104) (ci := 8) (kd := 0) (k := 8) (RX9, TX9, 32) rfl (by decide) rfl q1813 dX9_lines_101 rfl) (z_get _ _ _ _),
   zz_of (ok_cne G dX9_lines_104 rfl rfl) (z_cne _ _ _ _),
   zz_of (ok_iconst G (v := 0) dX9_lines_107 (by decide) rfl) (z_cn 108 0),
   zz_of (ok_istore_n G dX9_lines_108 rfl rfl (by decide)) (z_ist _ _),
   zz_of (ok_goto G dX9_lines_109 rfl) (z_goto _),
   zz_of (ok_aload_n G dX9_lines_112 rfl rfl) (z_ald _ _),
   zz_of (ok_bipush G (v := 59) dX9_lines_113 (by decide) rfl) (z_cn 115 59),
   zz_of (ok_callv G hnh (zmX9_isSign _ G.hst) rfl rfl (RX9, TX9, 32) rfl q1976 q1978 qs50 q93 q1979 (by decide +kernel) ⟨by decide, by decide⟩ dX9_lines_115 rfl) (z_callv _ _ _ _),
   zz_of (ok_ifeq G dX9_lines_118 rfl rfl) (z_zifeq _ _),
   zz_of (ok_aload_n G dX9_lines_121 rfl rfl) (z_ald _ _),
   zz_of (ok_dup G dX9_lines_122 rfl) (z_dup _),
   zz_of (ok_get G (nx := 126) (ci := 8) (kd := 0) (k := 9) (RX9, TX9, 32) rfl (by decide) rfl q1814 dX9_lines_123 rfl) (z_get _ _ _ _),
   zz_of (ok_iconst G (v := 1) dX9_lines_126 (by decide) rfl) (z_cn 127 1),
   zz_of (ok_iadd G dX9_lines_127 rfl) (z_iadd _),
   zz_of (ok_puti G (nx := 131) (idx := 80) (ci := 8) (k := 9) (RX9, TX9, 32) rfl (by decide) rfl (mm_pw G (ci := 8) (k := 9) (RX9, TX9, 32) rfl (by decide) rfl q1814 dX9_lines_128) rfl) (z_puti _ _ _),
   zz_of (ok_goto G dX9_lines_131 rfl) (z_goto _),
   zz_of (ok_aload_n G dX9_lines_134 rfl rfl) (z_ald _ _),
   zz_of (ok_aload_n G dX9_lines_135 rfl rfl) (z_ald _ _),
   zz_of (ok_get G (nx := 139) (ci := 8) (kd := 0) (k := 9) (RX9, TX9, 32) rfl (by decide) rfl q1814 dX9_lines_136 rfl) (z_get _ _ _ _),
   zz_of (ok_callv G hnh (zmX9_wrong _ G.hst) rfl rfl (RX9, TX9, 32) rfl q1933 q1935 qs43 q93 q1936 (by decide +kernel) ⟨by decide, by decide⟩ dX9_lines_139 rfl) (z_callv _ _ _ _),
   zz_of (ok_goto G dX9_lines_142 rfl) (z_goto _),
   zz_of (ok_vret G dX9_lines_145) (z_vret), trivial⟩

theorem zwX9_lines_r_0 {Q : Option zv → zz_M → Prop} {X : Nat → zz_M → Prop} {S L : Nat → Nat → Int} {rule : Int} (h : (∃ (tx_1 : Nat → Int) (n_1 a_1 : Nat), mT (mm_up (mm_up S 0 9 0) 0 11 0) tx_1 n_1 ∧ (mm_up (mm_up S 0 9 0) 0 11 0) 0 9 = a_1 ∧ a_1 ≤ n_1 + 1000 ∧ (R32 ((rn (qB tx_1) n_1 a_1 : Nat) : Int) ∧ (R32 (S 0 8) ∧ (((S 0 8) ≤ ((rn (qB tx_1) n_1 a_1 : Nat) : Int) → zz_J zpX9_lines_r (zz_ret Q X 0 0) 33 [some (vr 0), some (vi rule), some (vi 0), some (vi 0)] [] (zm (mm_up (mm_up (mm_up S 0 9 0) 0 11 0) 0 9 ((rn (qB tx_1) n_1 a_1 : Nat) : Int)) L) (0, 0)) ∧ (¬ (S 0 8) ≤ ((rn (qB tx_1) n_1 a_1 : Nat) : Int) → zz_J zpX9_lines_r (zz_ret Q X 0 0) 33 [some (vr 0), some (vi rule), some (vi 1), some (vi 0)] [] (zm (mm_up (mm_up (mm_up S 0 9 0) 0 11 0) 0 9 ((rn (qB tx_1) n_1 a_1 : Nat) : Int)) L) (0, 0))))))) : zz_J zpX9_lines_r (zz_ret Q X 0 0) 0 [some (vr 0), some (vi rule), none, none] [] (zm S L) (0, 0) := zz_J.go [(33, []), (81, [])] 400 h
theorem zwX9_lines_r_33 {Q : Option zv → zz_M → Prop} {X : Nat → zz_M → Prop} {S L : Nat → Nat → Int} {x1 : Int} {x2 : Int} {x3 : Int} (h : R32 x2 ∧ ((x2 = 0 → Q none (zm S L)) ∧ (¬ x2 = 0 → R32 (S 0 10) ∧ ((¬ (S 0 10) = (-1) → Q none (zm S L)) ∧ ((S 0 10) = (-1) → (∃ (tx_1 : Nat → Int) (n_1 a_1 : Nat), mT S tx_1 n_1 ∧ S 0 9 = a_1 ∧ a_1 ≤ n_1 + 1000 ∧ (R32 x3 ∧ ((¬ x3 = 12 → R32 x1 ∧ ((x1 = 0 → False) ∧ (¬ x1 = 0 → (∃ (tx_2 : Nat → Int) (n_2 a_2 : Nat), mT (mm_up S 0 9 ((rn (qB tx_1) n_1 a_1 : Nat) : Int)) tx_2 n_2 ∧ (mm_up S 0 9 ((rn (qB tx_1) n_1 a_1 : Nat) : Int)) 0 9 = a_2 ∧ (mm_up S 0 9 ((rn (qB tx_1) n_1 a_1 : Nat) : Int)) 0 10 = -1 ∧ (mm_up S 0 9 ((rn (qB tx_1) n_1 a_1 : Nat) : Int)) 0 11 = 0 ∧ a_2 ≤ n_2 ∧ bF (fcS (mm_up S 0 9 ((rn (qB tx_1) n_1 a_1 : Nat) : Int))) ∧ ((mm_up S 0 9 ((rn (qB tx_1) n_1 a_1 : Nat) : Int)) 0 13 = 0 ∨ (mm_up S 0 9 ((rn (qB tx_1) n_1 a_1 : Nat) : Int)) 0 13 = 1) ∧ ((mm_up S 0 9 ((rn (qB tx_1) n_1 a_1 : Nat) : Int)) 0 14 = 0 ∨ (mm_up S 0 9 ((rn (qB tx_1) n_1 a_1 : Nat) : Int)) 0 14 = 1) ∧ R32 ((mm_up S 0 9 ((rn (qB tx_1) n_1 a_1 : Nat) : Int)) 0 15) ∧ (∀ w_2 : Nat, rlP tx_2 n_2 a_2 = .inl w_2 → ∀ (z_2 : Nat) (d_2 : Int), z_2 ≤ n_2 + 6 → (zz_J zpX9_lines_r (zz_ret Q X 0 0) 81 [some (vr 0), some (vi x1), some (vi x2), some (vi x3)] [] (zm (pS (mm_up S 0 9 ((rn (qB tx_1) n_1 a_1 : Nat) : Int)) z_2 w_2 d_2) L) (0, 0))) ∧ (∀ c_2 : Nat × (Fc → Option Int), rlP tx_2 n_2 a_2 = .inr c_2 → (zz_J zpX9_lines_r (zz_ret Q X 0 0) 81 [some (vr 0), some (vi x1), some (vi x2), some (vi x3)] [] (zm (pS (mm_up (mm_up S 0 9 ((rn (qB tx_1) n_1 a_1 : Nat) : Int)) 0 15 (syN ((mm_up S 0 9 ((rn (qB tx_1) n_1 a_1 : Nat) : Int)) 0 15) (c_2.2 (fcS (mm_up S 0 9 ((rn (qB tx_1) n_1 a_1 : Nat) : Int)))))) c_2.1 (-1) ((mm_up S 0 9 ((rn (qB tx_1) n_1 a_1 : Nat) : Int)) 0 11)) L) (0, 0))))))) ∧ (x3 = 12 → (R32 ((mm_up S 0 9 ((rn (qB tx_1) n_1 a_1 : Nat) : Int)) 0 10) ∧ (zz_J zpX9_lines_r (zz_ret Q X 0 0) 81 [some (vr 0), some (vi x1), some (vi x2), some (vi x3)] [] (zm (mm_up (mm_up S 0 9 ((rn (qB tx_1) n_1 a_1 : Nat) : Int)) 0 10 (wrF ((mm_up S 0 9 ((rn (qB tx_1) n_1 a_1 : Nat) : Int)) 0 10) ((rn (qB tx_1) n_1 a_1 : Nat) : Int))) L) (0, 0)))))))))))) : zz_J zpX9_lines_r (zz_ret Q X 0 0) 33 [some (vr 0), some (vi x1), some (vi x2), some (vi x3)] [] (zm S L) (0, 0) := zz_J.go [(33, []), (81, [])] 400 h
theorem zwX9_lines_r_81 {Q : Option zv → zz_M → Prop} {X : Nat → zz_M → Prop} {S L : Nat → Nat → Int} {x1 : Int} {x2 : Int} {x3 : Int} (h : (∃ (tx_1 : Nat → Int) (n_1 a_1 : Nat), mT S tx_1 n_1 ∧ S 0 9 = a_1 ∧ a_1 ≤ n_1 + 1000 ∧ (R32 (S 0 10) ∧ ((¬ (S 0 10) = (-1) → zz_J zpX9_lines_r (zz_ret Q X 0 0) 33 [some (vr 0), some (vi x1), some (vi 0), some (vi (x3 + 1))] [] (zm (mm_up S 0 9 ((rn (qB tx_1) n_1 a_1 : Nat) : Int)) L) (0, 0)) ∧ ((S 0 10) = (-1) → R32 ((rn (qB tx_1) n_1 a_1 : Nat) : Int) ∧ (R32 (S 0 8) ∧ ((¬ ((rn (qB tx_1) n_1 a_1 : Nat) : Int) = (S 0 8) → (∃ (tx_2 : Nat → Int) (n_2 a_2 : Nat), R32 (59 : Int) ∧ mT (mm_up S 0 9 ((rn (qB tx_1) n_1 a_1 : Nat) : Int)) tx_2 n_2 ∧ (mm_up S 0 9 ((rn (qB tx_1) n_1 a_1 : Nat) : Int)) 0 9 = a_2 ∧ a_2 ≤ n_2 ∧ (isSg tx_2 n_2 (rn (qB tx_2) n_2 a_2) (59 : Int) = true → (zz_J zpX9_lines_r (zz_ret Q X 0 0) 33 [some (vr 0), some (vi x1), some (vi x2), some (vi (x3 + 1))] [] (zm (mm_up (mm_up (mm_up S 0 9 ((rn (qB tx_1) n_1 a_1 : Nat) : Int)) 0 9 ((rn (qB tx_2) n_2 a_2 : Nat) : Int)) 0 9 (((rn (qB tx_2) n_2 a_2 : Nat) : Int) + 1)) L) (0, 0))) ∧ (isSg tx_2 n_2 (rn (qB tx_2) n_2 a_2) (59 : Int) = false → ((R32 ((mm_up (mm_up S 0 9 ((rn (qB tx_1) n_1 a_1 : Nat) : Int)) 0 9 ((rn (qB tx_2) n_2 a_2 : Nat) : Int)) 0 10) ∧ (zz_J zpX9_lines_r (zz_ret Q X 0 0) 33 [some (vr 0), some (vi x1), some (vi x2), some (vi (x3 + 1))] [] (zm (mm_up (mm_up (mm_up S 0 9 ((rn (qB tx_1) n_1 a_1 : Nat) : Int)) 0 9 ((rn (qB tx_2) n_2 a_2 : Nat) : Int)) 0 10 (wrF ((mm_up (mm_up S 0 9 ((rn (qB tx_1) n_1 a_1 : Nat) : Int)) 0 9 ((rn (qB tx_2) n_2 a_2 : Nat) : Int)) 0 10) ((rn (qB tx_2) n_2 a_2 : Nat) : Int))) L) (0, 0))))))) ∧ (((rn (qB tx_1) n_1 a_1 : Nat) : Int) = (S 0 8) → zz_J zpX9_lines_r (zz_ret Q X 0 0) 33 [some (vr 0), some (vi x1), some (vi 0), some (vi (x3 + 1))] [] (zm (mm_up S 0 9 ((rn (qB tx_1) n_1 a_1 : Nat) : Int)) L) (0, 0))))))))) : zz_J zpX9_lines_r (zz_ret Q X 0 0) 81 [some (vr 0), some (vi x1), some (vi x2), some (vi x3)] [] (zm S L) (0, 0) := zz_J.go [(33, []), (81, [])] 400 h

theorem up_r15 (S : Nat → Nat → Int) (v : Int) : mm_up S 0 15 v 0 15 = v := by simp [up_eq]
theorem up_r13 (S : Nat → Nat → Int) (v : Int) : mm_up S 0 15 v 0 13 = S 0 13 := by simp [up_eq]
theorem up_r14 (S : Nat → Nat → Int) (v : Int) : mm_up S 0 15 v 0 14 = S 0 14 := by simp [up_eq]
theorem pS_r8 (S : Nat → Nat → Int) (a f d : Int) : pS S a f d 0 8 = S 0 8 := rfl
theorem up_r8 (S : Nat → Nat → Int) (v : Int) : mm_up S 0 15 v 0 8 = S 0 8 := by simp [up_eq]
theorem syN_or {s : Int} {o o2 : Option Int} (hs : s = o.getD (-1)) (ho : ∀ v, o = some v → 0 ≤ v ∧ v ≤ 3) : syN s o2 = (o.or o2).getD (-1) := by
  unfold syN
  cases o with
  | none =>
    have hs : s = -1 := hs
    rw [if_pos hs]
    rfl
  | some v =>
    have := ho v rfl
    have hs : s = v := hs
    rw [if_neg (by omega), hs]
    rfl
theorem zmX9_lines_r (l : Launch) (hl : l.stackTraces = false) : mm_Spec l yX9_lines (ws_ yX9_lines cX9_lines 4 none) (mm_rm 32 0 0) (zE zX9_lines_r) := by
  refine zz_Met.J hl (by decide) (fun C G hnh => ztX9_lines_r G hnh) ?_
  rintro as ⟨⟨t_, f⟩, S, L, P⟩ Q X h
  unfold zX9_lines_r at h
  split at h
  rotate_left
  · exact h.elim
  rename_i h_ rule
  obtain ⟨e1_, e2_, h⟩ := mm_and2 h (fun q => q)
  cases mm_beq e1_
  cases mm_beq e2_
  try dsimp only at h
  refine ⟨rfl, ?_⟩
  refine zz_Jev (M' := zm S L) rfl rfl rfl ?_
  obtain ⟨tx, n, hT, rfl, h10, hF, h13, h14, h15, hq1, hq2⟩ := h
  have hn := hT.1
  have h8 := hT.2.1
  have hok := rlP_ok hT.2.2.1
  -- the end of the loop
  have t33o : ∀ (T : Nat → Nat → Int) (x3 : Int), Q none (zm T L) → zz_J zpX9_lines_r (zz_ret Q X 0 0) 33 [some (vr 0), some (vi 1), some (vi 0), some (vi x3)] [] (zm T L) (0, 0) := by
    intro T x3 hq
    exact zwX9_lines_r_33 ⟨by omega, fun _ => hq, fun h => absurd rfl h⟩
  have t81w : ∀ (w z : Nat) (x3 s d : Int), w ≤ n → z ≤ n + 6 → ruP tx n = .inl w → zz_J zpX9_lines_r (zz_ret Q X 0 0) 81 [some (vr 0), some (vi 1), some (vi 1), some (vi x3)] [] (zm (pS (mm_up S 0 15 s) z w d) L) (0, 0) := by
    intro w z x3 s d hw hz e
    refine zwX9_lines_r_81 ?_
    simp only [pS_r10, pS_r9, pS_r11, pS_9, mT_pS, mT_15, pS_pS]
    exact ⟨tx, n, z, hT, rfl, by omega, by omega, fun _ => t33o _ _ (hq1 w e _ d s (rn_le6 hz)), fun h => by omega⟩
  have lp : ∀ (r a : Nat) (x3 s : Int) (g : Fc → Option Int), r ≤ 12 → x3 = 12 - r → a ≤ n → s = (g (fcS S)).getD (-1) → (∀ F v, g F = some v → 0 ≤ v ∧ v ≤ 3) → ruP tx n = liF tx n (rlP tx n) (fun g h F => (g F).or (h F)) r a g → zz_J zpX9_lines_r (zz_ret Q X 0 0) 33 [some (vr 0), some (vi 1), some (vi 1), some (vi x3)] [] (zm (pS (mm_up S 0 15 s) a (-1) 0) L) (0, 0) := by
    intro r
    induction r with
    | zero =>
      intro a x3 s g hr hx ha hs hg e
      have hb := rn_le (q := qB tx) ha
      refine zwX9_lines_r_33 ?_
      simp only [pS_r10, pS_r9, pS_r11, pS_9, pS_10, mT_pS, mT_15, pS_pS, wrF, if_true]
      refine ⟨by omega, fun h => absurd h (by decide), fun _ => ⟨by omega, fun h => absurd trivial h, fun _ => ⟨tx, n, a, hT, rfl, by omega, by omega, fun h => by omega, fun _ => ⟨by omega, ?_⟩⟩⟩⟩
      exact t81w _ _ x3 s 0 hb (by omega) e
    | succ r ih =>
      intro a x3 s g hr hx ha hs hg e
      have hb := rn_le (q := qB tx) ha
      have hp := hok _ hb
      unfold liF at e
      have sR : R32 s := by
        rw [hs]
        cases hgF : g (fcS S) with
        | none => exact ⟨by decide, by decide⟩
        | some v =>
          have := hg _ v hgF
          show R32 v
          omega
      refine zwX9_lines_r_33 ?_
      simp only [pS_r10, pS_r9, pS_r11, pS_9, pS_10, mT_pS, mT_15, pS_pS, fcS_pS, fcS_15, pS_r13, pS_r14, pS_r15, up_r13, up_r14, up_r15, pS_15, up_up]
      refine ⟨by omega, fun h => absurd h (by decide), fun _ => ⟨by omega, fun h => absurd trivial h, fun _ => ⟨tx, n, a, hT, rfl, by omega, by omega, fun _ => ⟨by omega, fun h => absurd h (by decide), fun _ => ?_⟩, fun h => by omega⟩⟩⟩
      refine ⟨tx, n, rn (qB tx) n a, hT, rfl, trivial, trivial, hb, hF, h13, h14, sR, fun w ew z d hz => ?_, fun c ec => ?_⟩
      · rw [ew] at e
        exact t81w w z x3 s d (hp.2 w ew) hz e
      · have hc := hp.1 c ec
        have hv := rlP_v ec
        have g1 := rn_ge (q := qB tx) hc.2
        have g2 := rn_le (q := qB tx) hc.2
        have gg := rn_rn (q := qB tx) hc.2
        have es : syN s (c.2 (fcS S)) = ((g (fcS S)).or (c.2 (fcS S))).getD (-1) := syN_or hs (hg _)
        have hg' : ∀ F v, (g F).or (c.2 F) = some v → 0 ≤ v ∧ v ≤ 3 := by
          intro F v h
          cases hgF : g F with
          | none => rw [hgF] at h; exact hv F v h
          | some u => rw [hgF] at h; cases h; exact hg F v hgF
        rw [ec] at e
        dsimp only at e
        rw [es]
        refine zwX9_lines_r_81 ?_
        simp only [pS_r10, pS_r9, pS_r11, pS_9, pS_10, pS_r8, up_r8, mT_pS, mT_15, pS_pS, fcS_pS, fcS_15, wrF, if_true]
        refine ⟨tx, n, c.1, hT, rfl, by omega, by omega, fun h => absurd trivial h, fun _ => ⟨by omega, by omega, fun ne => ⟨tx, n, rn (qB tx) n c.1, by omega, hT, rfl, g2, ?_⟩, fun eq => ?_⟩⟩
        · rw [gg]
          rw [if_neg (by omega)] at e
          refine ⟨fun sg => ?_, fun sg => ⟨by omega, ?_⟩⟩
          · rw [if_pos sg] at e
            have h5 := (isSg_t.mp sg).1
            exact ih (rn (qB tx) n c.1 + 1) (x3 + 1) (((g (fcS S)).or (c.2 (fcS S))).getD (-1)) (fun F => (g F).or (c.2 F)) (by omega) (by omega) (by omega) rfl hg' e
          · rw [if_neg (by rw [sg]; decide)] at e
            refine zwX9_lines_r_33 ?_
            simp only [pS_r10]
            exact ⟨by omega, fun h => absurd h (by decide), fun _ => ⟨by omega, fun _ => hq1 _ e _ 0 _ (by omega), fun h => by omega⟩⟩
        · rw [if_pos (by omega)] at e
          have hq := hq2 _ e
          have en : rn (qB tx) n c.1 = n := by omega
          rw [en]
          exact t33o _ _ hq
  have hb := rn_le (q := qB tx) (Nat.zero_le n)
  have h15' : mm_up S 0 15 (-1) = S := up_same h15
  have hS : mm_up (mm_up S 0 9 0) 0 11 0 = pS S 0 (-1) 0 := by
    rw [← h10]
    funext h k
    grind [up_eq, pS_at]
  refine zwX9_lines_r_0 ?_
  rw [hS]
  simp only [pS_r9, pS_9, pS_r8, mT_pS]
  refine ⟨tx, n, 0, hT, rfl, by omega, by omega, by omega, fun c => ?_, fun c => ?_⟩
  · have e : ruP tx n = .inr (n, fun _ => none) := by unfold ruP liP; rw [if_pos (by omega)]
    have hq := hq2 _ e
    have en : rn (qB tx) n 0 = n := by omega
    rw [en]
    refine t33o _ _ ?_
    have es : mm_up S 0 15 (((n, fun _ => none) : Nat × (Fc → Option Int)).2 (fcS S) |>.getD (-1)) = S := h15'
    rw [es] at hq
    exact hq
  · have e : ruP tx n = liF tx n (rlP tx n) (fun g h F => (g F).or (h F)) 12 0 (fun _ => none) := by unfold ruP liP; rw [if_neg (by omega)]
    have e2 : liF tx n (rlP tx n) (fun g h F => (g F).or (h F)) 12 0 (fun _ => none) = liF tx n (rlP tx n) (fun g h F => (g F).or (h F)) 12 (rn (qB tx) n 0) (fun _ => none) := by
      unfold liF
      rw [rn_rn (Nat.zero_le n)]
    rw [e2] at e
    have := lp 12 (rn (qB tx) n 0) 0 (-1) _ (by decide) (by omega) hb rfl (fun F v h => by cases h) e
    rw [h15'] at this
    exact this
