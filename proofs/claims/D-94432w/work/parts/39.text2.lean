/-! ===== the model's texts of the court; rules; styles ===== -/
set_option maxRecDepth 100000
theorem coN_row {tx : Nat → Int} {n : Nat} {lo hi : Int} {ix p : Nat} {c : Nat × Rw} (h : coN tx n lo hi ix p = .inr c) (hix : ix < 201) : ∀ w k, 201 ≤ k → c.2 w k = w k := by
  unfold coN at h
  split at h
  · cases h
  · cases h
    intro w k hk
    exact if_neg (by omega)
theorem coP_row {tx : Nat → Int} {n a : Nat} {c : Nat × Rw} (h : coP tx n a = .inr c) : ∀ w k, 201 ≤ k → c.2 w k = w k := by
  unfold coP at h
  split at h
  · cases hp : nmP tx n 0 3 (rn (qB tx) n a + 5) with
    | inl w => rw [hp] at h; cases h
    | inr e =>
      have hv := nmP_v hp
      rw [hp] at h
      dsimp only at h
      cases hp2 : nmP tx n 0 3 e.1 with
      | inl w => rw [hp2] at h; cases h
      | inr e2 =>
        have hv2 := nmP_v hp2
        rw [hp2] at h
        dsimp only at h
        unfold coR at h
        split at h
        · exact coN_row h (by omega)
        · split at h
          · exact coN_row h (by omega)
          · split at h
            · cases hp3 : nmP tx n 0 9 (rn (qB tx) n e2.1 + 4) with
              | inl w => rw [hp3] at h; cases h
              | inr e3 =>
                have hv3 := nmP_v hp3
                rw [hp3] at h
                exact coN_row h (by omega)
            · cases h
  · split at h
    · exact coN_row h (by decide)
    · split at h
      · exact coN_row h (by decide)
      · split at h
        · exact coN_row h (by decide)
        · cases h
theorem rowS_r (S : Nat → Nat → Int) (w : Nat → Int) (k : Nat) : rowS S w 0 k = S 0 k := rfl
theorem rowS_1 (S : Nat → Nat → Int) (w : Nat → Int) : rowS S w 1 = w := rfl
theorem rowS_w (S : Nat → Nat → Int) (w : Nat → Int) (k : Nat) (v : Int) : mm_up (rowS S w) 0 k v = rowS (mm_up S 0 k v) w := by
  funext a b
  grind [up_eq, rowS_at]
theorem rowS_rowS (S : Nat → Nat → Int) (w w' : Nat → Int) : rowS (rowS S w) w' = rowS S w' := by
  funext a b
  grind [rowS_at]
theorem rowS_pS (S : Nat → Nat → Int) (w : Nat → Int) (a f d : Int) : pS (rowS S w) a f d = rowS (pS S a f d) w := by
  funext h k
  grind [pS_at, rowS_at]
theorem mT_row {S : Nat → Nat → Int} {w : Nat → Int} {tx : Nat → Int} {n : Nat} (h7 : S 0 7 = -1) (h : mT S tx n) : mT (rowS S w) tx n := by
  obtain ⟨h1, h2, h3, h4⟩ := h
  refine ⟨h1, h2, h3, ?_⟩
  rcases h4 with ⟨h5, h6⟩ | ⟨b, h5, -⟩
  · exact Or.inl ⟨h5, h6⟩
  · omega
def zX9_lines_c : zz_Sp := fun as M Q X => match as with
  | [.inr (.inr (some h_)), .inl rule] => bif Nat.beq h_ 0 && Nat.beq M.1.1 1 then (∃ (tx_ : Nat → Int) (n_ : Nat), mT M.2.1 tx_ n_ ∧ M.2.1 0 7 = -1 ∧ rule = 0 ∧ M.2.1 0 10 = -1 ∧ (∀ w_ : Nat, ctP tx_ n_ = .inl w_ → ∀ (z_ : Nat) (d_ : Int) (r_ : Nat → Int), z_ ≤ n_ + 6 → (∀ k_, 201 ≤ k_ → r_ k_ = M.2.1 1 k_) → Q none (zm (rowS (pS M.2.1 z_ w_ d_) r_) M.2.2.1)) ∧ (∀ c_ : Nat × Rw, ctP tx_ n_ = .inr c_ → Q none (zm (rowS (pS M.2.1 n_ (-1) 0) (c_.2 (M.2.1 1))) M.2.2.1))) else False
  | _ => False

def zpX9_lines_c : zz_P := [(0, zo_ald 1 0), (1, zo_c 2 (vi 0)), (2, zo_puti 5 8 9), (5, zo_ald 6 0), (6, zo_c 7 (vi 0)), (7, zo_puti 10 8 11), (10, zo_ald 11 0), (11, zo_callv 14 1 8 zX9_skip), (14, zo_ald 15 0), (15, zo_get 18 8 0 9), (18, zo_ald 19 0), (19, zo_get 22 8 0 8), (22, zo_cge false false 25 29), (25, zo_c 26 (vi 1)), (26, zo_goto 30), (29, zo_c 30 (vi 0)), (30, zo_ist 31 2), (31, zo_c 32 (vi 0)), (32, zo_ist 33 3), (33, zo_ild 34 2), (34, zo_ifeq false 37 145), (37, zo_ald 38 0), (38, zo_get 41 8 0 10), (41, zo_c 42 (vi (-1))), (42, zo_cne false true 45 145), (45, zo_ald 46 0), (46, zo_callv 49 1 8 zX9_skip), (49, zo_ild 50 3), (50, zo_c 52 (vi 12)), (52, zo_cne false true 55 66), (55, zo_ald 56 0), (56, zo_ald 57 0), (57, zo_get 60 8 0 9), (60, zo_callv 63 2 8 zX9_wrong), (63, zo_goto 81), (66, zo_ild 67 1), (67, zo_ifeq false 70 77), (70, zo_ald 71 0), (71, zo_bad), (74, zo_goto 81), (77, zo_ald 78 0), (78, zo_callv 81 1 8 zX9_courtLine), (81, zo_inc 84 3 1), (84, zo_ald 85 0), (85, zo_callv 88 1 8 zX9_skip), (88, zo_ald 89 0), (89, zo_get 92 8 0 10), (92, zo_c 93 (vi (-1))), (93, zo_cne false true 96 107), (96, zo_ald 97 0), (97, zo_get 100 8 0 9), (100, zo_ald 101 0), (101, zo_get 104 8 0 8), (104, zo_cne false false 107 112), (107, zo_c 108 (vi 0)), (108, zo_ist 109 2), (109, zo_goto 33), (112, zo_ald 113 0), (113, zo_c 115 (vi 59)), (115, zo_callv 118 2 8 zX9_isSign), (118, zo_zifeq 121 134), (121, zo_ald 122 0), (122, zo_dup 123), (123, zo_get 126 8 0 9), (126, zo_c 127 (vi 1)), (127, zo_iadd 128), (128, zo_puti 131 8 9), (131, zo_goto 33), (134, zo_ald 135 0), (135, zo_ald 136 0), (136, zo_get 139 8 0 9), (139, zo_callv 142 2 8 zX9_wrong), (142, zo_goto 33), (145, zo_vret)]
theorem ztX9_lines_c {C : mm_C} (G : mm_G C RX9 cX9_lines none 4 (mm_rm 32 0 0)) (hnh : mm_nh C) : zz_OKs C zpX9_lines_c :=
  ⟨zz_of (ok_aload_n G dX9_lines_0 rfl rfl) (z_ald _ _),
   zz_of (ok_iconst G (v := 0) dX9_lines_1 (by decide) rfl) (z_cn 2 0),
   zz_of (ok_puti G (nx := 5) (idx := 80) (ci := 8) (k := 9) (RX9, TX9, 32) rfl (by decide) rfl (mm_pw G (ci := 8) (k := 9) (RX9, TX9, 32) rfl (by decide) rfl q1814 dX9_lines_2) rfl) (z_puti _ _ _),
   zz_of (ok_aload_n G dX9_lines_5 rfl rfl) (z_ald _ _),
   zz_of (ok_iconst G (v := 0) dX9_lines_6 (by decide) rfl) (z_cn 7 0),
   zz_of (ok_puti G (nx := 10) (idx := 129) (ci := 8) (k := 11) (RX9, TX9, 32) rfl (by decide) rfl (mm_pw G (ci := 8) (k := 11) (RX9, TX9, 32) rfl (by decide) rfl q1816 dX9_lines_7) rfl) (z_puti _ _ _),
   zz_of (ok_aload_n G dX9_lines_10 rfl rfl) (z_ald _ _),
   zz_of (ok_callv G hnh (zmX9_skip _ G.hst) rfl rfl (RX9, TX9, 32) rfl q1925 q1927 qs41 q93 q1928 (by decide +kernel) ⟨by decide, by decide⟩ dX9_lines_11 rfl) (z_callv _ _ _ _),
   zz_of (ok_aload_n G dX9_lines_14 rfl rfl) (z_ald _ _),
   zz_of (ok_get G (nx := 18) (ci := 8) (kd := 0) (k := 9) (RX9, TX9, 32) rfl (by decide) rfl q1814 dX9_lines_15 rfl) (z_get _ _ _ _),
   zz_of (ok_aload_n G dX9_lines_18 rfl rfl) (z_ald _ _),
   zz_of (ok_get G (nx := 22) (ci := 8) (kd := 0) (k := 8) (RX9, TX9, 32) rfl (by decide) rfl q1813 dX9_lines_19 rfl) (z_get _ _ _ _),
   zz_of (ok_cge G dX9_lines_22 rfl rfl) (z_cge _ _ _ _),
   zz_of (ok_iconst G (v := 1) dX9_lines_25 (by decide) rfl) (z_cn 26 1),
   zz_of (ok_goto G dX9_lines_26 rfl) (z_goto _),
   zz_of (ok_iconst G (v := 0) dX9_lines_29 (by decide) rfl) (z_cn 30 0),
   zz_of (ok_istore_n G dX9_lines_30 rfl rfl (by decide)) (z_ist _ _),
   zz_of (ok_iconst G (v := 0) dX9_lines_31 (by decide) rfl) (z_cn 32 0),
   zz_of (ok_istore_n G dX9_lines_32 rfl rfl (by decide)) (z_ist _ _),
   zz_of (ok_iload_n G dX9_lines_33 rfl rfl) (z_ild _ _),
   zz_of (ok_ifeq G dX9_lines_34 rfl rfl) (z_ifeq _ _ _),
   zz_of (ok_aload_n G dX9_lines_37 rfl rfl) (z_ald _ _),
   zz_of (ok_get G (nx := 41) (ci := 8) (kd := 0) (k := 10) (RX9, TX9, 32) rfl (by decide) rfl q1815 dX9_lines_38 rfl) (z_get _ _ _ _),
   zz_of (ok_iconst G (v := (zI (-1))) dX9_lines_41 (by decide) rfl) (z_cz 42 (-1)),
   zz_of (ok_cne G dX9_lines_42 rfl rfl) (z_cne _ _ _ _),
   zz_of (ok_aload_n G dX9_lines_45 rfl rfl) (z_ald _ _),
   zz_of (ok_callv G hnh (zmX9_skip _ G.hst) rfl rfl (RX9, TX9, 32) rfl q1925 q1927 qs41 q93 q1928 (by decide +kernel) ⟨by decide, by decide⟩ dX9_lines_46 rfl) (z_callv _ _ _ _),
   zz_of (ok_iload_n G dX9_lines_49 rfl rfl) (z_ild _ _),
   zz_of (ok_bipush G (v := 12) dX9_lines_50 (by decide) rfl) (z_cn 52 12),
   zz_of (ok_cne G dX9_lines_52 rfl rfl) (z_cne _ _ _ _),
   zz_of (ok_aload_n G dX9_lines_55 rfl rfl) (z_ald _ _),
   zz_of (ok_aload_n G dX9_lines_56 rfl rfl) (z_ald _ _),
   zz_of (ok_get G (nx := 60) (ci := 8) (kd := 0) (k := 9) (RX9, TX9, 32) rfl (by decide) rfl q1814 dX9_lines_57 rfl) (z_get _ _ _ _),
   zz_of (ok_callv G hnh (zmX9_wrong _ G.hst) rfl rfl (RX9, TX9, 32) rfl q1933 q1935 qs43 q93 q1936 (by decide +kernel) ⟨by decide, by decide⟩ dX9_lines_60 rfl) (z_callv _ _ _ _),
   zz_of (ok_goto G dX9_lines_63 rfl) (z_goto _),
   zz_of (ok_iload_n G dX9_lines_66 rfl rfl) (z_ild _ _),
   zz_of (ok_ifeq G dX9_lines_67 rfl rfl) (z_ifeq _ _ _),
   zz_of (ok_aload_n G dX9_lines_70 rfl rfl) (z_ald _ _),
   zz_of (ok_bad) (z_bad),
   zz_of (ok_goto G dX9_lines_74 rfl) (z_goto _),
   zz_of (ok_aload_n G dX9_lines_77 rfl rfl) (z_ald _ _),
   zz_of (ok_callv G hnh (zmX9_courtLine _ G.hst) rfl rfl (RX9, TX9, 32) rfl q2001 q2003 qs54 q93 q2004 (by decide +kernel) ⟨by decide, by decide⟩ dX9_lines_78 rfl) (z_callv _ _ _ _),
   zz_of (ok_iinc G (v := 1) dX9_lines_81 (by decide) rfl (by decide)) (z_incn 84 3 1),
   zz_of (ok_aload_n G dX9_lines_84 rfl rfl) (z_ald _ _),
   zz_of (ok_callv G hnh (zmX9_skip _ G.hst) rfl rfl (RX9, TX9, 32) rfl q1925 q1927 qs41 q93 q1928 (by decide +kernel) ⟨by decide, by decide⟩ dX9_lines_85 rfl) (z_callv _ _ _ _),
   zz_of (ok_aload_n G dX9_lines_88 rfl rfl) (z_ald _ _),
   zz_of (ok_get G (nx := 92) (ci := 8) (kd := 0) (k := 10) (RX9, TX9, 32) rfl (by decide) rfl q1815 dX9_lines_89 rfl) (z_get _ _ _ _),
   zz_of (ok_iconst G (v := (zI (-1))) dX9_lines_92 (by decide) rfl) (z_cz 93 (-1)),
   zz_of (ok_cne G dX9_lines_93 rfl rfl) (z_cne _ _ _ _),
   zz_of (ok_aload_n G dX9_lines_96 rfl rfl) (z_ald _ _),
   zz_of (ok_get G (nx := 100) (ci := 8) (kd := 0) (k := 9) (RX9, TX9, 32) rfl (by decide) rfl q1814 dX9_lines_97 rfl) (z_get _ _ _ _),
   zz_of (ok_aload_n G dX9_lines_100 rfl rfl) (z_ald _ _),
   zz_of (ok_get G (nx := 104) (ci := 8) (kd := 0) (k := 8) (RX9, TX9, 32) rfl (by decide) rfl q1813 dX9_lines_101 rfl) (z_get _ _ _ _),
   zz_of (ok_cne G dX9_lines_104 rfl rfl) (z_cne _ _ _ _),
   zz_of (ok_iconst G (v := 0) dX9_lines_107 (by decide) rfl) (z_cn 108 0),
   zz_of (ok_istore_n G dX9_lines_108 rfl rfl (by decide)) (z_ist _ _),
   zz_of (ok_goto G dX9_lines_109 rfl) (z_goto _),
   zz_of (ok_aload_n G dX9_lines_112 rfl rfl) (z_ald _ _),
   zz_of (ok_bipush G (v := 59) dX9_lines_113 (by decide) rfl) (z_cn 115 59),
   zz_of (ok_callv G hnh (zmX9_isSign _ G.hst) rfl rfl (RX9, TX9, 32) rfl q1976 q1978 qs50 q93 q1979 (by decide +kernel) ⟨by decide, by decide⟩ dX9_lines_115 rfl) (z_callv _ _ _ _),
   zz_of (ok_ifeq G dX9_lines_118 rfl rfl) (z_zifeq _ _),
   zz_of (ok_aload_n G dX9_lines_121 rfl rfl) (z_ald _ _),
   zz_of (ok_dup G dX9_lines_122 rfl) (z_dup _),
   zz_of (ok_get G (nx := 126) (ci := 8) (kd := 0) (k := 9) (RX9, TX9, 32) rfl (by decide) rfl q1814 dX9_lines_123 rfl) (z_get _ _ _ _),
   zz_of (ok_iconst G (v := 1) dX9_lines_126 (by decide) rfl) (z_cn 127 1),
   zz_of (ok_iadd G dX9_lines_127 rfl) (z_iadd _),
   zz_of (ok_puti G (nx := 131) (idx := 80) (ci := 8) (k := 9) (RX9, TX9, 32) rfl (by decide) rfl (mm_pw G (ci := 8) (k := 9) (RX9, TX9, 32) rfl (by decide) rfl q1814 dX9_lines_128) rfl) (z_puti _ _ _),
   zz_of (ok_goto G dX9_lines_131 rfl) (z_goto _),
   zz_of (ok_aload_n G dX9_lines_134 rfl rfl) (z_ald _ _),
   zz_of (ok_aload_n G dX9_lines_135 rfl rfl) (z_ald _ _),
   zz_of (ok_get G (nx := 139) (ci := 8) (kd := 0) (k := 9) (RX9, TX9, 32) rfl (by decide) rfl q1814 dX9_lines_136 rfl) (z_get _ _ _ _),
   zz_of (ok_callv G hnh (zmX9_wrong _ G.hst) rfl rfl (RX9, TX9, 32) rfl q1933 q1935 qs43 q93 q1936 (by decide +kernel) ⟨by decide, by decide⟩ dX9_lines_139 rfl) (z_callv _ _ _ _),
   zz_of (ok_goto G dX9_lines_142 rfl) (z_goto _),
   zz_of (ok_vret G dX9_lines_145) (z_vret), trivial⟩

theorem zwX9_lines_c_0 {Q : Option zv → zz_M → Prop} {X : Nat → zz_M → Prop} {S L : Nat → Nat → Int} {rule : Int} (h : (∃ (tx_1 : Nat → Int) (n_1 a_1 : Nat), mT (mm_up (mm_up S 0 9 0) 0 11 0) tx_1 n_1 ∧ (mm_up (mm_up S 0 9 0) 0 11 0) 0 9 = a_1 ∧ a_1 ≤ n_1 + 1000 ∧ (R32 ((rn (qB tx_1) n_1 a_1 : Nat) : Int) ∧ (R32 (S 0 8) ∧ (((S 0 8) ≤ ((rn (qB tx_1) n_1 a_1 : Nat) : Int) → zz_J zpX9_lines_c (zz_ret Q X 0 0) 33 [some (vr 0), some (vi rule), some (vi 0), some (vi 0)] [] (zm (mm_up (mm_up (mm_up S 0 9 0) 0 11 0) 0 9 ((rn (qB tx_1) n_1 a_1 : Nat) : Int)) L) (0, 0)) ∧ (¬ (S 0 8) ≤ ((rn (qB tx_1) n_1 a_1 : Nat) : Int) → zz_J zpX9_lines_c (zz_ret Q X 0 0) 33 [some (vr 0), some (vi rule), some (vi 1), some (vi 0)] [] (zm (mm_up (mm_up (mm_up S 0 9 0) 0 11 0) 0 9 ((rn (qB tx_1) n_1 a_1 : Nat) : Int)) L) (0, 0))))))) : zz_J zpX9_lines_c (zz_ret Q X 0 0) 0 [some (vr 0), some (vi rule), none, none] [] (zm S L) (0, 0) := zz_J.go [(33, []), (81, [])] 400 h
theorem zwX9_lines_c_33 {Q : Option zv → zz_M → Prop} {X : Nat → zz_M → Prop} {S L : Nat → Nat → Int} {x1 : Int} {x2 : Int} {x3 : Int} (h : R32 x2 ∧ ((x2 = 0 → Q none (zm S L)) ∧ (¬ x2 = 0 → R32 (S 0 10) ∧ ((¬ (S 0 10) = (-1) → Q none (zm S L)) ∧ ((S 0 10) = (-1) → (∃ (tx_1 : Nat → Int) (n_1 a_1 : Nat), mT S tx_1 n_1 ∧ S 0 9 = a_1 ∧ a_1 ≤ n_1 + 1000 ∧ (R32 x3 ∧ ((¬ x3 = 12 → R32 x1 ∧ ((x1 = 0 → (∃ (tx_2 : Nat → Int) (n_2 a_2 : Nat), mT (mm_up S 0 9 ((rn (qB tx_1) n_1 a_1 : Nat) : Int)) tx_2 n_2 ∧ (mm_up S 0 9 ((rn (qB tx_1) n_1 a_1 : Nat) : Int)) 0 9 = a_2 ∧ (mm_up S 0 9 ((rn (qB tx_1) n_1 a_1 : Nat) : Int)) 0 10 = -1 ∧ a_2 ≤ n_2 ∧ (∀ w_2 : Nat, coP tx_2 n_2 a_2 = .inl w_2 → ∀ (z_2 : Nat) (d_2 : Int) (r_2 : Nat → Int), z_2 ≤ n_2 → (∀ k_2, 201 ≤ k_2 → r_2 k_2 = (mm_up S 0 9 ((rn (qB tx_1) n_1 a_1 : Nat) : Int)) 1 k_2) → (zz_J zpX9_lines_c (zz_ret Q X 0 0) 81 [some (vr 0), some (vi x1), some (vi x2), some (vi x3)] [] (zm (rowS (pS (mm_up S 0 9 ((rn (qB tx_1) n_1 a_1 : Nat) : Int)) z_2 w_2 d_2) r_2) L) (0, 0))) ∧ (∀ c_2 : Nat × Rw, coP tx_2 n_2 a_2 = .inr c_2 → (zz_J zpX9_lines_c (zz_ret Q X 0 0) 81 [some (vr 0), some (vi x1), some (vi x2), some (vi x3)] [] (zm (rowS (pS (mm_up S 0 9 ((rn (qB tx_1) n_1 a_1 : Nat) : Int)) c_2.1 (-1) ((mm_up S 0 9 ((rn (qB tx_1) n_1 a_1 : Nat) : Int)) 0 11)) (c_2.2 ((mm_up S 0 9 ((rn (qB tx_1) n_1 a_1 : Nat) : Int)) 1))) L) (0, 0))))) ∧ (¬ x1 = 0 → False))) ∧ (x3 = 12 → (R32 ((mm_up S 0 9 ((rn (qB tx_1) n_1 a_1 : Nat) : Int)) 0 10) ∧ (zz_J zpX9_lines_c (zz_ret Q X 0 0) 81 [some (vr 0), some (vi x1), some (vi x2), some (vi x3)] [] (zm (mm_up (mm_up S 0 9 ((rn (qB tx_1) n_1 a_1 : Nat) : Int)) 0 10 (wrF ((mm_up S 0 9 ((rn (qB tx_1) n_1 a_1 : Nat) : Int)) 0 10) ((rn (qB tx_1) n_1 a_1 : Nat) : Int))) L) (0, 0)))))))))))) : zz_J zpX9_lines_c (zz_ret Q X 0 0) 33 [some (vr 0), some (vi x1), some (vi x2), some (vi x3)] [] (zm S L) (0, 0) := zz_J.go [(33, []), (81, [])] 400 h
theorem zwX9_lines_c_81 {Q : Option zv → zz_M → Prop} {X : Nat → zz_M → Prop} {S L : Nat → Nat → Int} {x1 : Int} {x2 : Int} {x3 : Int} (h : (∃ (tx_1 : Nat → Int) (n_1 a_1 : Nat), mT S tx_1 n_1 ∧ S 0 9 = a_1 ∧ a_1 ≤ n_1 + 1000 ∧ (R32 (S 0 10) ∧ ((¬ (S 0 10) = (-1) → zz_J zpX9_lines_c (zz_ret Q X 0 0) 33 [some (vr 0), some (vi x1), some (vi 0), some (vi (x3 + 1))] [] (zm (mm_up S 0 9 ((rn (qB tx_1) n_1 a_1 : Nat) : Int)) L) (0, 0)) ∧ ((S 0 10) = (-1) → R32 ((rn (qB tx_1) n_1 a_1 : Nat) : Int) ∧ (R32 (S 0 8) ∧ ((¬ ((rn (qB tx_1) n_1 a_1 : Nat) : Int) = (S 0 8) → (∃ (tx_2 : Nat → Int) (n_2 a_2 : Nat), R32 (59 : Int) ∧ mT (mm_up S 0 9 ((rn (qB tx_1) n_1 a_1 : Nat) : Int)) tx_2 n_2 ∧ (mm_up S 0 9 ((rn (qB tx_1) n_1 a_1 : Nat) : Int)) 0 9 = a_2 ∧ a_2 ≤ n_2 ∧ (isSg tx_2 n_2 (rn (qB tx_2) n_2 a_2) (59 : Int) = true → (zz_J zpX9_lines_c (zz_ret Q X 0 0) 33 [some (vr 0), some (vi x1), some (vi x2), some (vi (x3 + 1))] [] (zm (mm_up (mm_up (mm_up S 0 9 ((rn (qB tx_1) n_1 a_1 : Nat) : Int)) 0 9 ((rn (qB tx_2) n_2 a_2 : Nat) : Int)) 0 9 (((rn (qB tx_2) n_2 a_2 : Nat) : Int) + 1)) L) (0, 0))) ∧ (isSg tx_2 n_2 (rn (qB tx_2) n_2 a_2) (59 : Int) = false → ((R32 ((mm_up (mm_up S 0 9 ((rn (qB tx_1) n_1 a_1 : Nat) : Int)) 0 9 ((rn (qB tx_2) n_2 a_2 : Nat) : Int)) 0 10) ∧ (zz_J zpX9_lines_c (zz_ret Q X 0 0) 33 [some (vr 0), some (vi x1), some (vi x2), some (vi (x3 + 1))] [] (zm (mm_up (mm_up (mm_up S 0 9 ((rn (qB tx_1) n_1 a_1 : Nat) : Int)) 0 9 ((rn (qB tx_2) n_2 a_2 : Nat) : Int)) 0 10 (wrF ((mm_up (mm_up S 0 9 ((rn (qB tx_1) n_1 a_1 : Nat) : Int)) 0 9 ((rn (qB tx_2) n_2 a_2 : Nat) : Int)) 0 10) ((rn (qB tx_2) n_2 a_2 : Nat) : Int))) L) (0, 0))))))) ∧ (((rn (qB tx_1) n_1 a_1 : Nat) : Int) = (S 0 8) → zz_J zpX9_lines_c (zz_ret Q X 0 0) 33 [some (vr 0), some (vi x1), some (vi 0), some (vi (x3 + 1))] [] (zm (mm_up S 0 9 ((rn (qB tx_1) n_1 a_1 : Nat) : Int)) L) (0, 0))))))))) : zz_J zpX9_lines_c (zz_ret Q X 0 0) 81 [some (vr 0), some (vi x1), some (vi x2), some (vi x3)] [] (zm S L) (0, 0) := zz_J.go [(33, []), (81, [])] 400 h

theorem zmX9_lines_c (l : Launch) (hl : l.stackTraces = false) : mm_Spec l yX9_lines (ws_ yX9_lines cX9_lines 4 none) (mm_rm 32 0 0) (zE zX9_lines_c) := by
  refine zz_Met.J hl (by decide) (fun C G hnh => ztX9_lines_c G hnh) ?_
  rintro as ⟨⟨t_, f⟩, S, L, P⟩ Q X h
  unfold zX9_lines_c at h
  split at h
  rotate_left
  · exact h.elim
  rename_i h_ rule
  obtain ⟨e1_, e2_, h⟩ := mm_and2 h (fun q => q)
  cases mm_beq e1_
  cases mm_beq e2_
  try dsimp only at h
  refine ⟨rfl, ?_⟩
  refine zz_Jev (M' := zm S L) rfl rfl rfl ?_
  obtain ⟨tx, n, hT, h7, rfl, h10, hq1, hq2⟩ := h
  have hn := hT.1
  have h8 := hT.2.1
  have hok := coP_ok (tx := tx) (n := n)
  have hTr : ∀ (a f d : Int) (r : Nat → Int), mT (rowS (pS S a f d) r) tx n := fun a f d r => mT_row h7 (hT.pS a f d)
  have t33o : ∀ (T : Nat → Nat → Int) (x3 : Int), Q none (zm T L) → zz_J zpX9_lines_c (zz_ret Q X 0 0) 33 [some (vr 0), some (vi 0), some (vi 0), some (vi x3)] [] (zm T L) (0, 0) := by
    intro T x3 hq
    exact zwX9_lines_c_33 ⟨by omega, fun _ => hq, fun h => absurd rfl h⟩
  have t81w : ∀ (w z : Nat) (x3 d : Int) (r : Nat → Int), w ≤ n → z ≤ n + 6 → (∀ k, 201 ≤ k → r k = S 1 k) → ctP tx n = .inl w → zz_J zpX9_lines_c (zz_ret Q X 0 0) 81 [some (vr 0), some (vi 0), some (vi 1), some (vi x3)] [] (zm (rowS (pS S z w d) r) L) (0, 0) := by
    intro w z x3 d r hw hz hr e
    refine zwX9_lines_c_81 ?_
    simp only [rowS_r, rowS_w, pS_r10, pS_r9, pS_r11, pS_9, pS_pS]
    exact ⟨tx, n, z, hTr _ _ _ _, rfl, by omega, by omega, fun _ => t33o _ _ (hq1 w e _ d r (rn_le6 hz) hr), fun h => by omega⟩
  have lp : ∀ (k a : Nat) (x3 : Int) (g : Rw), k ≤ 12 → x3 = 12 - k → a ≤ n → (∀ w j, 201 ≤ j → g w j = w j) → ctP tx n = liF tx n (coP tx n) (fun g h w => h (g w)) k a g → zz_J zpX9_lines_c (zz_ret Q X 0 0) 33 [some (vr 0), some (vi 0), some (vi 1), some (vi x3)] [] (zm (rowS (pS S a (-1) 0) (g (S 1))) L) (0, 0) := by
    intro k
    induction k with
    | zero =>
      intro a x3 g hr hx ha hg e
      have hb := rn_le (q := qB tx) ha
      refine zwX9_lines_c_33 ?_
      simp only [rowS_r, rowS_w, pS_r10, pS_r9, pS_r11, pS_9, pS_10, pS_pS, wrF, if_true]
      refine ⟨by omega, fun h => absurd h (by decide), fun _ => ⟨by omega, fun h => absurd trivial h, fun _ => ⟨tx, n, a, hTr _ _ _ _, rfl, by omega, by omega, fun h => by omega, fun _ => ⟨by omega, ?_⟩⟩⟩⟩
      exact t81w _ _ x3 0 _ hb (by omega) (hg _) e
    | succ k ih =>
      intro a x3 g hr hx ha hg e
      have hb := rn_le (q := qB tx) ha
      have hp := hok _ hb
      unfold liF at e
      refine zwX9_lines_c_33 ?_
      simp only [rowS_r, rowS_w, rowS_1, rowS_pS, rowS_rowS, pS_r10, pS_r9, pS_r11, pS_9, pS_10, pS_pS, wrF, if_true]
      refine ⟨by omega, fun h => absurd h (by decide), fun _ => ⟨by omega, fun h => absurd trivial h, fun _ => ⟨tx, n, a, hTr _ _ _ _, rfl, by omega, by omega, fun _ => ⟨by omega, fun _ => ?_, fun h => absurd trivial h⟩, fun h => by omega⟩⟩⟩
      refine ⟨tx, n, rn (qB tx) n a, hTr _ _ _ _, rfl, trivial, hb, fun w ew z d r hz hr2 => ?_, fun c ec => ?_⟩
      · rw [ew] at e
        exact t81w w z x3 d r (hp.2 w ew) (by omega) (fun j hj => by rw [hr2 j hj]; exact hg _ j hj) e
      · have hc := hp.1 c ec
        have hv := coP_row ec
        have g2 := rn_le (q := qB tx) hc.2
        have gg := rn_rn (q := qB tx) hc.2
        have hg' : ∀ w j, 201 ≤ j → c.2 (g w) j = w j := fun w j hj => by rw [hv _ j hj, hg _ j hj]
        rw [ec] at e
        dsimp only at e
        refine zwX9_lines_c_81 ?_
        simp only [rowS_r, rowS_w, rowS_1, rowS_pS, rowS_rowS, pS_r10, pS_r9, pS_r11, pS_9, pS_10, pS_r8, pS_pS, wrF, if_true]
        refine ⟨tx, n, c.1, hTr _ _ _ _, rfl, by omega, by omega, fun h => absurd trivial h, fun _ => ⟨by omega, by omega, fun ne => ⟨tx, n, rn (qB tx) n c.1, by omega, hTr _ _ _ _, rfl, g2, ?_⟩, fun eq => ?_⟩⟩
        · rw [gg]
          rw [if_neg (by omega)] at e
          refine ⟨fun sg => ?_, fun sg => ⟨by omega, ?_⟩⟩
          · rw [if_pos sg] at e
            have h5 := (isSg_t.mp sg).1
            exact ih (rn (qB tx) n c.1 + 1) (x3 + 1) (fun w => c.2 (g w)) (by omega) (by omega) (by omega) hg' e
          · rw [if_neg (by rw [sg]; decide)] at e
            refine zwX9_lines_c_33 ?_
            simp only [rowS_r, pS_r10]
            exact ⟨by omega, fun h => absurd h (by decide), fun _ => ⟨by omega, fun _ => hq1 _ e _ 0 _ (by omega) (hg' _), fun h => by omega⟩⟩
        · rw [if_pos (by omega)] at e
          have hq := hq2 _ e
          have en : rn (qB tx) n c.1 = n := by omega
          rw [en]
          exact t33o _ _ hq
  have hb := rn_le (q := qB tx) (Nat.zero_le n)
  have hS : mm_up (mm_up S 0 9 0) 0 11 0 = pS S 0 (-1) 0 := by
    rw [← h10]
    funext h k
    grind [up_eq, pS_at]
  refine zwX9_lines_c_0 ?_
  rw [hS]
  simp only [pS_r9, pS_9, pS_r8, mT_pS]
  refine ⟨tx, n, 0, hT, rfl, by omega, by omega, by omega, fun c => ?_, fun c => ?_⟩
  · have e : ctP tx n = .inr (n, fun w => w) := by unfold ctP liP; rw [if_pos (by omega)]
    have hq := hq2 _ e
    have en : rn (qB tx) n 0 = n := by omega
    rw [en]
    refine t33o _ _ ?_
    dsimp only at hq
    rw [rowS_id] at hq
    exact hq
  · have e : ctP tx n = liF tx n (coP tx n) (fun g h w => h (g w)) 12 0 (fun w => w) := by unfold ctP liP; rw [if_neg (by omega)]
    have e2 : liF tx n (coP tx n) (fun g h w => h (g w)) 12 0 (fun w => w) = liF tx n (coP tx n) (fun g h w => h (g w)) 12 (rn (qB tx) n 0) (fun w => w) := by
      unfold liF
      rw [rn_rn (Nat.zero_le n)]
    rw [e2] at e
    have := lp 12 (rn (qB tx) n 0) 0 (fun w => w) (by decide) (by omega) hb (fun _ _ _ => rfl) e
    rw [rowS_id] at this
    exact this
