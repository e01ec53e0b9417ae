/-! ===== the model's methods that read conditions, by whole numbers ===== -/
set_option maxRecDepth 100000
theorem pS_r9 (S : Nat → Nat → Int) (a f d : Int) : pS S a f d 0 9 = a := rfl
theorem pS_r10 (S : Nat → Nat → Int) (a f d : Int) : pS S a f d 0 10 = f := rfl
theorem pS_r11 (S : Nat → Nat → Int) (a f d : Int) : pS S a f d 0 11 = d := rfl
theorem mT_pS {S : Nat → Nat → Int} {tx : Nat → Int} {n : Nat} {a f d : Int} : mT (pS S a f d) tx n ↔ mT S tx n := by
  refine ⟨fun h => ?_, fun h => h.pS _ _ _⟩
  have h2 := h.pS (S 0 9) (S 0 10) (S 0 11)
  rw [pS_pS, pS_id] at h2
  exact h2
theorem fcS_pS (S : Nat → Nat → Int) (a f d : Int) : fcS (pS S a f d) = fcS S := by
  funext k
  grind [fcS, pS_at]
theorem pS_of {S : Nat → Nat → Int} {a : Nat} {f : Int} (h9 : S 0 9 = a) (h10 : S 0 10 = f) : S = pS S a f (S 0 11) := by
  rw [← h9, ← h10, pS_id]
def zX9_sum : zz_Sp := fun as M Q X => match as with
  | [.inr (.inr (some h_))] => bif Nat.beq h_ 0 && Nat.beq M.1.1 1 then (∃ (tx_ : Nat → Int) (n_ a_ : Nat), mT M.2.1 tx_ n_ ∧ M.2.1 0 9 = a_ ∧ M.2.1 0 10 = -1 ∧ a_ ≤ n_ ∧ (∀ w_ : Nat, suP tx_ n_ a_ = .inl w_ → ∀ (v_ : Int) (z_ : Nat) (d_ : Int), z_ ≤ n_ → Q (some (vi v_)) (zm (pS M.2.1 z_ w_ d_) M.2.2.1)) ∧ (∀ c_ : Nat × (Fc → Int), suP tx_ n_ a_ = .inr c_ → Q (some (vi (c_.2 (fcS M.2.1)))) (zm (pS M.2.1 c_.1 (-1) (M.2.1 0 11)) M.2.2.1))) else False
  | _ => False

def zpX9_sum : zz_P := [(0, zo_ald 1 0), (1, zo_callv 4 1 8 zX9_part), (4, zo_ist 5 1), (5, zo_ald 6 0), (6, zo_get 9 8 0 10), (9, zo_c 10 (vi (-1))), (10, zo_cne false true 13 42), (13, zo_ald 14 0), (14, zo_c 16 (vi 43)), (16, zo_callv 19 2 8 zX9_isSign), (19, zo_zifeq 22 42), (22, zo_ald 23 0), (23, zo_dup 24), (24, zo_get 27 8 0 9), (27, zo_c 28 (vi 1)), (28, zo_iadd 29), (29, zo_puti 32 8 9), (32, zo_ild 33 1), (33, zo_ald 34 0), (34, zo_callv 37 1 8 zX9_part), (37, zo_iadd 38), (38, zo_ist 39 1), (39, zo_goto 5), (42, zo_ild 43 1), (43, zo_iret)]
theorem ztX9_sum {C : mm_C} (G : mm_G C RX9 cX9_sum (some .int) 2 (mm_rm 7 0 0)) (hnh : mm_nh C) : zz_OKs C zpX9_sum :=
  ⟨zz_of (ok_aload_n G dX9_sum_0 rfl rfl) (z_ald _ _),
   zz_of (ok_callv G hnh (zmX9_part _ G.hst) rfl rfl (RX9, TX9, 32) rfl q1990 q1992 qs53 q93 q1993 (by decide +kernel) ⟨by decide, by decide⟩ dX9_sum_1 rfl) (z_callv _ _ _ _),
   zz_of (ok_istore_n G dX9_sum_4 rfl rfl (by decide)) (z_ist _ _),
   zz_of (ok_aload_n G dX9_sum_5 rfl rfl) (z_ald _ _),
   zz_of (ok_get G (nx := 9) (ci := 8) (kd := 0) (k := 10) (RX9, TX9, 32) rfl (by decide) rfl q1815 dX9_sum_6 rfl) (z_get _ _ _ _),
   zz_of (ok_iconst G (v := (zI (-1))) dX9_sum_9 (by decide) rfl) (z_cz 10 (-1)),
   zz_of (ok_cne G dX9_sum_10 rfl rfl) (z_cne _ _ _ _),
   zz_of (ok_aload_n G dX9_sum_13 rfl rfl) (z_ald _ _),
   zz_of (ok_bipush G (v := 43) dX9_sum_14 (by decide) rfl) (z_cn 16 43),
   zz_of (ok_callv G hnh (zmX9_isSign _ G.hst) rfl rfl (RX9, TX9, 32) rfl q1976 q1978 qs50 q93 q1979 (by decide +kernel) ⟨by decide, by decide⟩ dX9_sum_16 rfl) (z_callv _ _ _ _),
   zz_of (ok_ifeq G dX9_sum_19 rfl rfl) (z_zifeq _ _),
   zz_of (ok_aload_n G dX9_sum_22 rfl rfl) (z_ald _ _),
   zz_of (ok_dup G dX9_sum_23 rfl) (z_dup _),
   zz_of (ok_get G (nx := 27) (ci := 8) (kd := 0) (k := 9) (RX9, TX9, 32) rfl (by decide) rfl q1814 dX9_sum_24 rfl) (z_get _ _ _ _),
   zz_of (ok_iconst G (v := 1) dX9_sum_27 (by decide) rfl) (z_cn 28 1),
   zz_of (ok_iadd G dX9_sum_28 rfl) (z_iadd _),
   zz_of (ok_puti G (nx := 32) (idx := 80) (ci := 8) (k := 9) (RX9, TX9, 32) rfl (by decide) rfl (mm_pw G (ci := 8) (k := 9) (RX9, TX9, 32) rfl (by decide) rfl q1814 dX9_sum_29) rfl) (z_puti _ _ _),
   zz_of (ok_iload_n G dX9_sum_32 rfl rfl) (z_ild _ _),
   zz_of (ok_aload_n G dX9_sum_33 rfl rfl) (z_ald _ _),
   zz_of (ok_callv G hnh (zmX9_part _ G.hst) rfl rfl (RX9, TX9, 32) rfl q1990 q1992 qs53 q93 q1993 (by decide +kernel) ⟨by decide, by decide⟩ dX9_sum_34 rfl) (z_callv _ _ _ _),
   zz_of (ok_iadd G dX9_sum_37 rfl) (z_iadd _),
   zz_of (ok_istore_n G dX9_sum_38 rfl rfl (by decide)) (z_ist _ _),
   zz_of (ok_goto G dX9_sum_39 rfl) (z_goto _),
   zz_of (ok_iload_n G dX9_sum_42 rfl rfl) (z_ild _ _),
   zz_of (ok_iret G dX9_sum_43) (z_iret), trivial⟩

theorem zwX9_sum_0 {Q : Option zv → zz_M → Prop} {X : Nat → zz_M → Prop} {S L : Nat → Nat → Int}  (h : (∃ (tx_1 : Nat → Int) (n_1 a_1 : Nat), mT S tx_1 n_1 ∧ S 0 9 = a_1 ∧ S 0 10 = -1 ∧ a_1 ≤ n_1 ∧ (∀ w_1 : Nat, ptP tx_1 n_1 a_1 = .inl w_1 → ∀ (v_1 : Int) (z_1 : Nat) (d_1 : Int), z_1 ≤ n_1 → (zz_J zpX9_sum (zz_ret Q X 0 0) 5 [some (vr 0), some (vi v_1)] [] (zm (pS S z_1 w_1 d_1) L) (0, 0))) ∧ (∀ c_1 : Nat × (Fc → Int), ptP tx_1 n_1 a_1 = .inr c_1 → (zz_J zpX9_sum (zz_ret Q X 0 0) 5 [some (vr 0), some (vi (c_1.2 (fcS S)))] [] (zm (pS S c_1.1 (-1) (S 0 11)) L) (0, 0))))) : zz_J zpX9_sum (zz_ret Q X 0 0) 0 [some (vr 0), none] [] (zm S L) (0, 0) := zz_J.go [(5, [])] 400 h
theorem zwX9_sum_5 {Q : Option zv → zz_M → Prop} {X : Nat → zz_M → Prop} {S L : Nat → Nat → Int} {x1 : Int} (h : R32 (S 0 10) ∧ ((¬ (S 0 10) = (-1) → Q (some (vi x1)) (zm S L)) ∧ ((S 0 10) = (-1) → (∃ (tx_1 : Nat → Int) (n_1 a_1 : Nat), R32 (43 : Int) ∧ mT S tx_1 n_1 ∧ S 0 9 = a_1 ∧ a_1 ≤ n_1 ∧ (isSg tx_1 n_1 (rn (qB tx_1) n_1 a_1) (43 : Int) = true → ((∃ (tx_2 : Nat → Int) (n_2 a_2 : Nat), mT (mm_up (mm_up S 0 9 ((rn (qB tx_1) n_1 a_1 : Nat) : Int)) 0 9 (((rn (qB tx_1) n_1 a_1 : Nat) : Int) + 1)) tx_2 n_2 ∧ (mm_up (mm_up S 0 9 ((rn (qB tx_1) n_1 a_1 : Nat) : Int)) 0 9 (((rn (qB tx_1) n_1 a_1 : Nat) : Int) + 1)) 0 9 = a_2 ∧ (mm_up (mm_up S 0 9 ((rn (qB tx_1) n_1 a_1 : Nat) : Int)) 0 9 (((rn (qB tx_1) n_1 a_1 : Nat) : Int) + 1)) 0 10 = -1 ∧ a_2 ≤ n_2 ∧ (∀ w_2 : Nat, ptP tx_2 n_2 a_2 = .inl w_2 → ∀ (v_2 : Int) (z_2 : Nat) (d_2 : Int), z_2 ≤ n_2 → (zz_J zpX9_sum (zz_ret Q X 0 0) 5 [some (vr 0), some (vi (x1 + v_2))] [] (zm (pS (mm_up (mm_up S 0 9 ((rn (qB tx_1) n_1 a_1 : Nat) : Int)) 0 9 (((rn (qB tx_1) n_1 a_1 : Nat) : Int) + 1)) z_2 w_2 d_2) L) (0, 0))) ∧ (∀ c_2 : Nat × (Fc → Int), ptP tx_2 n_2 a_2 = .inr c_2 → (zz_J zpX9_sum (zz_ret Q X 0 0) 5 [some (vr 0), some (vi (x1 + (c_2.2 (fcS (mm_up (mm_up S 0 9 ((rn (qB tx_1) n_1 a_1 : Nat) : Int)) 0 9 (((rn (qB tx_1) n_1 a_1 : Nat) : Int) + 1))))))] [] (zm (pS (mm_up (mm_up S 0 9 ((rn (qB tx_1) n_1 a_1 : Nat) : Int)) 0 9 (((rn (qB tx_1) n_1 a_1 : Nat) : Int) + 1)) c_2.1 (-1) ((mm_up (mm_up S 0 9 ((rn (qB tx_1) n_1 a_1 : Nat) : Int)) 0 9 (((rn (qB tx_1) n_1 a_1 : Nat) : Int) + 1)) 0 11)) L) (0, 0)))))) ∧ (isSg tx_1 n_1 (rn (qB tx_1) n_1 a_1) (43 : Int) = false → (Q (some (vi x1)) (zm (mm_up S 0 9 ((rn (qB tx_1) n_1 a_1 : Nat) : Int)) L))))))) : zz_J zpX9_sum (zz_ret Q X 0 0) 5 [some (vr 0), some (vi x1)] [] (zm S L) (0, 0) := zz_J.go [(5, [])] 400 h

theorem ptP_w {tx : Nat → Int} {n a w : Nat} (ha : a ≤ n) (h : ptP tx n a = .inl w) : w ≤ n := by
  have h1 := rn_le (q := qB tx) ha
  unfold ptP at h
  split at h
  · split at h
    · cases h; exact h1
    · cases h
  · repeat' split at h
    all_goals first | cases h; done | (cases h; exact h1)
theorem zmX9_sum (l : Launch) (hl : l.stackTraces = false) : mm_Spec l yX9_sum (ws_ yX9_sum cX9_sum 2 (some .int)) (mm_rm 7 0 0) (zE zX9_sum) := by
  refine zz_Met.J hl (by decide) (fun C G hnh => ztX9_sum G hnh) ?_
  rintro as ⟨⟨t_, f⟩, S, L, P⟩ Q X h
  unfold zX9_sum at h
  split at h
  rotate_left
  · exact h.elim
  rename_i h_
  obtain ⟨e1_, e2_, h⟩ := mm_and2 h (fun q => q)
  cases mm_beq e1_
  cases mm_beq e2_
  try dsimp only at h
  refine ⟨rfl, ?_⟩
  refine zz_Jev (M' := zm S L) rfl rfl rfl ?_
  obtain ⟨tx, n, a, hT, h9, h10, ha, hq1, hq2⟩ := h
  have hn := hT.1
  generalize hd : S 0 11 = d at hq2
  have p2 : ∀ a c, a ≤ n → ptP tx n a = .inr c → a ≤ c.1 ∧ c.1 ≤ n := fun a c h1 h2 => ⟨Nat.le_of_lt (ptP_in hT.2.2.1 a c h1 h2).1, (ptP_in hT.2.2.1 a c h1 h2).2.1⟩
  -- a fault: it is over
  have tw : ∀ (w a' : Nat) (v d' : Int), w ≤ n → a' ≤ n → suP tx n a = .inl w → zz_J zpX9_sum (zz_ret Q X 0 0) 5 [some (vr 0), some (vi v)] [] (zm (pS S a' w d') L) (0, 0) := by
    intro w a' v d' hw ha' e
    refine zwX9_sum_5 ?_
    simp only [pS_r10]
    exact ⟨by omega, fun _ => hq1 w e v a' d' ha', fun h => by omega⟩
  have lp : ∀ (r a' : Nat) (g : Fc → Int), n - a' = r → a' ≤ n → suP tx n a = lpP n (rn (qB tx) n) (spS tx n 43) (ptP tx n) (fun g h F => g F + h F) a' g → zz_J zpX9_sum (zz_ret Q X 0 0) 5 [some (vr 0), some (vi (g (fcS S)))] [] (zm (pS S a' (-1) d) L) (0, 0) := by
    intro r
    induction r using Nat.strongRecOn with
    | ind r ih =>
      intro a' g hr ha' e
      have hb := rn_le (q := qB tx) ha'
      have hb2 := rn_ge (q := qB tx) ha'
      refine zwX9_sum_5 ?_
      simp only [pS_r10, pS_r9, pS_r11, pS_9, mT_pS, pS_pS, fcS_pS]
      refine ⟨by omega, fun h => absurd trivial h, fun _ => ⟨tx, n, a', by omega, hT, rfl, ha', fun c => ?_, fun c => ?_⟩⟩
      · have hs : spS tx n 43 a' = some (rn (qB tx) n a' + 1) := by unfold spS; rw [if_pos c]
        have h1 := spS_in _ _ ha' hs
        refine ⟨tx, n, rn (qB tx) n a' + 1, hT, rfl, trivial, h1.2, fun w ew v z d' hz => ?_, fun c2 ec => ?_⟩
        · rw [lpP_l ha' hs ew] at e
          exact tw w z _ d' (ptP_w h1.2 ew) hz e
        · have h2 := ptP_in hT.2.2.1 _ _ h1.2 ec
          rw [lpP_r (fun a b h1 h2 => spS_in a b h1 h2) p2 ha' hs ec] at e
          exact ih (n - c2.1) (by omega) c2.1 _ rfl h2.2.1 e
      · have hs : spS tx n 43 a' = none := by unfold spS; rw [if_neg (by rw [c]; decide)]
        rw [lpP_n ha' hs] at e
        exact hq2 _ e
  refine zwX9_sum_0 ⟨tx, n, a, hT, h9, h10, ha, fun w e v z d' hz => ?_, fun c e => ?_⟩
  · exact tw w z v d' (ptP_w ha e) hz (by unfold suP; rw [e])
  · rw [hd]
    exact lp _ c.1 c.2 rfl (p2 a c ha e).2 (by unfold suP; rw [e])
def zX9_plainCond : zz_Sp := fun as M Q X => match as with
  | [.inr (.inr (some h_))] => bif Nat.beq h_ 0 && Nat.beq M.1.1 1 then (∃ (tx_ : Nat → Int) (n_ a_ : Nat), mT M.2.1 tx_ n_ ∧ M.2.1 0 9 = a_ ∧ M.2.1 0 10 = -1 ∧ a_ ≤ n_ ∧ bF (fcS M.2.1) ∧ (M.2.1 0 13 = 0 ∨ M.2.1 0 13 = 1) ∧ (M.2.1 0 14 = 0 ∨ M.2.1 0 14 = 1) ∧ (∀ w_ : Nat, plP tx_ n_ a_ = .inl w_ → ∀ (z_ : Nat) (d_ : Int), z_ ≤ n_ → Q (some (vi 1)) (zm (pS M.2.1 z_ w_ d_) M.2.2.1) ∧ Q (some (vi 0)) (zm (pS M.2.1 z_ w_ d_) M.2.2.1)) ∧ (∀ c_ : Nat × (Fc → Bool), plP tx_ n_ a_ = .inr c_ → (c_.2 (fcS M.2.1) = true → Q (some (vi 1)) (zm (pS M.2.1 c_.1 (-1) (M.2.1 0 11)) M.2.2.1)) ∧ (c_.2 (fcS M.2.1) = false → Q (some (vi 0)) (zm (pS M.2.1 c_.1 (-1) (M.2.1 0 11)) M.2.2.1)))) else False
  | _ => False

def zpX9_plainCond : zz_P := [(0, zo_ald 1 0), (1, zo_c 3 (vr 1010)), (3, zo_callv 6 2 8 zX9_has), (6, zo_zifeq 9 14), (9, zo_ald 10 0), (10, zo_get 13 8 0 13), (13, zo_zret false), (14, zo_ald 15 0), (15, zo_c 17 (vr 1011)), (17, zo_callv 20 2 8 zX9_has), (20, zo_zifeq 23 28), (23, zo_ald 24 0), (24, zo_get 27 8 0 14), (27, zo_zret false), (28, zo_ald 29 0), (29, zo_callv 32 1 8 zX9_sum), (32, zo_ist 33 1), (33, zo_ald 34 0), (34, zo_get 37 8 0 10), (37, zo_c 38 (vi (-1))), (38, zo_ceq false true 41 43), (41, zo_c 42 (vi 0)), (42, zo_zret true), (43, zo_ald 44 0), (44, zo_c 46 (vi 60)), (46, zo_callv 49 2 8 zX9_isSign), (49, zo_ist 50 2), (50, zo_ild 51 2), (51, zo_zifne 54 73), (54, zo_ald 55 0), (55, zo_c 57 (vi 62)), (57, zo_callv 60 2 8 zX9_isSign), (60, zo_zifne 63 73), (63, zo_ald 64 0), (64, zo_ald 65 0), (65, zo_get 68 8 0 9), (68, zo_callv 71 2 8 zX9_wrong), (71, zo_c 72 (vi 0)), (72, zo_zret true), (73, zo_ald 74 0), (74, zo_dup 75), (75, zo_get 78 8 0 9), (78, zo_c 79 (vi 1)), (79, zo_iadd 80), (80, zo_puti 83 8 9), (83, zo_ald 84 0), (84, zo_callv 87 1 8 zX9_sum), (87, zo_ist 88 3), (88, zo_ild 89 2), (89, zo_ifeq false 92 105), (92, zo_ild 93 1), (93, zo_ild 94 3), (94, zo_cge false false 97 101), (97, zo_c 98 (vi 1)), (98, zo_goto 115), (101, zo_c 102 (vi 0)), (102, zo_goto 115), (105, zo_ild 106 1), (106, zo_ild 107 3), (107, zo_cle false false 110 114), (110, zo_c 111 (vi 1)), (111, zo_goto 115), (114, zo_c 115 (vi 0)), (115, zo_zret true)]
theorem ztX9_plainCond {C : mm_C} (G : mm_G C RX9 cX9_plainCond (some .boolean) 4 (mm_rm 8 0 0)) (hnh : mm_nh C) : zz_OKs C zpX9_plainCond :=
  ⟨zz_of (ok_aload_n G dX9_plainCond_0 rfl rfl) (z_ald _ _),
   zz_of (ok_lds G (tx := "serving") (by decide +kernel) dX9_plainCond_1 rfl) (z_cr 3 1010),
   zz_of (ok_callv G hnh (zmX9_has _ G.hst) rfl rfl (RX9, TX9, 32) rfl q1942 q1944 qs45 q93 q1945 (by decide +kernel) ⟨by decide, by decide⟩ dX9_plainCond_3 rfl) (z_callv _ _ _ _),
   zz_of (ok_ifeq G dX9_plainCond_6 rfl rfl) (z_zifeq _ _),
   zz_of (ok_aload_n G dX9_plainCond_9 rfl rfl) (z_ald _ _),
   zz_of (ok_get G (nx := 13) (ci := 8) (kd := 0) (k := 13) (RX9, TX9, 32) rfl (by decide) rfl q1818 dX9_plainCond_10 rfl) (z_get _ _ _ _),
   zz_of (ok_zret G dX9_plainCond_13) (z_zret _),
   zz_of (ok_aload_n G dX9_plainCond_14 rfl rfl) (z_ald _ _),
   zz_of (ok_lds G (tx := "off") (by decide +kernel) dX9_plainCond_15 rfl) (z_cr 17 1011),
   zz_of (ok_callv G hnh (zmX9_has _ G.hst) rfl rfl (RX9, TX9, 32) rfl q1942 q1944 qs45 q93 q1945 (by decide +kernel) ⟨by decide, by decide⟩ dX9_plainCond_17 rfl) (z_callv _ _ _ _),
   zz_of (ok_ifeq G dX9_plainCond_20 rfl rfl) (z_zifeq _ _),
   zz_of (ok_aload_n G dX9_plainCond_23 rfl rfl) (z_ald _ _),
   zz_of (ok_get G (nx := 27) (ci := 8) (kd := 0) (k := 14) (RX9, TX9, 32) rfl (by decide) rfl q1819 dX9_plainCond_24 rfl) (z_get _ _ _ _),
   zz_of (ok_zret G dX9_plainCond_27) (z_zret _),
   zz_of (ok_aload_n G dX9_plainCond_28 rfl rfl) (z_ald _ _),
   zz_of (ok_callv G hnh (zmX9_sum _ G.hst) rfl rfl (RX9, TX9, 32) rfl q1986 q1988 qs52 q93 q1989 (by decide +kernel) ⟨by decide, by decide⟩ dX9_plainCond_29 rfl) (z_callv _ _ _ _),
   zz_of (ok_istore_n G dX9_plainCond_32 rfl rfl (by decide)) (z_ist _ _),
   zz_of (ok_aload_n G dX9_plainCond_33 rfl rfl) (z_ald _ _),
   zz_of (ok_get G (nx := 37) (ci := 8) (kd := 0) (k := 10) (RX9, TX9, 32) rfl (by decide) rfl q1815 dX9_plainCond_34 rfl) (z_get _ _ _ _),
   zz_of (ok_iconst G (v := (zI (-1))) dX9_plainCond_37 (by decide) rfl) (z_cz 38 (-1)),
   zz_of (ok_ceq G dX9_plainCond_38 rfl rfl) (z_ceq _ _ _ _),
   zz_of (ok_iconst G (v := 0) dX9_plainCond_41 (by decide) rfl) (z_cn 42 0),
   zz_of (ok_zret G dX9_plainCond_42) (z_zret _),
   zz_of (ok_aload_n G dX9_plainCond_43 rfl rfl) (z_ald _ _),
   zz_of (ok_bipush G (v := 60) dX9_plainCond_44 (by decide) rfl) (z_cn 46 60),
   zz_of (ok_callv G hnh (zmX9_isSign _ G.hst) rfl rfl (RX9, TX9, 32) rfl q1976 q1978 qs50 q93 q1979 (by decide +kernel) ⟨by decide, by decide⟩ dX9_plainCond_46 rfl) (z_callv _ _ _ _),
   zz_of (ok_istore_n G dX9_plainCond_49 rfl rfl (by decide)) (z_ist _ _),
   zz_of (ok_iload_n G dX9_plainCond_50 rfl rfl) (z_ild _ _),
   zz_of (ok_ifne G dX9_plainCond_51 rfl rfl) (z_zifne _ _),
   zz_of (ok_aload_n G dX9_plainCond_54 rfl rfl) (z_ald _ _),
   zz_of (ok_bipush G (v := 62) dX9_plainCond_55 (by decide) rfl) (z_cn 57 62),
   zz_of (ok_callv G hnh (zmX9_isSign _ G.hst) rfl rfl (RX9, TX9, 32) rfl q1976 q1978 qs50 q93 q1979 (by decide +kernel) ⟨by decide, by decide⟩ dX9_plainCond_57 rfl) (z_callv _ _ _ _),
   zz_of (ok_ifne G dX9_plainCond_60 rfl rfl) (z_zifne _ _),
   zz_of (ok_aload_n G dX9_plainCond_63 rfl rfl) (z_ald _ _),
   zz_of (ok_aload_n G dX9_plainCond_64 rfl rfl) (z_ald _ _),
   zz_of (ok_get G (nx := 68) (ci := 8) (kd := 0) (k := 9) (RX9, TX9, 32) rfl (by decide) rfl q1814 dX9_plainCond_65 rfl) (z_get _ _ _ _),
   zz_of (ok_callv G hnh (zmX9_wrong _ G.hst) rfl rfl (RX9, TX9, 32) rfl q1933 q1935 qs43 q93 q1936 (by decide +kernel) ⟨by decide, by decide⟩ dX9_plainCond_68 rfl) (z_callv _ _ _ _),
   zz_of (ok_iconst G (v := 0) dX9_plainCond_71 (by decide) rfl) (z_cn 72 0),
   zz_of (ok_zret G dX9_plainCond_72) (z_zret _),
   zz_of (ok_aload_n G dX9_plainCond_73 rfl rfl) (z_ald _ _),
   zz_of (ok_dup G dX9_plainCond_74 rfl) (z_dup _),
   zz_of (ok_get G (nx := 78) (ci := 8) (kd := 0) (k := 9) (RX9, TX9, 32) rfl (by decide) rfl q1814 dX9_plainCond_75 rfl) (z_get _ _ _ _),
   zz_of (ok_iconst G (v := 1) dX9_plainCond_78 (by decide) rfl) (z_cn 79 1),
   zz_of (ok_iadd G dX9_plainCond_79 rfl) (z_iadd _),
   zz_of (ok_puti G (nx := 83) (idx := 80) (ci := 8) (k := 9) (RX9, TX9, 32) rfl (by decide) rfl (mm_pw G (ci := 8) (k := 9) (RX9, TX9, 32) rfl (by decide) rfl q1814 dX9_plainCond_80) rfl) (z_puti _ _ _),
   zz_of (ok_aload_n G dX9_plainCond_83 rfl rfl) (z_ald _ _),
   zz_of (ok_callv G hnh (zmX9_sum _ G.hst) rfl rfl (RX9, TX9, 32) rfl q1986 q1988 qs52 q93 q1989 (by decide +kernel) ⟨by decide, by decide⟩ dX9_plainCond_84 rfl) (z_callv _ _ _ _),
   zz_of (ok_istore_n G dX9_plainCond_87 rfl rfl (by decide)) (z_ist _ _),
   zz_of (ok_iload_n G dX9_plainCond_88 rfl rfl) (z_ild _ _),
   zz_of (ok_ifeq G dX9_plainCond_89 rfl rfl) (z_ifeq _ _ _),
   zz_of (ok_iload_n G dX9_plainCond_92 rfl rfl) (z_ild _ _),
   zz_of (ok_iload_n G dX9_plainCond_93 rfl rfl) (z_ild _ _),
   zz_of (ok_cge G dX9_plainCond_94 rfl rfl) (z_cge _ _ _ _),
   zz_of (ok_iconst G (v := 1) dX9_plainCond_97 (by decide) rfl) (z_cn 98 1),
   zz_of (ok_goto G dX9_plainCond_98 rfl) (z_goto _),
   zz_of (ok_iconst G (v := 0) dX9_plainCond_101 (by decide) rfl) (z_cn 102 0),
   zz_of (ok_goto G dX9_plainCond_102 rfl) (z_goto _),
   zz_of (ok_iload_n G dX9_plainCond_105 rfl rfl) (z_ild _ _),
   zz_of (ok_iload_n G dX9_plainCond_106 rfl rfl) (z_ild _ _),
   zz_of (ok_cle G dX9_plainCond_107 rfl rfl) (z_cle _ _ _ _),
   zz_of (ok_iconst G (v := 1) dX9_plainCond_110 (by decide) rfl) (z_cn 111 1),
   zz_of (ok_goto G dX9_plainCond_111 rfl) (z_goto _),
   zz_of (ok_iconst G (v := 0) dX9_plainCond_114 (by decide) rfl) (z_cn 115 0),
   zz_of (ok_zret G dX9_plainCond_115) (z_zret _), trivial⟩

theorem zwX9_plainCond_0 {Q : Option zv → zz_M → Prop} {X : Nat → zz_M → Prop} {S L : Nat → Nat → Int}  (h : (∃ (tx_1 : Nat → Int) (n_1 a_1 j_1 : Nat), 1010 = 1000 + j_1 ∧ j_1 < 18 ∧ mT S tx_1 n_1 ∧ S 0 9 = a_1 ∧ a_1 ≤ n_1 ∧ (hsW tx_1 n_1 (rn (qB tx_1) n_1 a_1) (wo j_1) = true → (((S 0 13) = 0 ∨ (S 0 13) = 1) ∧ (Q (some (vi (S 0 13))) (zm (mm_up S 0 9 ((rn (qB tx_1) n_1 a_1 + (wo j_1).length : Nat) : Int)) L)))) ∧ (hsW tx_1 n_1 (rn (qB tx_1) n_1 a_1) (wo j_1) = false → (zz_J zpX9_plainCond (zz_ret Q X 0 0) 14 [some (vr 0), none, none, none] [] (zm (mm_up S 0 9 ((rn (qB tx_1) n_1 a_1 : Nat) : Int)) L) (0, 0))))) : zz_J zpX9_plainCond (zz_ret Q X 0 0) 0 [some (vr 0), none, none, none] [] (zm S L) (0, 0) := zz_J.go [(14, [1, 2, 3]), (28, [1, 2, 3]), (33, [2, 3]), (73, [3]), (88, [0])] 400 h
theorem zwX9_plainCond_14 {Q : Option zv → zz_M → Prop} {X : Nat → zz_M → Prop} {S L : Nat → Nat → Int}  (h : (∃ (tx_1 : Nat → Int) (n_1 a_1 j_1 : Nat), 1011 = 1000 + j_1 ∧ j_1 < 18 ∧ mT S tx_1 n_1 ∧ S 0 9 = a_1 ∧ a_1 ≤ n_1 ∧ (hsW tx_1 n_1 (rn (qB tx_1) n_1 a_1) (wo j_1) = true → (((S 0 14) = 0 ∨ (S 0 14) = 1) ∧ (Q (some (vi (S 0 14))) (zm (mm_up S 0 9 ((rn (qB tx_1) n_1 a_1 + (wo j_1).length : Nat) : Int)) L)))) ∧ (hsW tx_1 n_1 (rn (qB tx_1) n_1 a_1) (wo j_1) = false → (zz_J zpX9_plainCond (zz_ret Q X 0 0) 28 [some (vr 0), none, none, none] [] (zm (mm_up S 0 9 ((rn (qB tx_1) n_1 a_1 : Nat) : Int)) L) (0, 0))))) : zz_J zpX9_plainCond (zz_ret Q X 0 0) 14 [some (vr 0), none, none, none] [] (zm S L) (0, 0) := zz_J.go [(14, [1, 2, 3]), (28, [1, 2, 3]), (33, [2, 3]), (73, [3]), (88, [0])] 400 h
theorem zwX9_plainCond_28 {Q : Option zv → zz_M → Prop} {X : Nat → zz_M → Prop} {S L : Nat → Nat → Int}  (h : (∃ (tx_1 : Nat → Int) (n_1 a_1 : Nat), mT S tx_1 n_1 ∧ S 0 9 = a_1 ∧ S 0 10 = -1 ∧ a_1 ≤ n_1 ∧ (∀ w_1 : Nat, suP tx_1 n_1 a_1 = .inl w_1 → ∀ (v_1 : Int) (z_1 : Nat) (d_1 : Int), z_1 ≤ n_1 → (zz_J zpX9_plainCond (zz_ret Q X 0 0) 33 [some (vr 0), some (vi v_1), none, none] [] (zm (pS S z_1 w_1 d_1) L) (0, 0))) ∧ (∀ c_1 : Nat × (Fc → Int), suP tx_1 n_1 a_1 = .inr c_1 → (zz_J zpX9_plainCond (zz_ret Q X 0 0) 33 [some (vr 0), some (vi (c_1.2 (fcS S))), none, none] [] (zm (pS S c_1.1 (-1) (S 0 11)) L) (0, 0))))) : zz_J zpX9_plainCond (zz_ret Q X 0 0) 28 [some (vr 0), none, none, none] [] (zm S L) (0, 0) := zz_J.go [(14, [1, 2, 3]), (28, [1, 2, 3]), (33, [2, 3]), (73, [3]), (88, [0])] 400 h
theorem zwX9_plainCond_33 {Q : Option zv → zz_M → Prop} {X : Nat → zz_M → Prop} {S L : Nat → Nat → Int} {x1 : Int} (h : R32 (S 0 10) ∧ (((S 0 10) = (-1) → (∃ (tx_1 : Nat → Int) (n_1 a_1 : Nat), R32 (60 : Int) ∧ mT S tx_1 n_1 ∧ S 0 9 = a_1 ∧ a_1 ≤ n_1 ∧ (isSg tx_1 n_1 (rn (qB tx_1) n_1 a_1) (60 : Int) = true → (zz_J zpX9_plainCond (zz_ret Q X 0 0) 73 [some (vr 0), some (vi x1), some (vi 1), none] [] (zm (mm_up S 0 9 ((rn (qB tx_1) n_1 a_1 : Nat) : Int)) L) (0, 0))) ∧ (isSg tx_1 n_1 (rn (qB tx_1) n_1 a_1) (60 : Int) = false → ((∃ (tx_2 : Nat → Int) (n_2 a_2 : Nat), R32 (62 : Int) ∧ mT (mm_up S 0 9 ((rn (qB tx_1) n_1 a_1 : Nat) : Int)) tx_2 n_2 ∧ (mm_up S 0 9 ((rn (qB tx_1) n_1 a_1 : Nat) : Int)) 0 9 = a_2 ∧ a_2 ≤ n_2 ∧ (isSg tx_2 n_2 (rn (qB tx_2) n_2 a_2) (62 : Int) = true → (zz_J zpX9_plainCond (zz_ret Q X 0 0) 73 [some (vr 0), some (vi x1), some (vi 0), none] [] (zm (mm_up (mm_up S 0 9 ((rn (qB tx_1) n_1 a_1 : Nat) : Int)) 0 9 ((rn (qB tx_2) n_2 a_2 : Nat) : Int)) L) (0, 0))) ∧ (isSg tx_2 n_2 (rn (qB tx_2) n_2 a_2) (62 : Int) = false → ((R32 ((mm_up (mm_up S 0 9 ((rn (qB tx_1) n_1 a_1 : Nat) : Int)) 0 9 ((rn (qB tx_2) n_2 a_2 : Nat) : Int)) 0 10) ∧ (Q (some (vi 0)) (zm (mm_up (mm_up (mm_up S 0 9 ((rn (qB tx_1) n_1 a_1 : Nat) : Int)) 0 9 ((rn (qB tx_2) n_2 a_2 : Nat) : Int)) 0 10 (wrF ((mm_up (mm_up S 0 9 ((rn (qB tx_1) n_1 a_1 : Nat) : Int)) 0 9 ((rn (qB tx_2) n_2 a_2 : Nat) : Int)) 0 10) ((rn (qB tx_2) n_2 a_2 : Nat) : Int))) L)))))))))) ∧ (¬ (S 0 10) = (-1) → Q (some (vi 0)) (zm S L)))) : zz_J zpX9_plainCond (zz_ret Q X 0 0) 33 [some (vr 0), some (vi x1), none, none] [] (zm S L) (0, 0) := zz_J.go [(14, [1, 2, 3]), (28, [1, 2, 3]), (33, [2, 3]), (73, [3]), (88, [0])] 400 h
theorem zwX9_plainCond_73 {Q : Option zv → zz_M → Prop} {X : Nat → zz_M → Prop} {S L : Nat → Nat → Int} {x1 : Int} {x2 : Int} (h : (∃ (tx_1 : Nat → Int) (n_1 a_1 : Nat), mT (mm_up S 0 9 ((S 0 9) + 1)) tx_1 n_1 ∧ (mm_up S 0 9 ((S 0 9) + 1)) 0 9 = a_1 ∧ (mm_up S 0 9 ((S 0 9) + 1)) 0 10 = -1 ∧ a_1 ≤ n_1 ∧ (∀ w_1 : Nat, suP tx_1 n_1 a_1 = .inl w_1 → ∀ (v_1 : Int) (z_1 : Nat) (d_1 : Int), z_1 ≤ n_1 → (zz_J zpX9_plainCond (zz_ret Q X 0 0) 88 [none, some (vi x1), some (vi x2), some (vi v_1)] [] (zm (pS (mm_up S 0 9 ((S 0 9) + 1)) z_1 w_1 d_1) L) (0, 0))) ∧ (∀ c_1 : Nat × (Fc → Int), suP tx_1 n_1 a_1 = .inr c_1 → (zz_J zpX9_plainCond (zz_ret Q X 0 0) 88 [none, some (vi x1), some (vi x2), some (vi (c_1.2 (fcS (mm_up S 0 9 ((S 0 9) + 1)))))] [] (zm (pS (mm_up S 0 9 ((S 0 9) + 1)) c_1.1 (-1) ((mm_up S 0 9 ((S 0 9) + 1)) 0 11)) L) (0, 0))))) : zz_J zpX9_plainCond (zz_ret Q X 0 0) 73 [some (vr 0), some (vi x1), some (vi x2), none] [] (zm S L) (0, 0) := zz_J.go [(14, [1, 2, 3]), (28, [1, 2, 3]), (33, [2, 3]), (73, [3]), (88, [0])] 400 h
theorem zwX9_plainCond_88 {Q : Option zv → zz_M → Prop} {X : Nat → zz_M → Prop} {S L : Nat → Nat → Int} {x1 : Int} {x2 : Int} {x3 : Int} (h : R32 x2 ∧ ((x2 = 0 → R32 x1 ∧ (R32 x3 ∧ ((x1 ≤ x3 → Q (some (vi 0)) (zm S L)) ∧ (¬ x1 ≤ x3 → Q (some (vi 1)) (zm S L))))) ∧ (¬ x2 = 0 → R32 x1 ∧ (R32 x3 ∧ ((x3 ≤ x1 → Q (some (vi 0)) (zm S L)) ∧ (¬ x3 ≤ x1 → Q (some (vi 1)) (zm S L))))))) : zz_J zpX9_plainCond (zz_ret Q X 0 0) 88 [none, some (vi x1), some (vi x2), some (vi x3)] [] (zm S L) (0, 0) := zz_J.go [(14, [1, 2, 3]), (28, [1, 2, 3]), (33, [2, 3]), (73, [3]), (88, [0])] 400 h

theorem zmX9_plainCond (l : Launch) (hl : l.stackTraces = false) : mm_Spec l yX9_plainCond (ws_ yX9_plainCond cX9_plainCond 4 (some .boolean)) (mm_rm 8 0 0) (zE zX9_plainCond) := by
  refine zz_Met.J hl (by decide) (fun C G hnh => ztX9_plainCond G hnh) ?_
  rintro as ⟨⟨t_, f⟩, S, L, P⟩ Q X h
  unfold zX9_plainCond at h
  split at h
  rotate_left
  · exact h.elim
  rename_i h_
  obtain ⟨e1_, e2_, h⟩ := mm_and2 h (fun q => q)
  cases mm_beq e1_
  cases mm_beq e2_
  try dsimp only at h
  refine ⟨rfl, ?_⟩
  refine zz_Jev (M' := zm S L) rfl rfl rfl ?_
  obtain ⟨tx, n, a, hT, h9, h10, ha, hF, h13, h14, hq1, hq2⟩ := h
  have hn := hT.1
  have hpw : ∀ a w, a ≤ n → ptP tx n a = .inl w → w ≤ n := fun a w h e => ptP_w h e
  generalize hd : S 0 11 = d at hq2
  have hS : S = pS S a (-1) d := by rw [← hd]; exact pS_of h9 h10
  rw [hS]
  have hb := rn_le (q := qB tx) ha
  have hbb := rn_rn (q := qB tx) ha
  have t88 : ∀ (T : Nat → Nat → Int) (x1 x2 x3 : Int) (b : Bool), R32 x1 → (x2 = 0 ∨ x2 = 1) → R32 x3 → b = (if x2 = 1 then decide (x1 < x3) else decide (x3 < x1)) → (b = true → Q (some (vi 1)) (zm T L)) → (b = false → Q (some (vi 0)) (zm T L)) → zz_J zpX9_plainCond (zz_ret Q X 0 0) 88 [none, some (vi x1), some (vi x2), some (vi x3)] [] (zm T L) (0, 0) := by
    intro T x1 x2 x3 b r1 h2 r3 hb q1 q0
    refine zwX9_plainCond_88 ⟨by omega, fun e => ⟨r1, r3, fun c => q0 ?_, fun c => q1 ?_⟩, fun e => ⟨r1, r3, fun c => q0 ?_, fun c => q1 ?_⟩⟩
    · rw [hb, if_neg (by omega)]; exact decide_eq_false (by omega)
    · rw [hb, if_neg (by omega)]; exact decide_eq_true (by omega)
    · rw [hb, if_pos (by omega)]; exact decide_eq_false (by omega)
    · rw [hb, if_pos (by omega)]; exact decide_eq_true (by omega)
  have t88w : ∀ (T : Nat → Nat → Int) (x1 x2 v : Int), R32 x1 → (x2 = 0 ∨ x2 = 1) → Q (some (vi 1)) (zm T L) → Q (some (vi 0)) (zm T L) → zz_J zpX9_plainCond (zz_ret Q X 0 0) 88 [none, some (vi x1), some (vi x2), some (vi v)] [] (zm T L) (0, 0) := by
    intro T x1 x2 v r1 h2 q1 q0
    refine zz_Jev (lv' := [none, some (vi x1), some (vi x2), some (vi (zI v).toInt)]) ?_ rfl rfl (t88 T x1 x2 (zI v).toInt _ r1 h2 (i32_r _) rfl (fun _ => q1) (fun _ => q0))
    exact congrArg (fun z => [none, some (ev (vi x1)), some (ev (vi x2)), some z]) (vi_norm v)
  -- behind the sign
  have t73 : ∀ (k : Nat) (x1 x2 : Int), R32 x1 → (x2 = 0 ∨ x2 = 1) → k < n → (∀ w, suP tx n (k + 1) = .inl w → plP tx n a = .inl w) → (∀ e, suP tx n (k + 1) = .inr e → ∃ g, plP tx n a = .inr (e.1, g) ∧ g (fcS S) = (if x2 = 1 then decide (x1 < e.2 (fcS S)) else decide (e.2 (fcS S) < x1))) → zz_J zpX9_plainCond (zz_ret Q X 0 0) 73 [some (vr 0), some (vi x1), some (vi x2), none] [] (zm (pS S k (-1) d) L) (0, 0) := by
    intro k x1 x2 r1 h2 hk hw he
    refine zwX9_plainCond_73 ?_
    simp only [pS_r10, pS_r9, pS_r11, pS_9, mT_pS, pS_pS, fcS_pS]
    refine ⟨tx, n, k + 1, hT, rfl, trivial, by omega, fun w ew v z d' hz => ?_, fun c ec => ?_⟩
    · have := hq1 w (hw w ew) z d' hz
      exact t88w _ _ _ _ r1 h2 this.1 this.2
    · obtain ⟨g, e1, e2⟩ := he c ec
      have hc := suP_in hT.2.2.1 (k + 1) c (by omega) ec
      have hc2 := hc.2.2 _ hF
      have hq := hq2 _ e1
      exact t88 _ _ _ _ _ r1 h2 (by omega) e2 hq.1 hq.2
  have t28 : hsW tx n (rn (qB tx) n a) (wo 10) = false → hsW tx n (rn (qB tx) n a) (wo 11) = false → zz_J zpX9_plainCond (zz_ret Q X 0 0) 28 [some (vr 0), none, none, none] [] (zm (pS S (rn (qB tx) n a : Nat) (-1) d) L) (0, 0) := by
    intro n10 n11
    have hpl : plP tx n a = (match suP tx n (rn (qB tx) n a) with
      | .inl w => .inl w
      | .inr c => if isSg tx n (rn (qB tx) n c.1) 60 = true then (match suP tx n (rn (qB tx) n c.1 + 1) with
          | .inl w => .inl w
          | .inr e => .inr (e.1, fun F => decide (c.2 F < e.2 F)))
        else if isSg tx n (rn (qB tx) n c.1) 62 = true then (match suP tx n (rn (qB tx) n c.1 + 1) with
          | .inl w => .inl w
          | .inr e => .inr (e.1, fun F => decide (e.2 F < c.2 F)))
        else .inl (rn (qB tx) n c.1)) := by
      unfold plP
      rw [if_neg (by rw [n10]; decide), if_neg (by rw [n11]; decide)]
      rfl
    refine zwX9_plainCond_28 ?_
    simp only [pS_r10, pS_r9, pS_r11, pS_9, mT_pS, pS_pS, fcS_pS]
    refine ⟨tx, n, rn (qB tx) n a, hT, rfl, trivial, hb, fun w ew v z d' hz => ?_, fun c ec => ?_⟩
    · rw [ew] at hpl
      have hwn := suP_w hT.2.2.1 hpw _ w hb ew
      refine zwX9_plainCond_33 ?_
      simp only [pS_r10]
      exact ⟨by omega, fun e => by omega, fun _ => (hq1 w hpl z d' hz).2⟩
    · rw [ec] at hpl
      have hc := suP_in hT.2.2.1 _ c hb ec
      have hc2 := hc.2.2 _ hF
      have g2 := rn_le (q := qB tx) hc.2.1
      have gg := rn_rn (q := qB tx) hc.2.1
      simp only at hpl
      refine zwX9_plainCond_33 ?_
      simp only [pS_r10, pS_r9, pS_r11, pS_9, pS_10, mT_pS, pS_pS, fcS_pS]
      refine ⟨by omega, fun _ => ⟨tx, n, c.1, by omega, hT, rfl, hc.2.1, fun s1 => ?_, fun s1 => ⟨tx, n, rn (qB tx) n c.1, by omega, hT, rfl, g2, ?_⟩⟩, fun e => absurd trivial e⟩
      · rw [if_pos s1] at hpl
        refine t73 _ _ 1 (by omega) (Or.inr rfl) (isSg_t.mp s1).1 (fun w ew => by rw [hpl, ew]) (fun e ee => ⟨_, by rw [hpl, ee], by simp⟩)
      · rw [gg]
        rw [if_neg (by rw [s1]; decide)] at hpl
        refine ⟨fun s2 => ?_, fun s2 => ?_⟩
        · rw [if_pos s2] at hpl
          refine t73 _ _ 0 (by omega) (Or.inl rfl) (isSg_t.mp s2).1 (fun w ew => by rw [hpl, ew]) (fun e ee => ⟨_, by rw [hpl, ee], by simp⟩)
        · rw [if_neg (by rw [s2]; decide)] at hpl
          refine ⟨by omega, ?_⟩
          have := (hq1 _ hpl (rn (qB tx) n c.1) d g2).2
          rw [wrF, if_pos rfl]
          exact this
  have t14 : hsW tx n (rn (qB tx) n a) (wo 10) = false → zz_J zpX9_plainCond (zz_ret Q X 0 0) 14 [some (vr 0), none, none, none] [] (zm (pS S (rn (qB tx) n a : Nat) (-1) d) L) (0, 0) := by
    intro n10
    refine zwX9_plainCond_14 ?_
    simp only [pS_r10, pS_r9, pS_r11, pS_9, mT_pS, pS_pS, fcS_pS]
    refine ⟨tx, n, rn (qB tx) n a, 11, rfl, by decide, hT, rfl, hb, ?_⟩
    rw [hbb]
    refine ⟨fun c => ⟨h14, ?_⟩, fun c => t28 n10 c⟩
    have e : plP tx n a = .inr (rn (qB tx) n a + 3, fun F => decide (F 6 = 1)) := by
      unfold plP
      rw [if_neg (by rw [n10]; decide), if_pos c]
    have hq := hq2 _ e
    rcases h14 with h | h
    · show Q (some (vi (S 0 14))) _
      rw [h]
      exact hq.2 (decide_eq_false (by show ¬ S 0 14 = 1; omega))
    · show Q (some (vi (S 0 14))) _
      rw [h]
      exact hq.1 (decide_eq_true h)
  refine zwX9_plainCond_0 ?_
  simp only [pS_r10, pS_r9, pS_r11, pS_9, mT_pS, pS_pS, fcS_pS]
  refine ⟨tx, n, a, 10, rfl, by decide, hT, rfl, ha, fun c => ⟨h13, ?_⟩, fun c => t14 c⟩
  have e : plP tx n a = .inr (rn (qB tx) n a + 7, fun F => decide (F 5 = 1)) := by
    unfold plP
    rw [if_pos c]
  have hq := hq2 _ e
  rcases h13 with h | h
  · show Q (some (vi (S 0 13))) _
    rw [h]
    exact hq.2 (decide_eq_false (by show ¬ S 0 13 = 1; omega))
  · show Q (some (vi (S 0 13))) _
    rw [h]
    exact hq.1 (decide_eq_true h)
