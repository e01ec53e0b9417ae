/-! ===== the model's lines of texts ===== -/
set_option maxRecDepth 100000
def nmP (tx : Nat → Int) (n : Nat) (lo hi : Int) (a : Nat) : Pr Int := if fgB tx n (rn (qB tx) n a) lo hi = true then .inl (rn (qB tx) n a) else .inr (rn (qD tx) n (rn (qB tx) n a), fgV tx (rn (qB tx) n a) (rn (qD tx) n (rn (qB tx) n a) - rn (qB tx) n a))
theorem nmP_ok {tx : Nat → Int} {n : Nat} {lo hi : Int} : pOK n (nmP tx n lo hi) := by
  intro a ha
  have h1 := rn_ge (q := qB tx) ha
  have h2 := rn_le (q := qB tx) ha
  have h3 := rn_ge (q := qD tx) h2
  have h4 := rn_le (q := qD tx) h2
  unfold nmP
  split
  · exact ⟨fun c hc => (by cases hc), fun w hw => by cases hw; exact h2⟩
  · exact ⟨fun c hc => by cases hc; exact ⟨by show a ≤ rn (qD tx) n (rn (qB tx) n a); omega, h4⟩, fun w hw => by cases hw⟩
theorem nmP_v {tx : Nat → Int} {n : Nat} {lo hi : Int} {a : Nat} {c : Nat × Int} (h : nmP tx n lo hi a = .inr c) : lo ≤ c.2 ∧ c.2 ≤ hi := by
  unfold nmP at h
  split at h
  · cases h
  · next e =>
    have e : fgB tx n (rn (qB tx) n a) lo hi = false := by simpa using e
    unfold fgB at e
    simp only [Bool.or_eq_false_iff, decide_eq_false_iff_not] at e
    cases h
    show lo ≤ fgV tx (rn (qB tx) n a) (rn (qD tx) n (rn (qB tx) n a) - rn (qB tx) n a) ∧ fgV tx (rn (qB tx) n a) (rn (qD tx) n (rn (qB tx) n a) - rn (qB tx) n a) ≤ hi
    omega
/-- a line of a rule -/
def rlP (tx : Nat → Int) (n a : Nat) : Pr (Fc → Option Int) :=
  if hsW tx n (rn (qB tx) n a) (wo 7) = true then (match nmP tx n 0 3 (rn (qB tx) n a + 5) with
    | .inl w => .inl w
    | .inr c => if hsW tx n (rn (qB tx) n c.1) (wo 8) = true then (match soP tx n (atP tx n 6) (rn (qB tx) n c.1 + 2) with
        | .inl w => .inl w
        | .inr e => .inr (e.1, fun F => bif e.2 F then some c.2 else none))
      else .inr (rn (qB tx) n c.1, fun _ => some c.2))
  else .inl (rn (qB tx) n a)
theorem rlP_ok {tx : Nat → Int} {n : Nat} (hx : ∀ k, k < n → 0 ≤ tx k ∧ tx k ≤ 255) : pOK n (rlP tx n) := by
  intro a ha
  have h1 := rn_ge (q := qB tx) ha
  have h2 := rn_le (q := qB tx) ha
  have hso := soP_ok (tx := tx) (atP_ok hx (fun a w h e => ptP_w h e) 6)
  unfold rlP
  split
  · next h =>
    have h3 : rn (qB tx) n a + 5 ≤ n := hsW_le h2 h
    have hnm := nmP_ok (tx := tx) (n := n) (lo := 0) (hi := 3) _ h3
    cases hp : nmP tx n 0 3 (rn (qB tx) n a + 5) with
    | inl w' => exact ⟨fun c hc => (by cases hc), fun w hw => by cases hw; exact hnm.2 _ hp⟩
    | inr e =>
      have he := hnm.1 _ hp
      have g1 := rn_ge (q := qB tx) he.2
      have g2 := rn_le (q := qB tx) he.2
      show ((∀ c, (if hsW tx n (rn (qB tx) n e.1) (wo 8) = true then _ else _) = Sum.inr c → _) ∧ ∀ w, (if hsW tx n (rn (qB tx) n e.1) (wo 8) = true then _ else _) = Sum.inl w → _)
      split
      · next h5 =>
        have h6 : rn (qB tx) n e.1 + 2 ≤ n := hsW_le g2 h5
        have hs := hso _ h6
        cases hq : soP tx n (atP tx n 6) (rn (qB tx) n e.1 + 2) with
        | inl w' => exact ⟨fun c hc => (by cases hc), fun w hw => by cases hw; exact hs.2 _ hq⟩
        | inr e2 =>
          have he2 := hs.1 _ hq
          exact ⟨fun c hc => by cases hc; show a ≤ e2.1 ∧ e2.1 ≤ n; omega, fun w hw => by cases hw⟩
      · exact ⟨fun c hc => by cases hc; show a ≤ rn (qB tx) n e.1 ∧ rn (qB tx) n e.1 ≤ n; omega, fun w hw => by cases hw⟩
  · exact ⟨fun c hc => (by cases hc), fun w hw => by cases hw; exact h2⟩
def syN (s : Int) (o : Option Int) : Int := if s = -1 then o.getD (-1) else s
theorem mT_15 {S : Nat → Nat → Int} {tx : Nat → Int} {n : Nat} {v : Int} : mT (mm_up S 0 15 v) tx n ↔ mT S tx n := by
  unfold mT
  simp [up_eq]
theorem fcS_15 (S : Nat → Nat → Int) (v : Int) : fcS (mm_up S 0 15 v) = fcS S := by
  funext k
  grind [fcS, up_eq]
theorem pS_15 (S : Nat → Nat → Int) (a f d v : Int) : mm_up (pS S a f d) 0 15 v = pS (mm_up S 0 15 v) a f d := by
  funext h k
  grind [up_eq, pS_at]
theorem pS_r15 (S : Nat → Nat → Int) (a f d : Int) : pS S a f d 0 15 = S 0 15 := rfl
theorem pS_r13 (S : Nat → Nat → Int) (a f d : Int) : pS S a f d 0 13 = S 0 13 := rfl
theorem pS_r14 (S : Nat → Nat → Int) (a f d : Int) : pS S a f d 0 14 = S 0 14 := rfl
def zX9_ruleLine : zz_Sp := fun as M Q X => match as with
  | [.inr (.inr (some h_))] => bif Nat.beq h_ 0 && Nat.beq M.1.1 1 then (∃ (tx_ : Nat → Int) (n_ a_ : Nat), mT M.2.1 tx_ n_ ∧ M.2.1 0 9 = a_ ∧ M.2.1 0 10 = -1 ∧ M.2.1 0 11 = 0 ∧ a_ ≤ n_ ∧ bF (fcS M.2.1) ∧ (M.2.1 0 13 = 0 ∨ M.2.1 0 13 = 1) ∧ (M.2.1 0 14 = 0 ∨ M.2.1 0 14 = 1) ∧ R32 (M.2.1 0 15) ∧ (∀ w_ : Nat, rlP tx_ n_ a_ = .inl w_ → ∀ (z_ : Nat) (d_ : Int), z_ ≤ n_ + 6 → Q none (zm (pS M.2.1 z_ w_ d_) M.2.2.1)) ∧ (∀ c_ : Nat × (Fc → Option Int), rlP tx_ n_ a_ = .inr c_ → Q none (zm (pS (mm_up M.2.1 0 15 (syN (M.2.1 0 15) (c_.2 (fcS M.2.1)))) c_.1 (-1) (M.2.1 0 11)) M.2.2.1))) else False
  | _ => False

def zpX9_ruleLine : zz_P := [(0, zo_ald 1 0), (1, zo_c 3 (vr 1007)), (3, zo_callv 6 2 8 zX9_has), (6, zo_zifne 9 18), (9, zo_ald 10 0), (10, zo_ald 11 0), (11, zo_get 14 8 0 9), (14, zo_callv 17 2 8 zX9_wrong), (17, zo_vret), (18, zo_ald 19 0), (19, zo_c 20 (vi 0)), (20, zo_c 21 (vi 3)), (21, zo_callv 24 3 8 zX9_figures), (24, zo_ist 25 1), (25, zo_ald 26 0), (26, zo_get 29 8 0 10), (29, zo_c 30 (vi (-1))), (30, zo_ceq false true 33 34), (33, zo_vret), (34, zo_ald 35 0), (35, zo_c 37 (vr 1008)), (37, zo_callv 40 2 8 zX9_has), (40, zo_zifeq 43 50), (43, zo_ald 44 0), (44, zo_callv 47 1 8 zX9_some_6), (47, zo_zifeq 50 54), (50, zo_c 51 (vi 1)), (51, zo_goto 55), (54, zo_c 55 (vi 0)), (55, zo_ist 56 2), (56, zo_ald 57 0), (57, zo_get 60 8 0 10), (60, zo_c 61 (vi (-1))), (61, zo_cne false true 64 81), (64, zo_ild 65 2), (65, zo_ifeq false 68 81), (68, zo_ald 69 0), (69, zo_get 72 8 0 15), (72, zo_c 73 (vi (-1))), (73, zo_cne false true 76 81), (76, zo_ald 77 0), (77, zo_ild 78 1), (78, zo_puti 81 8 15), (81, zo_vret)]
theorem ztX9_ruleLine {C : mm_C} (G : mm_G C RX9 cX9_ruleLine none 3 (mm_rm 30 0 0)) (hnh : mm_nh C) : zz_OKs C zpX9_ruleLine :=
  ⟨zz_of (ok_aload_n G dX9_ruleLine_0 rfl rfl) (z_ald _ _),
   zz_of (ok_lds G (tx := "style") (by decide +kernel) dX9_ruleLine_1 rfl) (z_cr 3 1007),
   zz_of (ok_callv G hnh (zmX9_has _ G.hst) rfl rfl (RX9, TX9, 32) rfl q1942 q1944 qs45 q93 q1945 (by decide +kernel) ⟨by decide, by decide⟩ dX9_ruleLine_3 rfl) (z_callv _ _ _ _),
   zz_of (ok_ifne G dX9_ruleLine_6 rfl rfl) (z_zifne _ _),
   zz_of (ok_aload_n G dX9_ruleLine_9 rfl rfl) (z_ald _ _),
   zz_of (ok_aload_n G dX9_ruleLine_10 rfl rfl) (z_ald _ _),
   zz_of (ok_get G (nx := 14) (ci := 8) (kd := 0) (k := 9) (RX9, TX9, 32) rfl (by decide) rfl q1814 dX9_ruleLine_11 rfl) (z_get _ _ _ _),
   zz_of (ok_callv G hnh (zmX9_wrong _ G.hst) rfl rfl (RX9, TX9, 32) rfl q1933 q1935 qs43 q93 q1936 (by decide +kernel) ⟨by decide, by decide⟩ dX9_ruleLine_14 rfl) (z_callv _ _ _ _),
   zz_of (ok_vret G dX9_ruleLine_17) (z_vret),
   zz_of (ok_aload_n G dX9_ruleLine_18 rfl rfl) (z_ald _ _),
   zz_of (ok_iconst G (v := 0) dX9_ruleLine_19 (by decide) rfl) (z_cn 20 0),
   zz_of (ok_iconst G (v := 3) dX9_ruleLine_20 (by decide) rfl) (z_cn 21 3),
   zz_of (ok_callv G hnh (zmX9_figures _ G.hst) rfl rfl (RX9, TX9, 32) rfl q1958 q1960 qs46 q93 q1961 (by decide +kernel) ⟨by decide, by decide⟩ dX9_ruleLine_21 rfl) (z_callv _ _ _ _),
   zz_of (ok_istore_n G dX9_ruleLine_24 rfl rfl (by decide)) (z_ist _ _),
   zz_of (ok_aload_n G dX9_ruleLine_25 rfl rfl) (z_ald _ _),
   zz_of (ok_get G (nx := 29) (ci := 8) (kd := 0) (k := 10) (RX9, TX9, 32) rfl (by decide) rfl q1815 dX9_ruleLine_26 rfl) (z_get _ _ _ _),
   zz_of (ok_iconst G (v := (zI (-1))) dX9_ruleLine_29 (by decide) rfl) (z_cz 30 (-1)),
   zz_of (ok_ceq G dX9_ruleLine_30 rfl rfl) (z_ceq _ _ _ _),
   zz_of (ok_vret G dX9_ruleLine_33) (z_vret),
   zz_of (ok_aload_n G dX9_ruleLine_34 rfl rfl) (z_ald _ _),
   zz_of (ok_lds G (tx := "if") (by decide +kernel) dX9_ruleLine_35 rfl) (z_cr 37 1008),
   zz_of (ok_callv G hnh (zmX9_has _ G.hst) rfl rfl (RX9, TX9, 32) rfl q1942 q1944 qs45 q93 q1945 (by decide +kernel) ⟨by decide, by decide⟩ dX9_ruleLine_37 rfl) (z_callv _ _ _ _),
   zz_of (ok_ifeq G dX9_ruleLine_40 rfl rfl) (z_zifeq _ _),
   zz_of (ok_aload_n G dX9_ruleLine_43 rfl rfl) (z_ald _ _),
   zz_of (ok_callv G hnh (zmX9_some_6 _ G.hst) rfl rfl (RX9, TX9, 32) rfl q1963 q1965 qs47 q93 q1966 (by decide +kernel) ⟨by decide, by decide⟩ dX9_ruleLine_44 rfl) (z_callv _ _ _ _),
   zz_of (ok_ifeq G dX9_ruleLine_47 rfl rfl) (z_zifeq _ _),
   zz_of (ok_iconst G (v := 1) dX9_ruleLine_50 (by decide) rfl) (z_cn 51 1),
   zz_of (ok_goto G dX9_ruleLine_51 rfl) (z_goto _),
   zz_of (ok_iconst G (v := 0) dX9_ruleLine_54 (by decide) rfl) (z_cn 55 0),
   zz_of (ok_istore_n G dX9_ruleLine_55 rfl rfl (by decide)) (z_ist _ _),
   zz_of (ok_aload_n G dX9_ruleLine_56 rfl rfl) (z_ald _ _),
   zz_of (ok_get G (nx := 60) (ci := 8) (kd := 0) (k := 10) (RX9, TX9, 32) rfl (by decide) rfl q1815 dX9_ruleLine_57 rfl) (z_get _ _ _ _),
   zz_of (ok_iconst G (v := (zI (-1))) dX9_ruleLine_60 (by decide) rfl) (z_cz 61 (-1)),
   zz_of (ok_cne G dX9_ruleLine_61 rfl rfl) (z_cne _ _ _ _),
   zz_of (ok_iload_n G dX9_ruleLine_64 rfl rfl) (z_ild _ _),
   zz_of (ok_ifeq G dX9_ruleLine_65 rfl rfl) (z_ifeq _ _ _),
   zz_of (ok_aload_n G dX9_ruleLine_68 rfl rfl) (z_ald _ _),
   zz_of (ok_get G (nx := 72) (ci := 8) (kd := 0) (k := 15) (RX9, TX9, 32) rfl (by decide) rfl q1820 dX9_ruleLine_69 rfl) (z_get _ _ _ _),
   zz_of (ok_iconst G (v := (zI (-1))) dX9_ruleLine_72 (by decide) rfl) (z_cz 73 (-1)),
   zz_of (ok_cne G dX9_ruleLine_73 rfl rfl) (z_cne _ _ _ _),
   zz_of (ok_aload_n G dX9_ruleLine_76 rfl rfl) (z_ald _ _),
   zz_of (ok_iload_n G dX9_ruleLine_77 rfl rfl) (z_ild _ _),
   zz_of (ok_puti G (nx := 81) (idx := 194) (ci := 8) (k := 15) (RX9, TX9, 32) rfl (by decide) rfl (mm_pw G (ci := 8) (k := 15) (RX9, TX9, 32) rfl (by decide) rfl q1820 dX9_ruleLine_78) rfl) (z_puti _ _ _),
   zz_of (ok_vret G dX9_ruleLine_81) (z_vret), trivial⟩

theorem zwX9_ruleLine_0 {Q : Option zv → zz_M → Prop} {X : Nat → zz_M → Prop} {S L : Nat → Nat → Int}  (h : (∃ (tx_1 : Nat → Int) (n_1 a_1 j_1 : Nat), 1007 = 1000 + j_1 ∧ j_1 < 18 ∧ mT S tx_1 n_1 ∧ S 0 9 = a_1 ∧ a_1 ≤ n_1 ∧ (hsW tx_1 n_1 (rn (qB tx_1) n_1 a_1) (wo j_1) = true → (zz_J zpX9_ruleLine (zz_ret Q X 0 0) 18 [some (vr 0), none, none] [] (zm (mm_up S 0 9 ((rn (qB tx_1) n_1 a_1 + (wo j_1).length : Nat) : Int)) L) (0, 0))) ∧ (hsW tx_1 n_1 (rn (qB tx_1) n_1 a_1) (wo j_1) = false → ((R32 ((mm_up S 0 9 ((rn (qB tx_1) n_1 a_1 : Nat) : Int)) 0 10) ∧ (Q none (zm (mm_up (mm_up S 0 9 ((rn (qB tx_1) n_1 a_1 : Nat) : Int)) 0 10 (wrF ((mm_up S 0 9 ((rn (qB tx_1) n_1 a_1 : Nat) : Int)) 0 10) ((rn (qB tx_1) n_1 a_1 : Nat) : Int))) L))))))) : zz_J zpX9_ruleLine (zz_ret Q X 0 0) 0 [some (vr 0), none, none] [] (zm S L) (0, 0) := zz_J.go [(18, [1, 2]), (25, [2]), (34, [2]), (56, [])] 400 h
theorem zwX9_ruleLine_18 {Q : Option zv → zz_M → Prop} {X : Nat → zz_M → Prop} {S L : Nat → Nat → Int}  (h : (R32 (S 0 10) ∧ 0 ≤ S 0 9 ∧ R32 (0 : Int) ∧ R32 (3 : Int) ∧ (S 0 10 ≠ -1 → (zz_J zpX9_ruleLine (zz_ret Q X 0 0) 25 [some (vr 0), some (vi 0), none] [] (zm S L) (0, 0))) ∧ (S 0 10 = -1 → ∃ (tx_1 : Nat → Int) (n_1 a_1 : Nat), mT S tx_1 n_1 ∧ S 0 9 = a_1 ∧ a_1 ≤ n_1 ∧ (fgB tx_1 n_1 (rn (qB tx_1) n_1 a_1) (0 : Int) (3 : Int) = true → ∀ (v_1 : Int) (z_1 : Nat), z_1 ≤ n_1 → (zz_J zpX9_ruleLine (zz_ret Q X 0 0) 25 [some (vr 0), some (vi v_1), none] [] (zm (pS S z_1 (rn (qB tx_1) n_1 a_1 : Nat) (S 0 11)) L) (0, 0))) ∧ (fgB tx_1 n_1 (rn (qB tx_1) n_1 a_1) (0 : Int) (3 : Int) = false → (zz_J zpX9_ruleLine (zz_ret Q X 0 0) 25 [some (vr 0), some (vi (fgV tx_1 (rn (qB tx_1) n_1 a_1) (rn (qD tx_1) n_1 (rn (qB tx_1) n_1 a_1) - rn (qB tx_1) n_1 a_1))), none] [] (zm (pS S (rn (qD tx_1) n_1 (rn (qB tx_1) n_1 a_1) : Nat) (-1) (S 0 11)) L) (0, 0)))))) : zz_J zpX9_ruleLine (zz_ret Q X 0 0) 18 [some (vr 0), none, none] [] (zm S L) (0, 0) := zz_J.go [(18, [1, 2]), (25, [2]), (34, [2]), (56, [])] 400 h
theorem zwX9_ruleLine_25 {Q : Option zv → zz_M → Prop} {X : Nat → zz_M → Prop} {S L : Nat → Nat → Int} {x1 : Int} (h : R32 (S 0 10) ∧ (((S 0 10) = (-1) → zz_J zpX9_ruleLine (zz_ret Q X 0 0) 34 [some (vr 0), some (vi x1), none] [] (zm S L) (0, 0)) ∧ (¬ (S 0 10) = (-1) → Q none (zm S L)))) : zz_J zpX9_ruleLine (zz_ret Q X 0 0) 25 [some (vr 0), some (vi x1), none] [] (zm S L) (0, 0) := zz_J.go [(18, [1, 2]), (25, [2]), (34, [2]), (56, [])] 400 h
theorem zwX9_ruleLine_34 {Q : Option zv → zz_M → Prop} {X : Nat → zz_M → Prop} {S L : Nat → Nat → Int} {x1 : Int} (h : (∃ (tx_1 : Nat → Int) (n_1 a_1 j_1 : Nat), 1008 = 1000 + j_1 ∧ j_1 < 18 ∧ mT S tx_1 n_1 ∧ S 0 9 = a_1 ∧ a_1 ≤ n_1 ∧ (hsW tx_1 n_1 (rn (qB tx_1) n_1 a_1) (wo j_1) = true → ((∃ (tx_2 : Nat → Int) (n_2 a_2 : Nat), mT (mm_up S 0 9 ((rn (qB tx_1) n_1 a_1 + (wo j_1).length : Nat) : Int)) tx_2 n_2 ∧ (mm_up S 0 9 ((rn (qB tx_1) n_1 a_1 + (wo j_1).length : Nat) : Int)) 0 9 = a_2 ∧ (mm_up S 0 9 ((rn (qB tx_1) n_1 a_1 + (wo j_1).length : Nat) : Int)) 0 10 = -1 ∧ (mm_up S 0 9 ((rn (qB tx_1) n_1 a_1 + (wo j_1).length : Nat) : Int)) 0 11 = 0 ∧ a_2 ≤ n_2 ∧ bF (fcS (mm_up S 0 9 ((rn (qB tx_1) n_1 a_1 + (wo j_1).length : Nat) : Int))) ∧ ((mm_up S 0 9 ((rn (qB tx_1) n_1 a_1 + (wo j_1).length : Nat) : Int)) 0 13 = 0 ∨ (mm_up S 0 9 ((rn (qB tx_1) n_1 a_1 + (wo j_1).length : Nat) : Int)) 0 13 = 1) ∧ ((mm_up S 0 9 ((rn (qB tx_1) n_1 a_1 + (wo j_1).length : Nat) : Int)) 0 14 = 0 ∨ (mm_up S 0 9 ((rn (qB tx_1) n_1 a_1 + (wo j_1).length : Nat) : Int)) 0 14 = 1) ∧ (∀ w_2 : Nat, soP tx_2 n_2 (atP tx_2 n_2 6) a_2 = .inl w_2 → ∀ (z_2 : Nat) (d_2 : Int), z_2 ≤ n_2 + 6 → (zz_J zpX9_ruleLine (zz_ret Q X 0 0) 56 [some (vr 0), some (vi x1), some (vi 1)] [] (zm (pS (mm_up S 0 9 ((rn (qB tx_1) n_1 a_1 + (wo j_1).length : Nat) : Int)) z_2 w_2 d_2) L) (0, 0)) ∧ (zz_J zpX9_ruleLine (zz_ret Q X 0 0) 56 [some (vr 0), some (vi x1), some (vi 0)] [] (zm (pS (mm_up S 0 9 ((rn (qB tx_1) n_1 a_1 + (wo j_1).length : Nat) : Int)) z_2 w_2 d_2) L) (0, 0))) ∧ (∀ c_2 : Nat × (Fc → Bool), soP tx_2 n_2 (atP tx_2 n_2 6) a_2 = .inr c_2 → (c_2.2 (fcS (mm_up S 0 9 ((rn (qB tx_1) n_1 a_1 + (wo j_1).length : Nat) : Int))) = true → (zz_J zpX9_ruleLine (zz_ret Q X 0 0) 56 [some (vr 0), some (vi x1), some (vi 1)] [] (zm (pS (mm_up S 0 9 ((rn (qB tx_1) n_1 a_1 + (wo j_1).length : Nat) : Int)) c_2.1 (-1) ((mm_up S 0 9 ((rn (qB tx_1) n_1 a_1 + (wo j_1).length : Nat) : Int)) 0 11)) L) (0, 0))) ∧ (c_2.2 (fcS (mm_up S 0 9 ((rn (qB tx_1) n_1 a_1 + (wo j_1).length : Nat) : Int))) = false → (zz_J zpX9_ruleLine (zz_ret Q X 0 0) 56 [some (vr 0), some (vi x1), some (vi 0)] [] (zm (pS (mm_up S 0 9 ((rn (qB tx_1) n_1 a_1 + (wo j_1).length : Nat) : Int)) c_2.1 (-1) ((mm_up S 0 9 ((rn (qB tx_1) n_1 a_1 + (wo j_1).length : Nat) : Int)) 0 11)) L) (0, 0))))))) ∧ (hsW tx_1 n_1 (rn (qB tx_1) n_1 a_1) (wo j_1) = false → (zz_J zpX9_ruleLine (zz_ret Q X 0 0) 56 [some (vr 0), some (vi x1), some (vi 1)] [] (zm (mm_up S 0 9 ((rn (qB tx_1) n_1 a_1 : Nat) : Int)) L) (0, 0))))) : zz_J zpX9_ruleLine (zz_ret Q X 0 0) 34 [some (vr 0), some (vi x1), none] [] (zm S L) (0, 0) := zz_J.go [(18, [1, 2]), (25, [2]), (34, [2]), (56, [])] 400 h
theorem zwX9_ruleLine_56 {Q : Option zv → zz_M → Prop} {X : Nat → zz_M → Prop} {S L : Nat → Nat → Int} {x1 : Int} {x2 : Int} (h : R32 (S 0 10) ∧ ((¬ (S 0 10) = (-1) → Q none (zm S L)) ∧ ((S 0 10) = (-1) → R32 x2 ∧ ((x2 = 0 → Q none (zm S L)) ∧ (¬ x2 = 0 → R32 (S 0 15) ∧ ((¬ (S 0 15) = (-1) → Q none (zm S L)) ∧ ((S 0 15) = (-1) → Q none (zm (mm_up S 0 15 x1) L)))))))) : zz_J zpX9_ruleLine (zz_ret Q X 0 0) 56 [some (vr 0), some (vi x1), some (vi x2)] [] (zm S L) (0, 0) := zz_J.go [(18, [1, 2]), (25, [2]), (34, [2]), (56, [])] 400 h

theorem zmX9_ruleLine (l : Launch) (hl : l.stackTraces = false) : mm_Spec l yX9_ruleLine (ws_ yX9_ruleLine cX9_ruleLine 3 none) (mm_rm 30 0 0) (zE zX9_ruleLine) := by
  refine zz_Met.J hl (by decide) (fun C G hnh => ztX9_ruleLine G hnh) ?_
  rintro as ⟨⟨t_, f⟩, S, L, P⟩ Q X h
  unfold zX9_ruleLine at h
  split at h
  rotate_left
  · exact h.elim
  rename_i h_
  obtain ⟨e1_, e2_, h⟩ := mm_and2 h (fun q => q)
  cases mm_beq e1_
  cases mm_beq e2_
  try dsimp only at h
  refine ⟨rfl, ?_⟩
  refine zz_Jev (M' := zm S L) rfl rfl rfl ?_
  obtain ⟨tx, n, a, hT, h9, h10, h11, ha, hF, h13, h14, h15, hq1, hq2⟩ := h
  have hn := hT.1
  generalize hd : S 0 11 = d at h11 hq2
  have hS : S = pS S a (-1) d := by rw [← hd]; exact pS_of h9 h10
  have hb := rn_le (q := qB tx) ha
  have hso := soP_ok (tx := tx) (atP_ok hT.2.2.1 (fun a w h e => ptP_w h e) 6)
  have h15' : mm_up S 0 15 (S 0 15) = S := up_same rfl
  -- behind the condition
  have t56w : ∀ (w z : Nat) (x1 x2 d' : Int), w ≤ n → z ≤ n + 6 → rlP tx n a = .inl w → zz_J zpX9_ruleLine (zz_ret Q X 0 0) 56 [some (vr 0), some (vi x1), some (vi x2)] [] (zm (pS S z w d') L) (0, 0) := by
    intro w z x1 x2 d' hw hz e
    refine zwX9_ruleLine_56 ?_
    simp only [pS_r10]
    exact ⟨by omega, fun _ => hq1 w e z d' hz, fun h => by omega⟩
  have t56 : ∀ (k : Nat) (v x2 : Int) (o : Fc → Option Int), (x2 = 1 ∧ o (fcS S) = some v ∨ x2 = 0 ∧ o (fcS S) = none) → rlP tx n a = .inr (k, o) → zz_J zpX9_ruleLine (zz_ret Q X 0 0) 56 [some (vr 0), some (vi v), some (vi x2)] [] (zm (pS S k (-1) d) L) (0, 0) := by
    intro k v x2 o ho e
    have hq := hq2 _ e
    dsimp only at hq
    refine zwX9_ruleLine_56 ?_
    simp only [pS_r10, pS_r15, pS_15]
    refine ⟨by omega, fun h => absurd trivial h, fun _ => ⟨by omega, fun x0 => ?_, fun x1 => ⟨h15, fun s => ?_, fun s => ?_⟩⟩⟩
    · rcases ho with ⟨h1, -⟩ | ⟨-, h2⟩
      · omega
      · rw [h2] at hq
        have es : syN (S 0 15) none = S 0 15 := by
          unfold syN
          by_cases h : S 0 15 = -1
          · rw [if_pos h, h]; rfl
          · rw [if_neg h]
        rw [es, h15'] at hq
        exact hq
    · have es : syN (S 0 15) (o (fcS S)) = S 0 15 := by unfold syN; rw [if_neg s]
      rw [es, h15'] at hq
      exact hq
    · rcases ho with ⟨-, h2⟩ | ⟨h1, -⟩
      · have es : syN (S 0 15) (o (fcS S)) = v := by unfold syN; rw [if_pos s, h2]; rfl
        rw [es] at hq
        exact hq
      · omega
  have t34 : ∀ (k : Nat) (v : Int), k ≤ n → (∀ w, hsW tx n (rn (qB tx) n k) (wo 8) = true → soP tx n (atP tx n 6) (rn (qB tx) n k + 2) = .inl w → rlP tx n a = .inl w) → (∀ e, hsW tx n (rn (qB tx) n k) (wo 8) = true → soP tx n (atP tx n 6) (rn (qB tx) n k + 2) = .inr e → rlP tx n a = .inr (e.1, fun F => bif e.2 F then some v else none)) → (hsW tx n (rn (qB tx) n k) (wo 8) = false → rlP tx n a = .inr (rn (qB tx) n k, fun _ => some v)) → zz_J zpX9_ruleLine (zz_ret Q X 0 0) 34 [some (vr 0), some (vi v), none] [] (zm (pS S k (-1) d) L) (0, 0) := by
    intro k v hk e1 e2 e3
    have g2 := rn_le (q := qB tx) hk
    refine zwX9_ruleLine_34 ?_
    simp only [pS_r10, pS_r9, pS_r11, pS_9, mT_pS, pS_pS, fcS_pS, pS_r13, pS_r14]
    refine ⟨tx, n, k, 8, rfl, by decide, hT, rfl, hk, fun c => ?_, fun c => ?_⟩
    · have h6 : rn (qB tx) n k + 2 ≤ n := hsW_le g2 c
      refine ⟨tx, n, rn (qB tx) n k + 2, hT, rfl, trivial, h11, h6, hF, h13, h14, fun w ew z d' hz => ?_, fun c2 ec => ?_⟩
      · have hw := (hso _ h6).2 w ew
        exact ⟨t56w w z v 1 d' hw hz (e1 w c ew), t56w w z v 0 d' hw hz (e1 w c ew)⟩
      · exact ⟨fun t => t56 _ v 1 _ (Or.inl ⟨rfl, by rw [t]; rfl⟩) (e2 c2 c ec), fun t => t56 _ v 0 _ (Or.inr ⟨rfl, by rw [t]; rfl⟩) (e2 c2 c ec)⟩
    · exact t56 _ v 1 _ (Or.inl ⟨rfl, rfl⟩) (e3 c)
  rw [hS]
  refine zwX9_ruleLine_0 ?_
  simp only [pS_r10, pS_r9, pS_r11, pS_9, pS_10, mT_pS, pS_pS, fcS_pS, wrF, if_true]
  refine ⟨tx, n, a, 7, rfl, by decide, hT, rfl, ha, fun c => ?_, fun c => ⟨by omega, ?_⟩⟩
  · have h3 : rn (qB tx) n a + 5 ≤ n := hsW_le hb c
    have erl : ∀ q, nmP tx n 0 3 (rn (qB tx) n a + 5) = q → rlP tx n a = (match q with
      | .inl w => .inl w
      | .inr c => if hsW tx n (rn (qB tx) n c.1) (wo 8) = true then (match soP tx n (atP tx n 6) (rn (qB tx) n c.1 + 2) with
          | .inl w => .inl w
          | .inr e => .inr (e.1, fun F => bif e.2 F then some c.2 else none))
        else .inr (rn (qB tx) n c.1, fun _ => some c.2)) := by
      intro q hq
      unfold rlP
      rw [if_pos c, hq]
    refine zwX9_ruleLine_18 ?_
    simp only [pS_r10, pS_r9, pS_r11, mT_pS, pS_pS]
    refine ⟨by omega, by omega, by omega, by omega, fun h => absurd rfl h, fun _ => ⟨tx, n, rn (qB tx) n a + 5, hT, rfl, h3, fun e v z hz => ?_, fun e => ?_⟩⟩
    · have e2 : nmP tx n 0 3 (rn (qB tx) n a + 5) = .inl (rn (qB tx) n (rn (qB tx) n a + 5)) := by unfold nmP; rw [if_pos e]
      have hw := rn_le (q := qB tx) h3
      refine zwX9_ruleLine_25 ?_
      simp only [pS_r10]
      exact ⟨by omega, fun h => by omega, fun _ => hq1 _ (erl _ e2) z d (by omega)⟩
    · have e2 := show nmP tx n 0 3 (rn (qB tx) n a + 5) = .inr (rn (qD tx) n (rn (qB tx) n (rn (qB tx) n a + 5)), fgV tx (rn (qB tx) n (rn (qB tx) n a + 5)) (rn (qD tx) n (rn (qB tx) n (rn (qB tx) n a + 5)) - rn (qB tx) n (rn (qB tx) n a + 5))) by unfold nmP; rw [if_neg (by rw [e]; decide)]
      have hr := erl _ e2
      have hk := (nmP_ok _ h3).1 _ e2
      dsimp only at hr hk
      refine zwX9_ruleLine_25 ?_
      simp only [pS_r10]
      refine ⟨by omega, fun _ => ?_, fun h => absurd trivial h⟩
      generalize fgV tx (rn (qB tx) n (rn (qB tx) n a + 5)) (rn (qD tx) n (rn (qB tx) n (rn (qB tx) n a + 5)) - rn (qB tx) n (rn (qB tx) n a + 5)) = v at hr
      generalize rn (qD tx) n (rn (qB tx) n (rn (qB tx) n a + 5)) = k at hr hk
      refine t34 k v hk.2 (fun w c2 ew => ?_) (fun e' c2 ee => ?_) (fun c2 => ?_)
      · rw [hr, if_pos c2, ew]
      · rw [hr, if_pos c2, ee]
      · rw [hr, if_neg (by rw [c2]; decide)]
  · have e : rlP tx n a = .inl (rn (qB tx) n a) := by unfold rlP; rw [if_neg (by rw [c]; decide)]
    exact hq1 _ e _ d (by omega)
