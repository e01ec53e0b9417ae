/-! ===== the trees of rules: lines, rules; styles ===== -/
set_option maxRecDepth 100000
/-- a line of a rule -/
def liT (lo hi : Nat) (f : Nat → Nat × Nat) (S : Nat → Nat → Int) (P : Nat → Nat → Option Nat) (h : Nat) (r : Fc → Option Int) : Prop := inR lo hi h ∧ f h = (1, 10) ∧ (0 ≤ S h 0 ∧ S h 0 ≤ 3) ∧ ((P h 1 = none ∧ r = fun _ => some (S h 0)) ∨ ∃ (a : Nat) (c : Fc → Bool), P h 1 = some a ∧ coT lo hi f S P 14 a c ∧ r = fun F => bif c F then some (S h 0) else none)
def orL : List (Fc → Option Int) → Fc → Option Int
  | [], _ => none
  | r :: t, F => (r F).or (orL t F)
/-- a rule -/
def ruT (lo hi : Nat) (f : Nat → Nat × Nat) (S : Nat → Nat → Int) (P : Nat → Nat → Option Nat) (h : Nat) (r : Fc → Option Int) : Prop := inR lo hi h ∧ f h = (1, 9) ∧ ∃ (a : Nat) (l : List Nat) (rs : List (Fc → Option Int)), P h 0 = some a ∧ ALT lo hi f S P a l ∧ l.length = rs.length ∧ (∀ (i x : Nat) (r' : Fc → Option Int), l[i]? = some x → rs[i]? = some r' → liT lo hi f S P x r') ∧ r = orL rs
theorem liT.mo {lo hi lo' hi' : Nat} {f : Nat → Nat × Nat} {S : Nat → Nat → Int} {P : Nat → Nat → Option Nat} {h : Nat} {r : Fc → Option Int} (q : liT lo hi f S P h r) (a : 2000 ≤ lo') (b : lo' ≤ lo) (d : hi ≤ hi') : liT lo' hi' f S P h r := by
  obtain ⟨q1, q2, q3, q4⟩ := q
  refine ⟨q1.mo a b d, q2, q3, q4.imp id ?_⟩
  rintro ⟨x, c, r1, r2, r3⟩
  exact ⟨x, c, r1, coT.mo a b d r2, r3⟩
theorem liT.fr {lo hi : Nat} {f f' : Nat → Nat × Nat} {S S' : Nat → Nat → Int} {P P' : Nat → Nat → Option Nat} {h : Nat} {r : Fc → Option Int} (q : liT lo hi f S P h r) (a : agR lo hi f S P f' S' P') : liT lo hi f' S' P' h r := by
  obtain ⟨q1, q2, q3, q4⟩ := q
  obtain ⟨a1, a2, a3⟩ := a h q1.2.1 q1.2.2
  refine ⟨q1, by rw [a1]; exact q2, by rw [a2]; exact q3, ?_⟩
  rw [a2, a3]
  refine q4.imp id ?_
  rintro ⟨x, c, r1, r2, r3⟩
  exact ⟨x, c, r1, coT.fr a r2, r3⟩
theorem ruT.mo {lo hi lo' hi' : Nat} {f : Nat → Nat × Nat} {S : Nat → Nat → Int} {P : Nat → Nat → Option Nat} {h : Nat} {r : Fc → Option Int} (q : ruT lo hi f S P h r) (a : 2000 ≤ lo') (b : lo' ≤ lo) (d : hi ≤ hi') : ruT lo' hi' f S P h r := by
  obtain ⟨q1, q2, x, l, rs, q3, q4, q5, q6, q7⟩ := q
  exact ⟨q1.mo a b d, q2, x, l, rs, q3, q4.mo a b d, q5, fun i y r' h1 h2 => (q6 i y r' h1 h2).mo a b d, q7⟩
theorem ruT.fr {lo hi : Nat} {f f' : Nat → Nat × Nat} {S S' : Nat → Nat → Int} {P P' : Nat → Nat → Option Nat} {h : Nat} {r : Fc → Option Int} (q : ruT lo hi f S P h r) (a : agR lo hi f S P f' S' P') : ruT lo hi f' S' P' h r := by
  obtain ⟨q1, q2, x, l, rs, q3, q4, q5, q6, q7⟩ := q
  obtain ⟨a1, a2, a3⟩ := a h q1.2.1 q1.2.2
  exact ⟨q1, by rw [a1]; exact q2, x, l, rs, by rw [a3]; exact q3, q4.fr a, q5, fun i y r' h1 h2 => (q6 i y r' h1 h2).fr a, q7⟩
theorem orL_d {rs : List (Fc → Option Int)} {i : Nat} (hi : i < rs.length) (F : Fc) : orL (rs.drop i) F = (rs[i] F).or (orL (rs.drop (i + 1)) F) := by
  rw [List.drop_eq_getElem_cons hi]
  rfl
def zX11_style : zz_Sp := fun as M Q X => match as with
  | [.inr (.inr (some h_)), .inr (.inr (some s))] => bif Nat.beq M.1.1 2 && Nat.beq s 103 then (∃ (r_ : Fc → Option Int) (q_ p_ lo_ hi_ : Nat), ruT lo_ hi_ M.1.2 M.2.1 M.2.2.2 h_ r_ ∧ sciB M.2.1 M.2.2.2 q_ p_ ∧ Q (some (vi ((r_ (fcX (cx M.2.1 q_) p_)).getD 0))) ((2, M.1.2), M.2.1, M.2.2.1, M.2.2.2)) else False
  | _ => False

def zpX11_style : zz_P := [(0, zo_c 1 (vi 0)), (1, zo_ist 2 2), (2, zo_ild 3 2), (3, zo_ald 4 0), (4, zo_getq 7 9 0), (7, zo_callvp 10 1 17 zJ2_sizeh), (10, zo_cge false false 13 56), (13, zo_ald 14 0), (14, zo_getq 17 9 0), (17, zo_ild 18 2), (18, zo_callvp 21 2 17 zJ2_get), (21, zo_cast 24 [10]), (24, zo_ast 25 3), (25, zo_ald 26 3), (26, zo_getq 29 10 1), (29, zo_ifnull 32 45), (32, zo_ald 33 3), (33, zo_getq 36 10 1), (36, zo_ald 37 1), (37, zo_or (zo_cfF (mm_rm 20 0 0) 42 2 11 0 0 zX13_holds_14) (zo_or (zo_cfF (mm_rm 20 0 0) 42 2 12 0 0 zX14_holds_14) (zo_or (zo_cfF (mm_rm 20 0 0) 42 2 13 0 0 zX15_holds) (zo_cfF (mm_rm 20 0 0) 42 2 16 0 0 zX19_holds)))), (42, zo_zifeq 45 50), (45, zo_ald 46 3), (46, zo_getp 49 10 0 0), (49, zo_iret), (50, zo_inc 53 2 1), (53, zo_goto 2), (56, zo_c 57 (vi 0)), (57, zo_iret)]
theorem ztX11_style {C : mm_C} (G : mm_G C RX11 cX11_style (some .int) 4 (mm_rm 20 0 0)) (hnh : mm_nh C) : zz_OKs C zpX11_style :=
  ⟨zz_of (ok_iconst G (v := 0) dX11_style_0 (by decide) rfl) (z_cn 1 0),
   zz_of (ok_istore_n G dX11_style_1 rfl rfl (by decide)) (z_ist _ _),
   zz_of (ok_iload_n G dX11_style_2 rfl rfl) (z_ild _ _),
   zz_of (ok_aload_n G dX11_style_3 rfl rfl) (z_ald _ _),
   zz_of (ok_get G (nx := 7) (ci := 9) (kd := 2) (k := 0) (RX11, TX11, 1) rfl (by decide) rfl q1125 dX11_style_4 rfl) (z_getq _ _ _),
   zz_of (ok_callv G hnh (zmJ2_sizeh _ G.hst) rfl rfl (RJ2, TJ2, 3) rfl q1401 q592 q593 q86 q594 (by decide +kernel) ⟨by decide, by decide⟩ dX11_style_7 rfl) (z_callvp _ _ _ _),
   zz_of (ok_cge G dX11_style_10 rfl rfl) (z_cge _ _ _ _),
   zz_of (ok_aload_n G dX11_style_13 rfl rfl) (z_ald _ _),
   zz_of (ok_get G (nx := 17) (ci := 9) (kd := 2) (k := 0) (RX11, TX11, 1) rfl (by decide) rfl q1125 dX11_style_14 rfl) (z_getq _ _ _),
   zz_of (ok_iload_n G dX11_style_17 rfl rfl) (z_ild _ _),
   zz_of (ok_callv G hnh (zmJ2_get _ G.hst) rfl rfl (RJ2, TJ2, 3) rfl q1402 q1382 q1383 q86 q1384 (by decide +kernel) ⟨by decide, by decide⟩ dX11_style_18 rfl) (z_callvp _ _ _ _),
   zz_of (ok_cast G (l := [10]) (fun ci h r e => by
      simp only [List.mem_cons, List.not_mem_nil, or_false] at h
      subst h <;> cases e <;> first | exact Or.inl rfl) q1403 dX11_style_21 rfl) (z_cast _ _),
   zz_of (ok_astore_n G dX11_style_24 rfl rfl (by decide)) (z_ast _ _),
   zz_of (ok_aload_n G dX11_style_25 rfl rfl) (z_ald _ _),
   zz_of (ok_getN G (nx := 29) (ci := 10) (kd := 2) (k := 1) (RX12, TX12, 2) rfl (by decide) rfl q1290 dX11_style_26 rfl) (z_getq _ _ _),
   zz_of (ok_ifnull G dX11_style_29 rfl rfl) (z_ifnull _ _),
   zz_of (ok_aload_n G dX11_style_32 rfl rfl) (z_ald _ _),
   zz_of (ok_getN G (nx := 36) (ci := 10) (kd := 2) (k := 1) (RX12, TX12, 2) rfl (by decide) rfl q1290 dX11_style_33 rfl) (z_getq _ _ _),
   zz_of (ok_aload_n G dX11_style_36 rfl rfl) (z_ald _ _),
   zz_or (zz_of (ok_calfF G (hnh.q 37) (zmX13_holds_14 _ G.hst) (RX13, TX13, 2) rfl q1405 q1456 q1454 q114 q1458 (List.Mem.head _) (by decide +kernel) ⟨Nat.le_of_ble_eq_true rfl, Nat.le_of_ble_eq_true rfl⟩ dX11_style_37 rfl) (z_cfF _ _ _ _ _ _ _)) (zz_or (zz_of (ok_calfF G (hnh.q 37) (zmX14_holds_14 _ G.hst) (RX14, TX14, 1) rfl q1405 q1448 q1446 q115 q1450 (List.Mem.tail _ (List.Mem.head _)) (by decide +kernel) ⟨Nat.le_of_ble_eq_true rfl, Nat.le_of_ble_eq_true rfl⟩ dX11_style_37 rfl) (z_cfF _ _ _ _ _ _ _)) (zz_or (zz_of (ok_calfF G (hnh.q 37) (zmX15_holds _ G.hst) (RX15, TX15, 1) rfl q1405 q1411 q1409 q116 q1413 (List.Mem.tail _ (List.Mem.tail _ (List.Mem.head _))) (by decide +kernel) ⟨Nat.le_of_ble_eq_true rfl, Nat.le_of_ble_eq_true rfl⟩ dX11_style_37 rfl) (z_cfF _ _ _ _ _ _ _)) (zz_of (ok_calfF G (hnh.q 37) (zmX19_holds _ G.hst) (RX19, TX19, 2) rfl q1405 q1421 q1419 q121 q1423 (List.Mem.tail _ (List.Mem.tail _ (List.Mem.tail _ (List.Mem.head _)))) (by decide +kernel) ⟨Nat.le_of_ble_eq_true rfl, Nat.le_of_ble_eq_true rfl⟩ dX11_style_37 rfl) (z_cfF _ _ _ _ _ _ _)))),
   zz_of (ok_ifeq G dX11_style_42 rfl rfl) (z_zifeq _ _),
   zz_of (ok_aload_n G dX11_style_45 rfl rfl) (z_ald _ _),
   zz_of (ok_getN G (nx := 49) (ci := 10) (kd := 0) (k := 0) (RX12, TX12, 2) rfl (by decide) rfl q1288 dX11_style_46 rfl) (z_getp _ _ _ _),
   zz_of (ok_iret G dX11_style_49) (z_iret),
   zz_of (ok_iinc G (v := 1) dX11_style_50 (by decide) rfl (by decide)) (z_incn 53 2 1),
   zz_of (ok_goto G dX11_style_53 rfl) (z_goto _),
   zz_of (ok_iconst G (v := 0) dX11_style_56 (by decide) rfl) (z_cn 57 0),
   zz_of (ok_iret G dX11_style_57) (z_iret), trivial⟩

theorem zwX11_style_0 {Q : Option zv → zz_M → Prop} {X : Nat → zz_M → Prop} {f : Nat → Nat × Nat} {S L : Nat → Nat → Int} {P : Nat → Nat → Option Nat} {h_ : Nat} (h : zz_J zpX11_style (zz_ret Q X 0 0) 2 [some (vr h_), some (vr 103), some (vi 0), none] [] ((2, f), S, L, P) (0, 0)) : zz_J zpX11_style (zz_ret Q X 0 0) 0 [some (vr h_), some (vr 103), none, none] [] ((2, f), S, L, P) (0, 0) := zz_J.go [(2, [3])] 400 h
theorem zwX11_style_2 {Q : Option zv → zz_M → Prop} {X : Nat → zz_M → Prop} {f : Nat → Nat × Nat} {S L : Nat → Nat → Int} {P : Nat → Nat → Option Nat} {h0 : Nat} {x2 : Int} (h : zsh ((2, f), S, L, P) h0 = (1, 9) ∧ (∀ b1 : Nat, zpt ((2, f), S, L, P) h0 0 = some b1 → (zsh ((2, f), S, L, P) b1 = (1, 17) ∨ zsh ((2, f), S, L, P) b1 = (17, 17)) ∧ (zsh ((2, f), S, L, P) b1 = (1, 17) ∧ (R32 x2 ∧ (R32 (((2, f), S, L, P).2.1 b1 2) ∧ (((((2, f), S, L, P).2.1 b1 2) ≤ x2 → Q (some (vi 0)) ((2, f), S, L, P)) ∧ (¬ (((2, f), S, L, P).2.1 b1 2) ≤ x2 → zsh ((2, f), S, L, P) h0 = (1, 9) ∧ (∀ b3 : Nat, zpt ((2, f), S, L, P) h0 0 = some b3 → (zsh ((2, f), S, L, P) b3 = (1, 17) ∨ zsh ((2, f), S, L, P) b3 = (17, 17)) ∧ (zsh ((2, f), S, L, P) b3 = (1, 17) ∧ ∃ (e_4 n_4 x_4 : Nat), zpt ((2, f), S, L, P) b3 1 = some e_4 ∧ zsh ((2, f), S, L, P) e_4 = (7, n_4) ∧ n_4 ≤ 2147483647 ∧ (0 ≤ x2 ∧ x2 < (n_4 : Int)) ∧ (x2 < ((2, f), S, L, P).2.1 b3 2 ∧ ((2, f), S, L, P).2.1 b3 2 < 2147483647) ∧ zpt ((2, f), S, L, P) e_4 x2.toNat = some x_4 ∧ ((∃ ci : Nat, (zsh ((2, f), S, L, P) x_4 = (1, ci) ∨ zsh ((2, f), S, L, P) x_4 = (17, ci)) ∧ mm_mem [10] ci = true) ∧ (zsh ((2, f), S, L, P) x_4 = (1, 10) ∧ (∀ b5 : Nat, zpt ((2, f), S, L, P) x_4 1 = some b5 → zsh ((2, f), S, L, P) x_4 = (1, 10) ∧ (∀ b6 : Nat, zpt ((2, f), S, L, P) x_4 1 = some b6 → ((zsh ((2, f), S, L, P) b6 = (1, 11) ∨ zsh ((2, f), S, L, P) b6 = (17, 11)) ∧ (0 + 0 ≤ 0 ∧ 0 + 0 ≤ 0) ∧ (∃ (c_7 : Fc → Bool) (q_7 p_7 lo_7 hi_7 : Nat), roT (coT lo_7 hi_7 f S P 13) lo_7 hi_7 f S P b6 c_7 ∧ sciB S P q_7 p_7 ∧ (c_7 (fcX (cx S q_7) p_7) = true → (zsh ((2, f), S, L, P) x_4 = (1, 10) ∧ (Q (some (vi (S x_4 0))) ((2, f), S, L, P)))) ∧ (c_7 (fcX (cx S q_7) p_7) = false → (zz_J zpX11_style (zz_ret Q X 0 0) 2 [some (vr h0), some (vr 103), some (vi (x2 + 1)), none] [] ((2, f), S, L, P) (0, 0))))) ∨ ((zsh ((2, f), S, L, P) b6 = (1, 12) ∨ zsh ((2, f), S, L, P) b6 = (17, 12)) ∧ (0 + 0 ≤ 0 ∧ 0 + 0 ≤ 0) ∧ (∃ (c_8 : Fc → Bool) (q_8 p_8 lo_8 hi_8 : Nat), noT (coT lo_8 hi_8 f S P 13) lo_8 hi_8 f P b6 c_8 ∧ sciB S P q_8 p_8 ∧ (c_8 (fcX (cx S q_8) p_8) = true → (zsh ((2, f), S, L, P) x_4 = (1, 10) ∧ (Q (some (vi (S x_4 0))) ((2, f), S, L, P)))) ∧ (c_8 (fcX (cx S q_8) p_8) = false → (zz_J zpX11_style (zz_ret Q X 0 0) 2 [some (vr h0), some (vr 103), some (vi (x2 + 1)), none] [] ((2, f), S, L, P) (0, 0))))) ∨ ((zsh ((2, f), S, L, P) b6 = (1, 13) ∨ zsh ((2, f), S, L, P) b6 = (17, 13)) ∧ (0 + 0 ≤ 0 ∧ 0 + 0 ≤ 0) ∧ (∃ q_9 p_9 : Nat, (2000 ≤ b6 ∧ f b6 = (1, 13) ∧ (S b6 0 = 0 ∨ S b6 0 = 1)) ∧ scnI S P q_9 p_9 ∧ ((if S b6 0 = 1 then cx S q_9 2 = (p_9 : Int) else cx S q_9 6 = 1) → (zsh ((2, f), S, L, P) x_4 = (1, 10) ∧ (Q (some (vi (S x_4 0))) ((2, f), S, L, P)))) ∧ (¬ (if S b6 0 = 1 then cx S q_9 2 = (p_9 : Int) else cx S q_9 6 = 1) → (zz_J zpX11_style (zz_ret Q X 0 0) 2 [some (vr h0), some (vr 103), some (vi (x2 + 1)), none] [] ((2, f), S, L, P) (0, 0))))) ∨ ((zsh ((2, f), S, L, P) b6 = (1, 16) ∨ zsh ((2, f), S, L, P) b6 = (17, 16)) ∧ (0 + 0 ≤ 0 ∧ 0 + 0 ≤ 0) ∧ (∃ (g_10 k_10 : Fc → Int) (q_10 p_10 a_10 b_10 lo_10 hi_10 : Nat), (2000 ≤ b6 ∧ f b6 = (1, 16) ∧ P b6 0 = some a_10 ∧ P b6 1 = some b_10) ∧ SuT lo_10 hi_10 f S P a_10 g_10 ∧ SuT lo_10 hi_10 f S P b_10 k_10 ∧ scnI S P q_10 p_10 ∧ R32 (g_10 (fcX (cx S q_10) p_10)) ∧ R32 (k_10 (fcX (cx S q_10) p_10)) ∧ (g_10 (fcX (cx S q_10) p_10) < k_10 (fcX (cx S q_10) p_10) → (zsh ((2, f), S, L, P) x_4 = (1, 10) ∧ (Q (some (vi (S x_4 0))) ((2, f), S, L, P)))) ∧ (¬ g_10 (fcX (cx S q_10) p_10) < k_10 (fcX (cx S q_10) p_10) → (zz_J zpX11_style (zz_ret Q X 0 0) 2 [some (vr h0), some (vr 103), some (vi (x2 + 1)), none] [] ((2, f), S, L, P) (0, 0)))))) ∧ (zpt ((2, f), S, L, P) x_4 1 = none → (False ∧ (0 + 0 ≤ 0 ∧ 0 + 0 ≤ 0) ∧ False) ∨ (False ∧ (0 + 0 ≤ 0 ∧ 0 + 0 ≤ 0) ∧ False) ∨ (False ∧ (0 + 0 ≤ 0 ∧ 0 + 0 ≤ 0) ∧ False) ∨ (False ∧ (0 + 0 ≤ 0 ∧ 0 + 0 ≤ 0) ∧ False))) ∧ (zpt ((2, f), S, L, P) x_4 1 = none → zsh ((2, f), S, L, P) x_4 = (1, 10) ∧ (Q (some (vi (S x_4 0))) ((2, f), S, L, P))))))) ∧ (zpt ((2, f), S, L, P) h0 0 = none → False ∧ False))))))) ∧ (zpt ((2, f), S, L, P) h0 0 = none → False ∧ False)) : zz_J zpX11_style (zz_ret Q X 0 0) 2 [some (vr h0), some (vr 103), some (vi x2), none] [] ((2, f), S, L, P) (0, 0) := zz_J.go [(2, [3])] 400 h

theorem zmX11_style (l : Launch) (hl : l.stackTraces = false) : mm_Spec l yX11_style (ws_ yX11_style cX11_style 4 (some .int)) (mm_rm 20 0 0) (zE zX11_style) := by
  refine zz_Met.J hl (by decide) (fun C G hnh => ztX11_style G hnh) ?_
  rintro as ⟨⟨t_, f⟩, S, L, P⟩ Q X h
  unfold zX11_style at h
  split at h
  rotate_left
  · exact h.elim
  rename_i h_ s
  obtain ⟨e1_, e2_, h⟩ := mm_and2 h (fun q => q)
  cases mm_beq e1_
  cases mm_beq e2_
  try dsimp only at h
  refine ⟨rfl, ?_⟩
  obtain ⟨r, q, p, lo, hi0, ⟨q1, q2, a, l, rs, q4, ⟨ha2, hfa, hsz, hlen, hel⟩, q6, q7, rfl⟩, hs, hr⟩ := h
  have hz : zsh ((2, f), S, L, P) h_ = (1, 9) := (zsh_hi q1.le).trans q2
  have hx : zpt ((2, f), S, L, P) h_ 0 = some a := (zpt_hi q1.le).trans q4
  replace ha2 := ha2.le
  have hza : zsh ((2, f), S, L, P) a = (1, 17) := (zsh_hi ha2).trans hfa
  have t2 : ∀ (m i : Nat), i + m = l.length → orL (rs.drop i) (fcX (cx S q) p) = orL rs (fcX (cx S q) p) → zz_J zpX11_style (zz_ret Q X 0 0) 2 [some (vr h_), some (vr 103), some (vi (i : Int)), none] [] ((2, f), S, L, P) (0, 0) := by
    intro m
    induction m with
    | zero =>
      intro i hi hor
      refine zwX11_style_2 (q_go hz hx ⟨Or.inl hza, hza, by omega, by show R32 (S a 2); rw [hsz]; omega, fun _ => ?_, fun c => absurd (show S a 2 ≤ (i : Int) by rw [hsz]; omega) c⟩)
      have e : rs.drop i = [] := List.drop_eq_nil_of_le (by omega)
      rw [e] at hor
      rw [← hor] at hr
      exact hr
    | succ m ih =>
      intro i hi hor
      have il : i < l.length := by omega
      have ig : i < rs.length := by omega
      obtain ⟨e, n, he2, hPe, hfe, hn, hln, hPi⟩ := hel (fun c => by rw [c] at il; exact absurd il (by simp))
      replace he2 := he2.le
      have hlx : l[i]? = some l[i] := List.getElem?_eq_getElem il
      have hgx : rs[i]? = some rs[i] := List.getElem?_eq_getElem ig
      obtain ⟨r1, r2, r3, r4⟩ := q7 i _ _ hlx hgx
      have hzx : zsh ((2, f), S, L, P) l[i] = (1, 10) := (zsh_hi r1.le).trans r2
      have hpx : zpt ((2, f), S, L, P) l[i] 1 = P l[i] 1 := zpt_hi r1.le
      rw [orL_d ig] at hor
      have nx := ih (i + 1) (by omega)
      refine zwX11_style_2 (q_go hz hx ⟨Or.inl hza, hza, by omega, by show R32 (S a 2); rw [hsz]; omega, fun c => absurd (show S a 2 ≤ (i : Int) from c) (by rw [hsz]; omega), fun _ => q_go hz hx ⟨Or.inl hza, hza, e, n, l[i], (zpt_hi ha2).trans hPe, (zsh_hi he2).trans hfe, hn, by omega, ⟨by show (i : Int) < S a 2; rw [hsz]; omega, by show S a 2 < 2147483647; rw [hsz]; omega⟩, ?_, ⟨10, Or.inl hzx, rfl⟩, ?_⟩⟩)
      · rw [Int.toNat_natCast]
        exact (zpt_hi he2).trans (hPi i _ hlx)
      · rcases r4 with ⟨r5, r6⟩ | ⟨y, c, r5, r6, r7⟩
        · refine ⟨hzx, fun b e => ?_, fun _ => ⟨hzx, ?_⟩⟩
          · rw [hpx, r5] at e
            cases e
          · rw [r6] at hor
            have e2 : orL rs (fcX (cx S q) p) = some (S l[i] 0) := hor.symm
            rw [e2] at hr
            exact hr
        · rw [r7] at hor
          have A1 : c (fcX (cx S q) p) = true → zsh ((2, f), S, L, P) l[i] = (1, 10) ∧ Q (some (vi (S l[i] 0))) ((2, f), S, L, P) := fun ec => by
            dsimp only at hor
            rw [ec] at hor
            have e2 : orL rs (fcX (cx S q) p) = some (S l[i] 0) := hor.symm
            rw [e2] at hr
            exact ⟨hzx, hr⟩
          have A0 : c (fcX (cx S q) p) = false → zz_J zpX11_style (zz_ret Q X 0 0) 2 [some (vr h_), some (vr 103), some (vi ((i : Int) + 1)), none] [] ((2, f), S, L, P) (0, 0) := fun ec => by
            dsimp only at hor
            rw [ec] at hor
            exact nx hor
          have hpy := hpx.trans r5
          exact q_go hzx hpy (q_go hzx hpy (co_or r6 hs A1 A0))
  exact zwX11_style_0 (t2 l.length 0 (by omega) rfl)
/-- the rules that are told: a list of handles, what each says, and what is above -/
def rlI (f : Nat → Nat × Nat) (S : Nat → Nat → Int) (P : Nat → Nat → Option Nat) (top : Nat) (rs : List (Fc → Option Int)) : Prop := 2000 ≤ top ∧ S 202 2 = (rs.length : Int) ∧ rs.length ≤ 6 ∧ (rs ≠ [] → ∃ (e n : Nat) (l : List Nat), inR 2000 top e ∧ P 202 1 = some e ∧ f e = (7, n) ∧ n ≤ 2147483647 ∧ l.length = rs.length ∧ l.length ≤ n ∧ (∀ i x : Nat, l[i]? = some x → P e i = some x) ∧ ∀ (i x : Nat) (r : Fc → Option Int), l[i]? = some x → rs[i]? = some r → ruT 2000 top f S P x r)
/-- a player's rule is there -/
def prI (S : Nat → Nat → Int) (rs : List (Fc → Option Int)) (p : Nat) : Prop := S 203 p = -1 ∨ (0 ≤ S 203 p ∧ S 203 p < rs.length)
/-- the style by the rule of a player -/
def syV (S : Nat → Nat → Int) (rs : List (Fc → Option Int)) (p : Nat) (F : Fc) : Int := if S 203 p = -1 then 0 else match rs[(S 203 p).toNat]? with
  | none => 0
  | some r => (r F).getD 0
/-- but for the scene's player and score -/
def scnS (S S' : Nat → Nat → Int) : Prop := ∀ h k, ¬ (h = 103 ∧ k = 1) → S' h k = S h k
def scnP (P P' : Nat → Nat → Option Nat) : Prop := ∀ h k, ¬ (h = 103 ∧ k = 0) → P' h k = P h k
def zX1_styleOf : zz_Sp := fun as M Q X => match as with
  | [.inr (.inr (some h_)), .inr (.inr (some s)), .inl p] => bif Nat.beq h_ 100 && Nat.beq M.1.1 2 then (∃ (rs_ : List (Fc → Option Int)) (top_ p_ : Nat), rlI M.1.2 M.2.1 M.2.2.2 top_ rs_ ∧ prI M.2.1 rs_ p_ ∧ p = (p_ : Int) ∧ p_ < 2 ∧ (s = 204 ∨ s = 108) ∧ scV (cx M.2.1 s) ∧ (-100 ≤ cx M.2.1 s 7 ∧ cx M.2.1 s 7 ≤ 100) ∧ (-100 ≤ cx M.2.1 s 8 ∧ cx M.2.1 s 8 ≤ 100) ∧ (∀ (S_ : Nat → Nat → Int) (P_ : Nat → Nat → Option Nat), scnS M.2.1 S_ → scnP M.2.2.2 P_ → Q (some (vi (syV M.2.1 rs_ p_ (fcX (cx M.2.1 s) p_)))) ((2, M.1.2), S_, M.2.2.1, P_))) else False
  | _ => False

def zpX1_styleOf : zz_P := [(0, zo_ald 1 0), (1, zo_get 4 0 2 0), (4, zo_get 7 1 2 8), (7, zo_ild 8 2), (8, zo_iald 9), (9, zo_c 10 (vi (-1))), (10, zo_cne false true 13 17), (13, zo_c 14 (vi 0)), (14, zo_goto 51), (17, zo_ald 18 0), (18, zo_get 21 0 2 0), (21, zo_get 24 1 2 7), (24, zo_ald 25 0), (25, zo_get 28 0 2 0), (28, zo_get 31 1 2 8), (31, zo_ild 32 2), (32, zo_iald 33), (33, zo_callv 36 2 17 zJ2_get), (36, zo_cast 39 [9]), (39, zo_ald 40 0), (40, zo_get 43 0 2 3), (43, zo_ald 44 1), (44, zo_ild 45 2), (45, zo_callv 48 3 4 zX5_at), (48, zo_callvp 51 2 9 zX11_style), (51, zo_iret)]
theorem ztX1_styleOf {C : mm_C} (G : mm_G C RX1 cX1_styleOf (some .int) 3 (mm_rm 21 0 0)) (hnh : mm_nh C) : zz_OKs C zpX1_styleOf :=
  ⟨zz_of (ok_aload_n G dX1_styleOf_0 rfl rfl) (z_ald _ _),
   zz_of (ok_get G (nx := 4) (ci := 0) (kd := 2) (k := 0) (RX1, TX1, 19) rfl (by decide) rfl q399 dX1_styleOf_1 rfl) (z_get _ _ _ _),
   zz_of (ok_getN G (nx := 7) (ci := 1) (kd := 2) (k := 8) (RX2, TX2, 11) rfl (by decide) rfl q238 dX1_styleOf_4 rfl) (z_get _ _ _ _),
   zz_of (ok_iload_n G dX1_styleOf_7 rfl rfl) (z_ild _ _),
   zz_of (ok_iald G dX1_styleOf_8 rfl) (z_iald _),
   zz_of (ok_iconst G (v := (zI (-1))) dX1_styleOf_9 (by decide) rfl) (z_cz 10 (-1)),
   zz_of (ok_cne G dX1_styleOf_10 rfl rfl) (z_cne _ _ _ _),
   zz_of (ok_iconst G (v := 0) dX1_styleOf_13 (by decide) rfl) (z_cn 14 0),
   zz_of (ok_goto G dX1_styleOf_14 rfl) (z_goto _),
   zz_of (ok_aload_n G dX1_styleOf_17 rfl rfl) (z_ald _ _),
   zz_of (ok_get G (nx := 21) (ci := 0) (kd := 2) (k := 0) (RX1, TX1, 19) rfl (by decide) rfl q399 dX1_styleOf_18 rfl) (z_get _ _ _ _),
   zz_of (ok_getN G (nx := 24) (ci := 1) (kd := 2) (k := 7) (RX2, TX2, 11) rfl (by decide) rfl q236 dX1_styleOf_21 rfl) (z_get _ _ _ _),
   zz_of (ok_aload_n G dX1_styleOf_24 rfl rfl) (z_ald _ _),
   zz_of (ok_get G (nx := 28) (ci := 0) (kd := 2) (k := 0) (RX1, TX1, 19) rfl (by decide) rfl q399 dX1_styleOf_25 rfl) (z_get _ _ _ _),
   zz_of (ok_getN G (nx := 31) (ci := 1) (kd := 2) (k := 8) (RX2, TX2, 11) rfl (by decide) rfl q238 dX1_styleOf_28 rfl) (z_get _ _ _ _),
   zz_of (ok_iload_n G dX1_styleOf_31 rfl rfl) (z_ild _ _),
   zz_of (ok_iald G dX1_styleOf_32 rfl) (z_iald _),
   zz_of (ok_callv G hnh (zmJ2_get _ G.hst) rfl rfl (RJ2, TJ2, 3) rfl q1381 q1382 q1383 q86 q1384 (by decide +kernel) ⟨by decide, by decide⟩ dX1_styleOf_33 rfl) (z_callv _ _ _ _),
   zz_of (ok_cast G (l := [9]) (fun ci h r e => by
      simp only [List.mem_cons, List.not_mem_nil, or_false] at h
      subst h <;> cases e <;> first | exact Or.inl rfl) q1117 dX1_styleOf_36 rfl) (z_cast _ _),
   zz_of (ok_aload_n G dX1_styleOf_39 rfl rfl) (z_ald _ _),
   zz_of (ok_get G (nx := 43) (ci := 0) (kd := 2) (k := 3) (RX1, TX1, 19) rfl (by decide) rfl q405 dX1_styleOf_40 rfl) (z_get _ _ _ _),
   zz_of (ok_aload_n G dX1_styleOf_43 rfl rfl) (z_ald _ _),
   zz_of (ok_iload_n G dX1_styleOf_44 rfl rfl) (z_ild _ _),
   zz_of (ok_callv G hnh (zmX5_at _ G.hst) rfl rfl (RX5, TX5, 3) rfl q1393 q1394 q1395 q89 q1396 (by decide +kernel) ⟨by decide, by decide⟩ dX1_styleOf_45 rfl) (z_callv _ _ _ _),
   zz_of (ok_callv G hnh (zmX11_style _ G.hst) rfl rfl (RX11, TX11, 1) rfl q1397 q1398 q1399 q112 q1400 (by decide +kernel) ⟨by decide, by decide⟩ dX1_styleOf_48 rfl) (z_callvp _ _ _ _),
   zz_of (ok_iret G dX1_styleOf_51) (z_iret), trivial⟩

theorem zwX1_styleOf_0 {Q : Option zv → zz_M → Prop} {X : Nat → zz_M → Prop} {f : Nat → Nat × Nat} {S L : Nat → Nat → Int} {P : Nat → Nat → Option Nat} {s : Nat} {p : Int} (h : (0 ≤ p ∧ p < 2) ∧ (R32 (S 203 p.toNat) ∧ ((¬ (S 203 p.toNat) = (-1) → (0 ≤ p ∧ p < 2) ∧ ((zsh ((2, f), S, L, P) 202 = (1, 17) ∧ ∃ (e_1 n_1 x_1 : Nat), zpt ((2, f), S, L, P) 202 1 = some e_1 ∧ zsh ((2, f), S, L, P) e_1 = (7, n_1) ∧ n_1 ≤ 2147483647 ∧ (0 ≤ (S 203 p.toNat) ∧ (S 203 p.toNat) < (n_1 : Int)) ∧ ((S 203 p.toNat) < ((2, f), S, L, P).2.1 202 2 ∧ ((2, f), S, L, P).2.1 202 2 < 2147483647) ∧ zpt ((2, f), S, L, P) e_1 (S 203 p.toNat).toNat = some x_1 ∧ ((∃ ci : Nat, (zsh ((2, f), S, L, P) x_1 = (1, ci) ∨ zsh ((2, f), S, L, P) x_1 = (17, ci)) ∧ mm_mem [9] ci = true) ∧ ((((zsh ((2, f), mm_up S 103 1 p, L, mm_up P 103 0 (some s)) x_1 = (1, 9) ∨ zsh ((2, f), mm_up S 103 1 p, L, mm_up P 103 0 (some s)) x_1 = (17, 9)) ∧ (∃ (r_3 : Fc → Option Int) (q_3 p_3 lo_3 hi_3 : Nat), ruT lo_3 hi_3 f (mm_up S 103 1 p) (mm_up P 103 0 (some s)) x_1 r_3 ∧ sciB (mm_up S 103 1 p) (mm_up P 103 0 (some s)) q_3 p_3 ∧ (Q (some (vi ((r_3 (fcX (cx (mm_up S 103 1 p) q_3) p_3)).getD 0))) ((2, f), mm_up S 103 1 p, L, mm_up P 103 0 (some s))))))))))) ∧ ((S 203 p.toNat) = (-1) → Q (some (vi 0)) ((2, f), S, L, P))))) : zz_J zpX1_styleOf (zz_ret Q X 0 0) 0 [some (vr 100), some (vr s), some (vi p)] [] ((2, f), S, L, P) (0, 0) := zz_J.go [] 400 h

theorem zmX1_styleOf (l : Launch) (hl : l.stackTraces = false) : mm_Spec l yX1_styleOf (ws_ yX1_styleOf cX1_styleOf 3 (some .int)) (mm_rm 21 0 0) (zE zX1_styleOf) := by
  refine zz_Met.J hl (by decide) (fun C G hnh => ztX1_styleOf G hnh) ?_
  rintro as ⟨⟨t_, f⟩, S, L, P⟩ Q X h
  unfold zX1_styleOf at h
  split at h
  rotate_left
  · exact h.elim
  rename_i h_ s p
  obtain ⟨e1_, e2_, h⟩ := mm_and2 h (fun q => q)
  cases mm_beq e1_
  cases mm_beq e2_
  try dsimp only at h
  refine ⟨rfl, ?_⟩
  obtain ⟨rs, top, u, ⟨ht, hsz, hl6, hrs⟩, hp, rfl, hu, hs, hV, g7, g8, hq⟩ := h
  have eu : ((u : Int)).toNat = u := Int.toNat_natCast u
  refine zwX1_styleOf_0 ?_
  rw [eu]
  refine ⟨by omega, ?_, fun hne => ⟨by omega, rfl, ?_⟩, fun he => ?_⟩
  · rcases hp with e | e <;> omega
  · obtain ⟨h0, h1⟩ := hp.resolve_left hne
    obtain ⟨j, hj⟩ : ∃ j : Nat, S 203 u = (j : Int) := ⟨(S 203 u).toNat, by omega⟩
    have hj2 : j < rs.length := by omega
    obtain ⟨e, n, l, he, hPe, hfe, hn, hll, hln, hPi, hru⟩ := hrs (fun c => by rw [c] at hj2; exact absurd hj2 (by simp))
    have jl : j < l.length := by omega
    have hlx : l[j]? = some l[j] := List.getElem?_eq_getElem jl
    have hgx : rs[j]? = some rs[j] := List.getElem?_eq_getElem hj2
    have hrx := hru j _ _ hlx hgx
    have ag : agR 2000 top f S P f (mm_up S 103 1 (u : Int)) (mm_up P 103 0 (some s)) := by
      intro h h1 h2
      refine ⟨rfl, ?_, ?_⟩
      · funext k
        rw [up_eq, if_neg (by omega)]
      · funext k
        rw [up_eq, if_neg (by omega)]
    have hrx' := hrx.fr ag
    have hzx : zsh ((2, f), S, L, P) l[j] = (1, 9) := (zsh_hi hrx.1.le).trans hrx.2.1
    have hx2 : cx (mm_up S 103 1 (u : Int)) s = cx S s := by
      rcases hs with e | e <;> subst e <;> rfl
    rw [hj]
    refine ⟨e, n, l[j], hPe, (zsh_hi he.le).trans hfe, hn, by omega, ⟨by show (j : Int) < S 202 2; omega, by show S 202 2 < 2147483647; omega⟩, ?_, ⟨9, Or.inl hzx, rfl⟩, Or.inl ((zsh_hi hrx.1.le).trans hrx.2.1), rs[j], s, u, 2000, top, hrx', ⟨⟨?_, hs, ?_, hu, ?_⟩, ?_, ?_⟩, ?_⟩
    · rw [Int.toNat_natCast]
      exact (zpt_hi he.le).trans (hPi j _ hlx)
    · rw [up_eq, if_pos ⟨rfl, rfl⟩]
    · rw [up_eq, if_pos ⟨rfl, rfl⟩]
    · rw [hx2]; exact hV
    · rw [hx2]; exact g7
    · rw [hx2]; exact g8
    · rw [hx2]
      have hq := hq (mm_up S 103 1 (u : Int)) (mm_up P 103 0 (some s)) (fun a b c => by rw [up_eq, if_neg c]) (fun a b c => by rw [up_eq, if_neg c])
      unfold syV at hq
      rw [if_neg hne, hj, Int.toNat_natCast, hgx] at hq
      exact hq
  · have hq := hq S P (fun _ _ _ => rfl) (fun _ _ _ => rfl)
    unfold syV at hq
    rw [if_pos he] at hq
    exact hq
def zX1_style : zz_Sp := fun as M Q X => match as with
  | [.inr (.inr (some h_)), .inl p] => bif Nat.beq h_ 100 && Nat.beq M.1.1 2 then (R32 p ∧ (¬ (0 ≤ p ∧ p < 2) → X 3 ((2, M.1.2), M.2.1, M.2.2.1, M.2.2.2)) ∧ ((0 ≤ p ∧ p < 2) → ∃ (rs_ : List (Fc → Option Int)) (top_ : Nat), rlI M.1.2 M.2.1 M.2.2.2 top_ rs_ ∧ prI M.2.1 rs_ p.toNat ∧ scV (cx M.2.1 204) ∧ (-100 ≤ cx M.2.1 204 7 ∧ cx M.2.1 204 7 ≤ 100) ∧ (-100 ≤ cx M.2.1 204 8 ∧ cx M.2.1 204 8 ≤ 100) ∧ (∀ (S_ : Nat → Nat → Int) (P_ : Nat → Nat → Option Nat), scnS M.2.1 S_ → scnP M.2.2.2 P_ → Q (some (vi (syV M.2.1 rs_ p.toNat (fcX (cx M.2.1 204) p.toNat)))) ((2, M.1.2), S_, M.2.2.1, P_)))) else False
  | _ => False

def zpX1_style : zz_P := [(0, zo_ild 1 1), (1, zo_csL (mm_rm 22 1 6) 4 1 1 6 zX1_player), (4, zo_ald 5 0), (5, zo_ald 6 0), (6, zo_get 9 0 2 0), (9, zo_get 12 1 2 9), (12, zo_ild 13 1), (13, zo_callv 16 3 0 zX1_styleOf), (16, zo_iret)]
theorem ztX1_style {C : mm_C} (G : mm_G C RX1 cX1_style (some .int) 2 (mm_rm 22 1 6)) (hnh : mm_nh C) : zz_OKs C zpX1_style :=
  ⟨zz_of (ok_iload_n G dX1_style_0 rfl rfl) (z_ild _ _),
   zz_of (ok_calsF G (hnh.q 1) (zmX1_player _ G.hst) q1367 q1368 q82 q1369 (by decide +kernel) ⟨Nat.le_of_ble_eq_true rfl, Nat.le_of_ble_eq_true rfl⟩ dX1_style_1 rfl) (z_csL _ _ _ _ _ _),
   zz_of (ok_aload_n G dX1_style_4 rfl rfl) (z_ald _ _),
   zz_of (ok_aload_n G dX1_style_5 rfl rfl) (z_ald _ _),
   zz_of (ok_get G (nx := 9) (ci := 0) (kd := 2) (k := 0) (RX1, TX1, 19) rfl (by decide) rfl q399 dX1_style_6 rfl) (z_get _ _ _ _),
   zz_of (ok_getN G (nx := 12) (ci := 1) (kd := 2) (k := 9) (RX2, TX2, 11) rfl (by decide) rfl q240 dX1_style_9 rfl) (z_get _ _ _ _),
   zz_of (ok_iload_n G dX1_style_12 rfl rfl) (z_ild _ _),
   zz_of (ok_callv G hnh (zmX1_styleOf _ G.hst) rfl rfl (RX1, TX1, 19) rfl q1377 q1379 qs17 q82 q1380 (by decide +kernel) ⟨by decide, by decide⟩ dX1_style_13 rfl) (z_callv _ _ _ _),
   zz_of (ok_iret G dX1_style_16) (z_iret), trivial⟩

theorem zwX1_style_0 {Q : Option zv → zz_M → Prop} {X : Nat → zz_M → Prop} {f : Nat → Nat × Nat} {S L : Nat → Nat → Int} {P : Nat → Nat → Option Nat} {p : Int} (h : (R32 p ∧ ((0 ≤ p ∧ p < 2) → ((∃ (rs_2 : List (Fc → Option Int)) (top_2 p_2 : Nat), rlI f S P top_2 rs_2 ∧ prI S rs_2 p_2 ∧ p = (p_2 : Int) ∧ p_2 < 2 ∧ (204 = 204 ∨ 204 = 108) ∧ scV (cx S 204) ∧ (-100 ≤ cx S 204 7 ∧ cx S 204 7 ≤ 100) ∧ (-100 ≤ cx S 204 8 ∧ cx S 204 8 ≤ 100) ∧ (∀ (S_2 : Nat → Nat → Int) (P_2 : Nat → Nat → Option Nat), scnS S S_2 → scnP P P_2 → (Q (some (vi (syV S rs_2 p_2 (fcX (cx S 204) p_2)))) ((2, f), S_2, L, P_2)))))) ∧ (¬ (0 ≤ p ∧ p < 2) → X 3 ((2, f), S, L, P)))) : zz_J zpX1_style (zz_ret Q X 1 6) 0 [some (vr 100), some (vi p)] [] ((2, f), S, L, P) (0, 0) := zz_J.go [] 400 h

theorem zmX1_style (l : Launch) (hl : l.stackTraces = false) : mm_Spec l yX1_style (ws_ yX1_style cX1_style 2 (some .int)) (mm_rm 22 1 6) (zE zX1_style) := by
  refine zz_Met.J hl (by decide) (fun C G hnh => ztX1_style G hnh) ?_
  rintro as ⟨⟨t_, f⟩, S, L, P⟩ Q X h
  unfold zX1_style at h
  split at h
  rotate_left
  · exact h.elim
  rename_i h_ p
  obtain ⟨e1_, e2_, h⟩ := mm_and2 h (fun q => q)
  cases mm_beq e1_
  cases mm_beq e2_
  try dsimp only at h
  refine ⟨rfl, ?_⟩
  obtain ⟨h1, q1, q2⟩ := h
  refine zwX1_style_0 ⟨h1, fun c => ?_, q1⟩
  obtain ⟨rs, top, hI, hp, hV, g7, g8, hq⟩ := q2 c
  exact ⟨rs, top, p.toNat, hI, hp, by omega, by omega, Or.inl rfl, hV, g7, g8, hq⟩
