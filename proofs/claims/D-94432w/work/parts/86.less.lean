/-! ===== the trees of rules: less ===== -/
set_option maxRecDepth 100000
def zX19_holds : zz_Sp := fun as M Q X => match as with
  | [.inr (.inr (some h_)), .inr (.inr (some s))] => bif Nat.beq M.1.1 2 && Nat.beq s 103 then (∃ (g_ k_ : Fc → Int) (q_ p_ a_ b_ lo_ hi_ : Nat), (2000 ≤ h_ ∧ M.1.2 h_ = (1, 16) ∧ M.2.2.2 h_ 0 = some a_ ∧ M.2.2.2 h_ 1 = some b_) ∧ SuT lo_ hi_ M.1.2 M.2.1 M.2.2.2 a_ g_ ∧ SuT lo_ hi_ M.1.2 M.2.1 M.2.2.2 b_ k_ ∧ scnI M.2.1 M.2.2.2 q_ p_ ∧ R32 (g_ (fcX (cx M.2.1 q_) p_)) ∧ R32 (k_ (fcX (cx M.2.1 q_) p_)) ∧ (g_ (fcX (cx M.2.1 q_) p_) < k_ (fcX (cx M.2.1 q_) p_) → Q (some (vi 1)) ((2, M.1.2), M.2.1, M.2.2.1, M.2.2.2)) ∧ (¬ g_ (fcX (cx M.2.1 q_) p_) < k_ (fcX (cx M.2.1 q_) p_) → Q (some (vi 0)) ((2, M.1.2), M.2.1, M.2.2.1, M.2.2.2))) else False
  | _ => False

def zpX19_holds : zz_P := [(0, zo_ald 1 0), (1, zo_getq 4 16 0), (4, zo_ald 5 1), (5, zo_callvp 8 2 14 zX16_in), (8, zo_ald 9 0), (9, zo_getq 12 16 1), (12, zo_ald 13 1), (13, zo_callvp 16 2 14 zX16_in), (16, zo_cge false false 19 23), (19, zo_c 20 (vi 1)), (20, zo_goto 24), (23, zo_c 24 (vi 0)), (24, zo_zret true)]
theorem ztX19_holds {C : mm_C} (G : mm_G C RX19 cX19_holds (some .boolean) 2 (mm_rm 5 0 0)) (hnh : mm_nh C) : zz_OKs C zpX19_holds :=
  ⟨zz_of (ok_aload_n G dX19_holds_0 rfl rfl) (z_ald _ _),
   zz_of (ok_get G (nx := 4) (ci := 16) (kd := 2) (k := 0) (RX19, TX19, 2) rfl (by decide) rfl q1274 dX19_holds_1 rfl) (z_getq _ _ _),
   zz_of (ok_aload_n G dX19_holds_4 rfl rfl) (z_ald _ _),
   zz_of (ok_callv G hnh (zmX16_in _ G.hst) rfl rfl (RX16, TX16, 1) rfl q1424 q1425 q1426 q117 q1427 (by decide +kernel) ⟨by decide, by decide⟩ dX19_holds_5 rfl) (z_callvp _ _ _ _),
   zz_of (ok_aload_n G dX19_holds_8 rfl rfl) (z_ald _ _),
   zz_of (ok_get G (nx := 12) (ci := 16) (kd := 2) (k := 1) (RX19, TX19, 2) rfl (by decide) rfl q1275 dX19_holds_9 rfl) (z_getq _ _ _),
   zz_of (ok_aload_n G dX19_holds_12 rfl rfl) (z_ald _ _),
   zz_of (ok_callv G hnh (zmX16_in _ G.hst) rfl rfl (RX16, TX16, 1) rfl q1424 q1425 q1426 q117 q1427 (by decide +kernel) ⟨by decide, by decide⟩ dX19_holds_13 rfl) (z_callvp _ _ _ _),
   zz_of (ok_cge G dX19_holds_16 rfl rfl) (z_cge _ _ _ _),
   zz_of (ok_iconst G (v := 1) dX19_holds_19 (by decide) rfl) (z_cn 20 1),
   zz_of (ok_goto G dX19_holds_20 rfl) (z_goto _),
   zz_of (ok_iconst G (v := 0) dX19_holds_23 (by decide) rfl) (z_cn 24 0),
   zz_of (ok_zret G dX19_holds_24) (z_zret _), trivial⟩

theorem zwX19_holds_0 {Q : Option zv → zz_M → Prop} {X : Nat → zz_M → Prop} {f : Nat → Nat × Nat} {S L : Nat → Nat → Int} {P : Nat → Nat → Option Nat} {h_ : Nat} (h : zsh ((2, f), S, L, P) h_ = (1, 16) ∧ (∀ b1 : Nat, zpt ((2, f), S, L, P) h_ 0 = some b1 → (zsh ((2, f), S, L, P) b1 = (1, 14) ∨ zsh ((2, f), S, L, P) b1 = (17, 14)) ∧ (∃ (g_2 : Fc → Int) (q_2 p_2 lo_2 hi_2 : Nat), SuT lo_2 hi_2 f S P b1 g_2 ∧ scnI S P q_2 p_2 ∧ (zsh ((2, f), S, L, P) h_ = (1, 16) ∧ (∀ b3 : Nat, zpt ((2, f), S, L, P) h_ 1 = some b3 → (zsh ((2, f), S, L, P) b3 = (1, 14) ∨ zsh ((2, f), S, L, P) b3 = (17, 14)) ∧ (∃ (g_4 : Fc → Int) (q_4 p_4 lo_4 hi_4 : Nat), SuT lo_4 hi_4 f S P b3 g_4 ∧ scnI S P q_4 p_4 ∧ (R32 (g_2 (fcX (cx S q_2) p_2)) ∧ (R32 (g_4 (fcX (cx S q_4) p_4)) ∧ (((g_4 (fcX (cx S q_4) p_4)) ≤ (g_2 (fcX (cx S q_2) p_2)) → Q (some (vi 0)) ((2, f), S, L, P)) ∧ (¬ (g_4 (fcX (cx S q_4) p_4)) ≤ (g_2 (fcX (cx S q_2) p_2)) → Q (some (vi 1)) ((2, f), S, L, P))))))) ∧ (zpt ((2, f), S, L, P) h_ 1 = none → False ∧ False)))) ∧ (zpt ((2, f), S, L, P) h_ 0 = none → False ∧ False)) : zz_J zpX19_holds (zz_ret Q X 0 0) 0 [some (vr h_), some (vr 103)] [] ((2, f), S, L, P) (0, 0) := zz_J.go [] 400 h

theorem zmX19_holds (l : Launch) (hl : l.stackTraces = false) : mm_Spec l yX19_holds (ws_ yX19_holds cX19_holds 2 (some .boolean)) (mm_rm 5 0 0) (zE zX19_holds) := by
  refine zz_Met.J hl (by decide) (fun C G hnh => ztX19_holds G hnh) ?_
  rintro as ⟨⟨t_, f⟩, S, L, P⟩ Q X h
  unfold zX19_holds at h
  split at h
  rotate_left
  · exact h.elim
  rename_i h_ s
  obtain ⟨e1_, e2_, h⟩ := mm_and2 h (fun q => q)
  cases mm_beq e1_
  cases mm_beq e2_
  try dsimp only at h
  refine ⟨rfl, ?_⟩
  obtain ⟨g, k, q, p, a, b, lo, hi, ⟨h2, hf, hPa, hPb⟩, hga, hgb, hs, r1, r2, q1, q2⟩ := h
  have hz : zsh ((2, f), S, L, P) h_ = (1, 16) := (zsh_hi h2).trans hf
  have hxa : zpt ((2, f), S, L, P) h_ 0 = some a := (zpt_hi h2).trans hPa
  have hxb : zpt ((2, f), S, L, P) h_ 1 = some b := (zpt_hi h2).trans hPb
  have hza : zsh ((2, f), S, L, P) a = (1, 14) := (zsh_hi hga.1.le).trans hga.2.1
  have hzb : zsh ((2, f), S, L, P) b = (1, 14) := (zsh_hi hgb.1.le).trans hgb.2.1
  exact zwX19_holds_0 (q_go hz hxa ⟨Or.inl hza, g, q, p, lo, hi, hga, hs, q_go hz hxb ⟨Or.inl hzb, k, q, p, lo, hi, hgb, hs, r1, r2, fun c => q2 (by omega), fun c => q1 (by omega)⟩⟩)
def zX15_holds : zz_Sp := fun as M Q X => match as with
  | [.inr (.inr (some h_)), .inr (.inr (some s))] => bif Nat.beq M.1.1 2 && Nat.beq s 103 then (∃ q_ p_ : Nat, (2000 ≤ h_ ∧ M.1.2 h_ = (1, 13) ∧ (M.2.1 h_ 0 = 0 ∨ M.2.1 h_ 0 = 1)) ∧ scnI M.2.1 M.2.2.2 q_ p_ ∧ ((if M.2.1 h_ 0 = 1 then cx M.2.1 q_ 2 = (p_ : Int) else cx M.2.1 q_ 6 = 1) → Q (some (vi 1)) ((2, M.1.2), M.2.1, M.2.2.1, M.2.2.2)) ∧ (¬ (if M.2.1 h_ 0 = 1 then cx M.2.1 q_ 2 = (p_ : Int) else cx M.2.1 q_ 6 = 1) → Q (some (vi 0)) ((2, M.1.2), M.2.1, M.2.2.1, M.2.2.2))) else False
  | _ => False

def zpX15_holds : zz_P := [(0, zo_ald 1 0), (1, zo_getp 4 13 0 0), (4, zo_ifeq false 7 14), (7, zo_ald 8 1), (8, zo_callv 11 1 4 zX5_serves), (11, zo_goto 21), (14, zo_ald 15 1), (15, zo_getq 18 4 0), (18, zo_getp 21 2 0 5), (21, zo_zret false)]
theorem ztX15_holds {C : mm_C} (G : mm_G C RX15 cX15_holds (some .boolean) 2 (mm_rm 2 0 0)) (hnh : mm_nh C) : zz_OKs C zpX15_holds :=
  ⟨zz_of (ok_aload_n G dX15_holds_0 rfl rfl) (z_ald _ _),
   zz_of (ok_get G (nx := 4) (ci := 13) (kd := 0) (k := 0) (RX15, TX15, 1) rfl (by decide) rfl q1198 dX15_holds_1 rfl) (z_getp _ _ _ _),
   zz_of (ok_ifeq G dX15_holds_4 rfl rfl) (z_ifeq _ _ _),
   zz_of (ok_aload_n G dX15_holds_7 rfl rfl) (z_ald _ _),
   zz_of (ok_callv G hnh (zmX5_serves _ G.hst) rfl rfl (RX5, TX5, 3) rfl q1414 q1415 q1416 q89 q1417 (by decide +kernel) ⟨by decide, by decide⟩ dX15_holds_8 rfl) (z_callv _ _ _ _),
   zz_of (ok_goto G dX15_holds_11 rfl) (z_goto _),
   zz_of (ok_aload_n G dX15_holds_14 rfl rfl) (z_ald _ _),
   zz_of (ok_getN G (nx := 18) (ci := 4) (kd := 2) (k := 0) (RX5, TX5, 3) rfl (by decide) rfl q305 dX15_holds_15 rfl) (z_getq _ _ _),
   zz_of (ok_getN G (nx := 21) (ci := 2) (kd := 0) (k := 5) (RX3, TX3, 7) rfl (by decide) rfl q193 dX15_holds_18 rfl) (z_getp _ _ _ _),
   zz_of (ok_zret G dX15_holds_21) (z_zret _), trivial⟩

theorem zwX15_holds_0 {Q : Option zv → zz_M → Prop} {X : Nat → zz_M → Prop} {f : Nat → Nat × Nat} {S L : Nat → Nat → Int} {P : Nat → Nat → Option Nat} {h_ : Nat} (h : zsh ((2, f), S, L, P) h_ = (1, 13) ∧ (R32 (S h_ 0) ∧ (((S h_ 0) = 0 → zsh ((2, f), S, L, P) 103 = (1, 4) ∧ (∀ b1 : Nat, zpt ((2, f), S, L, P) 103 0 = some b1 → zsh ((2, f), S, L, P) b1 = (1, 2) ∧ (((S b1 5) = 0 ∨ (S b1 5) = 1) ∧ (Q (some (vi (S b1 5))) ((2, f), S, L, P)))) ∧ (zpt ((2, f), S, L, P) 103 0 = none → False)) ∧ (¬ (S h_ 0) = 0 → (∃ q_2 p_2 : Nat, P 103 0 = some q_2 ∧ (q_2 = 204 ∨ q_2 = 108) ∧ S 103 1 = (p_2 : Int) ∧ p_2 < 2 ∧ (cx S q_2 2 = 0 ∨ cx S q_2 2 = 1) ∧ (cx S q_2 2 = (p_2 : Int) → (((1 : Int) = 0 ∨ (1 : Int) = 1) ∧ (Q (some (vi 1)) ((2, f), S, L, P)))) ∧ (¬ cx S q_2 2 = (p_2 : Int) → (((0 : Int) = 0 ∨ (0 : Int) = 1) ∧ (Q (some (vi 0)) ((2, f), S, L, P))))))))) : zz_J zpX15_holds (zz_ret Q X 0 0) 0 [some (vr h_), some (vr 103)] [] ((2, f), S, L, P) (0, 0) := zz_J.go [] 400 h

theorem zmX15_holds (l : Launch) (hl : l.stackTraces = false) : mm_Spec l yX15_holds (ws_ yX15_holds cX15_holds 2 (some .boolean)) (mm_rm 2 0 0) (zE zX15_holds) := by
  refine zz_Met.J hl (by decide) (fun C G hnh => ztX15_holds G hnh) ?_
  rintro as ⟨⟨t_, f⟩, S, L, P⟩ Q X h
  unfold zX15_holds at h
  split at h
  rotate_left
  · exact h.elim
  rename_i h_ s
  obtain ⟨e1_, e2_, h⟩ := mm_and2 h (fun q => q)
  cases mm_beq e1_
  cases mm_beq e2_
  try dsimp only at h
  refine ⟨rfl, ?_⟩
  obtain ⟨q, p, ⟨h2, hf, h01⟩, ⟨s1, s2, s3, s4, s5⟩, q1, q2⟩ := h
  have hz : zsh ((2, f), S, L, P) h_ = (1, 13) := (zsh_hi h2).trans hf
  have six : cx S q 6 = 0 ∨ cx S q 6 = 1 := by
    rcases s5.2.2 with ⟨a, b⟩ | ⟨a, b, -⟩ | ⟨a, b, -⟩ <;> omega
  refine zwX15_holds_0 ⟨hz, by omega, fun c => q_go rfl s1 ?_, fun c => ⟨q, p, s1, s2, s3, s4, s5.2.1, fun d => ⟨Or.inr rfl, q1 (by rw [if_pos (by omega)]; exact d)⟩, fun d => ⟨Or.inl rfl, q2 (by rw [if_pos (by omega)]; exact d)⟩⟩⟩
  rw [if_neg (by omega)] at q1 q2
  rcases s2 with e | e <;> subst e
  · have e6 : cx S 204 6 = S 204 5 := rfl
    rw [e6] at q1 q2 six
    refine ⟨rfl, six, ?_⟩
    rcases six with e | e
    · rw [e] at q2 ⊢
      exact q2 (by decide)
    · rw [e] at q1 ⊢
      exact q1 rfl
  · have e6 : cx S 108 6 = S 108 5 := rfl
    rw [e6] at q1 q2 six
    refine ⟨rfl, six, ?_⟩
    rcases six with e | e
    · rw [e] at q2 ⊢
      exact q2 (by decide)
    · rw [e] at q1 ⊢
      exact q1 rfl
