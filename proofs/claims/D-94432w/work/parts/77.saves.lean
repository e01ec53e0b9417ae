/-! ===== the component's bisques ===== -/
set_option maxRecDepth 100000
theorem chI.f2 {S T : Nat → Nat → Int} {P P' : Nat → Nat → Option Nat} {q : Nat} {w st : Nat → Int} {a i : Nat} {p th ch : Int} (h : chI S P q w st a p th ch i) (eP : ∀ k, k < 2 → P' q k = P q k) (e : ∀ h k, (h = q ∧ k = 3) ∨ h = 107 ∨ h = a ∨ h = q + 3 ∨ (210 ≤ h ∧ h < 226) ∨ h = 104 ∨ h = 105 ∨ h = 106 → T h k = S h k) : chI T P' q w st a p th ch i := by
  obtain ⟨⟨h3, hch, hp⟩, hsy, hst, ha, htb, hen, hrw, hl, hm, hwh⟩ := h
  have ha1 := ha.1
  refine ⟨⟨by rw [e q 3 (by omega)]; exact h3, hch, hp⟩, fun c hc hcb => by rw [e 107 _ (by omega)]; exact hsy c hc hcb, hst, ⟨ha1, by rw [eP 0 (by decide)]; exact ha.2.1, by rw [eP 1 (by decide)]; exact ha.2.2⟩, fun c hc hcb => by rw [e a _ (by omega)]; exact htb c hc hcb, fun j hj => by rw [e (q + 3) _ (by omega)]; exact hen j hj, fun i' k hi hk => by rw [e (210 + i') _ (by omega)]; exact hrw i' k hi hk, ?_, hm, hwh⟩
  exact hl.w rfl rfl (fun h' hh k => by rw [e h' _ (by omega)])
theorem byR_in {tb w st : Nat → Int} {k : Nat} {p th : Int} (ht : tbG tb) (hm : mG w) (hwh : whB w 16 = true) (hst : stG st) (hk : k < 15488) (hcb : cbR k = true) : 0 ≤ byR tb w st k p th ∧ byR tb w st k p th ≤ 1000000000 := by
  have s1 := hst (2 * k + k / 121 % 2) (by omega)
  have s2 := hst (2 * k + 1 - k / 121 % 2) (by omega)
  refine hdR_in ht hm hwh hk hcb ⟨(4 * st (2 * k + k / 121 % 2) + st (2 * k + 1 - k / 121 % 2)).toNat, by omega, ?_⟩
  unfold byI
  omega
theorem atV_tk {tb w : Nat → Int} {c : Int} {p : Nat} (h0 : 0 ≤ c) (h1 : c < 15488) (hc : cbR c = true) (hw : wV w) (hp : p < 2) : (-4 ≤ tkV w c p ∧ tkV w c p < 15488) ∧ (0 ≤ tkV w c p → cbR (tkV w c p) = true) ∧ atV tb (p : Int) (-1) (tkV w c p) = (if ptw (scX w c) p = true then 1000000000 else tb (nuR (bqR w (scX w c) p)).toNat) := by
  have hX : scV (scX w c) := unR_V h0 h1 hc
  have hR : scV (bqR w (scX w c) p) := bqR_V hw hp hX
  have hn := nuR_in hR
  have hcb := nuR_cb hR
  have e := tkV_at (w := w) hp h0
  have r2 := hR.2.1
  by_cases hN : ptw (scX w c) p = true
  · rw [if_pos hN] at e ⊢
    rw [e]
    refine ⟨by omega, fun _ => by omega, ?_⟩
    unfold atV enV4
    rw [if_pos (by omega), if_pos ⟨by omega, Or.inl rfl⟩]
  · rw [if_neg hN] at e ⊢
    rw [e]
    refine ⟨by omega, fun _ => hcb, ?_⟩
    unfold atV
    rw [if_neg (by omega)]
def zX7_at : zz_Sp := fun as M Q X => match as with
  | [.inr (.inr (some h_)), .inl code] => bif Nat.beq h_ 124 && Nat.beq M.1.1 2 then (∃ a_ : Nat, cN M.2.2.2 124 a_ ∧ (code < 0 → -4 ≤ code ∧ Q (some (vi (M.2.1 123 (-1 - code).toNat))) ((2, M.1.2), M.2.1, M.2.2.1, M.2.2.2)) ∧ (0 ≤ code → code < 15488 ∧ Q (some (vi (M.2.1 a_ code.toNat))) ((2, M.1.2), M.2.1, M.2.2.1, M.2.2.2))) else False
  | _ => False

def zpX7_at : zz_P := [(0, zo_ild 1 1), (1, zo_ifge false 4 21), (4, zo_ald 5 0), (5, zo_get 8 6 2 3), (8, zo_get 11 0 2 12), (11, zo_get 14 5 2 2), (14, zo_c 15 (vi (-1))), (15, zo_ild 16 1), (16, zo_isub 17), (17, zo_iald 18), (18, zo_goto 27), (21, zo_ald 22 0), (22, zo_getq 25 6 0), (25, zo_ild 26 1), (26, zo_ialp 27), (27, zo_iret)]
theorem ztX7_at {C : mm_C} (G : mm_G C RX7 cX7_at (some .int) 2 (mm_rm 1 0 0)) (hnh : mm_nh C) : zz_OKs C zpX7_at :=
  ⟨zz_of (ok_iload_n G dX7_at_0 rfl rfl) (z_ild _ _),
   zz_of (ok_ifge G dX7_at_1 rfl rfl) (z_ifge _ _ _),
   zz_of (ok_aload_n G dX7_at_4 rfl rfl) (z_ald _ _),
   zz_of (ok_get G (nx := 8) (ci := 6) (kd := 2) (k := 3) (RX7, TX7, 4) rfl (by decide) rfl q353 dX7_at_5 rfl) (z_get _ _ _ _),
   zz_of (ok_getN G (nx := 11) (ci := 0) (kd := 2) (k := 12) (RX1, TX1, 19) rfl (by decide) rfl q423 dX7_at_8 rfl) (z_get _ _ _ _),
   zz_of (ok_getN G (nx := 14) (ci := 5) (kd := 2) (k := 2) (RX6, TX6, 5) rfl (by decide) rfl q327 dX7_at_11 rfl) (z_get _ _ _ _),
   zz_of (ok_iconst G (v := (zI (-1))) dX7_at_14 (by decide) rfl) (z_cz 15 (-1)),
   zz_of (ok_iload_n G dX7_at_15 rfl rfl) (z_ild _ _),
   zz_of (ok_isub G dX7_at_16 rfl) (z_isub _),
   zz_of (ok_iald G dX7_at_17 rfl) (z_iald _),
   zz_of (ok_goto G dX7_at_18 rfl) (z_goto _),
   zz_of (ok_aload_n G dX7_at_21 rfl rfl) (z_ald _ _),
   zz_of (ok_get G (nx := 25) (ci := 6) (kd := 2) (k := 0) (RX7, TX7, 4) rfl (by decide) rfl q349 dX7_at_22 rfl) (z_getq _ _ _),
   zz_of (ok_iload_n G dX7_at_25 rfl rfl) (z_ild _ _),
   zz_of (ok_iald G dX7_at_26 rfl) (z_ialp _),
   zz_of (ok_iret G dX7_at_27) (z_iret), trivial⟩

theorem zwX7_at_0 {Q : Option zv → zz_M → Prop} {X : Nat → zz_M → Prop} {f : Nat → Nat × Nat} {S L : Nat → Nat → Int} {P : Nat → Nat → Option Nat} {code : Int} (h : R32 code ∧ ((0 ≤ code → zsh ((2, f), S, L, P) 124 = (1, 6) ∧ (∀ b1 : Nat, zpt ((2, f), S, L, P) 124 0 = some b1 → ∃ n_ : Nat, zsh ((2, f), S, L, P) b1 = (2, n_) ∧ (n_ : Int) ≤ 2147483647 ∧ (0 ≤ code ∧ code < (n_ : Int)) ∧ (Q (some (vi (S b1 code.toNat))) ((2, f), S, L, P))) ∧ (zpt ((2, f), S, L, P) 124 0 = none → False)) ∧ (¬ 0 ≤ code → (0 ≤ ((-1) - code) ∧ ((-1) - code) < 4) ∧ (Q (some (vi (S 123 (((-1) - code).toNat)))) ((2, f), S, L, P))))) : zz_J zpX7_at (zz_ret Q X 0 0) 0 [some (vr 124), some (vi code)] [] ((2, f), S, L, P) (0, 0) := zz_J.go [] 400 h

theorem zmX7_at (l : Launch) (hl : l.stackTraces = false) : mm_Spec l yX7_at (ws_ yX7_at cX7_at 2 (some .int)) (mm_rm 1 0 0) (zE zX7_at) := by
  refine zz_Met.J hl (by decide) (fun C G hnh => ztX7_at G hnh) ?_
  rintro as ⟨⟨t_, f⟩, S, L, P⟩ Q X h
  unfold zX7_at at h
  split at h
  rotate_left
  · exact h.elim
  rename_i h_ code
  obtain ⟨e1_, e2_, h⟩ := mm_and2 h (fun q => q)
  cases mm_beq e1_
  cases mm_beq e2_
  try dsimp only at h
  refine ⟨rfl, ?_⟩
  obtain ⟨a, ⟨ha1, ha2, -⟩, q1, q2⟩ := h
  refine zwX7_at_0 ⟨?_, fun c => ⟨rfl, fun b e => ?_, fun e => ?_⟩, fun c => ⟨?_, (q1 (by omega)).2⟩⟩
  · by_cases c : code < 0
    · have := (q1 c).1
      omega
    · have := (q2 (by omega)).1
      omega
  · have e2 : P 124 0 = some b := e
    rw [ha2] at e2
    cases e2
    have := q2 c
    exact ⟨15488, by rcases ha1 with e | e <;> subst e <;> rfl, by decide, ⟨c, by omega⟩, this.2⟩
  · have e2 : P 124 0 = none := e
    rw [ha2] at e2
    cases e2
  · have := (q1 (by omega)).1
    omega
def zX7_by : zz_Sp := fun as M Q X => match as with
  | [.inr (.inr (some h_)), .inl code] => bif Nat.beq h_ 124 && Nat.beq M.1.1 2 then ((0 ≤ code ∧ code < 15488) ∧ cbR code = true ∧ ∃ (w_ tb_ st_ : Nat → Int) (a_ : Nat) (p_ : Int), cN M.2.2.2 124 a_ ∧ tbE M.2.1 a_ tb_ ∧ tbG tb_ ∧ enE M.2.1 120 p_ (-1) ∧ styE M.2.1 st_ ∧ stG st_ ∧ rwE M.2.1 w_ ∧ lT M.2.1 w_ ∧ mG w_ ∧ whB w_ 16 = true ∧ Q (some (vi (byR tb_ w_ st_ code.toNat p_ (-1)))) ((2, M.1.2), M.2.1, M.2.2.1, M.2.2.2)) else False
  | _ => False

def zpX7_by : zz_P := [(0, zo_ald 1 0), (1, zo_get 4 6 2 3), (4, zo_get 7 0 2 0), (7, zo_get 10 1 2 6), (10, zo_ald 11 0), (11, zo_get 14 6 2 3), (14, zo_get 17 0 2 7), (17, zo_ild 18 1), (18, zo_bald 19), (19, zo_aald 20), (20, zo_ast 21 2), (21, zo_c 22 (vl 0)), (22, zo_lst 23 3), (23, zo_c 24 (vi 0)), (24, zo_ist 26 5), (26, zo_ild 28 5), (28, zo_c 30 (vi 12)), (30, zo_cge false true 33 75), (33, zo_ald 34 2), (34, zo_ild 36 5), (36, zo_ialp 37), (37, zo_ifle false 40 69), (40, zo_lld 41 3), (41, zo_ald 42 2), (42, zo_ild 44 5), (44, zo_ialp 45), (45, zo_i2l 46), (46, zo_ald 47 0), (47, zo_ald 48 0), (48, zo_get 51 6 2 3), (51, zo_get 54 0 2 4), (54, zo_c 56 (vi 12)), (56, zo_ild 57 1), (57, zo_imul 58), (58, zo_ild 60 5), (60, zo_iadd 61), (61, zo_iald 62), (62, zo_callv 65 2 6 zX7_at), (65, zo_i2l 66), (66, zo_lmul 67), (67, zo_ladd 68), (68, zo_lst 69 3), (69, zo_inc 72 5 1), (72, zo_goto 26), (75, zo_lld 76 3), (76, zo_c 79 (vl 100)), (79, zo_ldiv 80), (80, zo_l2i 81), (81, zo_iret)]
theorem ztX7_by {C : mm_C} (G : mm_G C RX7 cX7_by (some .int) 6 (mm_rm 2 0 0)) (hnh : mm_nh C) : zz_OKs C zpX7_by :=
  ⟨zz_of (ok_aload_n G dX7_by_0 rfl rfl) (z_ald _ _),
   zz_of (ok_get G (nx := 4) (ci := 6) (kd := 2) (k := 3) (RX7, TX7, 4) rfl (by decide) rfl q353 dX7_by_1 rfl) (z_get _ _ _ _),
   zz_of (ok_getN G (nx := 7) (ci := 0) (kd := 2) (k := 0) (RX1, TX1, 19) rfl (by decide) rfl q400 dX7_by_4 rfl) (z_get _ _ _ _),
   zz_of (ok_getN G (nx := 10) (ci := 1) (kd := 2) (k := 6) (RX2, TX2, 11) rfl (by decide) rfl q232 dX7_by_7 rfl) (z_get _ _ _ _),
   zz_of (ok_aload_n G dX7_by_10 rfl rfl) (z_ald _ _),
   zz_of (ok_get G (nx := 14) (ci := 6) (kd := 2) (k := 3) (RX7, TX7, 4) rfl (by decide) rfl q353 dX7_by_11 rfl) (z_get _ _ _ _),
   zz_of (ok_getN G (nx := 17) (ci := 0) (kd := 2) (k := 7) (RX1, TX1, 19) rfl (by decide) rfl q415 dX7_by_14 rfl) (z_get _ _ _ _),
   zz_of (ok_iload_n G dX7_by_17 rfl rfl) (z_ild _ _),
   zz_of (ok_bald G dX7_by_18 rfl) (z_bald _),
   zz_of (ok_aald G dX7_by_19 rfl) (z_aald _),
   zz_of (ok_astore_n G dX7_by_20 rfl rfl (by decide)) (z_ast _ _),
   zz_of (ok_lconst G (v := 0) dX7_by_21 (by decide) rfl) (z_cl 22 0),
   zz_of (ok_lstore_n G dX7_by_22 rfl rfl (by decide)) (z_lst _ _),
   zz_of (ok_iconst G (v := 0) dX7_by_23 (by decide) rfl) (z_cn 24 0),
   zz_of (ok_istore G dX7_by_24 rfl (by decide)) (z_ist _ _),
   zz_of (ok_iload G dX7_by_26 rfl) (z_ild _ _),
   zz_of (ok_bipush G (v := 12) dX7_by_28 (by decide) rfl) (z_cn 30 12),
   zz_of (ok_cge G dX7_by_30 rfl rfl) (z_cge _ _ _ _),
   zz_of (ok_aload_n G dX7_by_33 rfl rfl) (z_ald _ _),
   zz_of (ok_iload G dX7_by_34 rfl) (z_ild _ _),
   zz_of (ok_iald G dX7_by_36 rfl) (z_ialp _),
   zz_of (ok_ifle G dX7_by_37 rfl rfl) (z_ifle _ _ _),
   zz_of (ok_lload_n G dX7_by_40 rfl rfl) (z_lld _ _),
   zz_of (ok_aload_n G dX7_by_41 rfl rfl) (z_ald _ _),
   zz_of (ok_iload G dX7_by_42 rfl) (z_ild _ _),
   zz_of (ok_iald G dX7_by_44 rfl) (z_ialp _),
   zz_of (ok_i2l G dX7_by_45 rfl) (z_i2l _),
   zz_of (ok_aload_n G dX7_by_46 rfl rfl) (z_ald _ _),
   zz_of (ok_aload_n G dX7_by_47 rfl rfl) (z_ald _ _),
   zz_of (ok_get G (nx := 51) (ci := 6) (kd := 2) (k := 3) (RX7, TX7, 4) rfl (by decide) rfl q353 dX7_by_48 rfl) (z_get _ _ _ _),
   zz_of (ok_getN G (nx := 54) (ci := 0) (kd := 2) (k := 4) (RX1, TX1, 19) rfl (by decide) rfl q407 dX7_by_51 rfl) (z_get _ _ _ _),
   zz_of (ok_bipush G (v := 12) dX7_by_54 (by decide) rfl) (z_cn 56 12),
   zz_of (ok_iload_n G dX7_by_56 rfl rfl) (z_ild _ _),
   zz_of (ok_imul G dX7_by_57 rfl) (z_imul _),
   zz_of (ok_iload G dX7_by_58 rfl) (z_ild _ _),
   zz_of (ok_iadd G dX7_by_60 rfl) (z_iadd _),
   zz_of (ok_iald G dX7_by_61 rfl) (z_iald _),
   zz_of (ok_callv G hnh (zmX7_at _ G.hst) rfl rfl (RX7, TX7, 4) rfl q1674 q1675 q1676 q91 q1677 (by decide +kernel) ⟨by decide, by decide⟩ dX7_by_62 rfl) (z_callv _ _ _ _),
   zz_of (ok_i2l G dX7_by_65 rfl) (z_i2l _),
   zz_of (ok_lmul G dX7_by_66 rfl) (z_lmul _),
   zz_of (ok_ladd G dX7_by_67 rfl) (z_ladd _),
   zz_of (ok_lstore_n G dX7_by_68 rfl rfl (by decide)) (z_lst _ _),
   zz_of (ok_iinc G (v := 1) dX7_by_69 (by decide) rfl (by decide)) (z_incn 72 5 1),
   zz_of (ok_goto G dX7_by_72 rfl) (z_goto _),
   zz_of (ok_lload_n G dX7_by_75 rfl rfl) (z_lld _ _),
   zz_of (ok_ldc2 G (v := 100) q1678 dX7_by_76 rfl) (z_cl 79 100),
   zz_of (ok_ldiv G dX7_by_79 rfl) (z_ldiv _),
   zz_of (ok_l2i G dX7_by_80 rfl) (z_l2i _),
   zz_of (ok_iret G dX7_by_81) (z_iret), trivial⟩

theorem zwX7_by_0 {Q : Option zv → zz_M → Prop} {X : Nat → zz_M → Prop} {f : Nat → Nat × Nat} {S L : Nat → Nat → Int} {P : Nat → Nat → Option Nat} {code : Int} (h : (0 ≤ code ∧ code < 15488) ∧ (∃ t_ n_ : Nat, zsh ((2, f), S, L, P) 201 = (t_, n_) ∧ (t_ = 6 ∨ t_ = 7 ∨ t_ = 8) ∧ (n_ : Int) ≤ 2147483647 ∧ (0 ≤ (S 107 code.toNat) ∧ (S 107 code.toNat) < (n_ : Int)) ∧ (∀ b1 : Nat, zpt ((2, f), S, L, P) 201 ((S 107 code.toNat).toNat) = some b1 → zz_J zpX7_by (zz_ret Q X 0 0) 26 [some (vr 124), some (vi code), some (vr b1), some (vl 0), none, some (vi 0)] [] ((2, f), S, L, P) (0, 0)) ∧ (zpt ((2, f), S, L, P) 201 ((S 107 code.toNat).toNat) = none → zz_J zpX7_by (zz_ret Q X 0 0) 26 [some (vr 124), some (vi code), some (vn), some (vl 0), none, some (vi 0)] [] ((2, f), S, L, P) (0, 0)))) : zz_J zpX7_by (zz_ret Q X 0 0) 0 [some (vr 124), some (vi code), none, none, none, none] [] ((2, f), S, L, P) (0, 0) := zz_J.go [(26, [4])] 400 h
theorem zwX7_by_26 {Q : Option zv → zz_M → Prop} {X : Nat → zz_M → Prop} {f : Nat → Nat × Nat} {S L : Nat → Nat → Int} {P : Nat → Nat → Option Nat} {x1 : Int} {h2 : Nat} {x3 : Int} {x5 : Int} (h : R32 x5 ∧ ((12 ≤ x5 → (0 ≤ x3 ∧ x3 < 9223372036854775808) ∧ (R64 (x3 / 100) ∧ (Q (some (vi (x3 / 100))) ((2, f), S, L, P)))) ∧ (¬ 12 ≤ x5 → ∃ n_ : Nat, zsh ((2, f), S, L, P) h2 = (2, n_) ∧ (n_ : Int) ≤ 2147483647 ∧ (0 ≤ x5 ∧ x5 < (n_ : Int)) ∧ (R32 (S h2 x5.toNat) ∧ (((S h2 x5.toNat) ≤ 0 → zz_J zpX7_by (zz_ret Q X 0 0) 26 [some (vr 124), some (vi x1), some (vr h2), some (vl x3), none, some (vi (x5 + 1))] [] ((2, f), S, L, P) (0, 0)) ∧ (¬ (S h2 x5.toNat) ≤ 0 → ∃ n_ : Nat, zsh ((2, f), S, L, P) h2 = (2, n_) ∧ (n_ : Int) ≤ 2147483647 ∧ (0 ≤ x5 ∧ x5 < (n_ : Int)) ∧ (R32 (S h2 x5.toNat) ∧ ((0 ≤ ((12 * x1) + x5) ∧ ((12 * x1) + x5) < 185856) ∧ ((∃ a_1 : Nat, cN P 124 a_1 ∧ ((S 104 (((12 * x1) + x5).toNat)) < 0 → -4 ≤ (S 104 (((12 * x1) + x5).toNat)) ∧ (R32 (S 123 (-1 - (S 104 (((12 * x1) + x5).toNat))).toNat) ∧ (zz_J zpX7_by (zz_ret Q X 0 0) 26 [some (vr 124), some (vi x1), some (vr h2), some (vl (x3 + ((S h2 x5.toNat) * (S 123 (-1 - (S 104 (((12 * x1) + x5).toNat))).toNat)))), none, some (vi (x5 + 1))] [] ((2, f), S, L, P) (0, 0)))) ∧ (0 ≤ (S 104 (((12 * x1) + x5).toNat)) → (S 104 (((12 * x1) + x5).toNat)) < 15488 ∧ (R32 (S a_1 (S 104 (((12 * x1) + x5).toNat)).toNat) ∧ (zz_J zpX7_by (zz_ret Q X 0 0) 26 [some (vr 124), some (vi x1), some (vr h2), some (vl (x3 + ((S h2 x5.toNat) * (S a_1 (S 104 (((12 * x1) + x5).toNat)).toNat)))), none, some (vi (x5 + 1))] [] ((2, f), S, L, P) (0, 0)))))))))))))) : zz_J zpX7_by (zz_ret Q X 0 0) 26 [some (vr 124), some (vi x1), some (vr h2), some (vl x3), none, some (vi x5)] [] ((2, f), S, L, P) (0, 0) := zz_J.go [(26, [4])] 400 h

theorem zmX7_by (l : Launch) (hl : l.stackTraces = false) : mm_Spec l yX7_by (ws_ yX7_by cX7_by 6 (some .int)) (mm_rm 2 0 0) (zE zX7_by) := by
  refine zz_Met.J hl (by decide) (fun C G hnh => ztX7_by G hnh) ?_
  rintro as ⟨⟨t_, f⟩, S, L, P⟩ Q X h
  unfold zX7_by at h
  split at h
  rotate_left
  · exact h.elim
  rename_i h_ code
  obtain ⟨e1_, e2_, h⟩ := mm_and2 h (fun q => q)
  cases mm_beq e1_
  cases mm_beq e2_
  try dsimp only at h
  refine ⟨rfl, ?_⟩
  obtain ⟨hk, hcb, w, tb, st, a, p, ha, htb, hG, hen, hsy, hst, hrw, hl, hm, hwh, hq⟩ := h
  obtain ⟨k, rfl⟩ : ∃ k : Nat, code = (k : Int) := ⟨code.toNat, by omega⟩
  have hk2 : k < 15488 := by omega
  rw [Int.toNat_natCast] at hq
  have s7 := hsy k hk2 hcb
  have sA := hst (2 * k + k / 121 % 2) (by omega)
  have sB := hst (2 * k + 1 - k / 121 % 2) (by omega)
  obtain ⟨sn, hsn⟩ : ∃ sn : Nat, S 107 k = (sn : Int) := ⟨(S 107 k).toNat, by omega⟩
  have hs16 : sn < 16 := by omega
  have hX : scV (scX w (k : Int)) := unR_V hk.1 hk.2 hcb
  have ei : byI st k = 12 * sn := by
    rw [← byI_s s7, hsn]
    omega
  unfold byR hdR at hq
  rw [ei] at hq
  have hlk := (hl k (by omega)).2 hcb
  have t26 : ∀ (n o : Nat), o + n = 12 → zz_J zpX7_by (zz_ret Q X 0 0) 26 [some (vr 124), some (vi (k : Int)), some (vr (210 + sn)), some (vl (hdS tb w (scX w (k : Int)) (12 * sn) p (-1) o)), none, some (vi (o : Int))] [] ((2, f), S, L, P) (0, 0) := by
    intro n
    induction n with
    | zero =>
      intro o ho
      have e : o = 12 := by omega
      subst e
      have hb := hdS_in (p := p) (th := -1) (ix := 12 * sn) hG hm.1 hm.2.1 hX (by omega) 12 (by decide)
      exact zwX7_by_26 ⟨by decide, fun _ => ⟨by omega, by omega, hq⟩, fun c => absurd c (by decide)⟩
    | succ n ih =>
      intro o ho
      have hc := hm.1.1 (12 * sn + o) (by omega)
      have er : S (210 + sn) o = w (12 * sn + o) := hrw sn o (by omega) (by omega)
      have ej : ((12 * (k : Int)) + (o : Int)).toNat = 12 * k + o := by omega
      have eb : S 104 (12 * k + o) = bhV w (k : Int) (o : Int) := hlk.1 o (by omega)
      obtain ⟨z1, z2, z3⟩ := atV_bh (tb := tb) (p := p) (th := -1) (o := o) hk.1 hk.2 hcb hm.2.1 (by omega)
      have ht := hdT_in (p := p) (th := -1) (how := (o : Int)) hG hm.2.1 hX (by omega) (by omega)
      have hsh : zsh ((2, f), S, L, P) (210 + sn) = (2, 12) := row_sh (by omega)
      have nx := ih (o + 1) (by omega)
      have es : hdS tb w (scX w (k : Int)) (12 * sn) p (-1) (o + 1) = hdS tb w (scX w (k : Int)) (12 * sn) p (-1) o + w (12 * sn + o) * hdT tb w (scX w (k : Int)) p (-1) (o : Int) := rfl
      rw [es] at nx
      refine zwX7_by_26 ⟨by omega, fun c => absurd c (by omega), fun _ => ⟨12, hsh, by decide, ⟨by omega, by omega⟩, ?_⟩⟩
      rw [Int.toNat_natCast, er]
      refine ⟨by omega, fun c => ?_, fun c => ⟨12, hsh, by decide, ⟨by omega, by omega⟩, by omega, ⟨by omega, by omega⟩, a, ha, ?_⟩⟩
      · have e0 : w (12 * sn + o) = 0 := by omega
        rw [e0, Int.zero_mul, Int.add_zero] at nx
        exact nx
      · rw [ej, eb]
        refine ⟨fun d => ⟨z1.1, ?_⟩, fun d => ⟨z1.2, ?_⟩⟩
        · have ev : S 123 (-1 - bhV w (k : Int) (o : Int)).toNat = hdT tb w (scX w (k : Int)) p (-1) (o : Int) := by
            rw [← z3]
            unfold atV
            rw [if_pos d]
            exact hen _ (by omega)
          rw [ev]
          exact ⟨by omega, nx⟩
        · have ev : S a (bhV w (k : Int) (o : Int)).toNat = hdT tb w (scX w (k : Int)) p (-1) (o : Int) := by
            rw [← z3]
            unfold atV
            rw [if_neg (by omega)]
            refine htb _ (by omega) ?_
            have en : (((bhV w (k : Int) (o : Int)).toNat : Nat) : Int) = bhV w (k : Int) (o : Int) := by omega
            rw [en]
            exact z2 d
          rw [ev]
          exact ⟨by omega, nx⟩
  refine zwX7_by_0 ⟨hk, ?_⟩
  rw [Int.toNat_natCast, hsn]
  refine row_go (by omega) (by omega) ?_
  rw [Int.toNat_natCast]
  exact t26 12 0 rfl
/-- cells that the bisques write -/
def svk (h k : Nat) : Bool := decide (h = 120 ∧ k = 3) || decide (121 ≤ h ∧ h ≤ 123) || decide (h = 124 ∧ k = 2) || decide (h = 125 ∨ h = 126)
def zX7_goes : zz_Sp := fun as M Q X => match as with
  | [.inr (.inr (some h_)), .inl p, .inl n, .inl code] => bif Nat.beq h_ 124 && Nat.beq M.1.1 2 then ((p = 0 ∨ p = 1) ∧ (0 ≤ n ∧ n ≤ 30) ∧ (0 ≤ code ∧ code < 15488) ∧ cbR code = true ∧ ∃ (w_ st_ : Nat → Int) (a_ b_ : Nat), cN M.2.2.2 124 a_ ∧ cN M.2.2.2 120 b_ ∧ styE M.2.1 st_ ∧ stG st_ ∧ rwE M.2.1 w_ ∧ lT M.2.1 w_ ∧ mG w_ ∧ whB w_ 16 = true ∧ (∀ (S_ : Nat → Nat → Int) (P_ : Nat → Nat → Option Nat), (∀ h k, svk h k = false → S_ h k = M.2.1 h k) → (∀ h k, ¬ ((h = 120 ∨ h = 124) ∧ k < 2) → P_ h k = M.2.2.2 h k) → S_ 124 2 = svK w_ st_ p.toNat code.toNat n.toNat → (∃ c_, cN P_ 124 c_) → (∃ c_, cN P_ 120 c_) → Q (some (vi (svT w_ st_ p.toNat n.toNat code.toNat))) ((2, M.1.2), S_, M.2.2.1, P_))) else False
  | _ => False

def zpX7_goes : zz_P := [(0, zo_ald 1 0), (1, zo_getq 4 6 0), (4, zo_c 5 (vi 0)), (5, zo_calls 8 2 zJ3_fill), (8, zo_ald 9 0), (9, zo_get 12 6 2 3), (12, zo_get 15 0 2 12), (15, zo_ild 16 1), (16, zo_callv 19 2 5 zX6_wins_120), (19, zo_pop 20), (20, zo_ald 21 0), (21, zo_c 22 (vi 0)), (22, zo_putz true 25 6 2), (25, zo_c 26 (vi 0)), (26, zo_ist 28 4), (28, zo_ild 30 4), (30, zo_ild 31 2), (31, zo_cge false false 34 173), (34, zo_ald 35 0), (35, zo_get 38 6 2 3), (38, zo_get 41 0 2 12), (41, zo_callv 44 1 5 zX6_more_120), (44, zo_c 45 (vi 0)), (45, zo_ist 47 5), (47, zo_ild 49 5), (49, zo_c 52 (vi 15488)), (52, zo_cge false true 55 147), (55, zo_ald 56 0), (56, zo_get 59 6 2 3), (59, zo_get 62 0 2 6), (62, zo_ild 64 5), (64, zo_bald 65), (65, zo_ifne false 68 71), (68, zo_goto 141), (71, zo_ald 72 0), (72, zo_ild 74 5), (74, zo_callv 77 2 6 zX7_by), (77, zo_ist 79 6), (79, zo_ald 80 0), (80, zo_get 83 6 2 3), (83, zo_get 86 0 2 12), (86, zo_ald 87 0), (87, zo_get 90 6 2 3), (90, zo_get 93 0 2 5), (93, zo_c 94 (vi 2)), (94, zo_ild 96 5), (96, zo_imul 97), (97, zo_ild 98 1), (98, zo_iadd 99), (99, zo_iald 100), (100, zo_callv 103 2 5 zX6_at_120), (103, zo_ist 105 7), (105, zo_ald 106 0), (106, zo_getq 109 6 1), (109, zo_ild 111 5), (111, zo_ild 113 6), (113, zo_ild 115 7), (115, zo_calls 118 2 zJ4_max), (118, zo_iasp 119), (119, zo_ild 121 5), (121, zo_ild 122 3), (122, zo_cne false false 125 141), (125, zo_ald 126 0), (126, zo_ild 128 7), (128, zo_ild 130 6), (130, zo_cle false false 133 137), (133, zo_c 134 (vi 1)), (134, zo_goto 138), (137, zo_c 138 (vi 0)), (138, zo_putz true 141 6 2), (141, zo_inc 144 5 1), (144, zo_goto 47), (147, zo_ald 148 0), (148, zo_get 151 6 2 0), (151, zo_ast 153 5), (153, zo_ald 154 0), (154, zo_ald 155 0), (155, zo_get 158 6 2 1), (158, zo_putr 161 6 0), (161, zo_ald 162 0), (162, zo_ald 164 5), (164, zo_putr 167 6 1), (167, zo_inc 170 4 1), (170, zo_goto 28), (173, zo_ald 174 0), (174, zo_getq 177 6 0), (177, zo_ild 178 3), (178, zo_ialp 179), (179, zo_iret)]
theorem ztX7_goes {C : mm_C} (G : mm_G C RX7 cX7_goes (some .int) 8 (mm_rm 6 0 0)) (hnh : mm_nh C) : zz_OKs C zpX7_goes :=
  ⟨zz_of (ok_aload_n G dX7_goes_0 rfl rfl) (z_ald _ _),
   zz_of (ok_get G (nx := 4) (ci := 6) (kd := 2) (k := 0) (RX7, TX7, 4) rfl (by decide) rfl q349 dX7_goes_1 rfl) (z_getq _ _ _),
   zz_of (ok_iconst G (v := 0) dX7_goes_4 (by decide) rfl) (z_cn 5 0),
   zz_of (ok_calls G hnh (zmJ3_fill _ G.hst) rfl rfl q1667 q1615 q95 q1616 (by decide +kernel) ⟨by decide, by decide⟩ dX7_goes_5 rfl) (z_calls _ _ _),
   zz_of (ok_aload_n G dX7_goes_8 rfl rfl) (z_ald _ _),
   zz_of (ok_get G (nx := 12) (ci := 6) (kd := 2) (k := 3) (RX7, TX7, 4) rfl (by decide) rfl q353 dX7_goes_9 rfl) (z_get _ _ _ _),
   zz_of (ok_getN G (nx := 15) (ci := 0) (kd := 2) (k := 12) (RX1, TX1, 19) rfl (by decide) rfl q423 dX7_goes_12 rfl) (z_get _ _ _ _),
   zz_of (ok_iload_n G dX7_goes_15 rfl rfl) (z_ild _ _),
   zz_of (ok_callv G hnh (zmX6_wins_120 _ G.hst) rfl rfl (RX6, TX6, 5) rfl q1668 q1606 q1607 q90 q1608 (by decide +kernel) ⟨by decide, by decide⟩ dX7_goes_16 rfl) (z_callv _ _ _ _),
   zz_of (ok_pop G dX7_goes_19 rfl) (z_pop _),
   zz_of (ok_aload_n G dX7_goes_20 rfl rfl) (z_ald _ _),
   zz_of (ok_iconst G (v := 0) dX7_goes_21 (by decide) rfl) (z_cn 22 0),
   zz_of (ok_putz G (nx := 25) (idx := 64) (ci := 6) (k := 2) (RX7, TX7, 4) rfl (by decide) rfl (mm_pw G (ci := 6) (k := 2) (RX7, TX7, 4) rfl (by decide) rfl q351 dX7_goes_22) rfl) (z_putz _ _ _ _),
   zz_of (ok_iconst G (v := 0) dX7_goes_25 (by decide) rfl) (z_cn 26 0),
   zz_of (ok_istore G dX7_goes_26 rfl (by decide)) (z_ist _ _),
   zz_of (ok_iload G dX7_goes_28 rfl) (z_ild _ _),
   zz_of (ok_iload_n G dX7_goes_30 rfl rfl) (z_ild _ _),
   zz_of (ok_cge G dX7_goes_31 rfl rfl) (z_cge _ _ _ _),
   zz_of (ok_aload_n G dX7_goes_34 rfl rfl) (z_ald _ _),
   zz_of (ok_get G (nx := 38) (ci := 6) (kd := 2) (k := 3) (RX7, TX7, 4) rfl (by decide) rfl q353 dX7_goes_35 rfl) (z_get _ _ _ _),
   zz_of (ok_getN G (nx := 41) (ci := 0) (kd := 2) (k := 12) (RX1, TX1, 19) rfl (by decide) rfl q423 dX7_goes_38 rfl) (z_get _ _ _ _),
   zz_of (ok_callv G hnh (zmX6_more_120 _ G.hst) rfl rfl (RX6, TX6, 5) rfl q1669 q1622 q1623 q90 q1624 (by decide +kernel) ⟨by decide, by decide⟩ dX7_goes_41 rfl) (z_callv _ _ _ _),
   zz_of (ok_iconst G (v := 0) dX7_goes_44 (by decide) rfl) (z_cn 45 0),
   zz_of (ok_istore G dX7_goes_45 rfl (by decide)) (z_ist _ _),
   zz_of (ok_iload G dX7_goes_47 rfl) (z_ild _ _),
   zz_of (ok_sipush G (v := 15488) dX7_goes_49 (by decide) rfl) (z_cn 52 15488),
   zz_of (ok_cge G dX7_goes_52 rfl rfl) (z_cge _ _ _ _),
   zz_of (ok_aload_n G dX7_goes_55 rfl rfl) (z_ald _ _),
   zz_of (ok_get G (nx := 59) (ci := 6) (kd := 2) (k := 3) (RX7, TX7, 4) rfl (by decide) rfl q353 dX7_goes_56 rfl) (z_get _ _ _ _),
   zz_of (ok_getN G (nx := 62) (ci := 0) (kd := 2) (k := 6) (RX1, TX1, 19) rfl (by decide) rfl q412 dX7_goes_59 rfl) (z_get _ _ _ _),
   zz_of (ok_iload G dX7_goes_62 rfl) (z_ild _ _),
   zz_of (ok_bald G dX7_goes_64 rfl) (z_bald _),
   zz_of (ok_ifne G dX7_goes_65 rfl rfl) (z_ifne _ _ _),
   zz_of (ok_goto G dX7_goes_68 rfl) (z_goto _),
   zz_of (ok_aload_n G dX7_goes_71 rfl rfl) (z_ald _ _),
   zz_of (ok_iload G dX7_goes_72 rfl) (z_ild _ _),
   zz_of (ok_callv G hnh (zmX7_by _ G.hst) rfl rfl (RX7, TX7, 4) rfl q1670 q1672 qs30 q91 q1673 (by decide +kernel) ⟨by decide, by decide⟩ dX7_goes_74 rfl) (z_callv _ _ _ _),
   zz_of (ok_istore G dX7_goes_77 rfl (by decide)) (z_ist _ _),
   zz_of (ok_aload_n G dX7_goes_79 rfl rfl) (z_ald _ _),
   zz_of (ok_get G (nx := 83) (ci := 6) (kd := 2) (k := 3) (RX7, TX7, 4) rfl (by decide) rfl q353 dX7_goes_80 rfl) (z_get _ _ _ _),
   zz_of (ok_getN G (nx := 86) (ci := 0) (kd := 2) (k := 12) (RX1, TX1, 19) rfl (by decide) rfl q423 dX7_goes_83 rfl) (z_get _ _ _ _),
   zz_of (ok_aload_n G dX7_goes_86 rfl rfl) (z_ald _ _),
   zz_of (ok_get G (nx := 90) (ci := 6) (kd := 2) (k := 3) (RX7, TX7, 4) rfl (by decide) rfl q353 dX7_goes_87 rfl) (z_get _ _ _ _),
   zz_of (ok_getN G (nx := 93) (ci := 0) (kd := 2) (k := 5) (RX1, TX1, 19) rfl (by decide) rfl q410 dX7_goes_90 rfl) (z_get _ _ _ _),
   zz_of (ok_iconst G (v := 2) dX7_goes_93 (by decide) rfl) (z_cn 94 2),
   zz_of (ok_iload G dX7_goes_94 rfl) (z_ild _ _),
   zz_of (ok_imul G dX7_goes_96 rfl) (z_imul _),
   zz_of (ok_iload_n G dX7_goes_97 rfl rfl) (z_ild _ _),
   zz_of (ok_iadd G dX7_goes_98 rfl) (z_iadd _),
   zz_of (ok_iald G dX7_goes_99 rfl) (z_iald _),
   zz_of (ok_callv G hnh (zmX6_at_120 _ G.hst) rfl rfl (RX6, TX6, 5) rfl q1679 q1634 q1635 q90 q1636 (by decide +kernel) ⟨by decide, by decide⟩ dX7_goes_100 rfl) (z_callv _ _ _ _),
   zz_of (ok_istore G dX7_goes_103 rfl (by decide)) (z_ist _ _),
   zz_of (ok_aload_n G dX7_goes_105 rfl rfl) (z_ald _ _),
   zz_of (ok_get G (nx := 109) (ci := 6) (kd := 2) (k := 1) (RX7, TX7, 4) rfl (by decide) rfl q350 dX7_goes_106 rfl) (z_getq _ _ _),
   zz_of (ok_iload G dX7_goes_109 rfl) (z_ild _ _),
   zz_of (ok_iload G dX7_goes_111 rfl) (z_ild _ _),
   zz_of (ok_iload G dX7_goes_113 rfl) (z_ild _ _),
   zz_of (ok_calls G hnh (zmJ4_max _ G.hst) rfl rfl q1680 q570 q96 q571 (by decide +kernel) ⟨by decide, by decide⟩ dX7_goes_115 rfl) (z_calls _ _ _),
   zz_of (ok_iast G dX7_goes_118 rfl) (z_iasp _),
   zz_of (ok_iload G dX7_goes_119 rfl) (z_ild _ _),
   zz_of (ok_iload_n G dX7_goes_121 rfl rfl) (z_ild _ _),
   zz_of (ok_cne G dX7_goes_122 rfl rfl) (z_cne _ _ _ _),
   zz_of (ok_aload_n G dX7_goes_125 rfl rfl) (z_ald _ _),
   zz_of (ok_iload G dX7_goes_126 rfl) (z_ild _ _),
   zz_of (ok_iload G dX7_goes_128 rfl) (z_ild _ _),
   zz_of (ok_cle G dX7_goes_130 rfl rfl) (z_cle _ _ _ _),
   zz_of (ok_iconst G (v := 1) dX7_goes_133 (by decide) rfl) (z_cn 134 1),
   zz_of (ok_goto G dX7_goes_134 rfl) (z_goto _),
   zz_of (ok_iconst G (v := 0) dX7_goes_137 (by decide) rfl) (z_cn 138 0),
   zz_of (ok_putz G (nx := 141) (idx := 64) (ci := 6) (k := 2) (RX7, TX7, 4) rfl (by decide) rfl (mm_pw G (ci := 6) (k := 2) (RX7, TX7, 4) rfl (by decide) rfl q351 dX7_goes_138) rfl) (z_putz _ _ _ _),
   zz_of (ok_iinc G (v := 1) dX7_goes_141 (by decide) rfl (by decide)) (z_incn 144 5 1),
   zz_of (ok_goto G dX7_goes_144 rfl) (z_goto _),
   zz_of (ok_aload_n G dX7_goes_147 rfl rfl) (z_ald _ _),
   zz_of (ok_get G (nx := 151) (ci := 6) (kd := 2) (k := 0) (RX7, TX7, 4) rfl (by decide) rfl q349 dX7_goes_148 rfl) (z_get _ _ _ _),
   zz_of (ok_astore G dX7_goes_151 rfl (by decide)) (z_ast _ _),
   zz_of (ok_aload_n G dX7_goes_153 rfl rfl) (z_ald _ _),
   zz_of (ok_aload_n G dX7_goes_154 rfl rfl) (z_ald _ _),
   zz_of (ok_get G (nx := 158) (ci := 6) (kd := 2) (k := 1) (RX7, TX7, 4) rfl (by decide) rfl q350 dX7_goes_155 rfl) (z_get _ _ _ _),
   zz_of (ok_putr G (nx := 161) (idx := 15) (ci := 6) (k := 0) (RX7, TX7, 4) rfl (by decide) rfl (mm_pw G (ci := 6) (k := 0) (RX7, TX7, 4) rfl (by decide) rfl q349 dX7_goes_158) rfl) (z_putr _ _ _),
   zz_of (ok_aload_n G dX7_goes_161 rfl rfl) (z_ald _ _),
   zz_of (ok_aload G dX7_goes_162 rfl) (z_ald _ _),
   zz_of (ok_putr G (nx := 167) (idx := 19) (ci := 6) (k := 1) (RX7, TX7, 4) rfl (by decide) rfl (mm_pw G (ci := 6) (k := 1) (RX7, TX7, 4) rfl (by decide) rfl q350 dX7_goes_164) rfl) (z_putr _ _ _),
   zz_of (ok_iinc G (v := 1) dX7_goes_167 (by decide) rfl (by decide)) (z_incn 170 4 1),
   zz_of (ok_goto G dX7_goes_170 rfl) (z_goto _),
   zz_of (ok_aload_n G dX7_goes_173 rfl rfl) (z_ald _ _),
   zz_of (ok_get G (nx := 177) (ci := 6) (kd := 2) (k := 0) (RX7, TX7, 4) rfl (by decide) rfl q349 dX7_goes_174 rfl) (z_getq _ _ _),
   zz_of (ok_iload_n G dX7_goes_177 rfl rfl) (z_ild _ _),
   zz_of (ok_iald G dX7_goes_178 rfl) (z_ialp _),
   zz_of (ok_iret G dX7_goes_179) (z_iret), trivial⟩

theorem zwX7_goes_0 {Q : Option zv → zz_M → Prop} {X : Nat → zz_M → Prop} {f : Nat → Nat × Nat} {S L : Nat → Nat → Int} {P : Nat → Nat → Option Nat} {p : Int} {n : Int} {code : Int} (h : zsh ((2, f), S, L, P) 124 = (1, 6) ∧ (∀ b1 : Nat, zpt ((2, f), S, L, P) 124 0 = some b1 → (∃ n_2 : Nat, zsh ((2, f), S, L, P) b1 = (2, n_2) ∧ n_2 ≤ 2147483647 ∧ (∀ S_2 : Nat → Nat → Int, (∀ h k, (h ≠ b1 ∨ n_2 ≤ k) → S_2 h k = S h k) → (∀ k, k < n_2 → S_2 b1 k = (0 : Int)) → (((p = 0 ∨ p = 1) ∧ ∃ a_3 : Nat, cN P 120 a_3 ∧ (∀ S_3 : Nat → Nat → Int, (∀ h k, h ≠ a_3 → ¬ (h = 120 ∧ k = 3) → ¬ (h = 123 ∧ k < 4) → S_3 h k = S_2 h k) → S_3 120 3 = -1 → enE S_3 120 p (-1) → (∀ k, k < 15488 → S_3 a_3 k = 0) → (zz_J zpX7_goes (zz_ret Q X 0 0) 28 [some (vr 124), some (vi p), some (vi n), some (vi code), some (vi 0), none, none, none] [] ((2, f), mm_up S_3 124 2 0, L, P) (0, 0)))))))) ∧ (zpt ((2, f), S, L, P) 124 0 = none → (False))) : zz_J zpX7_goes (zz_ret Q X 0 0) 0 [some (vr 124), some (vi p), some (vi n), some (vi code), none, none, none, none] [] ((2, f), S, L, P) (0, 0) := zz_J.go [(28, [5, 6, 7]), (47, [6, 7]), (103, [7])] 400 h
theorem zwX7_goes_28 {Q : Option zv → zz_M → Prop} {X : Nat → zz_M → Prop} {f : Nat → Nat × Nat} {S L : Nat → Nat → Int} {P : Nat → Nat → Option Nat} {x1 : Int} {x2 : Int} {x3 : Int} {x4 : Int} (h : R32 x4 ∧ (R32 x2 ∧ ((x2 ≤ x4 → zsh ((2, f), S, L, P) 124 = (1, 6) ∧ (∀ b1 : Nat, zpt ((2, f), S, L, P) 124 0 = some b1 → ∃ n_ : Nat, zsh ((2, f), S, L, P) b1 = (2, n_) ∧ (n_ : Int) ≤ 2147483647 ∧ (0 ≤ x3 ∧ x3 < (n_ : Int)) ∧ (Q (some (vi (S b1 x3.toNat))) ((2, f), S, L, P))) ∧ (zpt ((2, f), S, L, P) 124 0 = none → False)) ∧ (¬ x2 ≤ x4 → (∃ (w_2 st_2 : Nat → Int) (a_2 i_2 : Nat) (p_2 th_2 ch_2 : Int), chI S P 120 w_2 st_2 a_2 p_2 th_2 ch_2 i_2 ∧ (∀ (S_2 : Nat → Nat → Int) (P_2 : Nat → Nat → Option Nat), (∀ h, h ≠ 2 * 120 + 3 - a_2 → S_2 h = S h) → (∀ h k, ¬ (h = 120 ∧ k < 2) → P_2 h k = P h k) → chI S_2 P_2 120 w_2 st_2 (2 * 120 + 3 - a_2) p_2 th_2 ch_2 (i_2 + 1) → (zz_J zpX7_goes (zz_ret Q X 0 0) 47 [some (vr 124), some (vi x1), some (vi x2), some (vi x3), some (vi x4), some (vi 0), none, none] [] ((2, f), S_2, L, P_2) (0, 0)))))))) : zz_J zpX7_goes (zz_ret Q X 0 0) 28 [some (vr 124), some (vi x1), some (vi x2), some (vi x3), some (vi x4), none, none, none] [] ((2, f), S, L, P) (0, 0) := zz_J.go [(28, [5, 6, 7]), (47, [6, 7]), (103, [7])] 400 h
theorem zwX7_goes_47 {Q : Option zv → zz_M → Prop} {X : Nat → zz_M → Prop} {f : Nat → Nat × Nat} {S L : Nat → Nat → Int} {P : Nat → Nat → Option Nat} {x1 : Int} {x2 : Int} {x3 : Int} {x4 : Int} {x5 : Int} (h : R32 x5 ∧ ((15488 ≤ x5 → zz_J zpX7_goes (zz_ret Q X 0 0) 28 [some (vr 124), some (vi x1), some (vi x2), some (vi x3), some (vi (x4 + 1)), none, none, none] [] ((2, f), S, L, mm_up (mm_up P 124 0 (P 124 1)) 124 1 (P 124 0)) (0, 0)) ∧ (¬ 15488 ≤ x5 → (0 ≤ x5 ∧ x5 < 15488) ∧ (R32 (S 106 x5.toNat) ∧ ((¬ (S 106 x5.toNat) = 0 → ((0 ≤ x5 ∧ x5 < 15488) ∧ cbR x5 = true ∧ ∃ (w_1 tb_1 st_1 : Nat → Int) (a_1 : Nat) (p_1 : Int), cN P 124 a_1 ∧ tbE S a_1 tb_1 ∧ tbG tb_1 ∧ enE S 120 p_1 (-1) ∧ styE S st_1 ∧ stG st_1 ∧ rwE S w_1 ∧ lT S w_1 ∧ mG w_1 ∧ whB w_1 16 = true ∧ ((0 ≤ ((2 * x5) + x1) ∧ ((2 * x5) + x1) < 30976) ∧ ((∃ a_2 : Nat, cN P 120 a_2 ∧ ((S 105 (((2 * x5) + x1).toNat)) < 0 → -4 ≤ (S 105 (((2 * x5) + x1).toNat)) ∧ (zz_J zpX7_goes (zz_ret Q X 0 0) 103 [some (vr 124), some (vi x1), some (vi x2), some (vi x3), some (vi x4), some (vi x5), some (vi (byR tb_1 w_1 st_1 x5.toNat p_1 (-1))), none] [vi (S 123 (-1 - (S 105 (((2 * x5) + x1).toNat))).toNat)] ((2, f), S, L, P) (0, 0))) ∧ (0 ≤ (S 105 (((2 * x5) + x1).toNat)) → (S 105 (((2 * x5) + x1).toNat)) < 15488 ∧ (zz_J zpX7_goes (zz_ret Q X 0 0) 103 [some (vr 124), some (vi x1), some (vi x2), some (vi x3), some (vi x4), some (vi x5), some (vi (byR tb_1 w_1 st_1 x5.toNat p_1 (-1))), none] [vi (S a_2 (S 105 (((2 * x5) + x1).toNat)).toNat)] ((2, f), S, L, P) (0, 0)))))))) ∧ ((S 106 x5.toNat) = 0 → zz_J zpX7_goes (zz_ret Q X 0 0) 47 [some (vr 124), some (vi x1), some (vi x2), some (vi x3), some (vi x4), some (vi (x5 + 1)), none, none] [] ((2, f), S, L, P) (0, 0))))))) : zz_J zpX7_goes (zz_ret Q X 0 0) 47 [some (vr 124), some (vi x1), some (vi x2), some (vi x3), some (vi x4), some (vi x5), none, none] [] ((2, f), S, L, P) (0, 0) := zz_J.go [(28, [5, 6, 7]), (47, [6, 7]), (103, [7])] 400 h
theorem zwX7_goes_103 {Q : Option zv → zz_M → Prop} {X : Nat → zz_M → Prop} {f : Nat → Nat × Nat} {S L : Nat → Nat → Int} {P : Nat → Nat → Option Nat} {x1 : Int} {x2 : Int} {x3 : Int} {x4 : Int} {x5 : Int} {x6 : Int} {t0 : Int} (h : zsh ((2, f), S, L, P) 124 = (1, 6) ∧ (∀ b1 : Nat, zpt ((2, f), S, L, P) 124 1 = some b1 → (R32 x6 ∧ R32 t0 ∧ (t0 ≤ x6 → (∃ n_ : Nat, zsh ((2, f), S, L, P) b1 = (2, n_) ∧ (n_ : Int) ≤ 2147483647 ∧ (0 ≤ x5 ∧ x5 < (n_ : Int)) ∧ (R32 x5 ∧ (R32 x3 ∧ ((¬ x5 = x3 → zz_J zpX7_goes (zz_ret Q X 0 0) 47 [some (vr 124), some (vi x1), some (vi x2), some (vi x3), some (vi x4), some (vi (x5 + 1)), none, none] [] ((2, f), mm_up S b1 x5.toNat x6, L, P) (0, 0)) ∧ (x5 = x3 → R32 t0 ∧ (R32 x6 ∧ ((t0 ≤ x6 → zz_J zpX7_goes (zz_ret Q X 0 0) 47 [some (vr 124), some (vi x1), some (vi x2), some (vi x3), some (vi x4), some (vi (x5 + 1)), none, none] [] ((2, f), mm_up (mm_up S b1 x5.toNat x6) 124 2 0, L, P) (0, 0)) ∧ (¬ t0 ≤ x6 → zz_J zpX7_goes (zz_ret Q X 0 0) 47 [some (vr 124), some (vi x1), some (vi x2), some (vi x3), some (vi x4), some (vi (x5 + 1)), none, none] [] ((2, f), mm_up (mm_up S b1 x5.toNat x6) 124 2 1, L, P) (0, 0)))))))))) ∧ (¬ t0 ≤ x6 → (∃ n_ : Nat, zsh ((2, f), S, L, P) b1 = (2, n_) ∧ (n_ : Int) ≤ 2147483647 ∧ (0 ≤ x5 ∧ x5 < (n_ : Int)) ∧ (R32 x5 ∧ (R32 x3 ∧ ((¬ x5 = x3 → zz_J zpX7_goes (zz_ret Q X 0 0) 47 [some (vr 124), some (vi x1), some (vi x2), some (vi x3), some (vi x4), some (vi (x5 + 1)), none, none] [] ((2, f), mm_up S b1 x5.toNat t0, L, P) (0, 0)) ∧ (x5 = x3 → R32 t0 ∧ (R32 x6 ∧ ((t0 ≤ x6 → zz_J zpX7_goes (zz_ret Q X 0 0) 47 [some (vr 124), some (vi x1), some (vi x2), some (vi x3), some (vi x4), some (vi (x5 + 1)), none, none] [] ((2, f), mm_up (mm_up S b1 x5.toNat t0) 124 2 0, L, P) (0, 0)) ∧ (¬ t0 ≤ x6 → zz_J zpX7_goes (zz_ret Q X 0 0) 47 [some (vr 124), some (vi x1), some (vi x2), some (vi x3), some (vi x4), some (vi (x5 + 1)), none, none] [] ((2, f), mm_up (mm_up S b1 x5.toNat t0) 124 2 1, L, P) (0, 0)))))))))))) ∧ (zpt ((2, f), S, L, P) 124 1 = none → (R32 x6 ∧ R32 t0 ∧ (t0 ≤ x6 → (False)) ∧ (¬ t0 ≤ x6 → (False))))) : zz_J zpX7_goes (zz_ret Q X 0 0) 103 [some (vr 124), some (vi x1), some (vi x2), some (vi x3), some (vi x4), some (vi x5), some (vi x6), none] [vi t0] ((2, f), S, L, P) (0, 0) := zz_J.go [(28, [5, 6, 7]), (47, [6, 7]), (103, [7])] 400 h

theorem zmX7_goes (l : Launch) (hl : l.stackTraces = false) : mm_Spec l yX7_goes (ws_ yX7_goes cX7_goes 8 (some .int)) (mm_rm 6 0 0) (zE zX7_goes) := by
  refine zz_Met.J hl (by decide) (fun C G hnh => ztX7_goes G hnh) ?_
  rintro as ⟨⟨t_, f⟩, S, L, P⟩ Q X h
  unfold zX7_goes at h
  split at h
  rotate_left
  · exact h.elim
  rename_i h_ p n code
  obtain ⟨e1_, e2_, h⟩ := mm_and2 h (fun q => q)
  cases mm_beq e1_
  cases mm_beq e2_
  try dsimp only at h
  refine ⟨rfl, ?_⟩
  obtain ⟨hp, hn, hk, hcb, w, st, a0, b0, ha0, hb0, hsy, hst, hrw, hl, hm, hwh, hq⟩ := h
  obtain ⟨pn, rfl, hpn⟩ : ∃ pn : Nat, p = (pn : Int) ∧ pn < 2 := ⟨p.toNat, by omega, by omega⟩
  obtain ⟨m, rfl⟩ : ∃ m : Nat, n = (m : Int) := ⟨n.toNat, by omega⟩
  obtain ⟨k, rfl⟩ : ∃ k : Nat, code = (k : Int) := ⟨code.toNat, by omega⟩
  have hk2 : k < 15488 := by omega
  simp only [Int.toNat_natCast] at hq
  have eK : ∀ i, kT w st (pn : Int) (-1) (-1) i = tbR w st (pn : Int) (-1) i := fun i => by
    unfold kT
    rw [if_pos rfl]
  have sh : ∀ (T : Nat → Nat → Int) (P' : Nat → Nat → Option Nat) (a : Nat), (a = 125 ∨ a = 126) → zsh ((2, f), T, L, P') a = (2, 15488) := fun T P' a e => by rcases e with e | e <;> subst e <;> rfl
  have t28 : ∀ (d i : Nat) (T : Nat → Nat → Int) (P' : Nat → Nat → Option Nat) (a b : Nat), i + d = m → chI T P' 120 w st b (pn : Int) (-1) (-1) i → cN P' 124 a → tbE T a (svT w st pn i) → T 124 2 = svK w st pn k i → (∀ h k, svk h k = false → T h k = S h k) → (∀ h k, ¬ ((h = 120 ∨ h = 124) ∧ k < 2) → P' h k = P h k) → zz_J zpX7_goes (zz_ret Q X 0 0) 28 [some (vr 124), some (vi (pn : Int)), some (vi (m : Int)), some (vi (k : Int)), some (vi (i : Int)), none, none, none] [] ((2, f), T, L, P') (0, 0) := by
    intro d
    induction d with
    | zero =>
      intro i T P' a b hi hC ha htb hsk fS fP
      have e : i = m := by omega
      subst e
      refine zwX7_goes_28 ⟨by omega, by omega, fun _ => ⟨rfl, fun b1 e => ?_, fun e => ?_⟩, fun c => absurd c (by omega)⟩
      · have e2 : P' 124 0 = some b1 := e
        rw [ha.2.1] at e2
        cases e2
        refine ⟨15488, sh T P' a ha.1, by decide, hk, ?_⟩
        rw [Int.toNat_natCast, htb k hk2 hcb]
        exact hq T P' fS fP hsk ⟨a, ha⟩ ⟨b, hC.2.2.2.1⟩
      · have e2 : P' 124 0 = none := e
        rw [ha.2.1] at e2
        cases e2
    | succ d ih =>
      intro i T P' a b hi hC ha htb hsk fS fP
      have ha1 := ha.1
      refine zwX7_goes_28 ⟨by omega, by omega, fun c => absurd c (by omega), fun _ => ⟨w, st, b, i, (pn : Int), -1, -1, hC, fun T2 P2 g1 g2 hC2 => ?_⟩⟩
      have hb1 := hC.2.2.2.1.1
      have ha2 : cN P2 124 a := ⟨ha.1, by rw [g2 124 0 (by omega)]; exact ha.2.1, by rw [g2 124 1 (by omega)]; exact ha.2.2⟩
      have ea : T2 a = T a := g1 a (by omega)
      have t47 : ∀ (m' c : Nat) (T' : Nat → Nat → Int), c + m' = 15488 → (∀ h k, h ≠ 251 - a → ¬ (h = 124 ∧ k = 2) → T' h k = T2 h k) → (∀ c' : Nat, c' < c → cbR (c' : Int) = true → T' (251 - a) c' = svT w st pn (i + 1) c') → (k < c → T' 124 2 = svK w st pn k (i + 1)) → zz_J zpX7_goes (zz_ret Q X 0 0) 47 [some (vr 124), some (vi (pn : Int)), some (vi (m : Int)), some (vi (k : Int)), some (vi (i : Int)), some (vi (c : Int)), none, none] [] ((2, f), T', L, P2) (0, 0) := by
        intro m'
        induction m' with
        | zero =>
          intro c T' hc h1 h2 h3
          refine zwX7_goes_47 ⟨by omega, fun _ => ?_, fun e => absurd e (by omega)⟩
          refine ih (i + 1) T' _ (251 - a) (2 * 120 + 3 - b) (by omega) (hC2.f2 (fun k' hk' => ?_) (fun h' k' hh => h1 h' k' (by omega) (by omega))) ⟨by omega, ?_, ?_⟩ (fun c' hc' hcb' => h2 c' (by omega) hcb') (h3 (by omega)) (fun h' k' hh => ?_) (fun h' k' hh => ?_)
          · rw [up_eq, if_neg (by omega), up_eq, if_neg (by omega)]
          · show P2 124 1 = _
            rw [ha2.2.2]
          · show P2 124 0 = _
            rw [ha2.2.1]
            congr 1
            omega
          · have n1 : h' ≠ 251 - a := by
              rintro rfl
              unfold svk at hh
              simp at hh
              omega
            have n2 : ¬ (h' = 124 ∧ k' = 2) := by
              rintro ⟨rfl, rfl⟩
              cases hh
            have n3 : h' ≠ 2 * 120 + 3 - b := by
              rintro rfl
              unfold svk at hh
              simp at hh
              omega
            rw [h1 h' k' n1 n2, g1 h' n3]
            exact fS h' k' hh
          · rw [up_eq, if_neg (by omega), up_eq, if_neg (by omega), g2 h' k' (by omega)]
            exact fP h' k' hh
        | succ m' ih2 =>
          intro c T' hc h1 h2 h3
          have hC3 : chI T' P2 120 w st (2 * 120 + 3 - b) (pn : Int) (-1) (-1) (i + 1) := hC2.f2 (fun _ _ => rfl) (fun h' k' hh => h1 h' k' (by omega) (by omega))
          obtain ⟨-, hsy3, -, hb3, htb3, hen3, hrw3, hl3, -, -⟩ := hC3
          rw [eK] at htb3
          have h106 := (hl3 c (by omega)).1
          refine zwX7_goes_47 ⟨by omega, fun e => absurd e (by omega), fun _ => ⟨by omega, ?_⟩⟩
          rw [Int.toNat_natCast, h106]
          by_cases hcb2 : cbR (c : Int) = true
          · rw [if_pos hcb2]
            refine ⟨by decide, fun _ => ?_, fun e => absurd e (by decide)⟩
            have hGs := svT_G (st := st) (p := pn) hm hwh hst hpn i
            have hta : tbE T' a (svT w st pn i) := fun c' hc' hcb' => by
              rw [h1 a c' (by omega) (by omega), ea]
              exact htb c' hc' hcb'
            have hby := byR_in (p := (pn : Int)) (th := -1) hGs hm hwh hst (show c < 15488 by omega) hcb2
            have hGt := tbR_G (st := st) (p := (pn : Int)) (th := -1) hm hwh hst (i + 1)
            have hsv := svB_in (p := pn) hGt hm.2.1 (show c < 15488 by omega) hcb2 hpn
            obtain ⟨z1, z2, z3⟩ := atV_tk (tb := tbR w st (pn : Int) (-1) (i + 1)) (w := w) (c := (c : Int)) (p := pn) (by omega) (by omega) hcb2 hm.2.1 hpn
            have e105 : ((2 * (c : Int)) + (pn : Int)).toNat = 2 * c + pn := by omega
            have et : T' 105 (2 * c + pn) = tkV w (c : Int) pn := ((hl3 c (by omega)).2 hcb2).2 pn hpn
            have esv : svT w st pn (i + 1) c = svM (byR (svT w st pn i) w st c (pn : Int) (-1)) (svB (tbR w st (pn : Int) (-1) (i + 1)) w pn c) := by
              show (if cbR (c : Int) = true then _ else _) = _
              rw [if_pos hcb2]
            have t103 : zz_J zpX7_goes (zz_ret Q X 0 0) 103 [some (vr 124), some (vi (pn : Int)), some (vi (m : Int)), some (vi (k : Int)), some (vi (i : Int)), some (vi (c : Int)), some (vi (byR (svT w st pn i) w st c (pn : Int) (-1))), none] [vi (svB (tbR w st (pn : Int) (-1) (i + 1)) w pn c)] ((2, f), T', L, P2) (0, 0) := by
              have nx : ∀ (T9 : Nat → Nat → Int), (∀ h k, h ≠ 251 - a → ¬ (h = 124 ∧ k = 2) → T9 h k = T' h k) → (∀ c', c' ≠ c → T9 (251 - a) c' = T' (251 - a) c') → T9 (251 - a) c = svT w st pn (i + 1) c → (k < c + 1 → T9 124 2 = svK w st pn k (i + 1)) → zz_J zpX7_goes (zz_ret Q X 0 0) 47 [some (vr 124), some (vi (pn : Int)), some (vi (m : Int)), some (vi (k : Int)), some (vi (i : Int)), some (vi ((c : Int) + 1)), none, none] [] ((2, f), T9, L, P2) (0, 0) := by
                intro T9 k1 k2 k3 k4
                refine ih2 (c + 1) T9 (by omega) (fun h' k' c1 c2 => by rw [k1 h' k' c1 c2]; exact h1 h' k' c1 c2) (fun c' hc' hcb' => ?_) k4
                by_cases e : c' = c
                · rw [e]; exact k3
                · rw [k2 c' e]; exact h2 c' (by omega) hcb'
              have one : ∀ v : Int, v = svT w st pn (i + 1) c → ¬ (c : Int) = (k : Int) → zz_J zpX7_goes (zz_ret Q X 0 0) 47 [some (vr 124), some (vi (pn : Int)), some (vi (m : Int)), some (vi (k : Int)), some (vi (i : Int)), some (vi ((c : Int) + 1)), none, none] [] ((2, f), mm_up T' (251 - a) c v, L, P2) (0, 0) := by
                intro v hv hck
                refine nx _ (fun h' k' c1 c2 => by rw [up_eq, if_neg (by omega)]) (fun c' hc' => by rw [up_eq, if_neg (by omega)]) (by rw [up_eq, if_pos ⟨rfl, rfl⟩]; exact hv) (fun hkc => ?_)
                rw [up_eq, if_neg (by omega)]
                exact h3 (by omega)
              have two : ∀ v u : Int, v = svT w st pn (i + 1) c → (c : Int) = (k : Int) → u = svK w st pn k (i + 1) → zz_J zpX7_goes (zz_ret Q X 0 0) 47 [some (vr 124), some (vi (pn : Int)), some (vi (m : Int)), some (vi (k : Int)), some (vi (i : Int)), some (vi ((c : Int) + 1)), none, none] [] ((2, f), mm_up (mm_up T' (251 - a) c v) 124 2 u, L, P2) (0, 0) := by
                intro v u hv hck hu
                refine nx _ (fun h' k' c1 c2 => by rw [up_eq, if_neg c2, up_eq, if_neg (by omega)]) (fun c' hc' => by rw [up_eq, if_neg (by omega), up_eq, if_neg (by omega)]) (by rw [up_eq, if_neg (by omega), up_eq, if_pos ⟨rfl, rfl⟩]; exact hv) (fun hkc => ?_)
                rw [up_eq, if_pos ⟨rfl, rfl⟩]
                exact hu
              have ek1 : (c : Int) = (k : Int) → svK w st pn k (i + 1) = if byR (svT w st pn i) w st c (pn : Int) (-1) < svB (tbR w st (pn : Int) (-1) (i + 1)) w pn c then 1 else 0 := fun e => by
                have : c = k := by omega
                subst this
                rfl
              refine zwX7_goes_103 ⟨rfl, fun b1 e => ?_, fun e => ?_⟩
              · have e2 : P2 124 1 = some b1 := e
                rw [ha2.2.2] at e2
                have e3 : b1 = 251 - a := by
                  have := Option.some.inj e2
                  omega
                subst e3
                refine ⟨by omega, by omega, fun le => ?_, fun le => ?_⟩
                · have hv : byR (svT w st pn i) w st c (pn : Int) (-1) = svT w st pn (i + 1) c := by
                    rw [esv]
                    unfold svM
                    rw [if_neg (by omega)]
                  refine ⟨15488, sh T' P2 _ (by omega), by decide, by omega, by omega, by omega, ?_⟩
                  rw [Int.toNat_natCast]
                  exact ⟨fun e => one _ hv e, fun e => ⟨by omega, by omega, fun _ => two _ _ hv e (by rw [ek1 e, if_neg (by omega)]), fun h9 => absurd le h9⟩⟩
                · have hv : svB (tbR w st (pn : Int) (-1) (i + 1)) w pn c = svT w st pn (i + 1) c := by
                    rw [esv]
                    unfold svM
                    rw [if_pos (by omega)]
                  refine ⟨15488, sh T' P2 _ (by omega), by decide, by omega, by omega, by omega, ?_⟩
                  rw [Int.toNat_natCast]
                  exact ⟨fun e => one _ hv e, fun e => ⟨by omega, by omega, fun h9 => absurd h9 le, fun _ => two _ _ hv e (by rw [ek1 e, if_pos (by omega)])⟩⟩
              · have e2 : P2 124 1 = none := e
                rw [ha2.2.2] at e2
                cases e2
            refine ⟨by omega, hcb2, w, svT w st pn i, st, a, (pn : Int), ha2, hta, hGs, hen3, hsy3, hst, hrw3, hl3, hm, hwh, by omega, 2 * 120 + 3 - b, hb3, ?_⟩
            rw [e105, et]
            unfold svB at t103
            rw [← z3] at t103
            unfold atV at t103
            refine ⟨fun d2 => ⟨z1.1, ?_⟩, fun d2 => ⟨z1.2, ?_⟩⟩
            · rw [if_pos d2] at t103
              have ev : T' 123 (-1 - tkV w (c : Int) pn).toNat = enV4 (pn : Int) (-1) (-1 - tkV w (c : Int) pn).toNat := hen3 _ (by omega)
              rw [ev]
              exact t103
            · rw [if_neg (by omega)] at t103
              have ev : T' (2 * 120 + 3 - b) (tkV w (c : Int) pn).toNat = tbR w st (pn : Int) (-1) (i + 1) (tkV w (c : Int) pn).toNat := by
                refine htb3 _ (by omega) ?_
                have en : (((tkV w (c : Int) pn).toNat : Nat) : Int) = tkV w (c : Int) pn := by omega
                rw [en]
                exact z2 d2
              rw [ev]
              exact t103
          · rw [if_neg hcb2]
            refine ⟨by decide, fun e => absurd rfl e, fun _ => ?_⟩
            refine ih2 (c + 1) T' (by omega) h1 (fun c' hc' hcb' => ?_) (fun hkc => ?_)
            · by_cases e : c' = c
              · rw [e] at hcb'
                exact absurd hcb' hcb2
              · exact h2 c' (by omega) hcb'
            · by_cases e : k = c
              · rw [e] at hcb
                exact absurd hcb hcb2
              · exact h3 (by omega)
      exact t47 15488 0 T2 rfl (fun _ _ _ _ => rfl) (fun c' hc' => absurd hc' (by omega)) (fun hkc => absurd hkc (by omega))
  have ha1 := ha0.1
  have hb1 := hb0.1
  refine zwX7_goes_0 ⟨rfl, fun b1 e => ?_, fun e => ?_⟩
  · have e2 : P 124 0 = some b1 := e
    rw [ha0.2.1] at e2
    cases e2
    refine ⟨15488, sh S P a0 ha1, by decide, fun S2 f1 f2 => ⟨by omega, b0, hb0, fun S3 f3 f4 f5 f6 => ?_⟩⟩
    have fr : ∀ h k, svk h k = false → mm_up S3 124 2 0 h k = S h k := by
      intro h' k' hh
      have n1 : h' ≠ a0 ∧ h' ≠ b0 ∧ ¬ (h' = 120 ∧ k' = 3) ∧ ¬ (h' = 123 ∧ k' < 4) ∧ ¬ (h' = 124 ∧ k' = 2) := by
        unfold svk at hh
        simp at hh
        omega
      rw [up_eq, if_neg n1.2.2.2.2, f3 h' k' n1.2.1 n1.2.2.1 n1.2.2.2.1, f1 h' k' (Or.inl n1.1)]
    have frh : ∀ h, svk h 0 = false → h ≠ 120 → h ≠ 124 → mm_up S3 124 2 0 h = S h := fun h' hh c1 c2 => by
      funext k'
      refine fr h' k' ?_
      unfold svk at hh ⊢
      simp at hh ⊢
      omega
    refine t28 m 0 _ P a0 b0 (by omega) ⟨⟨?_, Or.inl rfl, by omega⟩, ?_, hst, hb0, ?_, ?_, ?_, ?_, hm, hwh⟩ ha0 ?_ ?_ fr (fun _ _ _ => rfl)
    · rw [up_eq, if_neg (by omega)]
      exact f4
    · intro c hc hcb'
      rw [frh 107 rfl (by decide) (by decide)]
      exact hsy c hc hcb'
    · intro c hc hcb'
      rw [up_eq, if_neg (by omega), f6 c hc, eK]
      rfl
    · intro j hj
      rw [up_eq, if_neg (by omega)]
      exact f5 j hj
    · intro i' k' hi hk'
      rw [fr (210 + i') k' (by unfold svk; simp; omega)]
      exact hrw i' k' hi hk'
    · exact hl.w rfl rfl (fun h' hh k' => fr h' k' (by unfold svk; simp; omega))
    · intro c hc hcb'
      rw [up_eq, if_neg (by omega), f3 a0 c (by omega) (by omega) (by omega), f2 c hc]
      rfl
    · rw [up_eq, if_pos ⟨rfl, rfl⟩]
      rfl
  · have e2 : P 124 0 = none := e
    rw [ha0.2.1] at e2
    cases e2
