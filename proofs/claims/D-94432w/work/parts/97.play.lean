/-! ===== the component's matches by draws ===== -/
set_option maxRecDepth 100000
def zX1_drawn : zz_Sp := fun as M Q X => match as with
  | [.inr (.inr (some h_)), .inr (.inr (some s)), .inl d] => bif Nat.beq h_ 100 && Nat.beq M.1.1 2 && Nat.beq s 108 then (∃ (w_ : Nat → Int) (rs_ : List (Fc → Option Int)) (top_ : Nat), wRel M.2.1 w_ ∧ mG w_ ∧ whB w_ 16 = true ∧ rlI M.1.2 M.2.1 M.2.2.2 top_ rs_ ∧ ruR w_ rs_ ∧ (∀ p_, p_ < 2 → prI M.2.1 rs_ p_) ∧ scV (cx M.2.1 108) ∧ (-100 ≤ cx M.2.1 108 7 ∧ cx M.2.1 108 7 ≤ 100) ∧ (-100 ≤ cx M.2.1 108 8 ∧ cx M.2.1 108 8 ≤ 100) ∧ (0 ≤ d ∧ d < 100) ∧ (∀ (S_ : Nat → Nat → Int) (P_ : Nat → Nat → Option Nat), scnS M.2.1 S_ → scnP M.2.2.2 P_ → Q (some (vi ((pkR w_ (pyI w_ (cx M.2.1 108)) d : Nat) : Int))) ((2, M.1.2), S_, M.2.2.1, P_))) else False
  | _ => False

def zpX1_drawn : zz_P := [(0, zo_ald 1 0), (1, zo_get 4 0 2 0), (4, zo_get 7 1 2 6), (7, zo_c 8 (vi 4)), (8, zo_ald 9 0), (9, zo_ald 10 1), (10, zo_ald 11 1), (11, zo_get 14 2 0 3), (14, zo_callv 17 3 0 zX1_styleOf), (17, zo_imul 18), (18, zo_ald 19 0), (19, zo_ald 20 1), (20, zo_c 21 (vi 1)), (21, zo_ald 22 1), (22, zo_get 25 2 0 3), (25, zo_isub 26), (26, zo_callv 29 3 0 zX1_styleOf), (29, zo_iadd 30), (30, zo_aald 31), (31, zo_ast 32 3), (32, zo_ild 33 2), (33, zo_ist 35 4), (35, zo_c 36 (vi 0)), (36, zo_ist 38 5), (38, zo_ild 40 4), (40, zo_ald 41 3), (41, zo_ild 43 5), (43, zo_ialp 44), (44, zo_clt false false 47 62), (47, zo_ild 49 4), (49, zo_ald 50 3), (50, zo_ild 52 5), (52, zo_ialp 53), (53, zo_isub 54), (54, zo_ist 56 4), (56, zo_inc 59 5 1), (59, zo_goto 38), (62, zo_ild 64 5), (64, zo_iret)]
theorem ztX1_drawn {C : mm_C} (G : mm_G C RX1 cX1_drawn (some .int) 6 (mm_rm 22 0 0)) (hnh : mm_nh C) : zz_OKs C zpX1_drawn :=
  ⟨zz_of (ok_aload_n G dX1_drawn_0 rfl rfl) (z_ald _ _),
   zz_of (ok_get G (nx := 4) (ci := 0) (kd := 2) (k := 0) (RX1, TX1, 19) rfl (by decide) rfl q399 dX1_drawn_1 rfl) (z_get _ _ _ _),
   zz_of (ok_getN G (nx := 7) (ci := 1) (kd := 2) (k := 6) (RX2, TX2, 11) rfl (by decide) rfl q234 dX1_drawn_4 rfl) (z_get _ _ _ _),
   zz_of (ok_iconst G (v := 4) dX1_drawn_7 (by decide) rfl) (z_cn 8 4),
   zz_of (ok_aload_n G dX1_drawn_8 rfl rfl) (z_ald _ _),
   zz_of (ok_aload_n G dX1_drawn_9 rfl rfl) (z_ald _ _),
   zz_of (ok_aload_n G dX1_drawn_10 rfl rfl) (z_ald _ _),
   zz_of (ok_getN G (nx := 14) (ci := 2) (kd := 0) (k := 3) (RX3, TX3, 7) rfl (by decide) rfl q189 dX1_drawn_11 rfl) (z_get _ _ _ _),
   zz_of (ok_callv G hnh (zmX1_styleOf _ G.hst) rfl rfl (RX1, TX1, 19) rfl q1377 q1379 qs17 q82 q1380 (by decide +kernel) ⟨by decide, by decide⟩ dX1_drawn_14 rfl) (z_callv _ _ _ _),
   zz_of (ok_imul G dX1_drawn_17 rfl) (z_imul _),
   zz_of (ok_aload_n G dX1_drawn_18 rfl rfl) (z_ald _ _),
   zz_of (ok_aload_n G dX1_drawn_19 rfl rfl) (z_ald _ _),
   zz_of (ok_iconst G (v := 1) dX1_drawn_20 (by decide) rfl) (z_cn 21 1),
   zz_of (ok_aload_n G dX1_drawn_21 rfl rfl) (z_ald _ _),
   zz_of (ok_getN G (nx := 25) (ci := 2) (kd := 0) (k := 3) (RX3, TX3, 7) rfl (by decide) rfl q189 dX1_drawn_22 rfl) (z_get _ _ _ _),
   zz_of (ok_isub G dX1_drawn_25 rfl) (z_isub _),
   zz_of (ok_callv G hnh (zmX1_styleOf _ G.hst) rfl rfl (RX1, TX1, 19) rfl q1377 q1379 qs17 q82 q1380 (by decide +kernel) ⟨by decide, by decide⟩ dX1_drawn_26 rfl) (z_callv _ _ _ _),
   zz_of (ok_iadd G dX1_drawn_29 rfl) (z_iadd _),
   zz_of (ok_aald G dX1_drawn_30 rfl) (z_aald _),
   zz_of (ok_astore_n G dX1_drawn_31 rfl rfl (by decide)) (z_ast _ _),
   zz_of (ok_iload_n G dX1_drawn_32 rfl rfl) (z_ild _ _),
   zz_of (ok_istore G dX1_drawn_33 rfl (by decide)) (z_ist _ _),
   zz_of (ok_iconst G (v := 0) dX1_drawn_35 (by decide) rfl) (z_cn 36 0),
   zz_of (ok_istore G dX1_drawn_36 rfl (by decide)) (z_ist _ _),
   zz_of (ok_iload G dX1_drawn_38 rfl) (z_ild _ _),
   zz_of (ok_aload_n G dX1_drawn_40 rfl rfl) (z_ald _ _),
   zz_of (ok_iload G dX1_drawn_41 rfl) (z_ild _ _),
   zz_of (ok_iald G dX1_drawn_43 rfl) (z_ialp _),
   zz_of (ok_clt G dX1_drawn_44 rfl rfl) (z_clt _ _ _ _),
   zz_of (ok_iload G dX1_drawn_47 rfl) (z_ild _ _),
   zz_of (ok_aload_n G dX1_drawn_49 rfl rfl) (z_ald _ _),
   zz_of (ok_iload G dX1_drawn_50 rfl) (z_ild _ _),
   zz_of (ok_iald G dX1_drawn_52 rfl) (z_ialp _),
   zz_of (ok_isub G dX1_drawn_53 rfl) (z_isub _),
   zz_of (ok_istore G dX1_drawn_54 rfl (by decide)) (z_ist _ _),
   zz_of (ok_iinc G (v := 1) dX1_drawn_56 (by decide) rfl (by decide)) (z_incn 59 5 1),
   zz_of (ok_goto G dX1_drawn_59 rfl) (z_goto _),
   zz_of (ok_iload G dX1_drawn_62 rfl) (z_ild _ _),
   zz_of (ok_iret G dX1_drawn_64) (z_iret), trivial⟩

theorem zwX1_drawn_0 {Q : Option zv → zz_M → Prop} {X : Nat → zz_M → Prop} {f : Nat → Nat × Nat} {S L : Nat → Nat → Int} {P : Nat → Nat → Option Nat} {d : Int} (h : (∃ (rs_1 : List (Fc → Option Int)) (top_1 p_1 : Nat), rlI f S P top_1 rs_1 ∧ prI S rs_1 p_1 ∧ (S 108 3) = (p_1 : Int) ∧ p_1 < 2 ∧ (108 = 204 ∨ 108 = 108) ∧ scV (cx S 108) ∧ (-100 ≤ cx S 108 7 ∧ cx S 108 7 ≤ 100) ∧ (-100 ≤ cx S 108 8 ∧ cx S 108 8 ≤ 100) ∧ (∀ (S_1 : Nat → Nat → Int) (P_1 : Nat → Nat → Option Nat), scnS S S_1 → scnP P P_1 → ((∃ (rs_2 : List (Fc → Option Int)) (top_2 p_2 : Nat), rlI f S_1 P_1 top_2 rs_2 ∧ prI S_1 rs_2 p_2 ∧ (1 - (S_1 108 3)) = (p_2 : Int) ∧ p_2 < 2 ∧ (108 = 204 ∨ 108 = 108) ∧ scV (cx S_1 108) ∧ (-100 ≤ cx S_1 108 7 ∧ cx S_1 108 7 ≤ 100) ∧ (-100 ≤ cx S_1 108 8 ∧ cx S_1 108 8 ≤ 100) ∧ (∀ (S_2 : Nat → Nat → Int) (P_2 : Nat → Nat → Option Nat), scnS S_1 S_2 → scnP P_1 P_2 → (∃ t_ n_ : Nat, zsh ((2, f), S_2, L, P_2) 201 = (t_, n_) ∧ (t_ = 6 ∨ t_ = 7 ∨ t_ = 8) ∧ (n_ : Int) ≤ 2147483647 ∧ (0 ≤ ((4 * (syV S rs_1 p_1 (fcX (cx S 108) p_1))) + (syV S_1 rs_2 p_2 (fcX (cx S_1 108) p_2))) ∧ ((4 * (syV S rs_1 p_1 (fcX (cx S 108) p_1))) + (syV S_1 rs_2 p_2 (fcX (cx S_1 108) p_2))) < (n_ : Int)) ∧ (∀ b3 : Nat, zpt ((2, f), S_2, L, P_2) 201 (((4 * (syV S rs_1 p_1 (fcX (cx S 108) p_1))) + (syV S_1 rs_2 p_2 (fcX (cx S_1 108) p_2))).toNat) = some b3 → zz_J zpX1_drawn (zz_ret Q X 0 0) 38 [none, none, none, some (vr b3), some (vi d), some (vi 0)] [] ((2, f), S_2, L, P_2) (0, 0)) ∧ (zpt ((2, f), S_2, L, P_2) 201 (((4 * (syV S rs_1 p_1 (fcX (cx S 108) p_1))) + (syV S_1 rs_2 p_2 (fcX (cx S_1 108) p_2))).toNat) = none → zz_J zpX1_drawn (zz_ret Q X 0 0) 38 [none, none, none, some (vn), some (vi d), some (vi 0)] [] ((2, f), S_2, L, P_2) (0, 0))))))))) : zz_J zpX1_drawn (zz_ret Q X 0 0) 0 [some (vr 100), some (vr 108), some (vi d), none, none, none] [] ((2, f), S, L, P) (0, 0) := zz_J.go [(38, [0, 1, 2])] 400 h
theorem zwX1_drawn_38 {Q : Option zv → zz_M → Prop} {X : Nat → zz_M → Prop} {f : Nat → Nat × Nat} {S L : Nat → Nat → Int} {P : Nat → Nat → Option Nat} {h3 : Nat} {x4 : Int} {x5 : Int} (h : ∃ n_ : Nat, zsh ((2, f), S, L, P) h3 = (2, n_) ∧ (n_ : Int) ≤ 2147483647 ∧ (0 ≤ x5 ∧ x5 < (n_ : Int)) ∧ (R32 x4 ∧ (R32 (S h3 x5.toNat) ∧ ((x4 < (S h3 x5.toNat) → Q (some (vi x5)) ((2, f), S, L, P)) ∧ (¬ x4 < (S h3 x5.toNat) → ∃ n_ : Nat, zsh ((2, f), S, L, P) h3 = (2, n_) ∧ (n_ : Int) ≤ 2147483647 ∧ (0 ≤ x5 ∧ x5 < (n_ : Int)) ∧ (zz_J zpX1_drawn (zz_ret Q X 0 0) 38 [none, none, none, some (vr h3), some (vi (x4 - (S h3 x5.toNat))), some (vi (x5 + 1))] [] ((2, f), S, L, P) (0, 0))))))) : zz_J zpX1_drawn (zz_ret Q X 0 0) 38 [none, none, none, some (vr h3), some (vi x4), some (vi x5)] [] ((2, f), S, L, P) (0, 0) := zz_J.go [(38, [0, 1, 2])] 400 h

theorem fc_xE {x z : Nat → Int} {p : Nat} (h : xE x z) (hz : scV z) (hp : p < 2) : fcX x p = fcX z p := by
  obtain ⟨h0, h1, h2, h3, h4, h5, h6, h7, h8⟩ := h
  have h3' : z 3 = 0 ∨ 1 ≤ z 3 := by
    rcases hz.2.2 with ⟨a, -⟩ | ⟨a, -⟩ | ⟨a, -⟩ <;> omega
  funext k
  unfold fcX
  have p2 : p = 0 ∨ p = 1 := by omega
  have e4 : (if x 3 = 0 then (10 : Int) else x 4) = if z 3 = 0 then 10 else z 4 := by
    rw [h3]
    split
    · rfl
    · exact h4 (by omega)
  rcases p2 with e | e <;> subst e
  · rw [e4, h0, show 1 - 0 = 1 from rfl, h1, h3, show 7 + 0 = 7 from rfl, h7, h2, h6]
  · rw [e4, h1, show 1 - 1 = 0 from rfl, h0, h3, show 7 + 1 = 8 from rfl, h8, h2, h6]
theorem pyI_xE {w x z : Nat → Int} (h : xE x z) (hz : scV z) : pyI w x = pyI w z := by
  have e2 := h.2.2.1
  have s2 := hz.2.1
  unfold pyI
  rw [e2]
  unfold stR
  rw [fc_xE h hz (by omega : (z 2).toNat < 2), fc_xE h hz (by omega : (1 - z 2).toNat < 2)]
theorem zmX1_drawn (l : Launch) (hl : l.stackTraces = false) : mm_Spec l yX1_drawn (ws_ yX1_drawn cX1_drawn 6 (some .int)) (mm_rm 22 0 0) (zE zX1_drawn) := by
  refine zz_Met.J hl (by decide) (fun C G hnh => ztX1_drawn G hnh) ?_
  rintro as ⟨⟨t_, f⟩, S, L, P⟩ Q X h
  unfold zX1_drawn at h
  split at h
  rotate_left
  · exact h.elim
  rename_i h_ s d
  obtain ⟨e12_, e3_, h⟩ := mm_and2 h (fun q => q)
  rw [Bool.and_eq_true] at e12_
  cases mm_beq e12_.1
  cases mm_beq e12_.2
  cases mm_beq e3_
  try dsimp only at h
  refine ⟨rfl, ?_⟩
  obtain ⟨w, rs, top, hw, hm, hwh, hrl, hru, hpr, hV, g7, g8, hd, hq⟩ := h
  have s2 := hV.2.1
  obtain ⟨u, hu, eu⟩ : ∃ u : Nat, u < 2 ∧ cx S 108 2 = (u : Int) := ⟨(cx S 108 2).toNat, by omega, by omega⟩
  have e3 : S 108 3 = (u : Int) := eu
  have h3 : ∀ p, p < 2 → S 203 p = w (199 + p) := by
    intro p hp
    have p2 : p = 0 ∨ p = 1 := by omega
    rcases p2 with e | e <;> subst e
    · exact hw.2.2.2.1
    · exact hw.2.2.2.2.1
  refine zwX1_drawn_0 ⟨rs, top, u, hrl, hpr u hu, e3, hu, Or.inr rfl, hV, g7, g8, fun S1 P1 f1 g1 => ?_⟩
  have x1 : cx S1 108 = cx S 108 := cx_fr fun h k a b => f1 h k (by omega)
  have e31 : S1 108 3 = (u : Int) := by rw [f1 108 3 (by omega)]; exact e3
  have r1 : rlI f S1 P1 top rs := hrl.fr (f1 202 2 (by omega)) (g1 202 1 (by omega)) (fun h a _ => ⟨rfl, funext fun k => f1 h k (by omega), funext fun k => g1 h k (by omega)⟩)
  have p1 : ∀ p, p < 2 → prI S1 rs p := fun p hp => by
    have := hpr p hp
    unfold prI at this ⊢
    rw [f1 203 p (by omega)]
    exact this
  rw [e31, x1]
  refine ⟨rs, top, 1 - u, r1, p1 _ (by omega), by omega, by omega, Or.inr rfl, hV, g7, g8, fun S2 P2 f2 g2 => ?_⟩
  have v0 : syV S rs u (fcX (cx S 108) u) = stR w (cx S 108) u := sy_st hru (hpr u hu) (h3 u hu)
  have v1 : syV S1 rs (1 - u) (fcX (cx S 108) (1 - u)) = stR w (cx S 108) (1 - u) := sy_st hru (p1 _ (by omega)) (by rw [f1 203 _ (by omega)]; exact h3 _ (by omega))
  rw [v0, v1]
  have b0 := stR_in w (cx S 108) u
  have b1 := stR_in w (cx S 108) (1 - u)
  obtain ⟨i, hi, ei⟩ : ∃ i : Nat, i < 16 ∧ 4 * stR w (cx S 108) u + stR w (cx S 108) (1 - u) = (i : Int) := ⟨(4 * stR w (cx S 108) u + stR w (cx S 108) (1 - u)).toNat, by omega, by omega⟩
  have eP : pyI w (cx S 108) = 12 * i := by
    unfold pyI
    rw [eu, show ((u : Int)).toNat = u by omega, show (1 - (u : Int)).toNat = 1 - u by omega, ei]
    omega
  rw [ei]
  rw [eP] at hq
  have f12 : scnS S S2 := fun h k a => by rw [f2 h k a, f1 h k a]
  have hq := hq S2 P2 f12 (fun h k a => by rw [g2 h k a, g1 h k a])
  have hrow : ∀ k, k < 12 → S2 (210 + i) k = w (12 * i + k) := fun k hk => by rw [f12 (210 + i) k (by omega)]; exact hw.2.2.2.2.2 i k hi hk
  refine row_go (by omega) (by omega) ?_
  rw [Int.toNat_natCast]
  have t38 : ∀ (m o : Nat), o + m = 12 → smR w (12 * i) o ≤ d → pkR w (12 * i) d = pkF w (12 * i) d m o → zz_J zpX1_drawn (zz_ret Q X 0 0) 38 [none, none, none, some (vr (210 + i)), some (vi (d - smR w (12 * i) o)), some (vi (o : Int))] [] ((2, f), S2, L, P2) (0, 0) := by
    intro m
    induction m with
    | zero =>
      intro o ho hs _
      have o12 : o = 12 := by omega
      subst o12
      have := whB_t.mp hwh i hi
      omega
    | succ m ih =>
      intro o ho hs hp
      have o12 : o < 12 := by omega
      have hc := hm.1.1 (12 * i + o) (by omega)
      have s0 := smR_in hm.1 o (12 * i) (by omega)
      have es : smR w (12 * i) (o + 1) = smR w (12 * i) o + w (12 * i + o) := rfl
      have ep : pkF w (12 * i) d (m + 1) o = if d < smR w (12 * i) (o + 1) then o else pkF w (12 * i) d m (o + 1) := rfl
      rw [ep] at hp
      refine zwX1_drawn_38 ⟨12, row_sh hi, by decide, by omega, by omega, ?_⟩
      rw [Int.toNat_natCast, hrow o o12]
      refine ⟨by omega, fun c => ?_, fun c => ⟨12, row_sh hi, by decide, by omega, ?_⟩⟩
      · rw [if_pos (by omega)] at hp
        rw [hp] at hq
        exact hq
      · rw [if_neg (by omega)] at hp
        have := ih (o + 1) (by omega) (by omega) hp
        rw [es] at this
        rw [show d - smR w (12 * i) o - w (12 * i + o) = d - (smR w (12 * i) o + w (12 * i + o)) by omega]
        exact this
  have := t38 12 0 rfl (by show (0 : Int) ≤ d; exact hd.1) rfl
  rw [show d - smR w (12 * i) 0 = d by show d - 0 = d; omega] at this
  exact this
def zX1_play : zz_Sp := fun as M Q X => match as with
  | [.inr (.inr (some h_)), .inl seed, .inl n, .inl what] => bif Nat.beq h_ 100 && Nat.beq M.1.1 2 then (R32 n ∧ R32 what ∧ ∃ (w_ : Nat → Int) (rs_ : List (Fc → Option Int)) (top_ : Nat), cO M.1.2 M.2.1 M.2.2.2 w_ rs_ top_ ∧ xB 6 (nwW w_) ∧ (pyT n what = 1 → X 1 ((2, M.1.2), M.2.1, M.2.2.1, M.2.2.2)) ∧ (pyT n what = 2 → X 4 ((2, M.1.2), M.2.1, M.2.2.1, M.2.2.2)) ∧ (pyT n what = 0 → ∀ (S_ : Nat → Nat → Int) (P_ : Nat → Nat → Option Nat), cZ M.2.1 M.2.2.2 w_ S_ P_ → (what = 10 → Q (some (vi ((pyR w_ n.toNat (nwW w_) seed).1 : Nat))) ((2, M.1.2), S_, M.2.2.1, P_)) ∧ (what ≠ 10 → Q (some (vi (tdR (pyR w_ n.toNat (nwW w_) seed).2 what))) ((2, M.1.2), S_, M.2.2.1, P_)))) else False
  | _ => False

def zpX1_play : zz_P := [(0, zo_ild 1 2), (1, zo_c 2 (vi 0)), (2, zo_c 5 (vi 200)), (5, zo_calls 8 3 zX1_in), (8, zo_csL (mm_rm 23 2 12) 11 1 1 6 zX1_demand), (11, zo_ild 12 3), (12, zo_c 14 (vi 10)), (14, zo_csL (mm_rm 23 2 12) 17 2 1 6 zX1_asked), (17, zo_ald 18 0), (18, zo_get 21 0 2 9), (21, zo_ald 22 0), (22, zo_get 25 0 2 0), (25, zo_get 28 1 2 9), (28, zo_callv 31 2 2 zX3_takes_204108), (31, zo_pop 32), (32, zo_ild 33 1), (33, zo_ist 35 4), (35, zo_c 36 (vi 0)), (36, zo_ist 38 5), (38, zo_ild 40 5), (40, zo_ild 41 2), (41, zo_cge false false 44 112), (44, zo_ald 45 0), (45, zo_get 48 0 2 9), (48, zo_callv 51 1 2 zX3_isOver_108), (51, zo_zifne 54 112), (54, zo_ild 56 4), (56, zo_c 59 (vi 1103515245)), (59, zo_imul 60), (60, zo_c 63 (vi 12345)), (63, zo_iadd 64), (64, zo_ist 66 4), (66, zo_ald 67 0), (67, zo_ald 68 0), (68, zo_get 71 0 2 9), (71, zo_ild 73 4), (73, zo_c 75 (vi 16)), (75, zo_ishr 76), (76, zo_c 79 (vi 32767)), (79, zo_iand 80), (80, zo_c 82 (vi 100)), (82, zo_irem 83), (83, zo_callv 86 3 0 zX1_drawn), (86, zo_ist 88 6), (88, zo_ald 89 0), (89, zo_get 92 0 2 9), (92, zo_ild 94 6), (94, zo_c 95 (vi 2)), (95, zo_calls 98 2 zJ4_min), (98, zo_ild 100 6), (100, zo_c 101 (vi 2)), (101, zo_isub 102), (102, zo_callv 105 3 2 zX3_rally_108), (105, zo_pop 106), (106, zo_inc 109 5 1), (109, zo_goto 38), (112, zo_ild 113 3), (113, zo_c 115 (vi 10)), (115, zo_cne false true 118 123), (118, zo_ild 120 5), (120, zo_goto 131), (123, zo_ald 124 0), (124, zo_get 127 0 2 9), (127, zo_ild 128 3), (128, zo_callv 131 2 2 zX3_stands_108), (131, zo_iret)]
theorem ztX1_play {C : mm_C} (G : mm_G C RX1 cX1_play (some .int) 7 (mm_rm 23 2 12)) (hnh : mm_nh C) : zz_OKs C zpX1_play :=
  ⟨zz_of (ok_iload_n G dX1_play_0 rfl rfl) (z_ild _ _),
   zz_of (ok_iconst G (v := 0) dX1_play_1 (by decide) rfl) (z_cn 2 0),
   zz_of (ok_sipush G (v := 200) dX1_play_2 (by decide) rfl) (z_cn 5 200),
   zz_of (ok_calls G hnh (zmX1_in _ G.hst) rfl rfl q1326 q634 q82 q635 (by decide +kernel) ⟨by decide, by decide⟩ dX1_play_5 rfl) (z_calls _ _ _),
   zz_of (ok_calsF G (hnh.q 8) (zmX1_demand _ G.hst) q1474 q1475 q82 q1476 (by decide +kernel) ⟨Nat.le_of_ble_eq_true rfl, Nat.le_of_ble_eq_true rfl⟩ dX1_play_8 rfl) (z_csL _ _ _ _ _ _),
   zz_of (ok_iload_n G dX1_play_11 rfl rfl) (z_ild _ _),
   zz_of (ok_bipush G (v := 10) dX1_play_12 (by decide) rfl) (z_cn 14 10),
   zz_of (ok_calsF G (hnh.q 14) (zmX1_asked _ G.hst) q1342 q1343 q82 q1344 (by decide +kernel) ⟨Nat.le_of_ble_eq_true rfl, Nat.le_of_ble_eq_true rfl⟩ dX1_play_14 rfl) (z_csL _ _ _ _ _ _),
   zz_of (ok_aload_n G dX1_play_17 rfl rfl) (z_ald _ _),
   zz_of (ok_get G (nx := 21) (ci := 0) (kd := 2) (k := 9) (RX1, TX1, 19) rfl (by decide) rfl q418 dX1_play_18 rfl) (z_get _ _ _ _),
   zz_of (ok_aload_n G dX1_play_21 rfl rfl) (z_ald _ _),
   zz_of (ok_get G (nx := 25) (ci := 0) (kd := 2) (k := 0) (RX1, TX1, 19) rfl (by decide) rfl q399 dX1_play_22 rfl) (z_get _ _ _ _),
   zz_of (ok_getN G (nx := 28) (ci := 1) (kd := 2) (k := 9) (RX2, TX2, 11) rfl (by decide) rfl q240 dX1_play_25 rfl) (z_get _ _ _ _),
   zz_of (ok_callv G hnh (zmX3_takes_204108 _ G.hst) rfl rfl (RX3, TX3, 7) rfl q1591 q580 q581 q87 q582 (by decide +kernel) ⟨by decide, by decide⟩ dX1_play_28 rfl) (z_callv _ _ _ _),
   zz_of (ok_pop G dX1_play_31 rfl) (z_pop _),
   zz_of (ok_iload_n G dX1_play_32 rfl rfl) (z_ild _ _),
   zz_of (ok_istore G dX1_play_33 rfl (by decide)) (z_ist _ _),
   zz_of (ok_iconst G (v := 0) dX1_play_35 (by decide) rfl) (z_cn 36 0),
   zz_of (ok_istore G dX1_play_36 rfl (by decide)) (z_ist _ _),
   zz_of (ok_iload G dX1_play_38 rfl) (z_ild _ _),
   zz_of (ok_iload_n G dX1_play_40 rfl rfl) (z_ild _ _),
   zz_of (ok_cge G dX1_play_41 rfl rfl) (z_cge _ _ _ _),
   zz_of (ok_aload_n G dX1_play_44 rfl rfl) (z_ald _ _),
   zz_of (ok_get G (nx := 48) (ci := 0) (kd := 2) (k := 9) (RX1, TX1, 19) rfl (by decide) rfl q418 dX1_play_45 rfl) (z_get _ _ _ _),
   zz_of (ok_callv G hnh (zmX3_isOver_108 _ G.hst) rfl rfl (RX3, TX3, 7) rfl q1522 q1523 q1524 q87 q1525 (by decide +kernel) ⟨by decide, by decide⟩ dX1_play_48 rfl) (z_callv _ _ _ _),
   zz_of (ok_ifne G dX1_play_51 rfl rfl) (z_zifne _ _),
   zz_of (ok_iload G dX1_play_54 rfl) (z_ild _ _),
   zz_of (ok_ldcw G (v := 1103515245) q1793 dX1_play_56 rfl) (z_cn 59 1103515245),
   zz_of (ok_imul G dX1_play_59 rfl) (z_imul _),
   zz_of (ok_sipush G (v := 12345) dX1_play_60 (by decide) rfl) (z_cn 63 12345),
   zz_of (ok_iadd G dX1_play_63 rfl) (z_iadd _),
   zz_of (ok_istore G dX1_play_64 rfl (by decide)) (z_ist _ _),
   zz_of (ok_aload_n G dX1_play_66 rfl rfl) (z_ald _ _),
   zz_of (ok_aload_n G dX1_play_67 rfl rfl) (z_ald _ _),
   zz_of (ok_get G (nx := 71) (ci := 0) (kd := 2) (k := 9) (RX1, TX1, 19) rfl (by decide) rfl q418 dX1_play_68 rfl) (z_get _ _ _ _),
   zz_of (ok_iload G dX1_play_71 rfl) (z_ild _ _),
   zz_of (ok_bipush G (v := 16) dX1_play_73 (by decide) rfl) (z_cn 75 16),
   zz_of (ok_ishr G dX1_play_75 rfl) (z_ishr _),
   zz_of (ok_sipush G (v := 32767) dX1_play_76 (by decide) rfl) (z_cn 79 32767),
   zz_of (ok_iand G dX1_play_79 rfl) (z_iand _),
   zz_of (ok_bipush G (v := 100) dX1_play_80 (by decide) rfl) (z_cn 82 100),
   zz_of (ok_irem G dX1_play_82 rfl) (z_irem _),
   zz_of (ok_callv G hnh (zmX1_drawn _ G.hst) rfl rfl (RX1, TX1, 19) rfl q1794 q1796 qs39 q82 q1797 (by decide +kernel) ⟨by decide, by decide⟩ dX1_play_83 rfl) (z_callv _ _ _ _),
   zz_of (ok_istore G dX1_play_86 rfl (by decide)) (z_ist _ _),
   zz_of (ok_aload_n G dX1_play_88 rfl rfl) (z_ald _ _),
   zz_of (ok_get G (nx := 92) (ci := 0) (kd := 2) (k := 9) (RX1, TX1, 19) rfl (by decide) rfl q418 dX1_play_89 rfl) (z_get _ _ _ _),
   zz_of (ok_iload G dX1_play_92 rfl) (z_ild _ _),
   zz_of (ok_iconst G (v := 2) dX1_play_94 (by decide) rfl) (z_cn 95 2),
   zz_of (ok_calls G hnh (zmJ4_min _ G.hst) rfl rfl q1592 q559 q96 q560 (by decide +kernel) ⟨by decide, by decide⟩ dX1_play_95 rfl) (z_calls _ _ _),
   zz_of (ok_iload G dX1_play_98 rfl) (z_ild _ _),
   zz_of (ok_iconst G (v := 2) dX1_play_100 (by decide) rfl) (z_cn 101 2),
   zz_of (ok_isub G dX1_play_101 rfl) (z_isub _),
   zz_of (ok_callv G hnh (zmX3_rally_108 _ G.hst) rfl rfl (RX3, TX3, 7) rfl q1541 q1542 q1543 q87 q1544 (by decide +kernel) ⟨by decide, by decide⟩ dX1_play_102 rfl) (z_callv _ _ _ _),
   zz_of (ok_pop G dX1_play_105 rfl) (z_pop _),
   zz_of (ok_iinc G (v := 1) dX1_play_106 (by decide) rfl (by decide)) (z_incn 109 5 1),
   zz_of (ok_goto G dX1_play_109 rfl) (z_goto _),
   zz_of (ok_iload_n G dX1_play_112 rfl rfl) (z_ild _ _),
   zz_of (ok_bipush G (v := 10) dX1_play_113 (by decide) rfl) (z_cn 115 10),
   zz_of (ok_cne G dX1_play_115 rfl rfl) (z_cne _ _ _ _),
   zz_of (ok_iload G dX1_play_118 rfl) (z_ild _ _),
   zz_of (ok_goto G dX1_play_120 rfl) (z_goto _),
   zz_of (ok_aload_n G dX1_play_123 rfl rfl) (z_ald _ _),
   zz_of (ok_get G (nx := 127) (ci := 0) (kd := 2) (k := 9) (RX1, TX1, 19) rfl (by decide) rfl q418 dX1_play_124 rfl) (z_get _ _ _ _),
   zz_of (ok_iload_n G dX1_play_127 rfl rfl) (z_ild _ _),
   zz_of (ok_callv G hnh (zmX3_stands_108 _ G.hst) rfl rfl (RX3, TX3, 7) rfl q1498 q1499 q1500 q87 q1501 (by decide +kernel) ⟨by decide, by decide⟩ dX1_play_128 rfl) (z_callv _ _ _ _),
   zz_of (ok_iret G dX1_play_131) (z_iret), trivial⟩

theorem zwX1_play_0 {Q : Option zv → zz_M → Prop} {X : Nat → zz_M → Prop} {f : Nat → Nat × Nat} {S L : Nat → Nat → Int} {P : Nat → Nat → Option Nat} {seed : Int} {n : Int} {what : Int} (h : (R32 n ∧ R32 (0 : Int) ∧ R32 (200 : Int) ∧ (((0 : Int) ≤ n ∧ n ≤ (200 : Int)) → ((((1 : Int) = 1 → ((R32 what ∧ (0 ≤ (10 : Int) ∧ (10 : Int) ≤ 1000) ∧ ((0 ≤ what ∧ what ≤ (10 : Int)) → (((cx S 204 6 = 0 ∨ cx S 204 6 = 1) ∧ (zz_J zpX1_play (zz_ret Q X 2 12) 38 [some (vr 100), none, some (vi n), some (vi what), some (vi seed), some (vi 0), none] [] ((2, f), cxW S 108 (cx S 204), L, P) (2, 12))))) ∧ (¬ (0 ≤ what ∧ what ≤ (10 : Int)) → X 4 ((2, f), S, L, P))))) ∧ ((1 : Int) = 0 → X 1 ((2, f), S, L, P)) ∧ ((1 : Int) = 0 ∨ (1 : Int) = 1)))) ∧ (¬ ((0 : Int) ≤ n ∧ n ≤ (200 : Int)) → ((((0 : Int) = 1 → ((R32 what ∧ (0 ≤ (10 : Int) ∧ (10 : Int) ≤ 1000) ∧ ((0 ≤ what ∧ what ≤ (10 : Int)) → (((cx S 204 6 = 0 ∨ cx S 204 6 = 1) ∧ (zz_J zpX1_play (zz_ret Q X 2 12) 38 [some (vr 100), none, some (vi n), some (vi what), some (vi seed), some (vi 0), none] [] ((2, f), cxW S 108 (cx S 204), L, P) (2, 12))))) ∧ (¬ (0 ≤ what ∧ what ≤ (10 : Int)) → X 4 ((2, f), S, L, P))))) ∧ ((0 : Int) = 0 → X 1 ((2, f), S, L, P)) ∧ ((0 : Int) = 0 ∨ (0 : Int) = 1)))))) : zz_J zpX1_play (zz_ret Q X 2 12) 0 [some (vr 100), some (vi seed), some (vi n), some (vi what), none, none, none] [] ((2, f), S, L, P) (0, 0) := zz_J.go [(38, [1, 6]), (86, [1, 6]), (112, [1, 2, 4, 6])] 400 h
theorem zwX1_play_38 {Q : Option zv → zz_M → Prop} {X : Nat → zz_M → Prop} {f : Nat → Nat × Nat} {S L : Nat → Nat → Int} {P : Nat → Nat → Option Nat} {x2 : Int} {x3 : Int} {x4 : Int} {x5 : Int} (h : R32 x5 ∧ (R32 x2 ∧ ((x2 ≤ x5 → zz_J zpX1_play (zz_ret Q X 2 12) 112 [some (vr 100), none, none, some (vi x3), none, some (vi x5), none] [] ((2, f), S, L, P) (2, 12)) ∧ (¬ x2 ≤ x5 → (scb (cx S 108) ∧ R32 (S 200 1) ∧ (ovR (S 200 1) (cx S 108) = true → (zz_J zpX1_play (zz_ret Q X 2 12) 112 [some (vr 100), none, none, some (vi x3), none, some (vi x5), none] [] ((2, f), S, L, P) (2, 12))) ∧ (ovR (S 200 1) (cx S 108) = false → ((0 ≤ (zand (zshr ((x4 * 1103515245) + 12345) 16) 32767) ∧ (zand (zshr ((x4 * 1103515245) + 12345) 16) 32767) < 2147483648) ∧ ((∃ (w_2 : Nat → Int) (rs_2 : List (Fc → Option Int)) (top_2 : Nat), wRel S w_2 ∧ mG w_2 ∧ whB w_2 16 = true ∧ rlI f S P top_2 rs_2 ∧ ruR w_2 rs_2 ∧ (∀ p_2, p_2 < 2 → prI S rs_2 p_2) ∧ scV (cx S 108) ∧ (-100 ≤ cx S 108 7 ∧ cx S 108 7 ≤ 100) ∧ (-100 ≤ cx S 108 8 ∧ cx S 108 8 ≤ 100) ∧ (0 ≤ ((zand (zshr ((x4 * 1103515245) + 12345) 16) 32767) % 100) ∧ ((zand (zshr ((x4 * 1103515245) + 12345) 16) 32767) % 100) < 100) ∧ (∀ (S_2 : Nat → Nat → Int) (P_2 : Nat → Nat → Option Nat), scnS S S_2 → scnP P P_2 → (zz_J zpX1_play (zz_ret Q X 2 12) 86 [some (vr 100), none, some (vi x2), some (vi x3), some (vi ((x4 * 1103515245) + 12345)), some (vi x5), none] [vi ((pkR w_2 (pyI w_2 (cx S 108)) ((zand (zshr ((x4 * 1103515245) + 12345) 16) 32767) % 100) : Nat) : Int)] ((2, f), S_2, L, P_2) (2, 12)))))))))))) : zz_J zpX1_play (zz_ret Q X 2 12) 38 [some (vr 100), none, some (vi x2), some (vi x3), some (vi x4), some (vi x5), none] [] ((2, f), S, L, P) (2, 12) := zz_J.go [(38, [1, 6]), (86, [1, 6]), (112, [1, 2, 4, 6])] 400 h
theorem zwX1_play_86 {Q : Option zv → zz_M → Prop} {X : Nat → zz_M → Prop} {f : Nat → Nat × Nat} {S L : Nat → Nat → Int} {P : Nat → Nat → Option Nat} {x2 : Int} {x3 : Int} {x4 : Int} {x5 : Int} {t0 : Int} (h : (R32 t0 ∧ R32 (2 : Int) ∧ (t0 ≤ (2 : Int) → (((0 ≤ t0 ∧ t0 ≤ 2) ∧ R32 (t0 - 2) ∧ (cx S 108 6 = 0 → t0 = 2 → 0 ≤ (t0 - 2) ∧ (t0 - 2) ≤ 9) ∧ scb (cx S 108) ∧ scV (cx S 108) ∧ ∃ w_2 : Nat → Int, wsc S w_2 ∧ wV w_2 ∧ (zz_J zpX1_play (zz_ret Q X 2 12) 38 [some (vr 100), none, some (vi x2), some (vi x3), some (vi x4), some (vi (x5 + 1)), none] [] ((2, f), cxW S 108 (crR w_2 (cx S 108) t0 (t0 - 2)), L, P) (2, 12))))) ∧ (¬ t0 ≤ (2 : Int) → (((0 ≤ (2 : Int) ∧ (2 : Int) ≤ 2) ∧ R32 (t0 - 2) ∧ (cx S 108 6 = 0 → (2 : Int) = 2 → 0 ≤ (t0 - 2) ∧ (t0 - 2) ≤ 9) ∧ scb (cx S 108) ∧ scV (cx S 108) ∧ ∃ w_3 : Nat → Int, wsc S w_3 ∧ wV w_3 ∧ (zz_J zpX1_play (zz_ret Q X 2 12) 38 [some (vr 100), none, some (vi x2), some (vi x3), some (vi x4), some (vi (x5 + 1)), none] [] ((2, f), cxW S 108 (crR w_3 (cx S 108) (2 : Int) (t0 - 2)), L, P) (2, 12))))))) : zz_J zpX1_play (zz_ret Q X 2 12) 86 [some (vr 100), none, some (vi x2), some (vi x3), some (vi x4), some (vi x5), none] [vi t0] ((2, f), S, L, P) (2, 12) := zz_J.go [(38, [1, 6]), (86, [1, 6]), (112, [1, 2, 4, 6])] 400 h
theorem zwX1_play_112 {Q : Option zv → zz_M → Prop} {X : Nat → zz_M → Prop} {f : Nat → Nat × Nat} {S L : Nat → Nat → Int} {P : Nat → Nat → Option Nat} {x3 : Int} {x5 : Int} (h : R32 x3 ∧ ((¬ x3 = 10 → ((0 ≤ x3 ∧ x3 ≤ 9) ∧ scb (cx S 108) ∧ (cx S 108 6 = 0 ∨ cx S 108 6 = 1) ∧ (Q (some (vi (tdR (cx S 108) x3))) ((2, f), S, L, P)))) ∧ (x3 = 10 → Q (some (vi x5)) ((2, f), S, L, P)))) : zz_J zpX1_play (zz_ret Q X 2 12) 112 [some (vr 100), none, none, some (vi x3), none, some (vi x5), none] [] ((2, f), S, L, P) (2, 12) := zz_J.go [(38, [1, 6]), (86, [1, 6]), (112, [1, 2, 4, 6])] 400 h

theorem pkF_lt {w : Nat → Int} {ix : Nat} {D : Int} (h : D < smR w ix 12) : ∀ (r i : Nat), i + (r + 1) = 12 → pkF w ix D (r + 1) i < 12
  | 0, i, hi => by
    have e : i = 11 := by omega
    subst e
    unfold pkF
    rw [if_pos h]
    decide
  | r + 1, i, hi => by
    unfold pkF
    split
    · omega
    · exact pkF_lt h r (i + 1) (by omega)
theorem py_go {n k : Int} : (pyT n k = 1 ↔ ¬ (0 ≤ n ∧ n ≤ 200)) ∧ (pyT n k = 2 ↔ (0 ≤ n ∧ n ≤ 200) ∧ ¬ (0 ≤ k ∧ k ≤ 10)) ∧ (pyT n k = 0 ↔ (0 ≤ n ∧ n ≤ 200) ∧ (0 ≤ k ∧ k ≤ 10)) := by
  unfold pyT
  split <;> (try split) <;> simp <;> omega
theorem zmX1_play (l : Launch) (hl : l.stackTraces = false) : mm_Spec l yX1_play (ws_ yX1_play cX1_play 7 (some .int)) (mm_rm 23 2 12) (zE zX1_play) := by
  refine zz_Met.J hl (by decide) (fun C G hnh => ztX1_play G hnh) ?_
  rintro as ⟨⟨t_, f⟩, S, L, P⟩ Q X h
  unfold zX1_play at h
  split at h
  rotate_left
  · exact h.elim
  rename_i h_ seed n what
  obtain ⟨e1_, e2_, h⟩ := mm_and2 h (fun q => q)
  cases mm_beq e1_
  cases mm_beq e2_
  try dsimp only at h
  refine ⟨rfl, ?_⟩
  obtain ⟨hn, hk, w, rs, top, hc, hB6, q1, q2, q0⟩ := h
  obtain ⟨b1, b2, b3, b4, b5⟩ := hc.bx
  obtain ⟨r1, r2, r0⟩ := @py_go n what
  have hc' := hc
  obtain ⟨h1, ⟨h2, h2b⟩, h3, ⟨h4, h5, h6⟩, ⟨h7, h8, h8b⟩, ⟨a, h9⟩, ⟨b', h10⟩, ⟨c', h11⟩⟩ := hc
  have x6 : cx S 204 6 = 0 ∨ cx S 204 6 = 1 := by
    rcases b2.2.2 with ⟨-, e⟩ | ⟨-, e, -⟩ | ⟨-, e, -⟩ <;> omega
  refine zwX1_play_0 ⟨hn, by decide, by decide, fun c => ⟨fun _ => ⟨hk, by decide, fun d => ⟨x6, ?_⟩, fun d => q2 (r2.mpr ⟨c, d⟩)⟩, fun e => absurd e (by decide), Or.inr rfl⟩, fun c => ⟨fun e => absurd e (by decide), fun _ => q1 (r1.mpr c), Or.inl rfl⟩⟩
  have q0 := q0 (r0.mpr ⟨c, d⟩)
  have zz : ∀ (T : Nat → Nat → Int) (PT : Nat → Nat → Option Nat), (∀ h k, ¬ (108 ≤ h ∧ h ≤ 111) → ¬ (h = 103 ∧ k = 1) → T h k = S h k) → scnP P PT → cZ S P w T PT := fun T PT u1 u2 => ⟨⟨sck_o fun h k g _ => u1 h k (by omega) (by omega), u2.sp⟩, by rw [u1 100 8 (by omega) (by omega)]; exact h3.imp id fun c => ⟨c.1, c.2.w rfl rfl fun h hh k => u1 h k (by omega) (by omega)⟩, ⟨a, h9.fr (u2 116 0 (by omega)) (u2 116 1 (by omega))⟩, ⟨b', h10.fr (u2 120 0 (by omega)) (u2 120 1 (by omega))⟩, ⟨c', h11.fr (u2 124 0 (by omega)) (u2 124 1 (by omega))⟩⟩
  obtain ⟨N, rfl⟩ : ∃ N : Nat, n = (N : Int) := ⟨n.toNat, by omega⟩
  rw [Int.toNat_natCast] at q0
  have t112 : ∀ (T : Nat → Nat → Int) (PT : Nat → Nat → Option Nat) (k : Nat) (z : Nat → Int), (∀ h k, ¬ (108 ≤ h ∧ h ≤ 111) → ¬ (h = 103 ∧ k = 1) → T h k = S h k) → scnP P PT → xE (cx T 108) z → scV z → scb (cx T 108) → pyR w N (nwW w) seed = (k, z) → zz_J zpX1_play (zz_ret Q X 2 12) 112 [some (vr 100), none, none, some (vi what), none, some (vi (k : Int)), none] [] ((2, f), T, L, PT) (2, 12) := by
    intro T PT k z u1 u2 hE hz hb e
    have q := q0 T PT (zz T PT u1 u2)
    rw [e] at q
    have y6 : cx T 108 6 = 0 ∨ cx T 108 6 = 1 := by
      rw [hE.2.2.2.2.2.2.1]
      rcases hz.2.2 with ⟨-, e⟩ | ⟨-, e, -⟩ | ⟨-, e, -⟩ <;> omega
    refine zwX1_play_112 ⟨hk, fun c => ⟨by omega, hb, y6, ?_⟩, fun c => q.1 c⟩
    rw [tdR_xE hE (by omega)]
    exact q.2 c
  have t38 : ∀ (m k : Nat) (s : Int) (T : Nat → Nat → Int) (PT : Nat → Nat → Option Nat) (z : Nat → Int), k + m = N → (∀ h k, ¬ (108 ≤ h ∧ h ≤ 111) → ¬ (h = 103 ∧ k = 1) → T h k = S h k) → scnP P PT → xE (cx T 108) z → scV z → xB 6 z → scb (cx T 108) → pyR w N (nwW w) seed = ((pyR w m z s).1 + k, (pyR w m z s).2) → zz_J zpX1_play (zz_ret Q X 2 12) 38 [some (vr 100), none, some (vi (N : Int)), some (vi what), some (vi s), some (vi (k : Int)), none] [] ((2, f), T, L, PT) (2, 12) := by
    intro m
    induction m with
    | zero =>
      intro k s T PT z hkm u1 u2 hE hz hzB hb e
      refine zwX1_play_38 ⟨by omega, by omega, fun _ => t112 T PT k z u1 u2 hE hz hb ?_, fun c => absurd (by omega) c⟩
      rw [e]
      show (0 + k, z) = (k, z)
      rw [Nat.zero_add]
    | succ m ih =>
      intro k s T PT z hkm u1 u2 hE hz hzB hb e
      have eG : T 200 1 = w 194 := by rw [u1 200 1 (by omega) (by omega)]; exact h1.1.1
      have v4 := h2.2.1.1
      have eov : ovR (T 200 1) (cx T 108) = ovR (w 194) z := by
        unfold ovR
        rw [eG, hE.2.2.2.2.2.2.2.1, hE.2.2.2.2.2.2.2.2]
      refine zwX1_play_38 ⟨by omega, by omega, fun c => absurd c (by omega), fun _ => ⟨hb, by omega, fun o => ?_, fun o => ?_⟩⟩
      · refine t112 T PT k z u1 u2 hE hz hb ?_
        rw [eov] at o
        rw [e]
        have : pyR w (m + 1) z s = (0, z) := by
          show (if ovR (w 194) z = true then _ else _) = _
          rw [if_pos o]
        rw [this]
        show (0 + k, z) = (k, z)
        rw [Nat.zero_add]
      · rw [eov] at o
        have eR : pyR w (m + 1) z s = ((pyR w m (rlR w z (pkR w (pyI w z) (drw (1103515245 * s + 12345)))) (1103515245 * s + 12345)).1 + 1, (pyR w m (rlR w z (pkR w (pyI w z) (drw (1103515245 * s + 12345)))) (1103515245 * s + 12345)).2) := by
          show (if ovR (w 194) z = true then _ else _) = _
          rw [if_neg (by rw [o]; decide)]
        have hV' := scV_xE hz hE
        have es : s * 1103515245 + 12345 = 1103515245 * s + 12345 := by omega
        have ed : zand (zshr (1103515245 * s + 12345) 16) 32767 % 100 = drw (1103515245 * s + 12345) := by
          rw [drw_sh]
          rfl
        have hD := drw_in (1103515245 * s + 12345)
        have hz2 := zand_in (zshr (1103515245 * s + 12345) 16) (m := 32767) (by decide) (by decide)
        rw [es, ed]
        have y7 := hE.2.2.2.2.2.2.2.1
        have y8 := hE.2.2.2.2.2.2.2.2
        have z7 := hzB.2.2.1
        have z8 := hzB.2.2.2.1
        have wT : wRel T w := h1.fr fun h k _ _ => u1 h k (by omega) (by omega)
        have kS : skE S T := sck_o fun h k g _ => u1 h k (by omega) (by omega)
        refine ⟨by omega, w, rs, top, wT, h2, h2b, h4.sk kS u2.sp, h5, fun p hp => ?_, hV', by omega, by omega, hD, fun S2 P2 f2 g2 => ?_⟩
        · have := h6 p hp
          unfold prI at this ⊢
          rw [u1 203 p (by omega) (by omega)]
          exact this
        rw [pyI_xE hE hz]
        rw [eR] at e
        generalize hs2 : 1103515245 * s + 12345 = s2 at *
        generalize hDD : drw s2 = D at *
        have hpk : pkR w (pyI w z) D < 12 := by
          have sa := stR_in w z (z 2).toNat
          have sb := stR_in w z (1 - z 2).toNat
          refine pkF_lt (ix := pyI w z) ?_ 11 0 rfl
          have e12 := whB_t.mp h2b (4 * stR w z (z 2).toNat + stR w z (1 - z 2).toNat).toNat (by omega)
          have ei : pyI w z = 12 * (4 * stR w z (z 2).toNat + stR w z (1 - z 2).toNat).toNat := by
            unfold pyI
            omega
          rw [ei, e12]
          exact hD.2
        generalize hoo : pkR w (pyI w z) D = o2 at *
        have x2 : cx S2 108 = cx T 108 := cx_fr fun h k g1 g2 => f2 h k (by omega)
        have w2 : wRel S2 w := wT.fr fun h k _ _ => f2 h k (by omega)
        have z36 : z 6 = 0 ∨ z 6 = 1 := by
          rcases hz.2.2 with ⟨a, b⟩ | ⟨a, b, -⟩ | ⟨a, b, -⟩ <;> omega
        have key : ∀ how line : Int, 0 ≤ how → how ≤ 2 → (how = 2 → 0 ≤ line ∧ line ≤ 9) → rlR w z (clH z how line) = rlR w z (o2 : Int) → zz_J zpX1_play (zz_ret Q X 2 12) 38 [some (vr 100), none, some (vi (N : Int)), some (vi what), some (vi s2), some (vi ((k : Int) + 1)), none] [] ((2, f), cxW S2 108 (crR w (cx S2 108) how line), L, P2) (2, 12) := by
          intro how line g0 g1 gl hr
          have hcE := (cr_xE (w := w) hz hE g0 g1 (fun _ => gl)).2
          rw [hr] at hcE
          have hV2 : scV (rlR w z (o2 : Int)) := rlR_V h2.2.1 hz (by omega) (by omega) (fun _ => by omega)
          have hB7 : xB 6 (rlR w z (o2 : Int)) := rlR_B hz (xB5 h2.2.1 hzB o) (by omega) (by omega)
          have n9 := cx_9 T 108
          have hb3 := crR_b (w := w) hV' hb n9 (fun _ => gl) hcE hV2 hB7
          have ecx : cx (cxW S2 108 (crR w (cx T 108) how line)) 108 = crR w (cx T 108) how line := cx_cxW S2 108 _ (crR_9 hV'.2.1 n9)
          rw [x2]
          refine ih (k + 1) s2 _ P2 (rlR w z (o2 : Int)) (by omega) (fun h j a1 a2 => ?_) (fun h j a1 => by rw [g2 h j a1, u2 h j a1]) (by rw [ecx]; exact hcE) hV2 hB7 (by rw [ecx]; exact hb3) ?_
          · rw [cxW_o S2 108 _ (by omega) (by omega) (by omega) (by omega), f2 h j a2]
            exact u1 h j a1 a2
          · rw [e, Nat.add_assoc, Nat.add_comm 1 k]
        refine zwX1_play_86 ⟨by omega, by decide, fun c => ⟨by omega, by omega, fun _ _ => by omega, by rw [x2]; exact hb, by rw [x2]; exact hV', w, w2.1, h2.2.1, key _ _ (by omega) (by omega) (fun _ => by omega) ?_⟩, fun c => ⟨by decide, by omega, fun _ _ => by omega, by rw [x2]; exact hb, by rw [x2]; exact hV', w, w2.1, h2.2.1, key _ _ (by decide) (by decide) (fun _ => by omega) ?_⟩⟩
        · by_cases e2 : (o2 : Int) < 2
          · unfold clH
            rw [if_pos e2]
          · have e3 : (o2 : Int) = 2 := by omega
            have := (clH_rl w z (line := (o2 : Int) - 2) (by omega) (by omega) z36).1
            rw [e3] at this ⊢
            exact this
        · have := (clH_rl w z (line := (o2 : Int) - 2) (by omega) (by omega) z36).1
          rw [show 2 + ((o2 : Int) - 2) = o2 by omega] at this
          exact this
  have ex : cx (cxW S 108 (cx S 204)) 108 = cx S 204 := cx_cxW S 108 _ (cx_9 S 204)
  exact t38 N 0 seed _ P (nwW w) (by omega) (fun h k g _ => by rw [cxW_o S 108 _ (by omega) (by omega) (by omega) (by omega)]) (fun _ _ _ => rfl) (by rw [ex]; exact h7) h8 hB6 (by rw [ex]; exact h8b) rfl
