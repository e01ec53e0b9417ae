/-! ===== the styles at all scores ===== -/
set_option maxRecDepth 100000
/-- cells that stylesAll works with -/
def syk (h k : Nat) : Bool := (Nat.ble 103 h && Nat.ble h 115) || (Nat.beq h 100 && Nat.beq k 8)
def syE (S S' : Nat → Nat → Int) : Prop := ∀ h k, syk h k = false → S' h k = S h k
/-- cells that are worked with and forgotten -/
def sck (h k : Nat) : Bool := (Nat.ble 103 h && Nat.ble h 140) || (Nat.beq h 100 && Nat.beq k 8)
def spk (h k : Nat) : Bool := (Nat.beq h 103 && Nat.beq k 0) || ((Nat.beq h 116 || Nat.beq h 120 || Nat.beq h 124) && Nat.ble k 1)
def skE (S S' : Nat → Nat → Int) : Prop := ∀ h k, sck h k = false → S' h k = S h k
def spE (P P' : Nat → Nat → Option Nat) : Prop := ∀ h k, spk h k = false → P' h k = P h k
theorem syE.sk {S S' : Nat → Nat → Int} (q : syE S S') : skE S S' := fun h k e => q h k (by
  unfold sck at e
  unfold syk
  rw [Bool.or_eq_false_iff] at e ⊢
  refine ⟨?_, e.2⟩
  have e1 := e.1
  rw [Bool.and_eq_false_iff] at e1 ⊢
  refine e1.imp id (fun e1 => ?_)
  cases q : Nat.ble h 115 with
  | false => rfl
  | true =>
    have := Nat.le_of_ble_eq_true q
    rw [Nat.ble_eq_true_of_le (by omega : h ≤ 140)] at e1
    cases e1)
theorem scnP.sp {P P' : Nat → Nat → Option Nat} (q : scnP P P') : spE P P' := fun h k e => q h k (by
  rintro ⟨rfl, rfl⟩
  cases e)
theorem rlI.fr {f f' : Nat → Nat × Nat} {S S' : Nat → Nat → Int} {P P' : Nat → Nat → Option Nat} {top : Nat} {rs : List (Fc → Option Int)} (q : rlI f S P top rs) (hS : S' 202 2 = S 202 2) (hP : P' 202 1 = P 202 1) (ag : agR 2000 top f S P f' S' P') : rlI f' S' P' top rs := by
  obtain ⟨q1, q2, q3, q4⟩ := q
  refine ⟨q1, by rw [hS]; exact q2, q3, fun ne => ?_⟩
  obtain ⟨e, n, l, r1, r2, r3, r4, r5, r6, r7, r8⟩ := q4 ne
  obtain ⟨b1, b2, b3⟩ := ag e r1.2.1 r1.2.2
  exact ⟨e, n, l, r1, by rw [hP]; exact r2, by rw [b1]; exact r3, r4, r5, r6, fun i x hx => by rw [b3]; exact r7 i x hx, fun i x r h1 h2 => (r8 i x r h1 h2).fr ag⟩
theorem sck_hi {h k : Nat} (e : 2000 ≤ h) : sck h k = false := by
  unfold sck
  have a : Nat.ble h 140 = false := by
    cases q : Nat.ble h 140 with
    | false => rfl
    | true => have := Nat.le_of_ble_eq_true q; omega
  have b : Nat.beq h 100 = false := by
    cases q : Nat.beq h 100 with
    | false => rfl
    | true => have := Nat.eq_of_beq_eq_true q; omega
  rw [a, b, Bool.and_false]
  rfl
theorem spk_hi {h k : Nat} (e : 2000 ≤ h) : spk h k = false := by
  unfold spk
  have b : ∀ n, n < 2000 → Nat.beq h n = false := fun n hn => by
    cases q : Nat.beq h n with
    | false => rfl
    | true => have := Nat.eq_of_beq_eq_true q; omega
  rw [b 103 (by decide), b 116 (by decide), b 120 (by decide), b 124 (by decide)]
  rfl
theorem ag_sk {f : Nat → Nat × Nat} {S S' : Nat → Nat → Int} {P P' : Nat → Nat → Option Nat} {lo top : Nat} (hl : 2000 ≤ lo) (hS : skE S S') (hP : spE P P') : agR lo top f S P f S' P' := fun h h1 _ => ⟨rfl, funext fun k => hS h k (sck_hi (by omega)), funext fun k => hP h k (spk_hi (by omega))⟩
theorem rlI.sk {f : Nat → Nat × Nat} {S S' : Nat → Nat → Int} {P P' : Nat → Nat → Option Nat} {top : Nat} {rs : List (Fc → Option Int)} (q : rlI f S P top rs) (hS : skE S S') (hP : spE P P') : rlI f S' P' top rs := q.fr (hS 202 2 rfl) (hP 202 1 rfl) (ag_sk (Nat.le_refl _) hS hP)
/-- the rules are those that the row tells -/
def ruR (w : Nat → Int) (rs : List (Fc → Option Int)) : Prop := ∀ (i : Nat) (r : Fc → Option Int), rs[i]? = some r → ∃ c, ruP (trT w i) (trN w i) = .inr c ∧ r = c.2
/-- the score that is now -/
def nwW (w : Nat → Int) : Nat → Int := fun k => if k < 9 then w (201 + k) else 0
theorem sy_st {S : Nat → Nat → Int} {w : Nat → Int} {rs : List (Fc → Option Int)} {p : Nat} {x : Nat → Int} (hr : ruR w rs) (hp : prI S rs p) (h3 : S 203 p = w (199 + p)) : syV S rs p (fcX x p) = stR w x p := by
  unfold syV stR
  rw [h3]
  by_cases hn : w (199 + p) = -1
  · rw [if_pos hn, if_pos hn]
  · rw [if_neg hn, if_neg hn]
    obtain ⟨h0, h1⟩ := hp.resolve_left (by rw [h3]; exact hn)
    rw [h3] at h0 h1
    have hj : (w (199 + p)).toNat < rs.length := by omega
    have hg : rs[(w (199 + p)).toNat]? = some rs[(w (199 + p)).toNat] := List.getElem?_eq_getElem hj
    obtain ⟨c, hc, e⟩ := hr _ _ hg
    rw [hg]
    unfold ruV
    rw [hc, e]
theorem fc_isX {w x : Nat → Int} {c : Int} {p : Nat} (h7 : x 7 = w 208) (h8 : x 8 = w 209) (hp : p < 2) : fcX (isX x c) p = fcX (scX w c) p := by
  have hz := isX_z w x c
  have e7 : isX x c 7 = scX w c 7 := h7
  have e8 : isX x c 8 = scX w c 8 := h8
  funext k
  unfold fcX
  have p2 : p = 0 ∨ p = 1 := by omega
  rw [hz p (by omega), hz (1 - p) (by omega), hz 3 (by decide), hz 4 (by decide), hz 2 (by decide), hz 6 (by decide)]
  rcases p2 with e | e <;> subst e
  · rw [show 7 + 0 = 7 from rfl, e7]
  · rw [show 7 + 1 = 8 from rfl, e8]
def zX1_stylesAll : zz_Sp := fun as M Q X => match as with
  | [.inr (.inr (some h_))] => bif Nat.beq h_ 100 && Nat.beq M.1.1 2 then (∃ (w_ : Nat → Int) (rs_ : List (Fc → Option Int)) (top_ : Nat), wRel M.2.1 w_ ∧ wV w_ ∧ (M.2.1 100 8 = 0 ∨ (M.2.1 100 8 = 1 ∧ lT M.2.1 w_)) ∧ rlI M.1.2 M.2.1 M.2.2.2 top_ rs_ ∧ ruR w_ rs_ ∧ (∀ p_, p_ < 2 → prI M.2.1 rs_ p_) ∧ (cx M.2.1 204 6 = 0 ∨ cx M.2.1 204 6 = 1) ∧ cx M.2.1 204 7 = w_ 208 ∧ cx M.2.1 204 8 = w_ 209 ∧ (0 ≤ w_ 208 ∧ w_ 208 ≤ 6) ∧ (0 ≤ w_ 209 ∧ w_ 209 ≤ 6) ∧ (∀ (S_ : Nat → Nat → Int) (P_ : Nat → Nat → Option Nat), syE M.2.1 S_ → scnP M.2.2.2 P_ → S_ 100 8 = 1 → lT S_ w_ → styE S_ (stT w_) → Q none ((2, M.1.2), S_, M.2.2.1, P_))) else False
  | _ => False

def zpX1_stylesAll : zz_P := [(0, zo_ald 1 0), (1, zo_callv 4 1 0 zX1_learns), (4, zo_c 5 (vi 0)), (5, zo_ist 6 1), (6, zo_ild 7 1), (7, zo_c 10 (vi 15488)), (10, zo_cge false true 13 97), (13, zo_ald 14 0), (14, zo_get 17 0 2 6), (17, zo_ild 18 1), (18, zo_bald 19), (19, zo_ifne false 22 25), (22, zo_goto 91), (25, zo_ald 26 0), (26, zo_get 29 0 2 9), (29, zo_ald 30 0), (30, zo_get 33 0 2 0), (33, zo_get 36 1 2 9), (36, zo_callv 39 2 2 zX3_takes_204108), (39, zo_pop 40), (40, zo_ald 41 0), (41, zo_get 44 0 2 9), (44, zo_ild 45 1), (45, zo_callv 48 2 2 zX3_is_108), (48, zo_pop 49), (49, zo_ald 50 0), (50, zo_get 53 0 2 7), (53, zo_ild 54 1), (54, zo_c 55 (vi 4)), (55, zo_ald 56 0), (56, zo_ald 57 0), (57, zo_get 60 0 2 9), (60, zo_ald 61 0), (61, zo_get 64 0 2 9), (64, zo_get 67 2 0 3), (67, zo_callv 70 3 0 zX1_styleOf), (70, zo_imul 71), (71, zo_ald 72 0), (72, zo_ald 73 0), (73, zo_get 76 0 2 9), (76, zo_c 77 (vi 1)), (77, zo_ald 78 0), (78, zo_get 81 0 2 9), (81, zo_get 84 2 0 3), (84, zo_isub 85), (85, zo_callv 88 3 0 zX1_styleOf), (88, zo_iadd 89), (89, zo_i2b 90), (90, zo_bast 91), (91, zo_inc 94 1 1), (94, zo_goto 6), (97, zo_vret)]
theorem ztX1_stylesAll {C : mm_C} (G : mm_G C RX1 cX1_stylesAll none 2 (mm_rm 22 0 0)) (hnh : mm_nh C) : zz_OKs C zpX1_stylesAll :=
  ⟨zz_of (ok_aload_n G dX1_stylesAll_0 rfl rfl) (z_ald _ _),
   zz_of (ok_callv G hnh (zmX1_learns _ G.hst) rfl rfl (RX1, TX1, 19) rfl q1582 q1584 qs24 q82 q1585 (by decide +kernel) ⟨by decide, by decide⟩ dX1_stylesAll_1 rfl) (z_callv _ _ _ _),
   zz_of (ok_iconst G (v := 0) dX1_stylesAll_4 (by decide) rfl) (z_cn 5 0),
   zz_of (ok_istore_n G dX1_stylesAll_5 rfl rfl (by decide)) (z_ist _ _),
   zz_of (ok_iload_n G dX1_stylesAll_6 rfl rfl) (z_ild _ _),
   zz_of (ok_sipush G (v := 15488) dX1_stylesAll_7 (by decide) rfl) (z_cn 10 15488),
   zz_of (ok_cge G dX1_stylesAll_10 rfl rfl) (z_cge _ _ _ _),
   zz_of (ok_aload_n G dX1_stylesAll_13 rfl rfl) (z_ald _ _),
   zz_of (ok_get G (nx := 17) (ci := 0) (kd := 2) (k := 6) (RX1, TX1, 19) rfl (by decide) rfl q411 dX1_stylesAll_14 rfl) (z_get _ _ _ _),
   zz_of (ok_iload_n G dX1_stylesAll_17 rfl rfl) (z_ild _ _),
   zz_of (ok_bald G dX1_stylesAll_18 rfl) (z_bald _),
   zz_of (ok_ifne G dX1_stylesAll_19 rfl rfl) (z_ifne _ _ _),
   zz_of (ok_goto G dX1_stylesAll_22 rfl) (z_goto _),
   zz_of (ok_aload_n G dX1_stylesAll_25 rfl rfl) (z_ald _ _),
   zz_of (ok_get G (nx := 29) (ci := 0) (kd := 2) (k := 9) (RX1, TX1, 19) rfl (by decide) rfl q418 dX1_stylesAll_26 rfl) (z_get _ _ _ _),
   zz_of (ok_aload_n G dX1_stylesAll_29 rfl rfl) (z_ald _ _),
   zz_of (ok_get G (nx := 33) (ci := 0) (kd := 2) (k := 0) (RX1, TX1, 19) rfl (by decide) rfl q399 dX1_stylesAll_30 rfl) (z_get _ _ _ _),
   zz_of (ok_getN G (nx := 36) (ci := 1) (kd := 2) (k := 9) (RX2, TX2, 11) rfl (by decide) rfl q240 dX1_stylesAll_33 rfl) (z_get _ _ _ _),
   zz_of (ok_callv G hnh (zmX3_takes_204108 _ G.hst) rfl rfl (RX3, TX3, 7) rfl q1591 q580 q581 q87 q582 (by decide +kernel) ⟨by decide, by decide⟩ dX1_stylesAll_36 rfl) (z_callv _ _ _ _),
   zz_of (ok_pop G dX1_stylesAll_39 rfl) (z_pop _),
   zz_of (ok_aload_n G dX1_stylesAll_40 rfl rfl) (z_ald _ _),
   zz_of (ok_get G (nx := 44) (ci := 0) (kd := 2) (k := 9) (RX1, TX1, 19) rfl (by decide) rfl q418 dX1_stylesAll_41 rfl) (z_get _ _ _ _),
   zz_of (ok_iload_n G dX1_stylesAll_44 rfl rfl) (z_ild _ _),
   zz_of (ok_callv G hnh (zmX3_is_108 _ G.hst) rfl rfl (RX3, TX3, 7) rfl q1586 q1587 q1588 q87 q1589 (by decide +kernel) ⟨by decide, by decide⟩ dX1_stylesAll_45 rfl) (z_callv _ _ _ _),
   zz_of (ok_pop G dX1_stylesAll_48 rfl) (z_pop _),
   zz_of (ok_aload_n G dX1_stylesAll_49 rfl rfl) (z_ald _ _),
   zz_of (ok_get G (nx := 53) (ci := 0) (kd := 2) (k := 7) (RX1, TX1, 19) rfl (by decide) rfl q414 dX1_stylesAll_50 rfl) (z_get _ _ _ _),
   zz_of (ok_iload_n G dX1_stylesAll_53 rfl rfl) (z_ild _ _),
   zz_of (ok_iconst G (v := 4) dX1_stylesAll_54 (by decide) rfl) (z_cn 55 4),
   zz_of (ok_aload_n G dX1_stylesAll_55 rfl rfl) (z_ald _ _),
   zz_of (ok_aload_n G dX1_stylesAll_56 rfl rfl) (z_ald _ _),
   zz_of (ok_get G (nx := 60) (ci := 0) (kd := 2) (k := 9) (RX1, TX1, 19) rfl (by decide) rfl q418 dX1_stylesAll_57 rfl) (z_get _ _ _ _),
   zz_of (ok_aload_n G dX1_stylesAll_60 rfl rfl) (z_ald _ _),
   zz_of (ok_get G (nx := 64) (ci := 0) (kd := 2) (k := 9) (RX1, TX1, 19) rfl (by decide) rfl q418 dX1_stylesAll_61 rfl) (z_get _ _ _ _),
   zz_of (ok_getN G (nx := 67) (ci := 2) (kd := 0) (k := 3) (RX3, TX3, 7) rfl (by decide) rfl q189 dX1_stylesAll_64 rfl) (z_get _ _ _ _),
   zz_of (ok_callv G hnh (zmX1_styleOf _ G.hst) rfl rfl (RX1, TX1, 19) rfl q1377 q1379 qs17 q82 q1380 (by decide +kernel) ⟨by decide, by decide⟩ dX1_stylesAll_67 rfl) (z_callv _ _ _ _),
   zz_of (ok_imul G dX1_stylesAll_70 rfl) (z_imul _),
   zz_of (ok_aload_n G dX1_stylesAll_71 rfl rfl) (z_ald _ _),
   zz_of (ok_aload_n G dX1_stylesAll_72 rfl rfl) (z_ald _ _),
   zz_of (ok_get G (nx := 76) (ci := 0) (kd := 2) (k := 9) (RX1, TX1, 19) rfl (by decide) rfl q418 dX1_stylesAll_73 rfl) (z_get _ _ _ _),
   zz_of (ok_iconst G (v := 1) dX1_stylesAll_76 (by decide) rfl) (z_cn 77 1),
   zz_of (ok_aload_n G dX1_stylesAll_77 rfl rfl) (z_ald _ _),
   zz_of (ok_get G (nx := 81) (ci := 0) (kd := 2) (k := 9) (RX1, TX1, 19) rfl (by decide) rfl q418 dX1_stylesAll_78 rfl) (z_get _ _ _ _),
   zz_of (ok_getN G (nx := 84) (ci := 2) (kd := 0) (k := 3) (RX3, TX3, 7) rfl (by decide) rfl q189 dX1_stylesAll_81 rfl) (z_get _ _ _ _),
   zz_of (ok_isub G dX1_stylesAll_84 rfl) (z_isub _),
   zz_of (ok_callv G hnh (zmX1_styleOf _ G.hst) rfl rfl (RX1, TX1, 19) rfl q1377 q1379 qs17 q82 q1380 (by decide +kernel) ⟨by decide, by decide⟩ dX1_stylesAll_85 rfl) (z_callv _ _ _ _),
   zz_of (ok_iadd G dX1_stylesAll_88 rfl) (z_iadd _),
   zz_of (ok_i2b G dX1_stylesAll_89 rfl) (z_i2b _),
   zz_of (ok_bast G dX1_stylesAll_90 rfl) (z_bast _),
   zz_of (ok_iinc G (v := 1) dX1_stylesAll_91 (by decide) rfl (by decide)) (z_incn 94 1 1),
   zz_of (ok_goto G dX1_stylesAll_94 rfl) (z_goto _),
   zz_of (ok_vret G dX1_stylesAll_97) (z_vret), trivial⟩

theorem zwX1_stylesAll_0 {Q : Option zv → zz_M → Prop} {X : Nat → zz_M → Prop} {f : Nat → Nat × Nat} {S L : Nat → Nat → Int} {P : Nat → Nat → Option Nat}  (h : (∃ w_1 : Nat → Int, wsc S w_1 ∧ wV w_1 ∧ (S 100 8 = 0 ∨ (S 100 8 = 1 ∧ lT S w_1)) ∧ (∀ S_1 : Nat → Nat → Int, lnQ S S_1 w_1 → (zz_J zpX1_stylesAll (zz_ret Q X 0 0) 6 [some (vr 100), some (vi 0)] [] ((2, f), S_1, L, P) (0, 0))))) : zz_J zpX1_stylesAll (zz_ret Q X 0 0) 0 [some (vr 100), none] [] ((2, f), S, L, P) (0, 0) := zz_J.go [(6, [])] 400 h
theorem zwX1_stylesAll_6 {Q : Option zv → zz_M → Prop} {X : Nat → zz_M → Prop} {f : Nat → Nat × Nat} {S L : Nat → Nat → Int} {P : Nat → Nat → Option Nat} {x1 : Int} (h : R32 x1 ∧ ((15488 ≤ x1 → Q none ((2, f), S, L, P)) ∧ (¬ 15488 ≤ x1 → (0 ≤ x1 ∧ x1 < 15488) ∧ (R32 (S 106 x1.toNat) ∧ ((¬ (S 106 x1.toNat) = 0 → ((cx S 204 6 = 0 ∨ cx S 204 6 = 1) ∧ (((0 ≤ x1 ∧ x1 < 15488) ∧ (cbR x1 = true → ((∃ (rs_3 : List (Fc → Option Int)) (top_3 p_3 : Nat), rlI f (cxW (cxW S 108 (cx S 204)) 108 (isX (cx (cxW S 108 (cx S 204)) 108) x1)) P top_3 rs_3 ∧ prI (cxW (cxW S 108 (cx S 204)) 108 (isX (cx (cxW S 108 (cx S 204)) 108) x1)) rs_3 p_3 ∧ ((cxW (cxW S 108 (cx S 204)) 108 (isX (cx (cxW S 108 (cx S 204)) 108) x1)) 108 3) = (p_3 : Int) ∧ p_3 < 2 ∧ (108 = 204 ∨ 108 = 108) ∧ scV (cx (cxW (cxW S 108 (cx S 204)) 108 (isX (cx (cxW S 108 (cx S 204)) 108) x1)) 108) ∧ (-100 ≤ cx (cxW (cxW S 108 (cx S 204)) 108 (isX (cx (cxW S 108 (cx S 204)) 108) x1)) 108 7 ∧ cx (cxW (cxW S 108 (cx S 204)) 108 (isX (cx (cxW S 108 (cx S 204)) 108) x1)) 108 7 ≤ 100) ∧ (-100 ≤ cx (cxW (cxW S 108 (cx S 204)) 108 (isX (cx (cxW S 108 (cx S 204)) 108) x1)) 108 8 ∧ cx (cxW (cxW S 108 (cx S 204)) 108 (isX (cx (cxW S 108 (cx S 204)) 108) x1)) 108 8 ≤ 100) ∧ (∀ (S_3 : Nat → Nat → Int) (P_3 : Nat → Nat → Option Nat), scnS (cxW (cxW S 108 (cx S 204)) 108 (isX (cx (cxW S 108 (cx S 204)) 108) x1)) S_3 → scnP P P_3 → ((∃ (rs_4 : List (Fc → Option Int)) (top_4 p_4 : Nat), rlI f S_3 P_3 top_4 rs_4 ∧ prI S_3 rs_4 p_4 ∧ (1 - (S_3 108 3)) = (p_4 : Int) ∧ p_4 < 2 ∧ (108 = 204 ∨ 108 = 108) ∧ scV (cx S_3 108) ∧ (-100 ≤ cx S_3 108 7 ∧ cx S_3 108 7 ≤ 100) ∧ (-100 ≤ cx S_3 108 8 ∧ cx S_3 108 8 ≤ 100) ∧ (∀ (S_4 : Nat → Nat → Int) (P_4 : Nat → Nat → Option Nat), scnS S_3 S_4 → scnP P_3 P_4 → ((-128 ≤ (zbyte ((4 * (syV (cxW (cxW S 108 (cx S 204)) 108 (isX (cx (cxW S 108 (cx S 204)) 108) x1)) rs_3 p_3 (fcX (cx (cxW (cxW S 108 (cx S 204)) 108 (isX (cx (cxW S 108 (cx S 204)) 108) x1)) 108) p_3))) + (syV S_3 rs_4 p_4 (fcX (cx S_3 108) p_4)))) ∧ (zbyte ((4 * (syV (cxW (cxW S 108 (cx S 204)) 108 (isX (cx (cxW S 108 (cx S 204)) 108) x1)) rs_3 p_3 (fcX (cx (cxW (cxW S 108 (cx S 204)) 108 (isX (cx (cxW S 108 (cx S 204)) 108) x1)) 108) p_3))) + (syV S_3 rs_4 p_4 (fcX (cx S_3 108) p_4)))) ≤ 127) ∧ (0 ≤ x1 ∧ x1 < 15488) ∧ (zz_J zpX1_stylesAll (zz_ret Q X 0 0) 6 [some (vr 100), some (vi (x1 + 1))] [] ((2, f), mm_up S_4 107 x1.toNat (zbyte ((4 * (syV (cxW (cxW S 108 (cx S 204)) 108 (isX (cx (cxW S 108 (cx S 204)) 108) x1)) rs_3 p_3 (fcX (cx (cxW (cxW S 108 (cx S 204)) 108 (isX (cx (cxW S 108 (cx S 204)) 108) x1)) 108) p_3))) + (syV S_3 rs_4 p_4 (fcX (cx S_3 108) p_4)))), L, P_4) (0, 0)))))))))) ∧ (cbR x1 = false → ((∃ (rs_5 : List (Fc → Option Int)) (top_5 p_5 : Nat), rlI f (cxW (cxW S 108 (cx S 204)) 108 (isX (cx (cxW S 108 (cx S 204)) 108) x1)) P top_5 rs_5 ∧ prI (cxW (cxW S 108 (cx S 204)) 108 (isX (cx (cxW S 108 (cx S 204)) 108) x1)) rs_5 p_5 ∧ ((cxW (cxW S 108 (cx S 204)) 108 (isX (cx (cxW S 108 (cx S 204)) 108) x1)) 108 3) = (p_5 : Int) ∧ p_5 < 2 ∧ (108 = 204 ∨ 108 = 108) ∧ scV (cx (cxW (cxW S 108 (cx S 204)) 108 (isX (cx (cxW S 108 (cx S 204)) 108) x1)) 108) ∧ (-100 ≤ cx (cxW (cxW S 108 (cx S 204)) 108 (isX (cx (cxW S 108 (cx S 204)) 108) x1)) 108 7 ∧ cx (cxW (cxW S 108 (cx S 204)) 108 (isX (cx (cxW S 108 (cx S 204)) 108) x1)) 108 7 ≤ 100) ∧ (-100 ≤ cx (cxW (cxW S 108 (cx S 204)) 108 (isX (cx (cxW S 108 (cx S 204)) 108) x1)) 108 8 ∧ cx (cxW (cxW S 108 (cx S 204)) 108 (isX (cx (cxW S 108 (cx S 204)) 108) x1)) 108 8 ≤ 100) ∧ (∀ (S_5 : Nat → Nat → Int) (P_5 : Nat → Nat → Option Nat), scnS (cxW (cxW S 108 (cx S 204)) 108 (isX (cx (cxW S 108 (cx S 204)) 108) x1)) S_5 → scnP P P_5 → ((∃ (rs_6 : List (Fc → Option Int)) (top_6 p_6 : Nat), rlI f S_5 P_5 top_6 rs_6 ∧ prI S_5 rs_6 p_6 ∧ (1 - (S_5 108 3)) = (p_6 : Int) ∧ p_6 < 2 ∧ (108 = 204 ∨ 108 = 108) ∧ scV (cx S_5 108) ∧ (-100 ≤ cx S_5 108 7 ∧ cx S_5 108 7 ≤ 100) ∧ (-100 ≤ cx S_5 108 8 ∧ cx S_5 108 8 ≤ 100) ∧ (∀ (S_6 : Nat → Nat → Int) (P_6 : Nat → Nat → Option Nat), scnS S_5 S_6 → scnP P_5 P_6 → ((-128 ≤ (zbyte ((4 * (syV (cxW (cxW S 108 (cx S 204)) 108 (isX (cx (cxW S 108 (cx S 204)) 108) x1)) rs_5 p_5 (fcX (cx (cxW (cxW S 108 (cx S 204)) 108 (isX (cx (cxW S 108 (cx S 204)) 108) x1)) 108) p_5))) + (syV S_5 rs_6 p_6 (fcX (cx S_5 108) p_6)))) ∧ (zbyte ((4 * (syV (cxW (cxW S 108 (cx S 204)) 108 (isX (cx (cxW S 108 (cx S 204)) 108) x1)) rs_5 p_5 (fcX (cx (cxW (cxW S 108 (cx S 204)) 108 (isX (cx (cxW S 108 (cx S 204)) 108) x1)) 108) p_5))) + (syV S_5 rs_6 p_6 (fcX (cx S_5 108) p_6)))) ≤ 127) ∧ (0 ≤ x1 ∧ x1 < 15488) ∧ (zz_J zpX1_stylesAll (zz_ret Q X 0 0) 6 [some (vr 100), some (vi (x1 + 1))] [] ((2, f), mm_up S_6 107 x1.toNat (zbyte ((4 * (syV (cxW (cxW S 108 (cx S 204)) 108 (isX (cx (cxW S 108 (cx S 204)) 108) x1)) rs_5 p_5 (fcX (cx (cxW (cxW S 108 (cx S 204)) 108 (isX (cx (cxW S 108 (cx S 204)) 108) x1)) 108) p_5))) + (syV S_5 rs_6 p_6 (fcX (cx S_5 108) p_6)))), L, P_6) (0, 0)))))))))))))) ∧ ((S 106 x1.toNat) = 0 → zz_J zpX1_stylesAll (zz_ret Q X 0 0) 6 [some (vr 100), some (vi (x1 + 1))] [] ((2, f), S, L, P) (0, 0))))))) : zz_J zpX1_stylesAll (zz_ret Q X 0 0) 6 [some (vr 100), some (vi x1)] [] ((2, f), S, L, P) (0, 0) := zz_J.go [(6, [])] 400 h

theorem syk_lnk {h k : Nat} (e : syk h k = false) : lnk h k = false := by
  unfold syk at e
  rw [Bool.or_eq_false_iff] at e
  have e1 : ¬ (103 ≤ h ∧ h ≤ 115) := fun c => by
    have e := e.1
    rw [Nat.ble_eq_true_of_le c.1, Nat.ble_eq_true_of_le c.2] at e
    cases e
  have e2 : ¬ (h = 100 ∧ k = 8) := fun c => by
    have e := e.2
    rw [c.1, c.2] at e
    cases e
  unfold lnk
  rw [decide_eq_false (by omega : ¬ (h = 104 ∨ h = 105 ∨ h = 106)), decide_eq_false (by omega : ¬ (108 ≤ h ∧ h ≤ 115)), decide_eq_false e2]
  rfl
theorem syE.of {S T : Nat → Nat → Int} (h : ∀ h k, ¬ (103 ≤ h ∧ h ≤ 115) → ¬ (h = 100 ∧ k = 8) → T h k = S h k) : syE S T := by
  intro a b e
  unfold syk at e
  rw [Bool.or_eq_false_iff] at e
  refine h a b (fun c => ?_) (fun c => ?_)
  · have e := e.1
    rw [Nat.ble_eq_true_of_le c.1, Nat.ble_eq_true_of_le c.2] at e
    cases e
  · have e := e.2
    rw [c.1, c.2] at e
    cases e
theorem syE.to {S T : Nat → Nat → Int} (q : syE S T) {h k : Nat} (h1 : ¬ (103 ≤ h ∧ h ≤ 115)) (h2 : ¬ (h = 100 ∧ k = 8)) : T h k = S h k := by
  refine q h k ?_
  unfold syk
  rw [Bool.or_eq_false_iff]
  constructor
  · cases a : Nat.ble 103 h with
    | false => rfl
    | true =>
      cases b : Nat.ble h 115 with
      | false => rfl
      | true => exact absurd ⟨Nat.le_of_ble_eq_true a, Nat.le_of_ble_eq_true b⟩ h1
  · cases a : Nat.beq h 100 with
    | false => rfl
    | true =>
      cases b : Nat.beq k 8 with
      | false => rfl
      | true => exact absurd ⟨Nat.eq_of_beq_eq_true a, Nat.eq_of_beq_eq_true b⟩ h2
theorem zbyte_id {x : Int} (h0 : -128 ≤ x) (h1 : x ≤ 127) : zbyte x = x := by
  unfold zbyte
  rw [Int8.toInt_toInt32, Int32.toInt_toInt8, zI_toInt (by omega) (by omega)]
  exact Int.bmod_eq_of_le (by omega) (by omega)
theorem zmX1_stylesAll (l : Launch) (hl : l.stackTraces = false) : mm_Spec l yX1_stylesAll (ws_ yX1_stylesAll cX1_stylesAll 2 none) (mm_rm 22 0 0) (zE zX1_stylesAll) := by
  refine zz_Met.J hl (by decide) (fun C G hnh => ztX1_stylesAll G hnh) ?_
  rintro as ⟨⟨t_, f⟩, S, L, P⟩ Q X h
  unfold zX1_stylesAll at h
  split at h
  rotate_left
  · exact h.elim
  rename_i h_
  obtain ⟨e1_, e2_, h⟩ := mm_and2 h (fun q => q)
  cases mm_beq e1_
  cases mm_beq e2_
  try dsimp only at h
  refine ⟨rfl, ?_⟩
  obtain ⟨w, rs, top, hw, hv, hk, hrl, hru, hpr, h6, h7, h8, g7, g8, hq⟩ := h
  refine zwX1_stylesAll_0 ⟨w, hw.1, hv, hk, fun S1 hl => ?_⟩
  have e1 : syE S S1 := fun h k e => hl.1 h k (syk_lnk e)
  have h3 : ∀ p, p < 2 → S 203 p = w (199 + p) := by
    intro p hp
    have p2 : p = 0 ∨ p = 1 := by omega
    rcases p2 with e | e <;> subst e
    · exact hw.2.2.2.1
    · exact hw.2.2.2.2.1
  have t6 : ∀ (n c : Nat) (T : Nat → Nat → Int) (PT : Nat → Nat → Option Nat), c + n = 15488 → syE S T → scnP P PT → T 100 8 = 1 → lT T w → (∀ c' : Nat, c' < c → cbR (c' : Int) = true → T 107 c' = 4 * stT w (2 * c' + c' / 121 % 2) + stT w (2 * c' + 1 - c' / 121 % 2)) → zz_J zpX1_stylesAll (zz_ret Q X 0 0) 6 [some (vr 100), some (vi (c : Int))] [] ((2, f), T, L, PT) (0, 0) := by
    intro n
    induction n with
    | zero =>
      intro c T PT hc hT hP hkn hlT hst
      refine zwX1_stylesAll_6 ⟨by omega, fun _ => hq T PT hT hP hkn hlT (fun c' hc' hcb => hst c' (by omega) hcb), fun d => absurd (by omega) d⟩
    | succ n ih =>
      intro c T PT hc hT hP hkn hlT hst
      have ex : cx T 204 = cx S 204 := by
        unfold cx
        funext k
        rw [hT.to (h := 204 + 1) (by omega) (by omega), hT.to (h := 204 + 1) (by omega) (by omega), hT.to (h := 204) (by omega) (by omega), hT.to (h := 204) (by omega) (by omega), hT.to (h := 204 + 3) (by omega) (by omega), hT.to (h := 204 + 3) (by omega) (by omega), hT.to (h := 204) (by omega) (by omega), hT.to (h := 204 + 2) (by omega) (by omega), hT.to (h := 204 + 2) (by omega) (by omega)]
      have c0 : (0 : Int) ≤ c := by omega
      have c1 : (c : Int) < 15488 := by omega
      have h9 : ∀ j, 9 ≤ j → cx S 204 j = 0 := cx_9 S 204
      have ey : cx (cxW T 108 (cx S 204)) 108 = cx S 204 := cx_cxW T 108 _ h9
      have hs := (hlT c (by omega)).1
      refine zwX1_stylesAll_6 ⟨by omega, fun d => absurd d (by omega), fun _ => ⟨⟨c0, c1⟩, ?_⟩⟩
      rw [Int.toNat_natCast, ex, ey, cxW_cxW]
      generalize hU : cxW T 108 (isX (cx S 204) (c : Int)) = U
      have xU : cx U 108 = isX (cx S 204) (c : Int) := by rw [← hU]; exact cx_cxW T 108 _ (isX_9 _ _)
      have tU : ∀ h k, ¬ (108 ≤ h ∧ h ≤ 111) → U h k = T h k := fun h k hh => by rw [← hU, cxW_o T 108 _ (by omega) (by omega) (by omega) (by omega)]
      have sU : syE S U := syE.of fun h k a b => by rw [tU h k (by omega), hT.to a b]
      refine ⟨by rw [hs]; split <;> decide, fun ne => ?_, fun e0 => ?_⟩
      · have hcb : cbR (c : Int) = true := by
          rw [hs] at ne
          cases q : cbR (c : Int) with
          | true => rfl
          | false => rw [q] at ne; exact absurd rfl ne
        have hV := isX_V (cx S 204) c0 c1 hcb
        refine ⟨h6, ⟨c0, c1⟩, fun _ => ?_, fun e => by rw [hcb] at e; cases e⟩
        have esv : U 108 3 = ((c / 121 % 2 : Nat) : Int) := by
          have : cx U 108 2 = U 108 3 := rfl
          rw [← this, xU]
          have : isX (cx S 204) (c : Int) 2 = (c : Int) / 121 % 2 := rfl
          rw [this]
          omega
        have j7 : isX (cx S 204) (c : Int) 7 = w 208 := h7
        have j8 : isX (cx S 204) (c : Int) 8 = w 209 := h8
        have pU : ∀ {V : Nat → Nat → Int}, syE S V → ∀ p, p < 2 → prI V rs p := fun {V} hV p hp => by
          have := hpr p hp
          unfold prI at this ⊢
          rw [hV.to (by omega) (by omega)]
          exact this
        have vU : ∀ {V : Nat → Nat → Int}, syE S V → ∀ p, p < 2 → syV V rs p (fcX (isX (cx S 204) (c : Int)) p) = stR w (scX w (c : Int)) p := fun {V} hV p hp => by
          rw [fc_isX h7 h8 hp]
          exact sy_st hru (pU hV p hp) (by rw [hV.to (by omega) (by omega)]; exact h3 p hp)
        refine ⟨rs, top, c / 121 % 2, hrl.sk sU.sk hP.sp, pU sU _ (by omega), esv, by omega, Or.inr rfl, by rw [xU]; exact hV, by rw [xU, j7]; omega, by rw [xU, j8]; omega, fun S2 P2 hS2 hP2 => ?_⟩
        have sS2 : syE S S2 := syE.of fun h k a b => by rw [hS2 h k (by omega), sU.to a b]
        have x2 : cx S2 108 = isX (cx S 204) (c : Int) := by
          rw [← xU]
          unfold cx
          funext k
          rw [hS2 (108 + 1) 0 (by omega), hS2 (108 + 1) 1 (by omega), hS2 108 3 (by omega), hS2 108 4 (by omega), hS2 (108 + 3) 0 (by omega), hS2 (108 + 3) 1 (by omega), hS2 108 5 (by omega), hS2 (108 + 2) 0 (by omega), hS2 (108 + 2) 1 (by omega)]
        have pP2 : scnP P P2 := fun h k a => by rw [hP2 h k a, hP h k a]
        have esv2 : S2 108 3 = ((c / 121 % 2 : Nat) : Int) := by rw [hS2 108 3 (by omega)]; exact esv
        rw [esv2, x2, xU]
        refine ⟨rs, top, 1 - c / 121 % 2, hrl.sk sS2.sk pP2.sp, pU sS2 _ (by omega), by omega, by omega, Or.inr rfl, hV, by rw [j7]; omega, by rw [j8]; omega, fun S3 P3 hS3 hP3 => ?_⟩
        rw [vU sU _ (by omega), vU sS2 _ (by omega)]
        have sS3 : syE S S3 := syE.of fun h k a b => by rw [hS3 h k (by omega), sS2.to a b]
        have b1 := stR_in w (scX w (c : Int)) (c / 121 % 2)
        have b2 := stR_in w (scX w (c : Int)) (1 - c / 121 % 2)
        have eq1 : stT w (2 * c + c / 121 % 2) = stR w (scX w (c : Int)) (c / 121 % 2) := by
          unfold stT
          rw [show (2 * c + c / 121 % 2) / 2 = c by omega, show (2 * c + c / 121 % 2) % 2 = c / 121 % 2 by omega]
        have eq2 : stT w (2 * c + 1 - c / 121 % 2) = stR w (scX w (c : Int)) (1 - c / 121 % 2) := by
          unfold stT
          rw [show (2 * c + 1 - c / 121 % 2) / 2 = c by omega, show (2 * c + 1 - c / 121 % 2) % 2 = 1 - c / 121 % 2 by omega]
        rw [← eq1] at b1
        rw [← eq2] at b2
        rw [← eq1, ← eq2]
        rw [zbyte_id (by omega) (by omega)]
        refine ⟨by omega, ⟨c0, c1⟩, ?_⟩
        generalize hv2 : 4 * stT w (2 * c + c / 121 % 2) + stT w (2 * c + 1 - c / 121 % 2) = v
        have t3 : ∀ h k, ¬ (h = 103 ∧ k = 1) → ¬ (108 ≤ h ∧ h ≤ 111) → ¬ (h = 107 ∧ k = c) → mm_up S3 107 c v h k = T h k := fun h k a1 a2 a3 => by
          rw [up_eq, if_neg a3, hS3 h k a1, hS2 h k a1, tU h k a2]
        refine ih (c + 1) (mm_up S3 107 c v) P3 (by omega) (syE.of fun h k a b => ?_) (fun h k a => by rw [hP3 h k a, pP2 h k a]) ?_ ?_ (fun c' hc' hcb' => ?_)
        · rw [up_eq, if_neg (by omega)]
          exact sS3.to a b
        · rw [t3 100 8 (by omega) (by omega) (by omega)]
          exact hkn
        · exact hlT.w rfl rfl (fun h hh k => t3 h k (by omega) (by omega) (by omega))
        · by_cases e : c' = c
          · subst e
            rw [up_eq, if_pos ⟨rfl, rfl⟩]
            exact hv2.symm
          · rw [t3 107 c' (by omega) (by omega) (by omega)]
            exact hst c' (by omega) hcb'
      · have hcb : cbR (c : Int) = false := by
          rw [hs] at e0
          cases q : cbR (c : Int) with
          | false => rfl
          | true => rw [q] at e0; exact absurd e0 (by decide)
        refine ih (c + 1) T PT (by omega) hT hP hkn hlT (fun c' hc' hcb' => ?_)
        by_cases e : c' = c
        · subst e
          rw [hcb] at hcb'
          cases hcb'
        · exact hst c' (by omega) hcb'
  exact t6 15488 0 S1 P rfl e1 (fun _ _ _ => rfl) hl.2.1 hl.2.2 (fun c' hc' => absurd hc' (Nat.not_lt_zero _))
