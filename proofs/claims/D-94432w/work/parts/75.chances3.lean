/-! ===== the component's chances: going, more, after ===== -/
set_option maxRecDepth 100000
/-- the table by so many rallies: as styles are taken, or by the best of one -/
def kT (w st : Nat → Int) (p th ch : Int) : Nat → Nat → Int := if ch = -1 then tbR w st p th else bsT w st p.toNat
def chI (S : Nat → Nat → Int) (P : Nat → Nat → Option Nat) (q : Nat) (w st : Nat → Int) (a : Nat) (p th ch : Int) (i : Nat) : Prop :=
  (S q 3 = ch ∧ (ch = -1 ∨ (ch = p ∧ th = -1)) ∧ (p = 0 ∨ p = 1)) ∧ styE S st ∧ stG st ∧ cN P q a ∧ tbE S a (kT w st p th ch i) ∧ enE S q p th ∧ rwE S w ∧ lT S w ∧ mG w ∧ whB w 16 = true
theorem kT_G {w st : Nat → Int} {p th ch : Int} (hp : p = 0 ∨ p = 1) (hm : mG w) (hwh : whB w 16 = true) (hst : stG st) (i : Nat) : tbG (kT w st p th ch i) := by
  unfold kT
  split
  · exact tbR_G hm hwh hst i
  · exact bsT_G hm hwh hst (by omega) i
theorem bsI_0 {S : Nat → Nat → Int} {st : Nat → Int} {k p : Nat} (hsy : S 107 k = 4 * st (2 * k + k / 121 % 2) + st (2 * k + 1 - k / 121 % 2)) (hst : stG st) (hk : k < 15488) (hp : p < 2) (hne : ¬ k / 121 % 2 = p) (s : Int) : (12 * (4 * (S 107 k / 4) + s)).toNat = bsI st k p s := by
  have sA := hst (2 * k + k / 121 % 2) (by omega)
  have sB := hst (2 * k + 1 - k / 121 % 2) (by omega)
  unfold bsI
  rw [if_neg hne]
  have e9 : 2 * k + k / 121 % 2 = 2 * k + 1 - p := by omega
  rw [e9] at hsy sA
  have : S 107 k / 4 = st (2 * k + 1 - p) := by omega
  rw [this]
theorem bsI_1 {S : Nat → Nat → Int} {st : Nat → Int} {k p : Nat} (hsy : S 107 k = 4 * st (2 * k + k / 121 % 2) + st (2 * k + 1 - k / 121 % 2)) (hst : stG st) (hk : k < 15488) (he : k / 121 % 2 = p) (s : Int) : (12 * (4 * s + S 107 k % 4)).toNat = bsI st k p s := by
  have sA := hst (2 * k + k / 121 % 2) (by omega)
  have sB := hst (2 * k + 1 - k / 121 % 2) (by omega)
  unfold bsI
  rw [if_pos he]
  have : S 107 k % 4 = st (2 * k + 1 - p) := by rw [← he]; omega
  rw [this]
theorem byI_s {S : Nat → Nat → Int} {st : Nat → Int} {k : Nat} (hsy : S 107 k = 4 * st (2 * k + k / 121 % 2) + st (2 * k + 1 - k / 121 % 2)) : (12 * S 107 k).toNat = byI st k := by
  unfold byI
  rw [hsy]
/-- the other row may be written -/
theorem chI.fr {S T : Nat → Nat → Int} {P : Nat → Nat → Option Nat} {q : Nat} {w st : Nat → Int} {a i b : Nat} {p th ch : Int} (h : chI S P q w st a p th ch i) (hq : q = 116 ∨ q = 120) (hb : b = 2 * q + 3 - a) (e : ∀ h, h ≠ b → T h = S h) : chI T P q w st a p th ch i := by
  obtain ⟨⟨h3, hch, hp⟩, hsy, hst, ha, htb, hen, hrw, hl, hm, hwh⟩ := h
  have ha1 := ha.1
  refine ⟨⟨by rw [e q (by omega)]; exact h3, hch, hp⟩, fun c hc hcb => by rw [e 107 (by omega)]; exact hsy c hc hcb, hst, ha, fun c hc hcb => by rw [e a (by omega)]; exact htb c hc hcb, fun j hj => by rw [e (q + 3) (by omega)]; exact hen j hj, fun i' k hi hk => by rw [e (210 + i') (by omega)]; exact hrw i' k hi hk, ?_, hm, hwh⟩
  exact hl.w rfl rfl (fun h' hh k => by rw [e h' (by omega)])
def zX6_going_116 : zz_Sp := fun as M Q X => match as with
  | [.inr (.inr (some h_)), .inl code] => bif Nat.beq h_ 116 && Nat.beq M.1.1 2 then ((0 ≤ code ∧ code < 15488) ∧ cbR code = true ∧ ∃ (w_ st_ : Nat → Int) (a_ i_ : Nat) (p_ th_ ch_ : Int), chI M.2.1 M.2.2.2 116 w_ st_ a_ p_ th_ ch_ i_ ∧ Q (some (vi (kT w_ st_ p_ th_ ch_ (i_ + 1) code.toNat))) ((2, M.1.2), M.2.1, M.2.2.1, M.2.2.2)) else False
  | _ => False

def zpX6_going_116 : zz_P := [(0, zo_ald 1 0), (1, zo_get 4 5 0 3), (4, zo_c 5 (vi (-1))), (5, zo_cne false true 8 23), (8, zo_ald 9 0), (9, zo_ild 10 1), (10, zo_ald 11 0), (11, zo_get 14 5 2 4), (14, zo_get 17 0 2 7), (17, zo_ild 18 1), (18, zo_bald 19), (19, zo_callv 22 3 5 zX6_by_116), (22, zo_iret), (23, zo_ald 24 0), (24, zo_ild 25 1), (25, zo_ald 26 0), (26, zo_ild 27 1), (27, zo_ild 28 1), (28, zo_c 30 (vi 121)), (30, zo_idiv 31), (31, zo_c 32 (vi 2)), (32, zo_irem 33), (33, zo_ald 34 0), (34, zo_get 37 5 0 3), (37, zo_cne false false 40 44), (40, zo_c 41 (vi 1)), (41, zo_goto 45), (44, zo_c 45 (vi 0)), (45, zo_ald 46 0), (46, zo_ild 47 1), (47, zo_callv 50 2 5 zX6_bestStyle_116), (50, zo_callv 53 4 5 zX6_with_116), (53, zo_callv 56 3 5 zX6_by_116), (56, zo_iret)]
theorem ztX6_going_116 {C : mm_C} (G : mm_G C RX6 cX6_going (some .int) 2 (mm_rm 4 0 0)) (hnh : mm_nh C) : zz_OKs C zpX6_going_116 :=
  ⟨zz_of (ok_aload_n G dX6_going_0 rfl rfl) (z_ald _ _),
   zz_of (ok_get G (nx := 4) (ci := 5) (kd := 0) (k := 3) (RX6, TX6, 5) rfl (by decide) rfl q329 dX6_going_1 rfl) (z_get _ _ _ _),
   zz_of (ok_iconst G (v := (zI (-1))) dX6_going_4 (by decide) rfl) (z_cz 5 (-1)),
   zz_of (ok_cne G dX6_going_5 rfl rfl) (z_cne _ _ _ _),
   zz_of (ok_aload_n G dX6_going_8 rfl rfl) (z_ald _ _),
   zz_of (ok_iload_n G dX6_going_9 rfl rfl) (z_ild _ _),
   zz_of (ok_aload_n G dX6_going_10 rfl rfl) (z_ald _ _),
   zz_of (ok_get G (nx := 14) (ci := 5) (kd := 2) (k := 4) (RX6, TX6, 5) rfl (by decide) rfl q330 dX6_going_11 rfl) (z_get _ _ _ _),
   zz_of (ok_getN G (nx := 17) (ci := 0) (kd := 2) (k := 7) (RX1, TX1, 19) rfl (by decide) rfl q416 dX6_going_14 rfl) (z_get _ _ _ _),
   zz_of (ok_iload_n G dX6_going_17 rfl rfl) (z_ild _ _),
   zz_of (ok_bald G dX6_going_18 rfl) (z_bald _),
   zz_of (ok_callv G hnh (zmX6_by_116 _ G.hst) rfl rfl (RX6, TX6, 5) rfl q1629 q1631 qs28 q90 q1632 (by decide +kernel) ⟨by decide, by decide⟩ dX6_going_19 rfl) (z_callv _ _ _ _),
   zz_of (ok_iret G dX6_going_22) (z_iret),
   zz_of (ok_aload_n G dX6_going_23 rfl rfl) (z_ald _ _),
   zz_of (ok_iload_n G dX6_going_24 rfl rfl) (z_ild _ _),
   zz_of (ok_aload_n G dX6_going_25 rfl rfl) (z_ald _ _),
   zz_of (ok_iload_n G dX6_going_26 rfl rfl) (z_ild _ _),
   zz_of (ok_iload_n G dX6_going_27 rfl rfl) (z_ild _ _),
   zz_of (ok_bipush G (v := 121) dX6_going_28 (by decide) rfl) (z_cn 30 121),
   zz_of (ok_idiv G dX6_going_30 rfl) (z_idiv _),
   zz_of (ok_iconst G (v := 2) dX6_going_31 (by decide) rfl) (z_cn 32 2),
   zz_of (ok_irem G dX6_going_32 rfl) (z_irem _),
   zz_of (ok_aload_n G dX6_going_33 rfl rfl) (z_ald _ _),
   zz_of (ok_get G (nx := 37) (ci := 5) (kd := 0) (k := 3) (RX6, TX6, 5) rfl (by decide) rfl q329 dX6_going_34 rfl) (z_get _ _ _ _),
   zz_of (ok_cne G dX6_going_37 rfl rfl) (z_cne _ _ _ _),
   zz_of (ok_iconst G (v := 1) dX6_going_40 (by decide) rfl) (z_cn 41 1),
   zz_of (ok_goto G dX6_going_41 rfl) (z_goto _),
   zz_of (ok_iconst G (v := 0) dX6_going_44 (by decide) rfl) (z_cn 45 0),
   zz_of (ok_aload_n G dX6_going_45 rfl rfl) (z_ald _ _),
   zz_of (ok_iload_n G dX6_going_46 rfl rfl) (z_ild _ _),
   zz_of (ok_callv G hnh (zmX6_bestStyle_116 _ G.hst) rfl rfl (RX6, TX6, 5) rfl q1638 q1639 q1640 q90 q1641 (by decide +kernel) ⟨by decide, by decide⟩ dX6_going_47 rfl) (z_callv _ _ _ _),
   zz_of (ok_callv G hnh (zmX6_with_116 _ G.hst) rfl rfl (RX6, TX6, 5) rfl q1642 q1644 qs29 q90 q1645 (by decide +kernel) ⟨by decide, by decide⟩ dX6_going_50 rfl) (z_callv _ _ _ _),
   zz_of (ok_callv G hnh (zmX6_by_116 _ G.hst) rfl rfl (RX6, TX6, 5) rfl q1629 q1631 qs28 q90 q1632 (by decide +kernel) ⟨by decide, by decide⟩ dX6_going_53 rfl) (z_callv _ _ _ _),
   zz_of (ok_iret G dX6_going_56) (z_iret), trivial⟩

theorem zwX6_going_116_0 {Q : Option zv → zz_M → Prop} {X : Nat → zz_M → Prop} {f : Nat → Nat × Nat} {S L : Nat → Nat → Int} {P : Nat → Nat → Option Nat} {code : Int} (h : R32 (S 116 3) ∧ ((¬ (S 116 3) = (-1) → (0 ≤ code ∧ code < 2147483648) ∧ ((0 ≤ (code / 121) ∧ (code / 121) < 2147483648) ∧ (R32 ((code / 121) % 2) ∧ (R32 (S 116 3) ∧ ((¬ ((code / 121) % 2) = (S 116 3) → ((0 ≤ code ∧ code < 15488) ∧ cbR code = true ∧ ∃ (w_1 tb_1 st_1 : Nat → Int) (a_1 p_1 : Nat), p_1 < 2 ∧ S 116 3 = p_1 ∧ styE S st_1 ∧ stG st_1 ∧ cN P 116 a_1 ∧ tbE S a_1 tb_1 ∧ tbG tb_1 ∧ enE S 116 p_1 (-1) ∧ rwE S w_1 ∧ lT S w_1 ∧ mG w_1 ∧ whB w_1 16 = true ∧ (((0 ≤ code ∧ code < 15488) ∧ (0 ≤ S 107 code.toNat ∧ S 107 code.toNat ≤ 15) ∧ ((0 : Int) = 0 ∨ (0 : Int) = 1) ∧ ((0 : Int) = 1 → (((0 ≤ code ∧ code < 15488) ∧ cbR code = true ∧ (0 ≤ (4 * ((bsF tb_1 w_1 st_1 code.toNat p_1 4).2) + S 107 code.toNat % 4) ∧ (4 * ((bsF tb_1 w_1 st_1 code.toNat p_1 4).2) + S 107 code.toNat % 4) < 16) ∧ ∃ (w_3 tb_3 : Nat → Int) (a_3 : Nat) (p_3 th_3 : Int), cN P 116 a_3 ∧ tbE S a_3 tb_3 ∧ tbG tb_3 ∧ enE S 116 p_3 th_3 ∧ rwE S w_3 ∧ lT S w_3 ∧ mG w_3 ∧ whB w_3 16 = true ∧ (Q (some (vi (hdR tb_3 w_3 code (12 * (4 * ((bsF tb_1 w_1 st_1 code.toNat p_1 4).2) + S 107 code.toNat % 4)).toNat p_3 th_3))) ((2, f), S, L, P))))) ∧ ((0 : Int) = 0 → (((0 ≤ code ∧ code < 15488) ∧ cbR code = true ∧ (0 ≤ (4 * (S 107 code.toNat / 4) + ((bsF tb_1 w_1 st_1 code.toNat p_1 4).2)) ∧ (4 * (S 107 code.toNat / 4) + ((bsF tb_1 w_1 st_1 code.toNat p_1 4).2)) < 16) ∧ ∃ (w_4 tb_4 : Nat → Int) (a_4 : Nat) (p_4 th_4 : Int), cN P 116 a_4 ∧ tbE S a_4 tb_4 ∧ tbG tb_4 ∧ enE S 116 p_4 th_4 ∧ rwE S w_4 ∧ lT S w_4 ∧ mG w_4 ∧ whB w_4 16 = true ∧ (Q (some (vi (hdR tb_4 w_4 code (12 * (4 * (S 107 code.toNat / 4) + ((bsF tb_1 w_1 st_1 code.toNat p_1 4).2))).toNat p_4 th_4))) ((2, f), S, L, P))))))))) ∧ (((code / 121) % 2) = (S 116 3) → ((0 ≤ code ∧ code < 15488) ∧ cbR code = true ∧ ∃ (w_5 tb_5 st_5 : Nat → Int) (a_5 p_5 : Nat), p_5 < 2 ∧ S 116 3 = p_5 ∧ styE S st_5 ∧ stG st_5 ∧ cN P 116 a_5 ∧ tbE S a_5 tb_5 ∧ tbG tb_5 ∧ enE S 116 p_5 (-1) ∧ rwE S w_5 ∧ lT S w_5 ∧ mG w_5 ∧ whB w_5 16 = true ∧ (((0 ≤ code ∧ code < 15488) ∧ (0 ≤ S 107 code.toNat ∧ S 107 code.toNat ≤ 15) ∧ ((1 : Int) = 0 ∨ (1 : Int) = 1) ∧ ((1 : Int) = 1 → (((0 ≤ code ∧ code < 15488) ∧ cbR code = true ∧ (0 ≤ (4 * ((bsF tb_5 w_5 st_5 code.toNat p_5 4).2) + S 107 code.toNat % 4) ∧ (4 * ((bsF tb_5 w_5 st_5 code.toNat p_5 4).2) + S 107 code.toNat % 4) < 16) ∧ ∃ (w_7 tb_7 : Nat → Int) (a_7 : Nat) (p_7 th_7 : Int), cN P 116 a_7 ∧ tbE S a_7 tb_7 ∧ tbG tb_7 ∧ enE S 116 p_7 th_7 ∧ rwE S w_7 ∧ lT S w_7 ∧ mG w_7 ∧ whB w_7 16 = true ∧ (Q (some (vi (hdR tb_7 w_7 code (12 * (4 * ((bsF tb_5 w_5 st_5 code.toNat p_5 4).2) + S 107 code.toNat % 4)).toNat p_7 th_7))) ((2, f), S, L, P))))) ∧ ((1 : Int) = 0 → (((0 ≤ code ∧ code < 15488) ∧ cbR code = true ∧ (0 ≤ (4 * (S 107 code.toNat / 4) + ((bsF tb_5 w_5 st_5 code.toNat p_5 4).2)) ∧ (4 * (S 107 code.toNat / 4) + ((bsF tb_5 w_5 st_5 code.toNat p_5 4).2)) < 16) ∧ ∃ (w_8 tb_8 : Nat → Int) (a_8 : Nat) (p_8 th_8 : Int), cN P 116 a_8 ∧ tbE S a_8 tb_8 ∧ tbG tb_8 ∧ enE S 116 p_8 th_8 ∧ rwE S w_8 ∧ lT S w_8 ∧ mG w_8 ∧ whB w_8 16 = true ∧ (Q (some (vi (hdR tb_8 w_8 code (12 * (4 * (S 107 code.toNat / 4) + ((bsF tb_5 w_5 st_5 code.toNat p_5 4).2))).toNat p_8 th_8))) ((2, f), S, L, P)))))))))))))) ∧ ((S 116 3) = (-1) → (0 ≤ code ∧ code < 15488) ∧ (((0 ≤ code ∧ code < 15488) ∧ cbR code = true ∧ (0 ≤ (S 107 code.toNat) ∧ (S 107 code.toNat) < 16) ∧ ∃ (w_9 tb_9 : Nat → Int) (a_9 : Nat) (p_9 th_9 : Int), cN P 116 a_9 ∧ tbE S a_9 tb_9 ∧ tbG tb_9 ∧ enE S 116 p_9 th_9 ∧ rwE S w_9 ∧ lT S w_9 ∧ mG w_9 ∧ whB w_9 16 = true ∧ (Q (some (vi (hdR tb_9 w_9 code (12 * (S 107 code.toNat)).toNat p_9 th_9))) ((2, f), S, L, P))))))) : zz_J zpX6_going_116 (zz_ret Q X 0 0) 0 [some (vr 116), some (vi code)] [] ((2, f), S, L, P) (0, 0) := zz_J.go [] 400 h

theorem zmX6_going_116 (l : Launch) (hl : l.stackTraces = false) : mm_Spec l yX6_going (ws_ yX6_going cX6_going 2 (some .int)) (mm_rm 4 0 0) (zE zX6_going_116) := by
  refine zz_Met.J hl (by decide) (fun C G hnh => ztX6_going_116 G hnh) ?_
  rintro as ⟨⟨t_, f⟩, S, L, P⟩ Q X h
  unfold zX6_going_116 at h
  split at h
  rotate_left
  · exact h.elim
  rename_i h_ code
  obtain ⟨e1_, e2_, h⟩ := mm_and2 h (fun q => q)
  cases mm_beq e1_
  cases mm_beq e2_
  try dsimp only at h
  refine ⟨rfl, ?_⟩
  obtain ⟨hk, hcb, w, st, a, i, p, th, ch, ⟨⟨h3, hch, hp⟩, hsy, hst, ha, htb, hen, hrw, hl, hm, hwh⟩, hq⟩ := h
  obtain ⟨k, rfl⟩ : ∃ k : Nat, code = (k : Int) := ⟨code.toNat, by omega⟩
  have hk2 : k < 15488 := by omega
  rw [Int.toNat_natCast] at hq
  have hG := kT_G (th := th) (ch := ch) hp hm hwh hst i
  have s7 := hsy k hk2 hcb
  have sA := hst (2 * k + k / 121 % 2) (by omega)
  have sB := hst (2 * k + 1 - k / 121 % 2) (by omega)
  obtain ⟨pn, rfl, hpn⟩ : ∃ pn : Nat, p = (pn : Int) ∧ pn < 2 := ⟨p.toNat, by omega, by omega⟩
  have hs15 : 0 ≤ S 107 k ∧ S 107 k ≤ 15 := by omega
  have c2 : (k : Int) / 121 % 2 = ((k / 121 % 2 : Nat) : Int) := by omega
  have hb2 := (bsF_2 (tb := kT w st (pn : Int) th ch i) (p := pn) hG hm hwh hst hk2 hcb hpn 4 (by decide)).2 (by decide)
  refine zwX6_going_116_0 ?_
  rw [h3, Int.toNat_natCast]
  refine ⟨by omega, fun c => ⟨by omega, by omega, by omega, by omega, fun d => ?_, fun d => ?_⟩, fun c => ?_⟩
  · have hth : th = -1 := by omega
    subst hth
    have hchp : ch = (pn : Int) := by omega
    have er : kT w st (pn : Int) (-1) ch (i + 1) k = hdR (kT w st (pn : Int) (-1) ch i) w (k : Int) (bsI st k pn (bsF (kT w st (pn : Int) (-1) ch i) w st k pn 4).2) (pn : Int) (-1) := by
      have e1 : kT w st (pn : Int) (-1) ch (i + 1) k = (bsF (kT w st (pn : Int) (-1) ch i) w st k pn 4).1 := by
        unfold kT
        rw [if_neg c]
        show (if cbR (k : Int) = true then _ else _) = _
        rw [if_pos hcb]
        rfl
      rw [e1, ← hb2.2.2]
      rfl
    rw [er] at hq
    refine ⟨hk, hcb, w, kT w st (pn : Int) (-1) ch i, st, a, pn, hpn, hchp, hsy, hst, ha, htb, hG, hen, hrw, hl, hm, hwh, hk, hs15, by decide, fun e => absurd e (by decide), fun _ => ⟨hk, hcb, by omega, w, kT w st (pn : Int) (-1) ch i, a, (pn : Int), -1, ha, htb, hG, hen, hrw, hl, hm, hwh, ?_⟩⟩
    rw [bsI_0 s7 hst hk2 hpn (fun e => d (by omega))]
    exact hq
  · have hth : th = -1 := by omega
    subst hth
    have hchp : ch = (pn : Int) := by omega
    have er : kT w st (pn : Int) (-1) ch (i + 1) k = hdR (kT w st (pn : Int) (-1) ch i) w (k : Int) (bsI st k pn (bsF (kT w st (pn : Int) (-1) ch i) w st k pn 4).2) (pn : Int) (-1) := by
      have e1 : kT w st (pn : Int) (-1) ch (i + 1) k = (bsF (kT w st (pn : Int) (-1) ch i) w st k pn 4).1 := by
        unfold kT
        rw [if_neg c]
        show (if cbR (k : Int) = true then _ else _) = _
        rw [if_pos hcb]
        rfl
      rw [e1, ← hb2.2.2]
      rfl
    rw [er] at hq
    refine ⟨hk, hcb, w, kT w st (pn : Int) (-1) ch i, st, a, pn, hpn, hchp, hsy, hst, ha, htb, hG, hen, hrw, hl, hm, hwh, hk, hs15, by decide, fun _ => ⟨hk, hcb, by omega, w, kT w st (pn : Int) (-1) ch i, a, (pn : Int), -1, ha, htb, hG, hen, hrw, hl, hm, hwh, ?_⟩, fun e => absurd e (by decide)⟩
    rw [bsI_1 s7 hst hk2 (show k / 121 % 2 = pn by omega)]
    exact hq
  · have er : kT w st (pn : Int) th ch (i + 1) k = hdR (kT w st (pn : Int) th ch i) w (k : Int) (byI st k) (pn : Int) th := by
      unfold kT
      rw [if_pos c]
      show (if cbR (k : Int) = true then _ else _) = _
      rw [if_pos hcb]
      rfl
    rw [er] at hq
    refine ⟨hk, hk, hcb, by omega, w, kT w st (pn : Int) th ch i, a, (pn : Int), th, ha, htb, hG, hen, hrw, hl, hm, hwh, ?_⟩
    rw [byI_s s7]
    exact hq
def zX6_more_116 : zz_Sp := fun as M Q X => match as with
  | [.inr (.inr (some h_))] => bif Nat.beq h_ 116 && Nat.beq M.1.1 2 then (∃ (w_ st_ : Nat → Int) (a_ i_ : Nat) (p_ th_ ch_ : Int), chI M.2.1 M.2.2.2 116 w_ st_ a_ p_ th_ ch_ i_ ∧ (∀ (S_ : Nat → Nat → Int) (P_ : Nat → Nat → Option Nat), (∀ h, h ≠ 2 * 116 + 3 - a_ → S_ h = M.2.1 h) → (∀ h k, ¬ (h = 116 ∧ k < 2) → P_ h k = M.2.2.2 h k) → chI S_ P_ 116 w_ st_ (2 * 116 + 3 - a_) p_ th_ ch_ (i_ + 1) → Q none ((2, M.1.2), S_, M.2.2.1, P_))) else False
  | _ => False

def zpX6_more_116 : zz_P := [(0, zo_c 1 (vi 0)), (1, zo_ist 2 1), (2, zo_ild 3 1), (3, zo_c 6 (vi 15488)), (6, zo_cge false true 9 38), (9, zo_ald 10 0), (10, zo_get 13 5 2 4), (13, zo_get 16 0 2 6), (16, zo_ild 17 1), (17, zo_bald 18), (18, zo_ifeq false 21 32), (21, zo_ald 22 0), (22, zo_getq 25 5 1), (25, zo_ild 26 1), (26, zo_ald 27 0), (27, zo_ild 28 1), (28, zo_callv 31 2 5 zX6_going_116), (31, zo_iasp 32), (32, zo_inc 35 1 1), (35, zo_goto 2), (38, zo_ald 39 0), (39, zo_get 42 5 2 0), (42, zo_ast 43 1), (43, zo_ald 44 0), (44, zo_ald 45 0), (45, zo_get 48 5 2 1), (48, zo_putr 51 5 0), (51, zo_ald 52 0), (52, zo_ald 53 1), (53, zo_putr 56 5 1), (56, zo_vret)]
theorem ztX6_more_116 {C : mm_C} (G : mm_G C RX6 cX6_more none 2 (mm_rm 5 0 0)) (hnh : mm_nh C) : zz_OKs C zpX6_more_116 :=
  ⟨zz_of (ok_iconst G (v := 0) dX6_more_0 (by decide) rfl) (z_cn 1 0),
   zz_of (ok_istore_n G dX6_more_1 rfl rfl (by decide)) (z_ist _ _),
   zz_of (ok_iload_n G dX6_more_2 rfl rfl) (z_ild _ _),
   zz_of (ok_sipush G (v := 15488) dX6_more_3 (by decide) rfl) (z_cn 6 15488),
   zz_of (ok_cge G dX6_more_6 rfl rfl) (z_cge _ _ _ _),
   zz_of (ok_aload_n G dX6_more_9 rfl rfl) (z_ald _ _),
   zz_of (ok_get G (nx := 13) (ci := 5) (kd := 2) (k := 4) (RX6, TX6, 5) rfl (by decide) rfl q330 dX6_more_10 rfl) (z_get _ _ _ _),
   zz_of (ok_getN G (nx := 16) (ci := 0) (kd := 2) (k := 6) (RX1, TX1, 19) rfl (by decide) rfl q413 dX6_more_13 rfl) (z_get _ _ _ _),
   zz_of (ok_iload_n G dX6_more_16 rfl rfl) (z_ild _ _),
   zz_of (ok_bald G dX6_more_17 rfl) (z_bald _),
   zz_of (ok_ifeq G dX6_more_18 rfl rfl) (z_ifeq _ _ _),
   zz_of (ok_aload_n G dX6_more_21 rfl rfl) (z_ald _ _),
   zz_of (ok_get G (nx := 25) (ci := 5) (kd := 2) (k := 1) (RX6, TX6, 5) rfl (by decide) rfl q325 dX6_more_22 rfl) (z_getq _ _ _),
   zz_of (ok_iload_n G dX6_more_25 rfl rfl) (z_ild _ _),
   zz_of (ok_aload_n G dX6_more_26 rfl rfl) (z_ald _ _),
   zz_of (ok_iload_n G dX6_more_27 rfl rfl) (z_ild _ _),
   zz_of (ok_callv G hnh (zmX6_going_116 _ G.hst) rfl rfl (RX6, TX6, 5) rfl q1625 q1627 qs27 q90 q1628 (by decide +kernel) ⟨by decide, by decide⟩ dX6_more_28 rfl) (z_callv _ _ _ _),
   zz_of (ok_iast G dX6_more_31 rfl) (z_iasp _),
   zz_of (ok_iinc G (v := 1) dX6_more_32 (by decide) rfl (by decide)) (z_incn 35 1 1),
   zz_of (ok_goto G dX6_more_35 rfl) (z_goto _),
   zz_of (ok_aload_n G dX6_more_38 rfl rfl) (z_ald _ _),
   zz_of (ok_get G (nx := 42) (ci := 5) (kd := 2) (k := 0) (RX6, TX6, 5) rfl (by decide) rfl q324 dX6_more_39 rfl) (z_get _ _ _ _),
   zz_of (ok_astore_n G dX6_more_42 rfl rfl (by decide)) (z_ast _ _),
   zz_of (ok_aload_n G dX6_more_43 rfl rfl) (z_ald _ _),
   zz_of (ok_aload_n G dX6_more_44 rfl rfl) (z_ald _ _),
   zz_of (ok_get G (nx := 48) (ci := 5) (kd := 2) (k := 1) (RX6, TX6, 5) rfl (by decide) rfl q325 dX6_more_45 rfl) (z_get _ _ _ _),
   zz_of (ok_putr G (nx := 51) (idx := 15) (ci := 5) (k := 0) (RX6, TX6, 5) rfl (by decide) rfl (mm_pw G (ci := 5) (k := 0) (RX6, TX6, 5) rfl (by decide) rfl q324 dX6_more_48) rfl) (z_putr _ _ _),
   zz_of (ok_aload_n G dX6_more_51 rfl rfl) (z_ald _ _),
   zz_of (ok_aload_n G dX6_more_52 rfl rfl) (z_ald _ _),
   zz_of (ok_putr G (nx := 56) (idx := 19) (ci := 5) (k := 1) (RX6, TX6, 5) rfl (by decide) rfl (mm_pw G (ci := 5) (k := 1) (RX6, TX6, 5) rfl (by decide) rfl q325 dX6_more_53) rfl) (z_putr _ _ _),
   zz_of (ok_vret G dX6_more_56) (z_vret), trivial⟩

theorem zwX6_more_116_0 {Q : Option zv → zz_M → Prop} {X : Nat → zz_M → Prop} {f : Nat → Nat × Nat} {S L : Nat → Nat → Int} {P : Nat → Nat → Option Nat}  (h : zz_J zpX6_more_116 (zz_ret Q X 0 0) 2 [some (vr 116), some (vi 0)] [] ((2, f), S, L, P) (0, 0)) : zz_J zpX6_more_116 (zz_ret Q X 0 0) 0 [some (vr 116), none] [] ((2, f), S, L, P) (0, 0) := zz_J.go [(2, [])] 400 h
theorem zwX6_more_116_2 {Q : Option zv → zz_M → Prop} {X : Nat → zz_M → Prop} {f : Nat → Nat × Nat} {S L : Nat → Nat → Int} {P : Nat → Nat → Option Nat} {x1 : Int} (h : R32 x1 ∧ ((15488 ≤ x1 → Q none ((2, f), S, L, mm_up (mm_up P 116 0 (P 116 1)) 116 1 (P 116 0))) ∧ (¬ 15488 ≤ x1 → (0 ≤ x1 ∧ x1 < 15488) ∧ (R32 (S 106 x1.toNat) ∧ (((S 106 x1.toNat) = 0 → zz_J zpX6_more_116 (zz_ret Q X 0 0) 2 [some (vr 116), some (vi (x1 + 1))] [] ((2, f), S, L, P) (0, 0)) ∧ (¬ (S 106 x1.toNat) = 0 → zsh ((2, f), S, L, P) 116 = (1, 5) ∧ (∀ b1 : Nat, zpt ((2, f), S, L, P) 116 1 = some b1 → ((0 ≤ x1 ∧ x1 < 15488) ∧ cbR x1 = true ∧ ∃ (w_2 st_2 : Nat → Int) (a_2 i_2 : Nat) (p_2 th_2 ch_2 : Int), chI S P 116 w_2 st_2 a_2 p_2 th_2 ch_2 i_2 ∧ (∃ n_ : Nat, zsh ((2, f), S, L, P) b1 = (2, n_) ∧ (n_ : Int) ≤ 2147483647 ∧ (0 ≤ x1 ∧ x1 < (n_ : Int)) ∧ (zz_J zpX6_more_116 (zz_ret Q X 0 0) 2 [some (vr 116), some (vi (x1 + 1))] [] ((2, f), mm_up S b1 x1.toNat (kT w_2 st_2 p_2 th_2 ch_2 (i_2 + 1) x1.toNat), L, P) (0, 0))))) ∧ (zpt ((2, f), S, L, P) 116 1 = none → ((0 ≤ x1 ∧ x1 < 15488) ∧ cbR x1 = true ∧ ∃ (w_3 st_3 : Nat → Int) (a_3 i_3 : Nat) (p_3 th_3 ch_3 : Int), chI S P 116 w_3 st_3 a_3 p_3 th_3 ch_3 i_3 ∧ (False))))))))) : zz_J zpX6_more_116 (zz_ret Q X 0 0) 2 [some (vr 116), some (vi x1)] [] ((2, f), S, L, P) (0, 0) := zz_J.go [(2, [])] 400 h

theorem zmX6_more_116 (l : Launch) (hl : l.stackTraces = false) : mm_Spec l yX6_more (ws_ yX6_more cX6_more 2 none) (mm_rm 5 0 0) (zE zX6_more_116) := by
  refine zz_Met.J hl (by decide) (fun C G hnh => ztX6_more_116 G hnh) ?_
  rintro as ⟨⟨t_, f⟩, S, L, P⟩ Q X h
  unfold zX6_more_116 at h
  split at h
  rotate_left
  · exact h.elim
  rename_i h_
  obtain ⟨e1_, e2_, h⟩ := mm_and2 h (fun q => q)
  cases mm_beq e1_
  cases mm_beq e2_
  try dsimp only at h
  refine ⟨rfl, ?_⟩
  obtain ⟨w, st, a, i, p, th, ch, hI, hq⟩ := h
  have ha := hI.2.2.2.1
  have ha1 := ha.1
  have sh : ∀ T : Nat → Nat → Int, zsh ((2, f), T, L, P) (2 * 116 + 3 - a) = (2, 15488) := fun T => by rcases ha1 with e | e <;> subst e <;> rfl
  have t2 : ∀ (m c : Nat) (T : Nat → Nat → Int), c + m = 15488 → (∀ h, h ≠ 2 * 116 + 3 - a → T h = S h) → (∀ c' : Nat, c' < c → cbR (c' : Int) = true → T (2 * 116 + 3 - a) c' = kT w st p th ch (i + 1) c') → zz_J zpX6_more_116 (zz_ret Q X 0 0) 2 [some (vr 116), some (vi (c : Int))] [] ((2, f), T, L, P) (0, 0) := by
    intro m
    induction m with
    | zero =>
      intro c T hc h1 h2
      have hT := hI.fr (b := 2 * 116 + 3 - a) (by decide) rfl h1
      refine zwX6_more_116_2 ⟨by omega, fun _ => ?_, fun d => absurd d (by omega)⟩
      refine hq T _ h1 (fun h k d => ?_) ?_
      · rw [up_eq, if_neg (fun e => d ⟨e.1, by omega⟩), up_eq, if_neg (fun e => d ⟨e.1, by omega⟩)]
      · obtain ⟨g1, g2, g3, g4, g5, g6, g7, g8, g9, g10⟩ := hT
        refine ⟨g1, g2, g3, ⟨by omega, ?_, ?_⟩, fun c' hc' hcb => h2 c' (by omega) hcb, g6, g7, g8, g9, g10⟩
        · show P 116 1 = _
          exact ha.2.2
        · show P 116 0 = _
          rw [ha.2.1]
          congr 1
          omega
    | succ m ih =>
      intro c T hc h1 h2
      have hT := hI.fr (b := 2 * 116 + 3 - a) (by decide) rfl h1
      have h106 := (hT.2.2.2.2.2.2.2.1 c (by omega)).1
      have no : ∀ b : Nat, P 116 1 = some b → b = 2 * 116 + 3 - a := fun b e => by
        rw [ha.2.2] at e
        cases e
        rfl
      refine zwX6_more_116_2 ⟨by omega, fun d => absurd d (by omega), fun _ => ⟨by omega, ?_⟩⟩
      rw [Int.toNat_natCast, h106]
      by_cases hcb : cbR (c : Int) = true
      · rw [if_pos hcb]
        refine ⟨by decide, fun d => absurd d (by decide), fun _ => ⟨rfl, fun b e => ?_, fun e => ?_⟩⟩
        · have eb := no b e
          subst eb
          refine ⟨by omega, hcb, w, st, a, i, p, th, ch, hT, 15488, sh T, by decide, by omega, ?_⟩
          refine ih (c + 1) _ (by omega) (fun h hh => ?_) (fun c' hc' hcb' => ?_)
          · funext k
            rw [up_eq, if_neg (fun e => hh e.1), h1 h hh]
          · by_cases e : c' = c
            · rw [up_eq, if_pos ⟨rfl, e⟩, e]
            · rw [up_eq, if_neg (by omega)]
              exact h2 c' (by omega) hcb'
        · have e2 : P 116 1 = none := e
          rw [ha.2.2] at e2
          cases e2
      · rw [if_neg hcb]
        refine ⟨by decide, fun _ => ?_, fun d => absurd rfl d⟩
        refine ih (c + 1) T (by omega) h1 (fun c' hc' hcb' => ?_)
        by_cases e : c' = c
        · rw [e] at hcb'
          exact absurd hcb' hcb
        · exact h2 c' (by omega) hcb'
  exact zwX6_more_116_0 (t2 15488 0 S rfl (fun _ _ => rfl) (fun c' hc' => absurd hc' (by omega)))
def zX6_after_116 : zz_Sp := fun as M Q X => match as with
  | [.inr (.inr (some h_)), .inl n] => bif Nat.beq h_ 116 && Nat.beq M.1.1 2 then ((0 ≤ n ∧ n ≤ 1000) ∧ ∃ (w_ st_ : Nat → Int) (a_ i_ : Nat) (p_ th_ ch_ : Int), chI M.2.1 M.2.2.2 116 w_ st_ a_ p_ th_ ch_ i_ ∧ (∀ (S_ : Nat → Nat → Int) (P_ : Nat → Nat → Option Nat) (b_ : Nat), (∀ h, h ≠ 117 → h ≠ 118 → S_ h = M.2.1 h) → (∀ h k, ¬ (h = 116 ∧ k < 2) → P_ h k = M.2.2.2 h k) → chI S_ P_ 116 w_ st_ b_ p_ th_ ch_ (i_ + n.toNat) → Q (some (vr 116)) ((2, M.1.2), S_, M.2.2.1, P_))) else False
  | _ => False

def zpX6_after_116 : zz_P := [(0, zo_c 1 (vi 0)), (1, zo_ist 2 2), (2, zo_ild 3 2), (3, zo_ild 4 1), (4, zo_cge false false 7 17), (7, zo_ald 8 0), (8, zo_callv 11 1 5 zX6_more_116), (11, zo_inc 14 2 1), (14, zo_goto 2), (17, zo_ald 18 0), (18, zo_aret)]
theorem ztX6_after_116 {C : mm_C} (G : mm_G C RX6 cX6_after (some (.object "ChaseCourt$Chances")) 3 (mm_rm 6 0 0)) (hnh : mm_nh C) : zz_OKs C zpX6_after_116 :=
  ⟨zz_of (ok_iconst G (v := 0) dX6_after_0 (by decide) rfl) (z_cn 1 0),
   zz_of (ok_istore_n G dX6_after_1 rfl rfl (by decide)) (z_ist _ _),
   zz_of (ok_iload_n G dX6_after_2 rfl rfl) (z_ild _ _),
   zz_of (ok_iload_n G dX6_after_3 rfl rfl) (z_ild _ _),
   zz_of (ok_cge G dX6_after_4 rfl rfl) (z_cge _ _ _ _),
   zz_of (ok_aload_n G dX6_after_7 rfl rfl) (z_ald _ _),
   zz_of (ok_callv G hnh (zmX6_more_116 _ G.hst) rfl rfl (RX6, TX6, 5) rfl q1621 q1622 q1623 q90 q1624 (by decide +kernel) ⟨by decide, by decide⟩ dX6_after_8 rfl) (z_callv _ _ _ _),
   zz_of (ok_iinc G (v := 1) dX6_after_11 (by decide) rfl (by decide)) (z_incn 14 2 1),
   zz_of (ok_goto G dX6_after_14 rfl) (z_goto _),
   zz_of (ok_aload_n G dX6_after_17 rfl rfl) (z_ald _ _),
   zz_of (ok_aret G (Or.inl ⟨_, rfl⟩) dX6_after_18) (z_aret), trivial⟩

theorem zwX6_after_116_0 {Q : Option zv → zz_M → Prop} {X : Nat → zz_M → Prop} {f : Nat → Nat × Nat} {S L : Nat → Nat → Int} {P : Nat → Nat → Option Nat} {n : Int} (h : zz_J zpX6_after_116 (zz_ret Q X 0 0) 2 [some (vr 116), some (vi n), some (vi 0)] [] ((2, f), S, L, P) (0, 0)) : zz_J zpX6_after_116 (zz_ret Q X 0 0) 0 [some (vr 116), some (vi n), none] [] ((2, f), S, L, P) (0, 0) := zz_J.go [(2, [])] 400 h
theorem zwX6_after_116_2 {Q : Option zv → zz_M → Prop} {X : Nat → zz_M → Prop} {f : Nat → Nat × Nat} {S L : Nat → Nat → Int} {P : Nat → Nat → Option Nat} {x1 : Int} {x2 : Int} (h : R32 x2 ∧ (R32 x1 ∧ ((x1 ≤ x2 → Q (some (vr 116)) ((2, f), S, L, P)) ∧ (¬ x1 ≤ x2 → (∃ (w_1 st_1 : Nat → Int) (a_1 i_1 : Nat) (p_1 th_1 ch_1 : Int), chI S P 116 w_1 st_1 a_1 p_1 th_1 ch_1 i_1 ∧ (∀ (S_1 : Nat → Nat → Int) (P_1 : Nat → Nat → Option Nat), (∀ h, h ≠ 2 * 116 + 3 - a_1 → S_1 h = S h) → (∀ h k, ¬ (h = 116 ∧ k < 2) → P_1 h k = P h k) → chI S_1 P_1 116 w_1 st_1 (2 * 116 + 3 - a_1) p_1 th_1 ch_1 (i_1 + 1) → (zz_J zpX6_after_116 (zz_ret Q X 0 0) 2 [some (vr 116), some (vi x1), some (vi (x2 + 1))] [] ((2, f), S_1, L, P_1) (0, 0)))))))) : zz_J zpX6_after_116 (zz_ret Q X 0 0) 2 [some (vr 116), some (vi x1), some (vi x2)] [] ((2, f), S, L, P) (0, 0) := zz_J.go [(2, [])] 400 h

theorem zmX6_after_116 (l : Launch) (hl : l.stackTraces = false) : mm_Spec l yX6_after (ws_ yX6_after cX6_after 3 (some (.object "ChaseCourt$Chances"))) (mm_rm 6 0 0) (zE zX6_after_116) := by
  refine zz_Met.J hl (by decide) (fun C G hnh => ztX6_after_116 G hnh) ?_
  rintro as ⟨⟨t_, f⟩, S, L, P⟩ Q X h
  unfold zX6_after_116 at h
  split at h
  rotate_left
  · exact h.elim
  rename_i h_ n
  obtain ⟨e1_, e2_, h⟩ := mm_and2 h (fun q => q)
  cases mm_beq e1_
  cases mm_beq e2_
  try dsimp only at h
  refine ⟨rfl, ?_⟩
  obtain ⟨hn, w, st, a, i, p, th, ch, hI, hq⟩ := h
  obtain ⟨k, rfl⟩ : ∃ k : Nat, n = (k : Int) := ⟨n.toNat, by omega⟩
  rw [Int.toNat_natCast] at hq
  have t2 : ∀ (m j : Nat) (T : Nat → Nat → Int) (P' : Nat → Nat → Option Nat) (b : Nat), j + m = k → (∀ h, h ≠ 117 → h ≠ 118 → T h = S h) → (∀ h k, ¬ (h = 116 ∧ k < 2) → P' h k = P h k) → chI T P' 116 w st b p th ch (i + j) → zz_J zpX6_after_116 (zz_ret Q X 0 0) 2 [some (vr 116), some (vi (k : Int)), some (vi (j : Int))] [] ((2, f), T, L, P') (0, 0) := by
    intro m
    induction m with
    | zero =>
      intro j T P' b hj h1 h2 hC
      have e : j = k := by omega
      subst e
      exact zwX6_after_116_2 ⟨by omega, by omega, fun _ => hq T P' b h1 h2 hC, fun c => absurd c (by omega)⟩
    | succ m ih =>
      intro j T P' b hj h1 h2 hC
      have hb := hC.2.2.2.1.1
      refine zwX6_after_116_2 ⟨by omega, by omega, fun c => absurd c (by omega), fun _ => ⟨w, st, b, i + j, p, th, ch, hC, fun S1 P1 g1 g2 g3 => ?_⟩⟩
      refine ih (j + 1) S1 P1 _ (by omega) (fun h c d => ?_) (fun h k' c => ?_) g3
      · rw [g1 h (by omega)]
        exact h1 h c d
      · rw [g2 h k' c]
        exact h2 h k' c
  exact zwX6_after_116_0 (t2 k 0 S P a (by omega) (fun _ _ _ => rfl) (fun _ _ _ => rfl) hI)
