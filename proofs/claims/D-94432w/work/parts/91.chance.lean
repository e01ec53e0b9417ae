/-! ===== the component's chances: chanceOf, chance, best, worth ===== -/
set_option maxRecDepth 100000
def zX1_chanceOf : zz_Sp := fun as M Q X => match as with
  | [.inr (.inr (some h_)), .inl p, .inl n] => bif Nat.beq h_ 100 && Nat.beq M.1.1 2 then ((p = 0 ∨ p = 1) ∧ (0 ≤ n ∧ n ≤ 30) ∧ ∃ (w_ : Nat → Int) (a_ : Nat), cN M.2.2.2 116 a_ ∧ styE M.2.1 (stT w_) ∧ rwE M.2.1 w_ ∧ lT M.2.1 w_ ∧ mG w_ ∧ whB w_ 16 = true ∧ xE (cx M.2.1 204) (nwW w_) ∧ scV (nwW w_) ∧ (∀ (S_ : Nat → Nat → Int) (P_ : Nat → Nat → Option Nat) (b_ : Nat), (∀ h k, ¬ (116 ≤ h ∧ h ≤ 119) → S_ h k = M.2.1 h k) → (∀ h k, ¬ (h = 116 ∧ k < 2) → P_ h k = M.2.2.2 h k) → chI S_ P_ 116 w_ (stT w_) b_ p (-1) (-1) n.toNat → Q (some (vi (tbR w_ (stT w_) p (-1) n.toNat (nuR (nwW w_)).toNat))) ((2, M.1.2), S_, M.2.2.1, P_))) else False
  | _ => False

def zpX1_chanceOf : zz_P := [(0, zo_ald 1 0), (1, zo_get 4 0 2 11), (4, zo_ild 5 1), (5, zo_callv 8 2 5 zX6_wins_116), (8, zo_ild 9 2), (9, zo_callv 12 2 5 zX6_after_116), (12, zo_ald 13 0), (13, zo_get 16 0 2 0), (16, zo_get 19 1 2 9), (19, zo_callv 22 1 2 zX3_code_204), (22, zo_callv 25 2 5 zX6_at_116), (25, zo_iret)]
theorem ztX1_chanceOf {C : mm_C} (G : mm_G C RX1 cX1_chanceOf (some .int) 3 (mm_rm 23 0 0)) (hnh : mm_nh C) : zz_OKs C zpX1_chanceOf :=
  ⟨zz_of (ok_aload_n G dX1_chanceOf_0 rfl rfl) (z_ald _ _),
   zz_of (ok_get G (nx := 4) (ci := 0) (kd := 2) (k := 11) (RX1, TX1, 19) rfl (by decide) rfl q421 dX1_chanceOf_1 rfl) (z_get _ _ _ _),
   zz_of (ok_iload_n G dX1_chanceOf_4 rfl rfl) (z_ild _ _),
   zz_of (ok_callv G hnh (zmX6_wins_116 _ G.hst) rfl rfl (RX6, TX6, 5) rfl q1605 q1606 q1607 q90 q1608 (by decide +kernel) ⟨by decide, by decide⟩ dX1_chanceOf_5 rfl) (z_callv _ _ _ _),
   zz_of (ok_iload_n G dX1_chanceOf_8 rfl rfl) (z_ild _ _),
   zz_of (ok_callv G hnh (zmX6_after_116 _ G.hst) rfl rfl (RX6, TX6, 5) rfl q1617 q1618 q1619 q90 q1620 (by decide +kernel) ⟨by decide, by decide⟩ dX1_chanceOf_9 rfl) (z_callv _ _ _ _),
   zz_of (ok_aload_n G dX1_chanceOf_12 rfl rfl) (z_ald _ _),
   zz_of (ok_get G (nx := 16) (ci := 0) (kd := 2) (k := 0) (RX1, TX1, 19) rfl (by decide) rfl q399 dX1_chanceOf_13 rfl) (z_get _ _ _ _),
   zz_of (ok_getN G (nx := 19) (ci := 1) (kd := 2) (k := 9) (RX2, TX2, 11) rfl (by decide) rfl q240 dX1_chanceOf_16 rfl) (z_get _ _ _ _),
   zz_of (ok_callv G hnh (zmX3_code_204 _ G.hst) rfl rfl (RX3, TX3, 7) rfl q1597 q1598 q1599 q87 q1600 (by decide +kernel) ⟨by decide, by decide⟩ dX1_chanceOf_19 rfl) (z_callv _ _ _ _),
   zz_of (ok_callv G hnh (zmX6_at_116 _ G.hst) rfl rfl (RX6, TX6, 5) rfl q1646 q1634 q1635 q90 q1636 (by decide +kernel) ⟨by decide, by decide⟩ dX1_chanceOf_22 rfl) (z_callv _ _ _ _),
   zz_of (ok_iret G dX1_chanceOf_25) (z_iret), trivial⟩

theorem zwX1_chanceOf_0 {Q : Option zv → zz_M → Prop} {X : Nat → zz_M → Prop} {f : Nat → Nat × Nat} {S L : Nat → Nat → Int} {P : Nat → Nat → Option Nat} {p : Int} {n : Int} (h : ((p = 0 ∨ p = 1) ∧ ∃ a_1 : Nat, cN P 116 a_1 ∧ (∀ S_1 : Nat → Nat → Int, (∀ h k, h ≠ a_1 → ¬ (h = 116 ∧ k = 3) → ¬ (h = 119 ∧ k < 4) → S_1 h k = S h k) → S_1 116 3 = -1 → enE S_1 116 p (-1) → (∀ k, k < 15488 → S_1 a_1 k = 0) → (((0 ≤ n ∧ n ≤ 1000) ∧ ∃ (w_2 st_2 : Nat → Int) (a_2 i_2 : Nat) (p_2 th_2 ch_2 : Int), chI S_1 P 116 w_2 st_2 a_2 p_2 th_2 ch_2 i_2 ∧ (∀ (S_2 : Nat → Nat → Int) (P_2 : Nat → Nat → Option Nat) (b_2 : Nat), (∀ h, h ≠ 117 → h ≠ 118 → S_2 h = S_1 h) → (∀ h k, ¬ (h = 116 ∧ k < 2) → P_2 h k = P h k) → chI S_2 P_2 116 w_2 st_2 b_2 p_2 th_2 ch_2 (i_2 + n.toNat) → ((scV (cx S_2 204) ∧ ((∃ a_4 : Nat, cN P_2 116 a_4 ∧ ((nuR (cx S_2 204)) < 0 → -4 ≤ (nuR (cx S_2 204)) ∧ (Q (some (vi (S_2 119 (-1 - (nuR (cx S_2 204))).toNat))) ((2, f), S_2, L, P_2))) ∧ (0 ≤ (nuR (cx S_2 204)) → (nuR (cx S_2 204)) < 15488 ∧ (Q (some (vi (S_2 a_4 (nuR (cx S_2 204)).toNat))) ((2, f), S_2, L, P_2))))))))))))) : zz_J zpX1_chanceOf (zz_ret Q X 0 0) 0 [some (vr 100), some (vi p), some (vi n)] [] ((2, f), S, L, P) (0, 0) := zz_J.go [] 400 h

theorem cx_fr {S T : Nat → Nat → Int} {q : Nat} (h : ∀ h k, q ≤ h → h ≤ q + 3 → T h k = S h k) : cx T q = cx S q := by
  funext k
  unfold cx
  rw [h (q + 1) 0 (by omega) (by omega), h (q + 1) 1 (by omega) (by omega), h q 3 (by omega) (by omega), h q 4 (by omega) (by omega), h (q + 3) 0 (by omega) (by omega), h (q + 3) 1 (by omega) (by omega), h q 5 (by omega) (by omega), h (q + 2) 0 (by omega) (by omega), h (q + 2) 1 (by omega) (by omega)]
theorem fr_ch {S T : Nat → Nat → Int} {w st : Nat → Int} (hsy : styE S st) (hrw : rwE S w) (hl : lT S w) (e : ∀ h k, ¬ (116 ≤ h ∧ h ≤ 133) → T h k = S h k) : styE T st ∧ rwE T w ∧ lT T w :=
  ⟨fun c hc hcb => by rw [e 107 c (by omega)]; exact hsy c hc hcb, fun i k hi hk => by rw [e (210 + i) k (by omega)]; exact hrw i k hi hk, hl.w rfl rfl (fun h hh k => e h k (by omega))⟩
theorem zmX1_chanceOf (l : Launch) (hl : l.stackTraces = false) : mm_Spec l yX1_chanceOf (ws_ yX1_chanceOf cX1_chanceOf 3 (some .int)) (mm_rm 23 0 0) (zE zX1_chanceOf) := by
  refine zz_Met.J hl (by decide) (fun C G hnh => ztX1_chanceOf G hnh) ?_
  rintro as ⟨⟨t_, f⟩, S, L, P⟩ Q X h
  unfold zX1_chanceOf at h
  split at h
  rotate_left
  · exact h.elim
  rename_i h_ p n
  obtain ⟨e1_, e2_, h⟩ := mm_and2 h (fun q => q)
  cases mm_beq e1_
  cases mm_beq e2_
  try dsimp only at h
  refine ⟨rfl, ?_⟩
  obtain ⟨hp, hn, w, a, ha, hsy, hrw, hl, hm, hwh, hx, hV, hq⟩ := h
  have a2 := ha.1
  have hnu := nuR_in hV
  have hcb : cbR (nuR (nwW w)) = true := nuR_cb hV
  refine zwX1_chanceOf_0 ⟨hp, a, ha, fun S1 s1 s2 s3 s4 => ⟨by omega, w, stT w, a, 0, p, -1, -1, ?_, fun S2 P2 b t1 t2 t3 => ?_⟩⟩
  · obtain ⟨f1, f2, f3⟩ := fr_ch hsy hrw hl (T := S1) (fun h k hh => s1 h k (by omega) (by omega) (by omega))
    refine ⟨⟨s2, Or.inl rfl, hp⟩, f1, stT_G w, ha, fun c hc _ => ?_, s3, f2, f3, hm, hwh⟩
    rw [s4 c hc]
    rfl
  · have ex : cx S2 204 = cx S 204 := cx_fr fun h k h1 h2 => by rw [t1 h (by omega) (by omega), s1 h k (by omega) (by omega) (by omega)]
    have e1 : nuR (cx S2 204) = nuR (nwW w) := by rw [ex]; exact nuR_xE hV hx
    rw [e1, ex]
    rw [Nat.zero_add] at t3
    refine ⟨scV_xE hV hx, b, t3.2.2.2.1, fun d => by omega, fun _ => ⟨hnu.2, ?_⟩⟩
    have hv := t3.2.2.2.2.1 (nuR (nwW w)).toNat (by omega) (by rw [Int.toNat_of_nonneg hnu.1]; exact hcb)
    rw [hv]
    exact hq S2 P2 b (fun h k hh => by rw [t1 h (by omega) (by omega), s1 h k (by omega) (by omega) (by omega)]) t2 t3
/-- the component is as the numbers w tell -/
def cO (f : Nat → Nat × Nat) (S : Nat → Nat → Int) (P : Nat → Nat → Option Nat) (w : Nat → Int) (rs : List (Fc → Option Int)) (top : Nat) : Prop :=
  wRel S w ∧ (mG w ∧ whB w 16 = true) ∧ (S 100 8 = 0 ∨ (S 100 8 = 1 ∧ lT S w)) ∧ (rlI f S P top rs ∧ ruR w rs ∧ ∀ p, p < 2 → prI S rs p) ∧ (xE (cx S 204) (nwW w) ∧ scV (nwW w) ∧ scb (cx S 204)) ∧ (∃ a, cN P 116 a) ∧ (∃ a, cN P 120 a) ∧ (∃ a, cN P 124 a)
/-- what may be worked with has been worked with -/
def cZ (S : Nat → Nat → Int) (P : Nat → Nat → Option Nat) (w : Nat → Int) (S' : Nat → Nat → Int) (P' : Nat → Nat → Option Nat) : Prop :=
  (skE S S' ∧ spE P P') ∧ (S' 100 8 = 0 ∨ (S' 100 8 = 1 ∧ lT S' w)) ∧ (∃ a, cN P' 116 a) ∧ (∃ a, cN P' 120 a) ∧ (∃ a, cN P' 124 a)
theorem sck_t {S S' : Nat → Nat → Int} (q : skE S S') {h k : Nat} (h1 : ¬ (103 ≤ h ∧ h ≤ 140)) (h2 : ¬ (h = 100 ∧ k = 8)) : S' h k = S h k := by
  refine q h k ?_
  unfold sck
  rw [Bool.or_eq_false_iff]
  constructor
  · cases a : Nat.ble 103 h with
    | false => rfl
    | true =>
      cases b : Nat.ble h 140 with
      | false => rfl
      | true => exact absurd ⟨Nat.le_of_ble_eq_true a, Nat.le_of_ble_eq_true b⟩ h1
  · cases a : Nat.beq h 100 with
    | false => rfl
    | true =>
      cases b : Nat.beq k 8 with
      | false => rfl
      | true => exact absurd ⟨Nat.eq_of_beq_eq_true a, Nat.eq_of_beq_eq_true b⟩ h2
theorem sck_o {S S' : Nat → Nat → Int} (q : ∀ h k, ¬ (103 ≤ h ∧ h ≤ 140) → ¬ (h = 100 ∧ k = 8) → S' h k = S h k) : skE S S' := by
  intro a b e
  unfold sck at e
  rw [Bool.or_eq_false_iff] at e
  refine q a b (fun c => ?_) (fun c => ?_)
  · have e := e.1
    rw [Nat.ble_eq_true_of_le c.1, Nat.ble_eq_true_of_le c.2] at e
    cases e
  · have e := e.2
    rw [c.1, c.2] at e
    cases e
theorem spk_o {P P' : Nat → Nat → Option Nat} (q : ∀ h k, ¬ (h = 103 ∧ k = 0) → ¬ ((h = 116 ∨ h = 120 ∨ h = 124) ∧ k < 2) → P' h k = P h k) : spE P P' := by
  intro a b e
  unfold spk at e
  rw [Bool.or_eq_false_iff] at e
  refine q a b (fun c => ?_) (fun c => ?_)
  · have e := e.1
    rw [c.1, c.2] at e
    cases e
  · have e := e.2
    rw [Nat.ble_eq_true_of_le (by omega : b ≤ 1), Bool.and_true] at e
    rcases c.1 with c | c | c <;> rw [c] at e <;> cases e
theorem spk_t {P P' : Nat → Nat → Option Nat} (q : spE P P') {h k : Nat} (h1 : ¬ (h = 103 ∧ k = 0)) (h2 : ¬ ((h = 116 ∨ h = 120 ∨ h = 124) ∧ k < 2)) : P' h k = P h k := by
  refine q h k ?_
  have bq : ∀ a b : Nat, a ≠ b → Nat.beq a b = false := fun a b hn => by
    cases q : Nat.beq a b with
    | false => rfl
    | true => exact absurd (Nat.eq_of_beq_eq_true q) hn
  unfold spk
  rw [Bool.or_eq_false_iff]
  constructor
  · by_cases e : h = 103
    · rw [bq k 0 (fun c => h1 ⟨e, c⟩), Bool.and_false]
    · rw [bq h 103 e, Bool.false_and]
  · by_cases e : k < 2
    · rw [bq h 116 (fun c => h2 ⟨Or.inl c, e⟩), bq h 120 (fun c => h2 ⟨Or.inr (Or.inl c), e⟩), bq h 124 (fun c => h2 ⟨Or.inr (Or.inr c), e⟩)]
      rfl
    · have : Nat.ble k 1 = false := by
        cases q : Nat.ble k 1 with
        | false => rfl
        | true => have := Nat.le_of_ble_eq_true q; omega
      rw [this, Bool.and_false]
theorem wRel.fr {S T : Nat → Nat → Int} {w : Nat → Int} (h : wRel S w) (e : ∀ h k, 200 ≤ h → h ≤ 225 → T h k = S h k) : wRel T w := by
  obtain ⟨⟨a1, a2, a3, a4, a5⟩, h1, h2, h3, h4, h5⟩ := h
  exact ⟨⟨by rw [e 200 1 (by omega) (by omega)]; exact a1, by rw [e 200 2 (by omega) (by omega)]; exact a2, by rw [e 200 3 (by omega) (by omega)]; exact a3, by rw [e 200 4 (by omega) (by omega)]; exact a4, by rw [e 200 5 (by omega) (by omega)]; exact a5⟩, by rw [e 200 0 (by omega) (by omega)]; exact h1, by rw [e 202 2 (by omega) (by omega)]; exact h2, by rw [e 203 0 (by omega) (by omega)]; exact h3, by rw [e 203 1 (by omega) (by omega)]; exact h4, fun i k hi hk => by rw [e (210 + i) k (by omega) (by omega)]; exact h5 i k hi hk⟩
theorem cO.z {f : Nat → Nat × Nat} {S S' : Nat → Nat → Int} {P P' : Nat → Nat → Option Nat} {w : Nat → Int} {rs : List (Fc → Option Int)} {top : Nat} (h : cO f S P w rs top) (z : cZ S P w S' P') : cO f S' P' w rs top := by
  obtain ⟨h1, h2, h3, ⟨h4, h5, h6⟩, h7, -⟩ := h
  obtain ⟨⟨z1, z2⟩, z3, z4⟩ := z
  refine ⟨h1.fr fun h k a b => sck_t z1 (by omega) (by omega), h2, z3, ⟨h4.sk z1 z2, h5, fun p hp => ?_⟩, ?_, z4⟩
  · have := h6 p hp
    unfold prI at this ⊢
    rw [sck_t z1 (by omega) (by omega)]
    exact this
  · rw [cx_fr fun h k a b => sck_t z1 (by omega) (by omega)]
    exact h7
theorem cZ.tr {S S' S'' : Nat → Nat → Int} {P P' P'' : Nat → Nat → Option Nat} {w : Nat → Int} (a : cZ S P w S' P') (b : cZ S' P' w S'' P'') : cZ S P w S'' P'' := ⟨⟨fun h k e => by rw [b.1.1 h k e, a.1.1 h k e], fun h k e => by rw [b.1.2 h k e, a.1.2 h k e]⟩, b.2⟩
theorem cO.zr {f : Nat → Nat × Nat} {S : Nat → Nat → Int} {P : Nat → Nat → Option Nat} {w : Nat → Int} {rs : List (Fc → Option Int)} {top : Nat} (h : cO f S P w rs top) : cZ S P w S P := ⟨⟨fun _ _ _ => rfl, fun _ _ _ => rfl⟩, h.2.2.1, h.2.2.2.2.2⟩
/-- the styles at all scores, too -/
def cY (f : Nat → Nat × Nat) (S : Nat → Nat → Int) (P : Nat → Nat → Option Nat) (w : Nat → Int) (rs : List (Fc → Option Int)) (top : Nat) : Prop := cO f S P w rs top ∧ S 100 8 = 1 ∧ lT S w ∧ styE S (stT w)
theorem cN.fr {P P' : Nat → Nat → Option Nat} {q a : Nat} (h : cN P q a) (e0 : P' q 0 = P q 0) (e1 : P' q 1 = P q 1) : cN P' q a := ⟨h.1, by rw [e0]; exact h.2.1, by rw [e1]; exact h.2.2⟩
theorem cO.sty {f : Nat → Nat × Nat} {S : Nat → Nat → Int} {P : Nat → Nat → Option Nat} {w : Nat → Int} {rs : List (Fc → Option Int)} {top : Nat} {G : (Nat → Nat → Int) → (Nat → Nat → Option Nat) → Prop} (h : cO f S P w rs top) (g : ∀ (T : Nat → Nat → Int) (PT : Nat → Nat → Option Nat), cZ S P w T PT → cY f T PT w rs top → G T PT) :
    ∃ (w_ : Nat → Int) (rs_ : List (Fc → Option Int)) (top_ : Nat), wRel S w_ ∧ wV w_ ∧ (S 100 8 = 0 ∨ (S 100 8 = 1 ∧ lT S w_)) ∧ rlI f S P top_ rs_ ∧ ruR w_ rs_ ∧ (∀ p_, p_ < 2 → prI S rs_ p_) ∧ (cx S 204 6 = 0 ∨ cx S 204 6 = 1) ∧ cx S 204 7 = w_ 208 ∧ cx S 204 8 = w_ 209 ∧ (0 ≤ w_ 208 ∧ w_ 208 ≤ 6) ∧ (0 ≤ w_ 209 ∧ w_ 209 ≤ 6) ∧ (∀ (S_ : Nat → Nat → Int) (P_ : Nat → Nat → Option Nat), syE S S_ → scnP P P_ → S_ 100 8 = 1 → lT S_ w_ → styE S_ (stT w_) → G S_ P_) := by
  have hh := h
  obtain ⟨h1, ⟨h2, h2b⟩, h3, ⟨h4, h5, h6⟩, ⟨h7, h8, h8b⟩, ⟨a, h9⟩, ⟨b, h10⟩, ⟨c, h11⟩⟩ := h
  have hV := scV_xE h8 h7
  have x6 : cx S 204 6 = 0 ∨ cx S 204 6 = 1 := by
    rcases hV.2.2 with ⟨-, e⟩ | ⟨-, e, -⟩ | ⟨-, e, -⟩ <;> omega
  refine ⟨w, rs, top, h1, h2.2.1, h3, h4, h5, h6, x6, h7.2.2.2.2.2.2.2.1, h7.2.2.2.2.2.2.2.2, h2.2.2.1, h2.2.2.2, fun T PT t1 t2 t3 t4 t5 => ?_⟩
  have z : cZ S P w T PT := ⟨⟨t1.sk, t2.sp⟩, Or.inr ⟨t3, t4⟩, ⟨a, h9.fr (t2 116 0 (by omega)) (t2 116 1 (by omega))⟩, ⟨b, h10.fr (t2 120 0 (by omega)) (t2 120 1 (by omega))⟩, ⟨c, h11.fr (t2 124 0 (by omega)) (t2 124 1 (by omega))⟩⟩
  exact g T PT z ⟨hh.z z, t3, t4, t5⟩
theorem cO.bx {f : Nat → Nat × Nat} {S : Nat → Nat → Int} {P : Nat → Nat → Option Nat} {w : Nat → Int} {rs : List (Fc → Option Int)} {top : Nat} (h : cO f S P w rs top) : scb (cx S 204) ∧ scV (cx S 204) ∧ R32 (S 200 1) ∧ S 200 1 = w 194 ∧ ovR (S 200 1) (cx S 204) = ovR (w 194) (nwW w) := by
  obtain ⟨h1, ⟨h2, h2b⟩, h3, ⟨h4, h5, h6⟩, ⟨h7, h8, h8b⟩, -⟩ := h
  have hV := scV_xE h8 h7
  have e1 : S 200 1 = w 194 := h1.1.1
  have w194 := h2.2.1.1
  refine ⟨h8b, hV, by omega, e1, ?_⟩
  unfold ovR
  rw [e1, h7.2.2.2.2.2.2.2.1, h7.2.2.2.2.2.2.2.2]
theorem rf_go {w x : Nat → Int} {p n : Int} : (rfR w x p n = 1 ↔ ¬ (0 ≤ p ∧ p ≤ 1)) ∧ (rfR w x p n = 2 ↔ (0 ≤ p ∧ p ≤ 1) ∧ ¬ (0 ≤ n ∧ n ≤ 30)) ∧ (rfR w x p n = 3 ↔ (0 ≤ p ∧ p ≤ 1) ∧ (0 ≤ n ∧ n ≤ 30) ∧ ovR (w 194) x = true) ∧ (rfR w x p n = 0 ↔ (0 ≤ p ∧ p ≤ 1) ∧ (0 ≤ n ∧ n ≤ 30) ∧ ovR (w 194) x = false) := by
  unfold rfR
  cases ovR (w 194) x <;> split <;> (try split) <;> simp <;> omega
/-- what chanceOf asks for, and what it gives -/
theorem cY.ch {f : Nat → Nat × Nat} {T : Nat → Nat → Int} {PT : Nat → Nat → Option Nat} {w : Nat → Int} {rs : List (Fc → Option Int)} {top : Nat} {p n : Int} {G : (Nat → Int) → (Nat → Nat → Int) → (Nat → Nat → Option Nat) → Prop} (y : cY f T PT w rs top) (hp : p = 0 ∨ p = 1) (hn : 0 ≤ n ∧ n ≤ 30) (g : ∀ (S' : Nat → Nat → Int) (P' : Nat → Nat → Option Nat) (b : Nat), cZ T PT w S' P' → cY f S' P' w rs top → chI S' P' 116 w (stT w) b p (-1) (-1) n.toNat → G w S' P') :
    (p = 0 ∨ p = 1) ∧ (0 ≤ n ∧ n ≤ 30) ∧ ∃ (w_ : Nat → Int) (a_ : Nat), cN PT 116 a_ ∧ styE T (stT w_) ∧ rwE T w_ ∧ lT T w_ ∧ mG w_ ∧ whB w_ 16 = true ∧ xE (cx T 204) (nwW w_) ∧ scV (nwW w_) ∧ (∀ (S_ : Nat → Nat → Int) (P_ : Nat → Nat → Option Nat) (b_ : Nat), (∀ h k, ¬ (116 ≤ h ∧ h ≤ 119) → S_ h k = T h k) → (∀ h k, ¬ (h = 116 ∧ k < 2) → P_ h k = PT h k) → chI S_ P_ 116 w_ (stT w_) b_ p (-1) (-1) n.toNat → G w_ S_ P_) := by
  obtain ⟨yo, yk, yl, ys⟩ := y
  have yo' := yo
  obtain ⟨h1, ⟨h2, h2b⟩, h3, h456, ⟨h7, h8, h8b⟩, ⟨a, h9⟩, ⟨b, h10⟩, ⟨c, h11⟩⟩ := yo
  refine ⟨hp, hn, w, a, h9, ys, fun i k hi hk => h1.2.2.2.2.2 i k hi hk, yl, h2, h2b, h7, h8, fun S' P' b' s1 s2 s3 => ?_⟩
  have k1 : S' 100 8 = 1 := by rw [s1 100 8 (by omega)]; exact yk
  have l1 : lT S' w := s3.2.2.2.2.2.2.2.1
  have z : cZ T PT w S' P' := ⟨⟨sck_o fun h k a _ => s1 h k (by omega), spk_o fun h k _ a => s2 h k (by omega)⟩, Or.inr ⟨k1, l1⟩, ⟨_, s3.2.2.2.1⟩, ⟨b, h10.fr (s2 120 0 (by omega)) (s2 120 1 (by omega))⟩, ⟨c, h11.fr (s2 124 0 (by omega)) (s2 124 1 (by omega))⟩⟩
  exact g S' P' b' z ⟨yo'.z z, k1, l1, s3.2.1⟩ s3
def zX1_chance : zz_Sp := fun as M Q X => match as with
  | [.inr (.inr (some h_)), .inl p, .inl n] => bif Nat.beq h_ 100 && Nat.beq M.1.1 2 then (R32 p ∧ R32 n ∧ ∃ (w_ : Nat → Int) (rs_ : List (Fc → Option Int)) (top_ : Nat), cO M.1.2 M.2.1 M.2.2.2 w_ rs_ top_ ∧ (rfR w_ (nwW w_) p n = 1 → X 3 ((2, M.1.2), M.2.1, M.2.2.1, M.2.2.2)) ∧ (rfR w_ (nwW w_) p n = 2 → X 1 ((2, M.1.2), M.2.1, M.2.2.1, M.2.2.2)) ∧ (rfR w_ (nwW w_) p n = 3 → X 5 ((2, M.1.2), M.2.1, M.2.2.1, M.2.2.2)) ∧ (rfR w_ (nwW w_) p n = 0 → ∀ (S_ : Nat → Nat → Int) (P_ : Nat → Nat → Option Nat), cZ M.2.1 M.2.2.2 w_ S_ P_ → Q (some (vi (tbR w_ (stT w_) p (-1) n.toNat (nuR (nwW w_)).toNat))) ((2, M.1.2), S_, M.2.2.1, P_))) else False
  | _ => False

def zpX1_chance : zz_P := [(0, zo_ild 1 1), (1, zo_csL (mm_rm 24 3 18) 4 1 1 6 zX1_player), (4, zo_ild 5 2), (5, zo_csL (mm_rm 24 3 18) 8 1 1 6 zX1_some), (8, zo_ald 9 0), (9, zo_cvL (mm_rm 24 3 18) 12 1 0 1 6 zX1_goesYet), (12, zo_ald 13 0), (13, zo_callv 16 1 0 zX1_stylesAll), (16, zo_ald 17 0), (17, zo_ild 18 1), (18, zo_ild 19 2), (19, zo_callv 22 3 0 zX1_chanceOf), (22, zo_iret)]
theorem ztX1_chance {C : mm_C} (G : mm_G C RX1 cX1_chance (some .int) 3 (mm_rm 24 3 18)) (hnh : mm_nh C) : zz_OKs C zpX1_chance :=
  ⟨zz_of (ok_iload_n G dX1_chance_0 rfl rfl) (z_ild _ _),
   zz_of (ok_calsF G (hnh.q 1) (zmX1_player _ G.hst) q1367 q1368 q82 q1369 (by decide +kernel) ⟨Nat.le_of_ble_eq_true rfl, Nat.le_of_ble_eq_true rfl⟩ dX1_chance_1 rfl) (z_csL _ _ _ _ _ _),
   zz_of (ok_iload_n G dX1_chance_4 rfl rfl) (z_ild _ _),
   zz_of (ok_calsF G (hnh.q 5) (zmX1_some _ G.hst) q1575 q1576 q82 q1577 (by decide +kernel) ⟨Nat.le_of_ble_eq_true rfl, Nat.le_of_ble_eq_true rfl⟩ dX1_chance_5 rfl) (z_csL _ _ _ _ _ _),
   zz_of (ok_aload_n G dX1_chance_8 rfl rfl) (z_ald _ _),
   zz_of (ok_calvF G (hnh.q 9) (zmX1_goesYet _ G.hst) (RX1, TX1, 19) rfl q1518 q1520 qs19 q82 q1521 (by decide +kernel) ⟨Nat.le_of_ble_eq_true rfl, Nat.le_of_ble_eq_true rfl⟩ dX1_chance_9 rfl) (z_cvL _ _ _ _ _ _ _),
   zz_of (ok_aload_n G dX1_chance_12 rfl rfl) (z_ald _ _),
   zz_of (ok_callv G hnh (zmX1_stylesAll _ G.hst) rfl rfl (RX1, TX1, 19) rfl q1578 q1580 qs23 q82 q1581 (by decide +kernel) ⟨by decide, by decide⟩ dX1_chance_13 rfl) (z_callv _ _ _ _),
   zz_of (ok_aload_n G dX1_chance_16 rfl rfl) (z_ald _ _),
   zz_of (ok_iload_n G dX1_chance_17 rfl rfl) (z_ild _ _),
   zz_of (ok_iload_n G dX1_chance_18 rfl rfl) (z_ild _ _),
   zz_of (ok_callv G hnh (zmX1_chanceOf _ G.hst) rfl rfl (RX1, TX1, 19) rfl q1601 q1603 qs26 q82 q1604 (by decide +kernel) ⟨by decide, by decide⟩ dX1_chance_19 rfl) (z_callv _ _ _ _),
   zz_of (ok_iret G dX1_chance_22) (z_iret), trivial⟩

theorem zwX1_chance_0 {Q : Option zv → zz_M → Prop} {X : Nat → zz_M → Prop} {f : Nat → Nat × Nat} {S L : Nat → Nat → Int} {P : Nat → Nat → Option Nat} {p : Int} {n : Int} (h : (R32 p ∧ ((0 ≤ p ∧ p < 2) → ((R32 n ∧ ((0 ≤ n ∧ n ≤ 30) → ((scb (cx S 204) ∧ R32 (S 200 1) ∧ (ovR (S 200 1) (cx S 204) = false → ((∃ (w_4 : Nat → Int) (rs_4 : List (Fc → Option Int)) (top_4 : Nat), wRel S w_4 ∧ wV w_4 ∧ (S 100 8 = 0 ∨ (S 100 8 = 1 ∧ lT S w_4)) ∧ rlI f S P top_4 rs_4 ∧ ruR w_4 rs_4 ∧ (∀ p_4, p_4 < 2 → prI S rs_4 p_4) ∧ (cx S 204 6 = 0 ∨ cx S 204 6 = 1) ∧ cx S 204 7 = w_4 208 ∧ cx S 204 8 = w_4 209 ∧ (0 ≤ w_4 208 ∧ w_4 208 ≤ 6) ∧ (0 ≤ w_4 209 ∧ w_4 209 ≤ 6) ∧ (∀ (S_4 : Nat → Nat → Int) (P_4 : Nat → Nat → Option Nat), syE S S_4 → scnP P P_4 → S_4 100 8 = 1 → lT S_4 w_4 → styE S_4 (stT w_4) → (((p = 0 ∨ p = 1) ∧ (0 ≤ n ∧ n ≤ 30) ∧ ∃ (w_5 : Nat → Int) (a_5 : Nat), cN P_4 116 a_5 ∧ styE S_4 (stT w_5) ∧ rwE S_4 w_5 ∧ lT S_4 w_5 ∧ mG w_5 ∧ whB w_5 16 = true ∧ xE (cx S_4 204) (nwW w_5) ∧ scV (nwW w_5) ∧ (∀ (S_5 : Nat → Nat → Int) (P_5 : Nat → Nat → Option Nat) (b_5 : Nat), (∀ h k, ¬ (116 ≤ h ∧ h ≤ 119) → S_5 h k = S_4 h k) → (∀ h k, ¬ (h = 116 ∧ k < 2) → P_5 h k = P_4 h k) → chI S_5 P_5 116 w_5 (stT w_5) b_5 p (-1) (-1) n.toNat → (Q (some (vi (tbR w_5 (stT w_5) p (-1) n.toNat (nuR (nwW w_5)).toNat))) ((2, f), S_5, L, P_5))))))))) ∧ (ovR (S 200 1) (cx S 204) = true → X 5 ((2, f), S, L, P))))) ∧ (¬ (0 ≤ n ∧ n ≤ 30) → X 1 ((2, f), S, L, P))))) ∧ (¬ (0 ≤ p ∧ p < 2) → X 3 ((2, f), S, L, P)))) : zz_J zpX1_chance (zz_ret Q X 3 18) 0 [some (vr 100), some (vi p), some (vi n)] [] ((2, f), S, L, P) (0, 0) := zz_J.go [] 400 h

theorem zmX1_chance (l : Launch) (hl : l.stackTraces = false) : mm_Spec l yX1_chance (ws_ yX1_chance cX1_chance 3 (some .int)) (mm_rm 24 3 18) (zE zX1_chance) := by
  refine zz_Met.J hl (by decide) (fun C G hnh => ztX1_chance G hnh) ?_
  rintro as ⟨⟨t_, f⟩, S, L, P⟩ Q X h
  unfold zX1_chance at h
  split at h
  rotate_left
  · exact h.elim
  rename_i h_ p n
  obtain ⟨e1_, e2_, h⟩ := mm_and2 h (fun q => q)
  cases mm_beq e1_
  cases mm_beq e2_
  try dsimp only at h
  refine ⟨rfl, ?_⟩
  obtain ⟨hp, hn, w, rs, top, hc, q1, q2, q3, q0⟩ := h
  obtain ⟨b1, b2, b3, b4, b5⟩ := hc.bx
  obtain ⟨r1, r2, r3, r0⟩ := @rf_go w (nwW w) p n
  refine zwX1_chance_0 ⟨hp, fun c => ⟨hn, fun d => ⟨b1, b3, fun o => hc.sty fun T PT z y => ?_, fun o => q3 (r3.mpr ⟨by omega, d, by rw [← b5]; exact o⟩)⟩, fun d => q2 (r2.mpr ⟨by omega, d⟩)⟩, fun c => q1 (r1.mpr (by omega))⟩
  exact y.ch (p := p) (n := n) (by omega) d fun S' P' b z2 _ _ => q0 (r0.mpr ⟨by omega, d, by rw [← b5]; exact o⟩) S' P' (z.tr z2)
