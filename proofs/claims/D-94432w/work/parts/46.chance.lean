/-! ===== the model's chances: chance, worth, ways, even ===== -/
set_option maxRecDepth 100000
/-- what lasts: thrown, the row, what is kept, the tape, the fault -/
def core (h k : Nat) : Bool := decide (h = 1) || decide (h = 2) || decide (h = 4) || (decide (h = 0) && (decide (k = 0) || decide (k = 3) || decide (k = 6) || decide (k = 10)))
theorem core_t {h k : Nat} : core h k = true ↔ h = 1 ∨ h = 2 ∨ h = 4 ∨ (h = 0 ∧ (k = 0 ∨ k = 3 ∨ k = 6 ∨ k = 10)) := by
  unfold core
  simp only [Bool.or_eq_true, Bool.and_eq_true, decide_eq_true_eq]
  grind
theorem core_q {h k : Nat} (hc : core h k = true) : scq h k = false ∧ h ≠ 7 ∧ h ≠ 8 ∧ h ≠ 9 ∧ h ≠ 6 ∧ h ≠ 10 ∧ h ≠ 11 ∧ (h = 0 → k ≠ 17 ∧ k ≠ 18) := by
  rw [core_t] at hc
  refine ⟨?_, by omega, by omega, by omega, by omega, by omega, by omega, by omega⟩
  unfold scq scr
  simp only [Bool.or_eq_false_iff, Bool.and_eq_false_iff, decide_eq_false_iff_not]
  omega
/-- a state behind S: what lasts is as it was, but for thrown -/
def coS (S T : Nat → Nat → Int) : Prop := (∀ h k, core h k = true → ¬ (h = 0 ∧ k = 0) → T h k = S h k) ∧ gdF T ∧ xG (T 6)
/-- all that lasts is as in S -/
def coQ (S T : Nat → Nat → Int) : Prop := (∀ h k, core h k = true → T h k = S h k) ∧ gdF T ∧ xG (T 6)
theorem coS.Q {S T : Nat → Nat → Int} {t : Int} (h : coS S T) (h0 : T 0 0 = t) : coQ (mm_up S 0 0 t) T := by
  refine ⟨fun a b hab => ?_, h.2⟩
  rw [up_eq]
  split
  · next e => rw [e.1, e.2]; exact h0
  · next e => exact h.1 a b hab e
theorem coS.r1 {S T : Nat → Nat → Int} (h : coS S T) : T 1 = S 1 := by
  funext k
  exact h.1 1 k (by simp [core]) (by omega)
theorem coS.r10 {S T : Nat → Nat → Int} (h : coS S T) : T 0 10 = S 0 10 := h.1 0 10 (by simp [core]) (by omega)
theorem coS.tk {S T : Nat → Nat → Int} (h : coS S T) (hx : xG (S 6)) : tkS T 6 = tkS S 6 := by
  funext k
  rw [tkS_at, tkS_at]
  by_cases hk : k < 9
  · rw [if_pos ⟨rfl, hk⟩, if_pos ⟨rfl, hk⟩, h.r1]
  · rw [if_neg (fun q => hk q.2), if_neg (fun q => hk q.2), h.2.2.2 k (by omega), hx.2 k (by omega)]
/-- the score that is now -/
abbrev nwX (S : Nat → Nat → Int) : Nat → Int := tkS S 6
/-- the model's state between its methods -/
def mI (S : Nat → Nat → Int) : Prop := mG (S 1) ∧ whB (S 1) 16 = true ∧ (∀ u, u < 2 → plG (S 1) u) ∧ gdF S ∧ R32 (S 0 10) ∧ xG (S 6) ∧ scV (nwX S) ∧ xB 6 (nwX S)
theorem mI.xg {S : Nat → Nat → Int} (h : mI S) : xG (nwX S) := h.2.2.2.2.2.2.1.xG h.2.2.2.2.2.2.2 (by decide)
theorem gdF.tk {S : Nat → Nat → Int} (h : gdF S) : gdF (tkS S) := by
  unfold gdF at h ⊢
  have ef : fcS (tkS S) = fcS S := by
    funext k
    grind [fcS, tkS_at]
  rw [ef]
  exact h
theorem coS.take {S T : Nat → Nat → Int} (h : coS S T) (hI : mI S) : coS S (tkS T) := by
  refine ⟨fun a b hab hn => ?_, h.2.1.tk, by rw [h.tk hI.2.2.2.2.2.1]; exact hI.xg⟩
  rw [tkS_at, if_neg (fun q => (core_q hab).2.2.2.2.1 q.1)]
  exact h.1 a b hab hn
theorem coS.up0 {S T : Nat → Nat → Int} (h : coS S T) (v : Int) : coS S (mm_up T 0 0 v) := by
  refine ⟨fun a b hab hn => ?_, h.2.1.up _ (by decide) (by omega), ?_⟩
  · rw [up_eq, if_neg hn]
    exact h.1 a b hab hn
  · have : mm_up T 0 0 v 6 = T 6 := by
      funext j
      simp [up_eq]
    rw [this]
    exact h.2.2
theorem coS.rf {S : Nat → Nat → Int} (h : mI S) : coS S S := ⟨fun _ _ _ _ => rfl, h.2.2.2.1, h.2.2.2.2.2.1⟩
theorem coS.as {S T V : Nat → Nat → Int} (h : coS S T) (hV : asQ T V) : coS S V ∧ V 0 0 = T 0 0 := by
  refine ⟨⟨fun a b hab hn => ?_, hV.2.2⟩, hV.1 0 0 (by simp [scq, scr]) (by decide)⟩
  rw [hV.1 a b (core_q hab).1 (core_q hab).2.1]
  exact h.1 a b hab hn
theorem coS.sxx {S T : Nat → Nat → Int} (h : coS S T) {x : Nat → Int} (hx : xG x) (a b : Int) : coS S (sx T x a b) := by
  refine ⟨fun c d hab hn => ?_, h.2.1.sxx _ _ _, by rw [sx_6]; exact hx⟩
  have q := core_q hab
  rw [sx_at, if_neg q.2.2.2.2.1, if_neg (fun e => (q.2.2.2.2.2.2.2 e.1).1 e.2), if_neg (fun e => (q.2.2.2.2.2.2.2 e.1).2 e.2)]
  exact h.1 c d hab hn
theorem coS.tab {S T : Nat → Nat → Int} (h : coS S T) (f g : Nat → Int) : coS S (tabS T f g) := by
  have e6 : tabS T f g 6 = T 6 := rfl
  refine ⟨fun c d hab hn => ?_, ?_, by rw [e6]; exact h.2.2⟩
  · have q := core_q hab
    rw [tabS_at, if_neg q.2.2.1, if_neg q.2.2.2.1]
    exact h.1 c d hab hn
  · have hg := h.2.1
    unfold gdF at hg ⊢
    have ef : fcS (tabS T f g) = fcS T := by
      funext k
      grind [fcS, tabS_at]
    rw [ef]
    exact hg
/-- the styles at all scores -/
def stT (w : Nat → Int) : Nat → Int := fun j => stR w (scX w ((j / 2 : Nat) : Int)) (j % 2)
theorem stT_G (w : Nat → Int) : stG (stT w) := fun _ _ => stR_in _ _ _
theorem byR_s {tb w st st' : Nat → Int} {k : Nat} {p th : Int} (h : ∀ j, j < 30976 → st j = st' j) (hk : k < 15488) : byR tb w st k p th = byR tb w st' k p th := by
  unfold byR byI
  rw [h _ (by omega), h _ (by omega)]
theorem tbR_s {w st st' : Nat → Int} {p th : Int} (h : ∀ j, j < 30976 → st j = st' j) (hw : wV w) : ∀ (i k : Nat), k < 15488 → tbR w st p th i k = tbR w st' p th i k
  | 0, _, _ => rfl
  | i + 1, k, hk => by
    unfold tbR
    split
    · next hc => rw [byR_c (fun j hj => tbR_s h hw i j hj) hw hk hc, byR_s h hk]
    · rfl
/-- all styles, then the tables: what is had -/
theorem mI.styles {S T V : Nat → Nat → Int} (hI : mI S) (h : coS S T) (hV : asQ T V) : coS S V ∧ V 0 0 = T 0 0 ∧ mG (V 1) ∧ whB (V 1) 16 = true ∧ stG (V 7) ∧ xG (V 6) ∧ V 1 = S 1 ∧ ∀ j, j < 30976 → V 7 j = stT (S 1) j := by
  obtain ⟨h1, h2⟩ := h.as hV
  have e1 := h1.r1
  have e7 : ∀ j, j < 30976 → V 7 j = stT (S 1) j := by
    intro j hj
    rw [hV.2.1 j hj, h.r1]
    rfl
  refine ⟨h1, h2, by rw [e1]; exact hI.1, by rw [e1]; exact hI.2.1, fun j hj => by rw [e7 j hj]; exact stR_in _ _ _, h1.2.2, e1, e7⟩
theorem mI.pre {S T : Nat → Nat → Int} (hI : mI S) (h : coS S T) : mG (T 1) ∧ (∀ u, u < 2 → plG (T 1) u) ∧ gdF T ∧ R32 (T 0 10) ∧ xG (T 6) := by
  rw [h.r1, h.r10]
  exact ⟨hI.1, hI.2.2.1, h.2.1, hI.2.2.2.2.1, h.2.2⟩
def zX9_chance : zz_Sp := fun as M Q X => match as with
  | [.inr (.inr (some h_)), .inl p, .inl n] => bif Nat.beq h_ 0 && Nat.beq M.1.1 1 then (R32 p ∧ R32 n ∧ mI M.2.1 ∧ (∀ S_ : Nat → Nat → Int, rfR (M.2.1 1) (nwX M.2.1) p n ≠ 0 → coQ (mm_up M.2.1 0 0 (rfR (M.2.1 1) (nwX M.2.1) p n)) S_ → Q (some (vi 0)) (zm S_ M.2.2.1)) ∧ (∀ S_ : Nat → Nat → Int, rfR (M.2.1 1) (nwX M.2.1) p n = 0 → coQ (mm_up M.2.1 0 0 0) S_ → Q (some (vi (tbR (M.2.1 1) (stT (M.2.1 1)) p (-1) n.toNat (nuR (nwX M.2.1)).toNat))) (zm S_ M.2.2.1))) else False
  | _ => False

theorem rfR_0 {w x : Nat → Int} {p n : Int} (h : rfR w x p n = 0) : (0 ≤ p ∧ p ≤ 1) ∧ (0 ≤ n ∧ n ≤ 30) ∧ ovR (w 194) x = false := by
  unfold rfR at h
  split at h
  · cases h
  · split at h
    · cases h
    · split at h
      · cases h
      · next h1 h2 h3 => exact ⟨by omega, by omega, by simpa using h3⟩
theorem rfR_in (w x : Nat → Int) (p n : Int) : 0 ≤ rfR w x p n ∧ rfR w x p n ≤ 3 := by
  unfold rfR
  repeat' split
  all_goals decide
def zpX9_chance : zz_P := [(0, zo_ald 1 0), (1, zo_ald 2 0), (2, zo_ild 3 1), (3, zo_ild 4 2), (4, zo_callv 7 3 8 zX9_refuses), (7, zo_puti 10 8 0), (10, zo_ald 11 0), (11, zo_get 14 8 0 0), (14, zo_ifle false 17 19), (17, zo_c 18 (vi 0)), (18, zo_iret), (19, zo_ald 20 0), (20, zo_callv 23 1 8 zX9_allStyles), (23, zo_ald 24 0), (24, zo_ild 25 1), (25, zo_c 26 (vi (-1))), (26, zo_ild 27 2), (27, zo_ald 28 0), (28, zo_get 31 8 2 20), (31, zo_ald 32 0), (32, zo_get 35 8 2 21), (35, zo_callv 38 6 8 zX9_plays0), (38, zo_ald 39 0), (39, zo_get 42 8 2 20), (42, zo_ald 43 0), (43, zo_callv 46 1 8 zX9_atNow), (46, zo_iald 47), (47, zo_iret)]
theorem ztX9_chance {C : mm_C} (G : mm_G C RX9 cX9_chance (some .int) 3 (mm_rm 36 0 0)) (hnh : mm_nh C) : zz_OKs C zpX9_chance :=
  ⟨zz_of (ok_aload_n G dX9_chance_0 rfl rfl) (z_ald _ _),
   zz_of (ok_aload_n G dX9_chance_1 rfl rfl) (z_ald _ _),
   zz_of (ok_iload_n G dX9_chance_2 rfl rfl) (z_ild _ _),
   zz_of (ok_iload_n G dX9_chance_3 rfl rfl) (z_ild _ _),
   zz_of (ok_callv G hnh (zmX9_refuses _ G.hst) rfl rfl (RX9, TX9, 32) rfl q2106 q2108 qs66 q93 q2109 (by decide +kernel) ⟨by decide, by decide⟩ dX9_chance_4 rfl) (z_callv _ _ _ _),
   zz_of (ok_puti G (nx := 10) (idx := 67) (ci := 8) (k := 0) (RX9, TX9, 32) rfl (by decide) rfl (mm_pw G (ci := 8) (k := 0) (RX9, TX9, 32) rfl (by decide) rfl q1805 dX9_chance_7) rfl) (z_puti _ _ _),
   zz_of (ok_aload_n G dX9_chance_10 rfl rfl) (z_ald _ _),
   zz_of (ok_get G (nx := 14) (ci := 8) (kd := 0) (k := 0) (RX9, TX9, 32) rfl (by decide) rfl q1805 dX9_chance_11 rfl) (z_get _ _ _ _),
   zz_of (ok_ifle G dX9_chance_14 rfl rfl) (z_ifle _ _ _),
   zz_of (ok_iconst G (v := 0) dX9_chance_17 (by decide) rfl) (z_cn 18 0),
   zz_of (ok_iret G dX9_chance_18) (z_iret),
   zz_of (ok_aload_n G dX9_chance_19 rfl rfl) (z_ald _ _),
   zz_of (ok_callv G hnh (zmX9_allStyles _ G.hst) rfl rfl (RX9, TX9, 32) rfl q2110 q2112 qs67 q93 q2113 (by decide +kernel) ⟨by decide, by decide⟩ dX9_chance_20 rfl) (z_callv _ _ _ _),
   zz_of (ok_aload_n G dX9_chance_23 rfl rfl) (z_ald _ _),
   zz_of (ok_iload_n G dX9_chance_24 rfl rfl) (z_ild _ _),
   zz_of (ok_iconst G (v := (zI (-1))) dX9_chance_25 (by decide) rfl) (z_cz 26 (-1)),
   zz_of (ok_iload_n G dX9_chance_26 rfl rfl) (z_ild _ _),
   zz_of (ok_aload_n G dX9_chance_27 rfl rfl) (z_ald _ _),
   zz_of (ok_get G (nx := 31) (ci := 8) (kd := 2) (k := 20) (RX9, TX9, 32) rfl (by decide) rfl q1825 dX9_chance_28 rfl) (z_get _ _ _ _),
   zz_of (ok_aload_n G dX9_chance_31 rfl rfl) (z_ald _ _),
   zz_of (ok_get G (nx := 35) (ci := 8) (kd := 2) (k := 21) (RX9, TX9, 32) rfl (by decide) rfl q1826 dX9_chance_32 rfl) (z_get _ _ _ _),
   zz_of (ok_callv G hnh (zmX9_plays0 _ G.hst) rfl rfl (RX9, TX9, 32) rfl q2118 q2120 qs69 q93 q2121 (by decide +kernel) ⟨by decide, by decide⟩ dX9_chance_35 rfl) (z_callv _ _ _ _),
   zz_of (ok_aload_n G dX9_chance_38 rfl rfl) (z_ald _ _),
   zz_of (ok_get G (nx := 42) (ci := 8) (kd := 2) (k := 20) (RX9, TX9, 32) rfl (by decide) rfl q1825 dX9_chance_39 rfl) (z_get _ _ _ _),
   zz_of (ok_aload_n G dX9_chance_42 rfl rfl) (z_ald _ _),
   zz_of (ok_callv G hnh (zmX9_atNow _ G.hst) rfl rfl (RX9, TX9, 32) rfl q2139 q2141 qs73 q93 q2142 (by decide +kernel) ⟨by decide, by decide⟩ dX9_chance_43 rfl) (z_callv _ _ _ _),
   zz_of (ok_iald G dX9_chance_46 rfl) (z_iald _),
   zz_of (ok_iret G dX9_chance_47) (z_iret), trivial⟩

theorem zwX9_chance_0 {Q : Option zv → zz_M → Prop} {X : Nat → zz_M → Prop} {S L : Nat → Nat → Int} {p : Int} {n : Int} (h : (R32 p ∧ R32 n ∧ bx (tkS S 6) ∧ (-100 ≤ S 1 194 ∧ S 1 194 ≤ 100) ∧ (R32 (rfR (S 1) (tkS S 6) p n) ∧ (((rfR (S 1) (tkS S 6) p n) ≤ 0 → (mG ((mm_up (tkS S) 0 0 (rfR (S 1) (tkS S 6) p n)) 1) ∧ (∀ u_2, u_2 < 2 → plG ((mm_up (tkS S) 0 0 (rfR (S 1) (tkS S 6) p n)) 1) u_2) ∧ gdF (mm_up (tkS S) 0 0 (rfR (S 1) (tkS S 6) p n)) ∧ R32 ((mm_up (tkS S) 0 0 (rfR (S 1) (tkS S 6) p n)) 0 10) ∧ xG ((mm_up (tkS S) 0 0 (rfR (S 1) (tkS S 6) p n)) 6) ∧ (∀ S_2 : Nat → Nat → Int, asQ (mm_up (tkS S) 0 0 (rfR (S 1) (tkS S 6) p n)) S_2 → (((p = 0 ∨ p = 1) ∧ ((-1) = -1 ∨ (-1) = 0 ∨ (-1) = 1) ∧ (0 ≤ n ∧ n ≤ 30) ∧ 8 = 8 ∧ 9 = 9 ∧ mG (S_2 1) ∧ whB (S_2 1) 16 = true ∧ stG (S_2 7) ∧ xG (S_2 6) ∧ (∀ (f_3 g_3 x_3 : Nat → Int) (a_3 b_3 : Int), (∀ k_3, k_3 < 15488 → f_3 k_3 = tbR (S_2 1) (S_2 7) p (-1) n.toNat k_3) → xG x_3 → ((bx (tkS (sx (tabS S_2 f_3 g_3) x_3 a_3 b_3) 6) ∧ ((0 ≤ (nuR (tkS (sx (tabS S_2 f_3 g_3) x_3 a_3 b_3) 6)) ∧ (nuR (tkS (sx (tabS S_2 f_3 g_3) x_3 a_3 b_3) 6)) < 15488) ∧ (Q (some (vi ((tkS (sx (tabS S_2 f_3 g_3) x_3 a_3 b_3)) 8 ((nuR (tkS (sx (tabS S_2 f_3 g_3) x_3 a_3 b_3) 6)).toNat)))) (zm (tkS (sx (tabS S_2 f_3 g_3) x_3 a_3 b_3)) L))))))))))) ∧ (¬ (rfR (S 1) (tkS S 6) p n) ≤ 0 → Q (some (vi 0)) (zm (mm_up (tkS S) 0 0 (rfR (S 1) (tkS S 6) p n)) L)))))) : zz_J zpX9_chance (zz_ret Q X 0 0) 0 [some (vr 0), some (vi p), some (vi n)] [] (zm S L) (0, 0) := zz_J.go [] 400 h

theorem zmX9_chance (l : Launch) (hl : l.stackTraces = false) : mm_Spec l yX9_chance (ws_ yX9_chance cX9_chance 3 (some .int)) (mm_rm 36 0 0) (zE zX9_chance) := by
  refine zz_Met.J hl (by decide) (fun C G hnh => ztX9_chance G hnh) ?_
  rintro as ⟨⟨t_, f⟩, S, L, P⟩ Q X h
  unfold zX9_chance at h
  split at h
  rotate_left
  · exact h.elim
  rename_i h_ p n
  obtain ⟨e1_, e2_, h⟩ := mm_and2 h (fun q => q)
  cases mm_beq e1_
  cases mm_beq e2_
  try dsimp only at h
  refine ⟨rfl, ?_⟩
  refine zz_Jev (M' := zm S L) rfl rfl rfl ?_
  obtain ⟨hp, hn, hI, hq1, hq0⟩ := h
  have hr := rfR_in (S 1) (nwX S) p n
  have hw := hI.1.2.1
  generalize hrr : rfR (S 1) (nwX S) p n = r at hq1 hq0 hr
  have cT : coS S (mm_up (tkS S) 0 0 r) := ((coS.rf hI).take hI).up0 r
  refine zwX9_chance_0 ⟨hp, hn, hI.xg.1.bx, by unfold wV at hw; omega, ?_⟩
  rw [hrr]
  refine ⟨by omega, fun c => ?_, fun c => hq1 _ (by omega) (cT.Q (by simp [up_eq]))⟩
  have e : r = 0 := by omega
  subst e
  obtain ⟨b1, b2, -⟩ := rfR_0 hrr
  obtain ⟨q1, q2, q3, q4, q5⟩ := hI.pre cT
  refine ⟨q1, q2, q3, q4, q5, fun V hV => ?_⟩
  obtain ⟨v1, v2, v3, v4, v5, v6, v7, v8⟩ := hI.styles cT hV
  refine ⟨by omega, Or.inl rfl, b2, rfl, rfl, v3, v4, v5, v6, fun f g x a b hf hx => ?_⟩
  have cU := ((v1.tab f g).sxx hx a b)
  have eU := cU.tk hI.2.2.2.2.2.1
  have hnu : 0 ≤ nuR (tkS S 6) ∧ nuR (tkS S 6) < 15488 := nuR_in hI.2.2.2.2.2.2.1
  rw [eU]
  refine ⟨hI.xg.1.bx, hnu, ?_⟩
  have hlt : (nuR (tkS S 6)).toNat < 15488 := by omega
  have e8 : tkS (sx (tabS V f g) x a b) 8 (nuR (tkS S 6)).toNat = tbR (S 1) (stT (S 1)) p (-1) n.toNat (nuR (tkS S 6)).toNat := by
    rw [← tbR_s v8 hw n.toNat _ hlt, ← v7, ← hf _ hlt]
    rfl
  rw [e8]
  refine hq0 _ rfl ((cU.take hI).Q ?_)
  have e0 : tkS (sx (tabS V f g) x a b) 0 0 = V 0 0 := rfl
  rw [e0, v2]
  simp [up_eq]
/-- what a call with a line is told -/
def woT (w x : Nat → Int) (p line n : Int) : Int := if ¬ ((0 ≤ p ∧ p ≤ 1) ∧ (0 ≤ line ∧ line ≤ 9)) then 1 else rfR w x p n
def zX9_worth : zz_Sp := fun as M Q X => match as with
  | [.inr (.inr (some h_)), .inl p, .inl line, .inl n] => bif Nat.beq h_ 0 && Nat.beq M.1.1 1 then (R32 p ∧ R32 line ∧ R32 n ∧ mI M.2.1 ∧ (∀ S_ : Nat → Nat → Int, woT (M.2.1 1) (nwX M.2.1) p line n ≠ 0 → coQ (mm_up M.2.1 0 0 (woT (M.2.1 1) (nwX M.2.1) p line n)) S_ → Q (some (vi 0)) (zm S_ M.2.2.1)) ∧ (∀ S_ : Nat → Nat → Int, woT (M.2.1 1) (nwX M.2.1) p line n = 0 → nwX M.2.1 6 = 1 → coQ (mm_up M.2.1 0 0 0) S_ → Q (some (vi (-2000000000))) (zm S_ M.2.2.1)) ∧ (∀ S_ : Nat → Nat → Int, woT (M.2.1 1) (nwX M.2.1) p line n = 0 → nwX M.2.1 6 = 0 → coQ (mm_up M.2.1 0 0 0) S_ → Q (some (vi (tbR (M.2.1 1) (stT (M.2.1 1)) p (-1) n.toNat (nuR (rlR (M.2.1 1) (nwX M.2.1) (2 + line))).toNat - tbR (M.2.1 1) (stT (M.2.1 1)) p (-1) n.toNat (nuR (nwX M.2.1)).toNat))) (zm S_ M.2.2.1))) else False
  | _ => False

def zpX9_worth : zz_P := [(0, zo_ald 1 0), (1, zo_ild 2 1), (2, zo_calls 5 1 zX9_isPlayer), (5, zo_zifeq 8 18), (8, zo_ild 9 2), (9, zo_c 10 (vi 0)), (10, zo_c 12 (vi 9)), (12, zo_calls 15 3 zX9_isIn), (15, zo_zifne 18 22), (18, zo_c 19 (vi 1)), (19, zo_goto 28), (22, zo_ald 23 0), (23, zo_ild 24 1), (24, zo_ild 25 3), (25, zo_callv 28 3 8 zX9_refuses), (28, zo_puti 31 8 0), (31, zo_ald 32 0), (32, zo_get 35 8 0 0), (35, zo_ifle false 38 40), (38, zo_c 39 (vi 0)), (39, zo_iret), (40, zo_ald 41 0), (41, zo_callv 44 1 8 zX9_takes), (44, zo_ald 45 0), (45, zo_get 48 8 2 16), (48, zo_c 50 (vi 6)), (50, zo_ialc 51 6), (51, zo_c 52 (vi 1)), (52, zo_cne false true 55 59), (55, zo_c 58 (vi (-2000000000))), (58, zo_iret), (59, zo_ald 60 0), (60, zo_callv 63 1 8 zX9_allStyles), (63, zo_ald 64 0), (64, zo_ild 65 1), (65, zo_c 66 (vi (-1))), (66, zo_ild 67 3), (67, zo_ald 68 0), (68, zo_get 71 8 2 20), (71, zo_ald 72 0), (72, zo_get 75 8 2 21), (75, zo_callv 78 6 8 zX9_plays0), (78, zo_ald 79 0), (79, zo_get 82 8 2 20), (82, zo_ald 83 0), (83, zo_callv 86 1 8 zX9_atNow), (86, zo_iald 87), (87, zo_ist 89 4), (89, zo_ald 90 0), (90, zo_callv 93 1 8 zX9_takes), (93, zo_ald 94 0), (94, zo_c 95 (vi 2)), (95, zo_ild 96 2), (96, zo_iadd 97), (97, zo_callv 100 2 8 zX9_rallies), (100, zo_ald 101 0), (101, zo_get 104 8 2 20), (104, zo_ald 105 0), (105, zo_callv 108 1 8 zX9_number), (108, zo_iald 109), (109, zo_ild 111 4), (111, zo_isub 112), (112, zo_iret)]
theorem ztX9_worth {C : mm_C} (G : mm_G C RX9 cX9_worth (some .int) 5 (mm_rm 36 0 0)) (hnh : mm_nh C) : zz_OKs C zpX9_worth :=
  ⟨zz_of (ok_aload_n G dX9_worth_0 rfl rfl) (z_ald _ _),
   zz_of (ok_iload_n G dX9_worth_1 rfl rfl) (z_ild _ _),
   zz_of (ok_calls G hnh (zmX9_isPlayer _ G.hst) rfl rfl q2027 q2028 q93 q2029 (by decide +kernel) ⟨by decide, by decide⟩ dX9_worth_2 rfl) (z_calls _ _ _),
   zz_of (ok_ifeq G dX9_worth_5 rfl rfl) (z_zifeq _ _),
   zz_of (ok_iload_n G dX9_worth_8 rfl rfl) (z_ild _ _),
   zz_of (ok_iconst G (v := 0) dX9_worth_9 (by decide) rfl) (z_cn 10 0),
   zz_of (ok_bipush G (v := 9) dX9_worth_10 (by decide) rfl) (z_cn 12 9),
   zz_of (ok_calls G hnh (zmX9_isIn _ G.hst) rfl rfl q1914 q1915 q93 q1916 (by decide +kernel) ⟨by decide, by decide⟩ dX9_worth_12 rfl) (z_calls _ _ _),
   zz_of (ok_ifne G dX9_worth_15 rfl rfl) (z_zifne _ _),
   zz_of (ok_iconst G (v := 1) dX9_worth_18 (by decide) rfl) (z_cn 19 1),
   zz_of (ok_goto G dX9_worth_19 rfl) (z_goto _),
   zz_of (ok_aload_n G dX9_worth_22 rfl rfl) (z_ald _ _),
   zz_of (ok_iload_n G dX9_worth_23 rfl rfl) (z_ild _ _),
   zz_of (ok_iload_n G dX9_worth_24 rfl rfl) (z_ild _ _),
   zz_of (ok_callv G hnh (zmX9_refuses _ G.hst) rfl rfl (RX9, TX9, 32) rfl q2106 q2108 qs66 q93 q2109 (by decide +kernel) ⟨by decide, by decide⟩ dX9_worth_25 rfl) (z_callv _ _ _ _),
   zz_of (ok_puti G (nx := 31) (idx := 67) (ci := 8) (k := 0) (RX9, TX9, 32) rfl (by decide) rfl (mm_pw G (ci := 8) (k := 0) (RX9, TX9, 32) rfl (by decide) rfl q1805 dX9_worth_28) rfl) (z_puti _ _ _),
   zz_of (ok_aload_n G dX9_worth_31 rfl rfl) (z_ald _ _),
   zz_of (ok_get G (nx := 35) (ci := 8) (kd := 0) (k := 0) (RX9, TX9, 32) rfl (by decide) rfl q1805 dX9_worth_32 rfl) (z_get _ _ _ _),
   zz_of (ok_ifle G dX9_worth_35 rfl rfl) (z_ifle _ _ _),
   zz_of (ok_iconst G (v := 0) dX9_worth_38 (by decide) rfl) (z_cn 39 0),
   zz_of (ok_iret G dX9_worth_39) (z_iret),
   zz_of (ok_aload_n G dX9_worth_40 rfl rfl) (z_ald _ _),
   zz_of (ok_callv G hnh (zmX9_takes _ G.hst) rfl rfl (RX9, TX9, 32) rfl q2034 q2036 qs55 q93 q2037 (by decide +kernel) ⟨by decide, by decide⟩ dX9_worth_41 rfl) (z_callv _ _ _ _),
   zz_of (ok_aload_n G dX9_worth_44 rfl rfl) (z_ald _ _),
   zz_of (ok_get G (nx := 48) (ci := 8) (kd := 2) (k := 16) (RX9, TX9, 32) rfl (by decide) rfl q1821 dX9_worth_45 rfl) (z_get _ _ _ _),
   zz_of (ok_bipush G (v := 6) dX9_worth_48 (by decide) rfl) (z_cn 50 6),
   zz_of (ok_iald G dX9_worth_50 rfl) (z_ialc _ _),
   zz_of (ok_iconst G (v := 1) dX9_worth_51 (by decide) rfl) (z_cn 52 1),
   zz_of (ok_cne G dX9_worth_52 rfl rfl) (z_cne _ _ _ _),
   zz_of (ok_ldcw G (v := (-2000000000)) q2156 dX9_worth_55 rfl) (z_c (congrArg Value.int (by decide))),
   zz_of (ok_iret G dX9_worth_58) (z_iret),
   zz_of (ok_aload_n G dX9_worth_59 rfl rfl) (z_ald _ _),
   zz_of (ok_callv G hnh (zmX9_allStyles _ G.hst) rfl rfl (RX9, TX9, 32) rfl q2110 q2112 qs67 q93 q2113 (by decide +kernel) ⟨by decide, by decide⟩ dX9_worth_60 rfl) (z_callv _ _ _ _),
   zz_of (ok_aload_n G dX9_worth_63 rfl rfl) (z_ald _ _),
   zz_of (ok_iload_n G dX9_worth_64 rfl rfl) (z_ild _ _),
   zz_of (ok_iconst G (v := (zI (-1))) dX9_worth_65 (by decide) rfl) (z_cz 66 (-1)),
   zz_of (ok_iload_n G dX9_worth_66 rfl rfl) (z_ild _ _),
   zz_of (ok_aload_n G dX9_worth_67 rfl rfl) (z_ald _ _),
   zz_of (ok_get G (nx := 71) (ci := 8) (kd := 2) (k := 20) (RX9, TX9, 32) rfl (by decide) rfl q1825 dX9_worth_68 rfl) (z_get _ _ _ _),
   zz_of (ok_aload_n G dX9_worth_71 rfl rfl) (z_ald _ _),
   zz_of (ok_get G (nx := 75) (ci := 8) (kd := 2) (k := 21) (RX9, TX9, 32) rfl (by decide) rfl q1826 dX9_worth_72 rfl) (z_get _ _ _ _),
   zz_of (ok_callv G hnh (zmX9_plays0 _ G.hst) rfl rfl (RX9, TX9, 32) rfl q2118 q2120 qs69 q93 q2121 (by decide +kernel) ⟨by decide, by decide⟩ dX9_worth_75 rfl) (z_callv _ _ _ _),
   zz_of (ok_aload_n G dX9_worth_78 rfl rfl) (z_ald _ _),
   zz_of (ok_get G (nx := 82) (ci := 8) (kd := 2) (k := 20) (RX9, TX9, 32) rfl (by decide) rfl q1825 dX9_worth_79 rfl) (z_get _ _ _ _),
   zz_of (ok_aload_n G dX9_worth_82 rfl rfl) (z_ald _ _),
   zz_of (ok_callv G hnh (zmX9_atNow _ G.hst) rfl rfl (RX9, TX9, 32) rfl q2139 q2141 qs73 q93 q2142 (by decide +kernel) ⟨by decide, by decide⟩ dX9_worth_83 rfl) (z_callv _ _ _ _),
   zz_of (ok_iald G dX9_worth_86 rfl) (z_iald _),
   zz_of (ok_istore G dX9_worth_87 rfl (by decide)) (z_ist _ _),
   zz_of (ok_aload_n G dX9_worth_89 rfl rfl) (z_ald _ _),
   zz_of (ok_callv G hnh (zmX9_takes _ G.hst) rfl rfl (RX9, TX9, 32) rfl q2034 q2036 qs55 q93 q2037 (by decide +kernel) ⟨by decide, by decide⟩ dX9_worth_90 rfl) (z_callv _ _ _ _),
   zz_of (ok_aload_n G dX9_worth_93 rfl rfl) (z_ald _ _),
   zz_of (ok_iconst G (v := 2) dX9_worth_94 (by decide) rfl) (z_cn 95 2),
   zz_of (ok_iload_n G dX9_worth_95 rfl rfl) (z_ild _ _),
   zz_of (ok_iadd G dX9_worth_96 rfl) (z_iadd _),
   zz_of (ok_callv G hnh (zmX9_rallies _ G.hst) rfl rfl (RX9, TX9, 32) rfl q2074 q2076 qs60 q93 q2077 (by decide +kernel) ⟨by decide, by decide⟩ dX9_worth_97 rfl) (z_callv _ _ _ _),
   zz_of (ok_aload_n G dX9_worth_100 rfl rfl) (z_ald _ _),
   zz_of (ok_get G (nx := 104) (ci := 8) (kd := 2) (k := 20) (RX9, TX9, 32) rfl (by decide) rfl q1825 dX9_worth_101 rfl) (z_get _ _ _ _),
   zz_of (ok_aload_n G dX9_worth_104 rfl rfl) (z_ald _ _),
   zz_of (ok_callv G hnh (zmX9_number _ G.hst) rfl rfl (RX9, TX9, 32) rfl q2133 q2135 qs72 q93 q2136 (by decide +kernel) ⟨by decide, by decide⟩ dX9_worth_105 rfl) (z_callv _ _ _ _),
   zz_of (ok_iald G dX9_worth_108 rfl) (z_iald _),
   zz_of (ok_iload G dX9_worth_109 rfl) (z_ild _ _),
   zz_of (ok_isub G dX9_worth_111 rfl) (z_isub _),
   zz_of (ok_iret G dX9_worth_112) (z_iret), trivial⟩

theorem zwX9_worth_0 {Q : Option zv → zz_M → Prop} {X : Nat → zz_M → Prop} {S L : Nat → Nat → Int} {p : Int} {line : Int} {n : Int} (h : (R32 p ∧ ((0 ≤ p ∧ p ≤ 1) → ((R32 line ∧ R32 (0 : Int) ∧ R32 (9 : Int) ∧ (((0 : Int) ≤ line ∧ line ≤ (9 : Int)) → ((R32 p ∧ R32 n ∧ bx (tkS S 6) ∧ (-100 ≤ S 1 194 ∧ S 1 194 ≤ 100) ∧ (zz_J zpX9_worth (zz_ret Q X 0 0) 31 [some (vr 0), some (vi p), some (vi line), some (vi n), none] [] (zm (mm_up (tkS S) 0 0 (rfR (S 1) (tkS S 6) p n)) L) (0, 0))))) ∧ (¬ ((0 : Int) ≤ line ∧ line ≤ (9 : Int)) → (zz_J zpX9_worth (zz_ret Q X 0 0) 31 [some (vr 0), some (vi p), some (vi line), some (vi n), none] [] (zm (mm_up S 0 0 1) L) (0, 0)))))) ∧ (¬ (0 ≤ p ∧ p ≤ 1) → (zz_J zpX9_worth (zz_ret Q X 0 0) 31 [some (vr 0), some (vi p), some (vi line), some (vi n), none] [] (zm (mm_up S 0 0 1) L) (0, 0))))) : zz_J zpX9_worth (zz_ret Q X 0 0) 0 [some (vr 0), some (vi p), some (vi line), some (vi n), none] [] (zm S L) (0, 0) := zz_J.go [(31, [4]), (59, [4])] 400 h
theorem zwX9_worth_31 {Q : Option zv → zz_M → Prop} {X : Nat → zz_M → Prop} {S L : Nat → Nat → Int} {x1 : Int} {x2 : Int} {x3 : Int} (h : R32 (S 0 0) ∧ (((S 0 0) ≤ 0 → ((R32 ((tkS S) 6 6) ∧ ((¬ ((tkS S) 6 6) = 1 → zz_J zpX9_worth (zz_ret Q X 0 0) 59 [some (vr 0), some (vi x1), some (vi x2), some (vi x3), none] [] (zm (tkS S) L) (0, 0)) ∧ (((tkS S) 6 6) = 1 → Q (some (vi (-2000000000))) (zm (tkS S) L)))))) ∧ (¬ (S 0 0) ≤ 0 → Q (some (vi 0)) (zm S L)))) : zz_J zpX9_worth (zz_ret Q X 0 0) 31 [some (vr 0), some (vi x1), some (vi x2), some (vi x3), none] [] (zm S L) (0, 0) := zz_J.go [(31, [4]), (59, [4])] 400 h
theorem zwX9_worth_59 {Q : Option zv → zz_M → Prop} {X : Nat → zz_M → Prop} {S L : Nat → Nat → Int} {x1 : Int} {x2 : Int} {x3 : Int} (h : (mG (S 1) ∧ (∀ u_1, u_1 < 2 → plG (S 1) u_1) ∧ gdF S ∧ R32 (S 0 10) ∧ xG (S 6) ∧ (∀ S_1 : Nat → Nat → Int, asQ S S_1 → (((x1 = 0 ∨ x1 = 1) ∧ ((-1) = -1 ∨ (-1) = 0 ∨ (-1) = 1) ∧ (0 ≤ x3 ∧ x3 ≤ 30) ∧ 8 = 8 ∧ 9 = 9 ∧ mG (S_1 1) ∧ whB (S_1 1) 16 = true ∧ stG (S_1 7) ∧ xG (S_1 6) ∧ (∀ (f_2 g_2 x_2 : Nat → Int) (a_2 b_2 : Int), (∀ k_2, k_2 < 15488 → f_2 k_2 = tbR (S_1 1) (S_1 7) x1 (-1) x3.toNat k_2) → xG x_2 → ((bx (tkS (sx (tabS S_1 f_2 g_2) x_2 a_2 b_2) 6) ∧ ((0 ≤ (nuR (tkS (sx (tabS S_1 f_2 g_2) x_2 a_2 b_2) 6)) ∧ (nuR (tkS (sx (tabS S_1 f_2 g_2) x_2 a_2 b_2) 6)) < 15488) ∧ (((((0 ≤ (2 + x2) ∧ (2 + x2) ≤ 14) ∧ by5 ((tkS (tkS (sx (tabS S_1 f_2 g_2) x_2 a_2 b_2))) 6) ∧ bw ((tkS (tkS (sx (tabS S_1 f_2 g_2) x_2 a_2 b_2))) 1) ∧ ((tkS (tkS (sx (tabS S_1 f_2 g_2) x_2 a_2 b_2))) 6 2 = 0 ∨ (tkS (tkS (sx (tabS S_1 f_2 g_2) x_2 a_2 b_2))) 6 2 = 1) ∧ ((bx ((sx (tkS (tkS (sx (tabS S_1 f_2 g_2) x_2 a_2 b_2))) (rlR ((tkS (tkS (sx (tabS S_1 f_2 g_2) x_2 a_2 b_2))) 1) ((tkS (tkS (sx (tabS S_1 f_2 g_2) x_2 a_2 b_2))) 6) (2 + x2)) (rlN ((tkS (tkS (sx (tabS S_1 f_2 g_2) x_2 a_2 b_2))) 1) ((tkS (tkS (sx (tabS S_1 f_2 g_2) x_2 a_2 b_2))) 6) (2 + x2)) (rlW ((tkS (tkS (sx (tabS S_1 f_2 g_2) x_2 a_2 b_2))) 1) ((tkS (tkS (sx (tabS S_1 f_2 g_2) x_2 a_2 b_2))) 6) (2 + x2))) 6) ∧ ((0 ≤ (nuR ((sx (tkS (tkS (sx (tabS S_1 f_2 g_2) x_2 a_2 b_2))) (rlR ((tkS (tkS (sx (tabS S_1 f_2 g_2) x_2 a_2 b_2))) 1) ((tkS (tkS (sx (tabS S_1 f_2 g_2) x_2 a_2 b_2))) 6) (2 + x2)) (rlN ((tkS (tkS (sx (tabS S_1 f_2 g_2) x_2 a_2 b_2))) 1) ((tkS (tkS (sx (tabS S_1 f_2 g_2) x_2 a_2 b_2))) 6) (2 + x2)) (rlW ((tkS (tkS (sx (tabS S_1 f_2 g_2) x_2 a_2 b_2))) 1) ((tkS (tkS (sx (tabS S_1 f_2 g_2) x_2 a_2 b_2))) 6) (2 + x2))) 6)) ∧ (nuR ((sx (tkS (tkS (sx (tabS S_1 f_2 g_2) x_2 a_2 b_2))) (rlR ((tkS (tkS (sx (tabS S_1 f_2 g_2) x_2 a_2 b_2))) 1) ((tkS (tkS (sx (tabS S_1 f_2 g_2) x_2 a_2 b_2))) 6) (2 + x2)) (rlN ((tkS (tkS (sx (tabS S_1 f_2 g_2) x_2 a_2 b_2))) 1) ((tkS (tkS (sx (tabS S_1 f_2 g_2) x_2 a_2 b_2))) 6) (2 + x2)) (rlW ((tkS (tkS (sx (tabS S_1 f_2 g_2) x_2 a_2 b_2))) 1) ((tkS (tkS (sx (tabS S_1 f_2 g_2) x_2 a_2 b_2))) 6) (2 + x2))) 6)) < 15488) ∧ (Q (some (vi (((sx (tkS (tkS (sx (tabS S_1 f_2 g_2) x_2 a_2 b_2))) (rlR ((tkS (tkS (sx (tabS S_1 f_2 g_2) x_2 a_2 b_2))) 1) ((tkS (tkS (sx (tabS S_1 f_2 g_2) x_2 a_2 b_2))) 6) (2 + x2)) (rlN ((tkS (tkS (sx (tabS S_1 f_2 g_2) x_2 a_2 b_2))) 1) ((tkS (tkS (sx (tabS S_1 f_2 g_2) x_2 a_2 b_2))) 6) (2 + x2)) (rlW ((tkS (tkS (sx (tabS S_1 f_2 g_2) x_2 a_2 b_2))) 1) ((tkS (tkS (sx (tabS S_1 f_2 g_2) x_2 a_2 b_2))) 6) (2 + x2))) 8 ((nuR ((sx (tkS (tkS (sx (tabS S_1 f_2 g_2) x_2 a_2 b_2))) (rlR ((tkS (tkS (sx (tabS S_1 f_2 g_2) x_2 a_2 b_2))) 1) ((tkS (tkS (sx (tabS S_1 f_2 g_2) x_2 a_2 b_2))) 6) (2 + x2)) (rlN ((tkS (tkS (sx (tabS S_1 f_2 g_2) x_2 a_2 b_2))) 1) ((tkS (tkS (sx (tabS S_1 f_2 g_2) x_2 a_2 b_2))) 6) (2 + x2)) (rlW ((tkS (tkS (sx (tabS S_1 f_2 g_2) x_2 a_2 b_2))) 1) ((tkS (tkS (sx (tabS S_1 f_2 g_2) x_2 a_2 b_2))) 6) (2 + x2))) 6)).toNat)) - ((tkS (sx (tabS S_1 f_2 g_2) x_2 a_2 b_2)) 8 ((nuR (tkS (sx (tabS S_1 f_2 g_2) x_2 a_2 b_2) 6)).toNat))))) (zm (sx (tkS (tkS (sx (tabS S_1 f_2 g_2) x_2 a_2 b_2))) (rlR ((tkS (tkS (sx (tabS S_1 f_2 g_2) x_2 a_2 b_2))) 1) ((tkS (tkS (sx (tabS S_1 f_2 g_2) x_2 a_2 b_2))) 6) (2 + x2)) (rlN ((tkS (tkS (sx (tabS S_1 f_2 g_2) x_2 a_2 b_2))) 1) ((tkS (tkS (sx (tabS S_1 f_2 g_2) x_2 a_2 b_2))) 6) (2 + x2)) (rlW ((tkS (tkS (sx (tabS S_1 f_2 g_2) x_2 a_2 b_2))) 1) ((tkS (tkS (sx (tabS S_1 f_2 g_2) x_2 a_2 b_2))) 6) (2 + x2))) L)))))))))))))))))) : zz_J zpX9_worth (zz_ret Q X 0 0) 59 [some (vr 0), some (vi x1), some (vi x2), some (vi x3), none] [] (zm S L) (0, 0) := zz_J.go [(31, [4]), (59, [4])] 400 h

theorem zmX9_worth (l : Launch) (hl : l.stackTraces = false) : mm_Spec l yX9_worth (ws_ yX9_worth cX9_worth 5 (some .int)) (mm_rm 36 0 0) (zE zX9_worth) := by
  refine zz_Met.J hl (by decide) (fun C G hnh => ztX9_worth G hnh) ?_
  rintro as ⟨⟨t_, f⟩, S, L, P⟩ Q X h
  unfold zX9_worth at h
  split at h
  rotate_left
  · exact h.elim
  rename_i h_ p line n
  obtain ⟨e1_, e2_, h⟩ := mm_and2 h (fun q => q)
  cases mm_beq e1_
  cases mm_beq e2_
  try dsimp only at h
  refine ⟨rfl, ?_⟩
  refine zz_Jev (M' := zm S L) rfl rfl rfl ?_
  obtain ⟨hp, hl, hn, hI, hq1, hq2, hq0⟩ := h
  have hw := hI.1.2.1
  have hsc := hI.2.2.2.2.2.2.1
  have hD6 : nwX S 6 = 0 ∨ nwX S 6 = 1 := by
    have := hsc.2.2
    unfold hV at this
    omega
  have t59 : ∀ T : Nat → Nat → Int, coS S T → T 0 0 = 0 → woT (S 1) (nwX S) p line n = 0 → nwX S 6 = 0 → zz_J zpX9_worth (zz_ret Q X 0 0) 59 [some (vr 0), some (vi p), some (vi line), some (vi n), none] [] (zm T L) (0, 0) := by
    intro T cT h0 e h6
    have e' := e
    unfold woT at e'
    split at e'
    · cases e'
    · next hpl =>
      obtain ⟨b1, b2, -⟩ := rfR_0 e'
      have bl : 0 ≤ line ∧ line ≤ 9 := by omega
      obtain ⟨q1, q2, q3, q4, q5⟩ := hI.pre cT
      refine zwX9_worth_59 ⟨q1, q2, q3, q4, q5, fun V hV => ?_⟩
      obtain ⟨v1, v2, v3, v4, v5, v6, v7, v8⟩ := hI.styles cT hV
      refine ⟨by omega, Or.inl rfl, b2, rfl, rfl, v3, v4, v5, v6, fun f g x a b hf hx => ?_⟩
      have cU := ((v1.tab f g).sxx hx a b)
      have eU := cU.tk hI.2.2.2.2.2.1
      have cW := cU.take hI
      have eW := cW.tk hI.2.2.2.2.2.1
      have hnu : 0 ≤ nuR (tkS S 6) ∧ nuR (tkS S 6) < 15488 := nuR_in hsc
      have hRV := rlR_V hw hsc (how := 2 + line) (by omega) (by omega) (fun _ => by omega)
      have hRB := rlR_B (w := S 1) hsc hI.2.2.2.2.2.2.2 (how := 2 + line) (by omega) (by omega)
      have hRG : xG (rlR (S 1) (tkS S 6) (2 + line)) := hRV.xG hRB (by decide)
      have hnr : 0 ≤ nuR (rlR (S 1) (tkS S 6) (2 + line)) ∧ nuR (rlR (S 1) (tkS S 6) (2 + line)) < 15488 := nuR_in hRV
      have w1 : tkS (tkS (sx (tabS V f g) x a b)) 1 = S 1 := (cW.take hI).r1
      simp only [sx_6, sx_t _ _ _ _ (show 8 ≠ 6 by decide) (show 8 ≠ 0 by decide)]
      rw [eU, eW, w1]
      refine ⟨hI.xg.1.bx, hnu, by omega, hI.xg.1, hw.bw, hsc.2.1, hRG.1.bx, hnr, ?_⟩
      have val : ∀ k, k < 15488 → tkS (tkS (sx (tabS V f g) x a b)) 8 k = tbR (S 1) (stT (S 1)) p (-1) n.toNat k := by
        intro k hk
        rw [← tbR_s v8 hw n.toNat _ hk, ← v7, ← hf _ hk]
        rfl
      have val2 : ∀ k, k < 15488 → tkS (sx (tabS V f g) x a b) 8 k = tbR (S 1) (stT (S 1)) p (-1) n.toNat k := val
      rw [val _ (by omega), val2 _ (by omega)]
      refine hq0 _ e h6 (((cW.take hI).sxx hRG _ _).Q ?_)
      show V 0 0 = 0
      rw [v2, h0]
  have t31 : ∀ (T : Nat → Nat → Int) (t : Int), coS S T → T 0 0 = t → woT (S 1) (nwX S) p line n = t → (0 ≤ t ∧ t ≤ 3) → zz_J zpX9_worth (zz_ret Q X 0 0) 31 [some (vr 0), some (vi p), some (vi line), some (vi n), none] [] (zm T L) (0, 0) := by
    intro T t cT h0 e ht
    have eT := cT.tk hI.2.2.2.2.2.1
    refine zwX9_worth_31 ?_
    rw [h0, eT]
    refine ⟨by omega, fun c => ⟨by have := hD6; show R32 (nwX S 6); omega, fun c6 => ?_, fun c6 => ?_⟩, fun c => hq1 _ (by omega) (by rw [e]; exact cT.Q h0)⟩
    · have : t = 0 := by omega
      subst this
      exact t59 _ (cT.take hI) h0 e (hD6.resolve_right c6)
    · have : t = 0 := by omega
      subst this
      exact hq2 _ e c6 ((cT.take hI).Q h0)
  have cS := coS.rf hI
  have hr := rfR_in (S 1) (nwX S) p n
  refine zwX9_worth_0 ⟨hp, fun c => ⟨hl, by decide, by decide, fun c2 => ⟨hp, hn, hI.xg.1.bx, by unfold wV at hw; omega, ?_⟩, fun c2 => ?_⟩, fun c => ?_⟩
  · exact t31 _ _ ((cS.take hI).up0 _) (by simp [up_eq]) (by unfold woT; rw [if_neg (by omega)]) hr
  · exact t31 _ 1 (cS.up0 1) (by simp [up_eq]) (by unfold woT; rw [if_pos (by omega)]) (by decide)
  · exact t31 _ 1 (cS.up0 1) (by simp [up_eq]) (by unfold woT; rw [if_pos (by omega)]) (by decide)
/-- a game's begin -/
def bgX (w : Nat → Int) (s : Int) : Nat → Int := fun j => if j = 0 then -w 197 else if j = 1 then w 198 else if j = 2 then s else 0
theorem bgX_V {w : Nat → Int} {s : Int} (hw : wV w) (hs : s = 0 ∨ s = 1) : scV (bgX w s) ∧ xB 6 (bgX w s) := by
  obtain ⟨-, -, -, h4, h5⟩ := hw
  refine ⟨⟨?_, ?_, ?_⟩, ?_⟩
  · unfold pV bgX
    simp
    omega
  · unfold bgX
    simp
    exact hs
  · unfold hV bgX
    simp
  · unfold xB bgX
    simp
    intro j hj
    rw [if_neg (by omega), if_neg (by omega), if_neg (by omega)]
def zX9_beginNumber : zz_Sp := fun as M Q X => match as with
  | [.inr (.inr (some h_)), .inl s] => bif Nat.beq h_ 0 && Nat.beq M.1.1 1 then ((s = 0 ∨ s = 1) ∧ wV (M.2.1 1) ∧ xG (M.2.1 6) ∧ Q (some (vi (nuR (bgX (M.2.1 1) s)))) (zm (sx M.2.1 (bgX (M.2.1 1) s) (M.2.1 0 17) (M.2.1 0 18)) M.2.2.1)) else False
  | _ => False

def zpX9_beginNumber : zz_P := [(0, zo_c 1 (vi 0)), (1, zo_ist 2 2), (2, zo_ild 3 2), (3, zo_c 5 (vi 9)), (5, zo_cge false true 8 21), (8, zo_ald 9 0), (9, zo_get 12 8 2 16), (12, zo_ild 13 2), (13, zo_c 14 (vi 0)), (14, zo_iasd 15), (15, zo_inc 18 2 1), (18, zo_goto 2), (21, zo_ald 22 0), (22, zo_get 25 8 2 16), (25, zo_c 26 (vi 0)), (26, zo_ald 27 0), (27, zo_get 30 8 2 1), (30, zo_c 33 (vi 197)), (33, zo_ialc 34 197), (34, zo_ineg 35), (35, zo_iasc 36 0), (36, zo_ald 37 0), (37, zo_get 40 8 2 16), (40, zo_c 41 (vi 1)), (41, zo_ald 42 0), (42, zo_get 45 8 2 1), (45, zo_c 48 (vi 198)), (48, zo_ialc 49 198), (49, zo_iasc 50 1), (50, zo_ald 51 0), (51, zo_get 54 8 2 16), (54, zo_c 55 (vi 2)), (55, zo_ild 56 1), (56, zo_iasc 57 2), (57, zo_ald 58 0), (58, zo_callv 61 1 8 zX9_number), (61, zo_iret)]
theorem ztX9_beginNumber {C : mm_C} (G : mm_G C RX9 cX9_beginNumber (some .int) 3 (mm_rm 2 0 0)) (hnh : mm_nh C) : zz_OKs C zpX9_beginNumber :=
  ⟨zz_of (ok_iconst G (v := 0) dX9_beginNumber_0 (by decide) rfl) (z_cn 1 0),
   zz_of (ok_istore_n G dX9_beginNumber_1 rfl rfl (by decide)) (z_ist _ _),
   zz_of (ok_iload_n G dX9_beginNumber_2 rfl rfl) (z_ild _ _),
   zz_of (ok_bipush G (v := 9) dX9_beginNumber_3 (by decide) rfl) (z_cn 5 9),
   zz_of (ok_cge G dX9_beginNumber_5 rfl rfl) (z_cge _ _ _ _),
   zz_of (ok_aload_n G dX9_beginNumber_8 rfl rfl) (z_ald _ _),
   zz_of (ok_get G (nx := 12) (ci := 8) (kd := 2) (k := 16) (RX9, TX9, 32) rfl (by decide) rfl q1821 dX9_beginNumber_9 rfl) (z_get _ _ _ _),
   zz_of (ok_iload_n G dX9_beginNumber_12 rfl rfl) (z_ild _ _),
   zz_of (ok_iconst G (v := 0) dX9_beginNumber_13 (by decide) rfl) (z_cn 14 0),
   zz_of (ok_iast G dX9_beginNumber_14 rfl) (z_iasd _),
   zz_of (ok_iinc G (v := 1) dX9_beginNumber_15 (by decide) rfl (by decide)) (z_incn 18 2 1),
   zz_of (ok_goto G dX9_beginNumber_18 rfl) (z_goto _),
   zz_of (ok_aload_n G dX9_beginNumber_21 rfl rfl) (z_ald _ _),
   zz_of (ok_get G (nx := 25) (ci := 8) (kd := 2) (k := 16) (RX9, TX9, 32) rfl (by decide) rfl q1821 dX9_beginNumber_22 rfl) (z_get _ _ _ _),
   zz_of (ok_iconst G (v := 0) dX9_beginNumber_25 (by decide) rfl) (z_cn 26 0),
   zz_of (ok_aload_n G dX9_beginNumber_26 rfl rfl) (z_ald _ _),
   zz_of (ok_get G (nx := 30) (ci := 8) (kd := 2) (k := 1) (RX9, TX9, 32) rfl (by decide) rfl q1806 dX9_beginNumber_27 rfl) (z_get _ _ _ _),
   zz_of (ok_sipush G (v := 197) dX9_beginNumber_30 (by decide) rfl) (z_cn 33 197),
   zz_of (ok_iald G dX9_beginNumber_33 rfl) (z_ialc _ _),
   zz_of (ok_ineg G dX9_beginNumber_34 rfl) (z_ineg _),
   zz_of (ok_iast G dX9_beginNumber_35 rfl) (z_iasc _ _),
   zz_of (ok_aload_n G dX9_beginNumber_36 rfl rfl) (z_ald _ _),
   zz_of (ok_get G (nx := 40) (ci := 8) (kd := 2) (k := 16) (RX9, TX9, 32) rfl (by decide) rfl q1821 dX9_beginNumber_37 rfl) (z_get _ _ _ _),
   zz_of (ok_iconst G (v := 1) dX9_beginNumber_40 (by decide) rfl) (z_cn 41 1),
   zz_of (ok_aload_n G dX9_beginNumber_41 rfl rfl) (z_ald _ _),
   zz_of (ok_get G (nx := 45) (ci := 8) (kd := 2) (k := 1) (RX9, TX9, 32) rfl (by decide) rfl q1806 dX9_beginNumber_42 rfl) (z_get _ _ _ _),
   zz_of (ok_sipush G (v := 198) dX9_beginNumber_45 (by decide) rfl) (z_cn 48 198),
   zz_of (ok_iald G dX9_beginNumber_48 rfl) (z_ialc _ _),
   zz_of (ok_iast G dX9_beginNumber_49 rfl) (z_iasc _ _),
   zz_of (ok_aload_n G dX9_beginNumber_50 rfl rfl) (z_ald _ _),
   zz_of (ok_get G (nx := 54) (ci := 8) (kd := 2) (k := 16) (RX9, TX9, 32) rfl (by decide) rfl q1821 dX9_beginNumber_51 rfl) (z_get _ _ _ _),
   zz_of (ok_iconst G (v := 2) dX9_beginNumber_54 (by decide) rfl) (z_cn 55 2),
   zz_of (ok_iload_n G dX9_beginNumber_55 rfl rfl) (z_ild _ _),
   zz_of (ok_iast G dX9_beginNumber_56 rfl) (z_iasc _ _),
   zz_of (ok_aload_n G dX9_beginNumber_57 rfl rfl) (z_ald _ _),
   zz_of (ok_callv G hnh (zmX9_number _ G.hst) rfl rfl (RX9, TX9, 32) rfl q2133 q2135 qs72 q93 q2136 (by decide +kernel) ⟨by decide, by decide⟩ dX9_beginNumber_58 rfl) (z_callv _ _ _ _),
   zz_of (ok_iret G dX9_beginNumber_61) (z_iret), trivial⟩

theorem zwX9_beginNumber_0 {Q : Option zv → zz_M → Prop} {X : Nat → zz_M → Prop} {S L : Nat → Nat → Int} {s : Int} (h : zz_J zpX9_beginNumber (zz_ret Q X 0 0) 2 [some (vr 0), some (vi s), some (vi 0)] [] (zm S L) (0, 0)) : zz_J zpX9_beginNumber (zz_ret Q X 0 0) 0 [some (vr 0), some (vi s), none] [] (zm S L) (0, 0) := zz_J.go [(2, [])] 400 h
theorem zwX9_beginNumber_2 {Q : Option zv → zz_M → Prop} {X : Nat → zz_M → Prop} {S L : Nat → Nat → Int} {x1 : Int} {x2 : Int} (h : R32 x2 ∧ ((9 ≤ x2 → (bx ((mm_up (mm_up (mm_up S 6 0 (-(S 1 197))) 6 1 (S 1 198)) 6 2 x1) 6) ∧ (Q (some (vi (nuR ((mm_up (mm_up (mm_up S 6 0 (-(S 1 197))) 6 1 (S 1 198)) 6 2 x1) 6)))) (zm (mm_up (mm_up (mm_up S 6 0 (-(S 1 197))) 6 1 (S 1 198)) 6 2 x1) L)))) ∧ (¬ 9 ≤ x2 → (0 ≤ x2 ∧ x2 < 9) ∧ (zz_J zpX9_beginNumber (zz_ret Q X 0 0) 2 [some (vr 0), some (vi x1), some (vi (x2 + 1))] [] (zm (mm_up S 6 x2.toNat 0) L) (0, 0))))) : zz_J zpX9_beginNumber (zz_ret Q X 0 0) 2 [some (vr 0), some (vi x1), some (vi x2)] [] (zm S L) (0, 0) := zz_J.go [(2, [])] 400 h

theorem zmX9_beginNumber (l : Launch) (hl : l.stackTraces = false) : mm_Spec l yX9_beginNumber (ws_ yX9_beginNumber cX9_beginNumber 3 (some .int)) (mm_rm 2 0 0) (zE zX9_beginNumber) := by
  refine zz_Met.J hl (by decide) (fun C G hnh => ztX9_beginNumber G hnh) ?_
  rintro as ⟨⟨t_, f⟩, S, L, P⟩ Q X h
  unfold zX9_beginNumber at h
  split at h
  rotate_left
  · exact h.elim
  rename_i h_ s
  obtain ⟨e1_, e2_, h⟩ := mm_and2 h (fun q => q)
  cases mm_beq e1_
  cases mm_beq e2_
  try dsimp only at h
  refine ⟨rfl, ?_⟩
  refine zz_Jev (M' := zm S L) rfl rfl rfl ?_
  obtain ⟨hs, hw, hx, hq⟩ := h
  have hB := bgX_V hw hs
  have lp : ∀ (r k : Nat) (x : Nat → Int), k + r = 9 → (∀ j, j < k → x j = 0) → (∀ j, 9 ≤ j → x j = 0) → zz_J zpX9_beginNumber (zz_ret Q X 0 0) 2 [some (vr 0), some (vi s), some (vi k)] [] (zm (sx S x (S 0 17) (S 0 18)) L) (0, 0) := by
    intro r
    induction r with
    | zero =>
      intro k x hk h0 h9
      have hz : ∀ j, x j = 0 := fun j => by
        by_cases hj : 9 ≤ j
        · exact h9 j hj
        · exact h0 j (by omega)
      refine zwX9_beginNumber_2 ⟨by omega, fun _ => ?_, fun c => by omega⟩
      have e : mm_up (mm_up (mm_up (sx S x (S 0 17) (S 0 18)) 6 0 (-(sx S x (S 0 17) (S 0 18) 1 197))) 6 1 (sx S x (S 0 17) (S 0 18) 1 198)) 6 2 s = sx S (bgX (S 1) s) (S 0 17) (S 0 18) := by
        rw [sx_1]
        funext a b
        have := hz b
        clear hq h0 h9 hB hw hx
        unfold bgX
        grind [up_eq, sx_at]
      rw [e, sx_6]
      exact ⟨(hB.1.xG hB.2 (by decide)).1.bx, hq⟩
    | succ r ih =>
      intro k x hk h0 h9
      refine zwX9_beginNumber_2 ⟨by omega, fun c => by omega, fun _ => ⟨by omega, ?_⟩⟩
      have e : mm_up (sx S x (S 0 17) (S 0 18)) 6 k 0 = sx S (ru x k 0) (S 0 17) (S 0 18) := by
        funext a b
        grind [up_eq, sx_at, ru_at]
      rw [Int.toNat_natCast, e]
      refine ih (k + 1) _ (by omega) (fun j hj => ?_) (fun j hj => ?_)
      · rw [ru_at]
        split
        · rfl
        · exact h0 j (by omega)
      · rw [ru_at, if_neg (by omega)]
        exact h9 j hj
  have := lp 9 0 (S 6) (by decide) (fun j hj => absurd hj (Nat.not_lt_zero _)) hx.2
  rw [sx_id] at this
  exact zwX9_beginNumber_0 this
