/-! ===== the model's ways and handicaps ===== -/
set_option maxRecDepth 100000
def wyT (s w th n : Int) : Int := if ¬ ((0 ≤ s ∧ s ≤ 1) ∧ (0 ≤ w ∧ w ≤ 1) ∧ (0 ≤ th ∧ th ≤ 1)) then 1 else if ¬ (0 ≤ n ∧ n ≤ 30) then 2 else 0
def zX9_ways : zz_Sp := fun as M Q X => match as with
  | [.inr (.inr (some h_)), .inl s, .inl w, .inl th, .inl n] => bif Nat.beq h_ 0 && Nat.beq M.1.1 1 then (R32 s ∧ R32 w ∧ R32 th ∧ R32 n ∧ mI M.2.1 ∧ (∀ S_ : Nat → Nat → Int, wyT s w th n ≠ 0 → coQ (mm_up M.2.1 0 0 (wyT s w th n)) S_ → Q (some (vi 0)) (zm S_ M.2.2.1)) ∧ (∀ S_ : Nat → Nat → Int, wyT s w th n = 0 → coQ (mm_up M.2.1 0 0 0) S_ → Q (some (vi (tbR (M.2.1 1) (stT (M.2.1 1)) w th n.toNat (nuR (bgX (M.2.1 1) s)).toNat))) (zm S_ M.2.2.1))) else False
  | _ => False

def zpX9_ways : zz_P := [(0, zo_ald 1 0), (1, zo_ild 2 1), (2, zo_calls 5 1 zX9_isPlayer), (5, zo_zifeq 8 22), (8, zo_ild 9 2), (9, zo_calls 12 1 zX9_isPlayer), (12, zo_zifeq 15 22), (15, zo_ild 16 3), (16, zo_calls 19 1 zX9_isPlayer), (19, zo_zifne 22 26), (22, zo_c 23 (vi 1)), (23, zo_goto 42), (26, zo_ild 28 4), (28, zo_c 29 (vi 0)), (29, zo_c 31 (vi 30)), (31, zo_calls 34 3 zX9_isIn), (34, zo_zifne 37 41), (37, zo_c 38 (vi 2)), (38, zo_goto 42), (41, zo_c 42 (vi 0)), (42, zo_puti 45 8 0), (45, zo_ald 46 0), (46, zo_get 49 8 0 0), (49, zo_ifle false 52 54), (52, zo_c 53 (vi 0)), (53, zo_iret), (54, zo_ald 55 0), (55, zo_callv 58 1 8 zX9_allStyles), (58, zo_ald 59 0), (59, zo_ild 60 2), (60, zo_ild 61 3), (61, zo_ild 63 4), (63, zo_ald 64 0), (64, zo_get 67 8 2 20), (67, zo_ald 68 0), (68, zo_get 71 8 2 21), (71, zo_callv 74 6 8 zX9_plays0), (74, zo_ald 75 0), (75, zo_get 78 8 2 20), (78, zo_ald 79 0), (79, zo_ild 80 1), (80, zo_callv 83 2 8 zX9_beginNumber), (83, zo_iald 84), (84, zo_iret)]
theorem ztX9_ways {C : mm_C} (G : mm_G C RX9 cX9_ways (some .int) 5 (mm_rm 36 0 0)) (hnh : mm_nh C) : zz_OKs C zpX9_ways :=
  ⟨zz_of (ok_aload_n G dX9_ways_0 rfl rfl) (z_ald _ _),
   zz_of (ok_iload_n G dX9_ways_1 rfl rfl) (z_ild _ _),
   zz_of (ok_calls G hnh (zmX9_isPlayer _ G.hst) rfl rfl q2027 q2028 q93 q2029 (by decide +kernel) ⟨by decide, by decide⟩ dX9_ways_2 rfl) (z_calls _ _ _),
   zz_of (ok_ifeq G dX9_ways_5 rfl rfl) (z_zifeq _ _),
   zz_of (ok_iload_n G dX9_ways_8 rfl rfl) (z_ild _ _),
   zz_of (ok_calls G hnh (zmX9_isPlayer _ G.hst) rfl rfl q2027 q2028 q93 q2029 (by decide +kernel) ⟨by decide, by decide⟩ dX9_ways_9 rfl) (z_calls _ _ _),
   zz_of (ok_ifeq G dX9_ways_12 rfl rfl) (z_zifeq _ _),
   zz_of (ok_iload_n G dX9_ways_15 rfl rfl) (z_ild _ _),
   zz_of (ok_calls G hnh (zmX9_isPlayer _ G.hst) rfl rfl q2027 q2028 q93 q2029 (by decide +kernel) ⟨by decide, by decide⟩ dX9_ways_16 rfl) (z_calls _ _ _),
   zz_of (ok_ifne G dX9_ways_19 rfl rfl) (z_zifne _ _),
   zz_of (ok_iconst G (v := 1) dX9_ways_22 (by decide) rfl) (z_cn 23 1),
   zz_of (ok_goto G dX9_ways_23 rfl) (z_goto _),
   zz_of (ok_iload G dX9_ways_26 rfl) (z_ild _ _),
   zz_of (ok_iconst G (v := 0) dX9_ways_28 (by decide) rfl) (z_cn 29 0),
   zz_of (ok_bipush G (v := 30) dX9_ways_29 (by decide) rfl) (z_cn 31 30),
   zz_of (ok_calls G hnh (zmX9_isIn _ G.hst) rfl rfl q1914 q1915 q93 q1916 (by decide +kernel) ⟨by decide, by decide⟩ dX9_ways_31 rfl) (z_calls _ _ _),
   zz_of (ok_ifne G dX9_ways_34 rfl rfl) (z_zifne _ _),
   zz_of (ok_iconst G (v := 2) dX9_ways_37 (by decide) rfl) (z_cn 38 2),
   zz_of (ok_goto G dX9_ways_38 rfl) (z_goto _),
   zz_of (ok_iconst G (v := 0) dX9_ways_41 (by decide) rfl) (z_cn 42 0),
   zz_of (ok_puti G (nx := 45) (idx := 67) (ci := 8) (k := 0) (RX9, TX9, 32) rfl (by decide) rfl (mm_pw G (ci := 8) (k := 0) (RX9, TX9, 32) rfl (by decide) rfl q1805 dX9_ways_42) rfl) (z_puti _ _ _),
   zz_of (ok_aload_n G dX9_ways_45 rfl rfl) (z_ald _ _),
   zz_of (ok_get G (nx := 49) (ci := 8) (kd := 0) (k := 0) (RX9, TX9, 32) rfl (by decide) rfl q1805 dX9_ways_46 rfl) (z_get _ _ _ _),
   zz_of (ok_ifle G dX9_ways_49 rfl rfl) (z_ifle _ _ _),
   zz_of (ok_iconst G (v := 0) dX9_ways_52 (by decide) rfl) (z_cn 53 0),
   zz_of (ok_iret G dX9_ways_53) (z_iret),
   zz_of (ok_aload_n G dX9_ways_54 rfl rfl) (z_ald _ _),
   zz_of (ok_callv G hnh (zmX9_allStyles _ G.hst) rfl rfl (RX9, TX9, 32) rfl q2110 q2112 qs67 q93 q2113 (by decide +kernel) ⟨by decide, by decide⟩ dX9_ways_55 rfl) (z_callv _ _ _ _),
   zz_of (ok_aload_n G dX9_ways_58 rfl rfl) (z_ald _ _),
   zz_of (ok_iload_n G dX9_ways_59 rfl rfl) (z_ild _ _),
   zz_of (ok_iload_n G dX9_ways_60 rfl rfl) (z_ild _ _),
   zz_of (ok_iload G dX9_ways_61 rfl) (z_ild _ _),
   zz_of (ok_aload_n G dX9_ways_63 rfl rfl) (z_ald _ _),
   zz_of (ok_get G (nx := 67) (ci := 8) (kd := 2) (k := 20) (RX9, TX9, 32) rfl (by decide) rfl q1825 dX9_ways_64 rfl) (z_get _ _ _ _),
   zz_of (ok_aload_n G dX9_ways_67 rfl rfl) (z_ald _ _),
   zz_of (ok_get G (nx := 71) (ci := 8) (kd := 2) (k := 21) (RX9, TX9, 32) rfl (by decide) rfl q1826 dX9_ways_68 rfl) (z_get _ _ _ _),
   zz_of (ok_callv G hnh (zmX9_plays0 _ G.hst) rfl rfl (RX9, TX9, 32) rfl q2118 q2120 qs69 q93 q2121 (by decide +kernel) ⟨by decide, by decide⟩ dX9_ways_71 rfl) (z_callv _ _ _ _),
   zz_of (ok_aload_n G dX9_ways_74 rfl rfl) (z_ald _ _),
   zz_of (ok_get G (nx := 78) (ci := 8) (kd := 2) (k := 20) (RX9, TX9, 32) rfl (by decide) rfl q1825 dX9_ways_75 rfl) (z_get _ _ _ _),
   zz_of (ok_aload_n G dX9_ways_78 rfl rfl) (z_ald _ _),
   zz_of (ok_iload_n G dX9_ways_79 rfl rfl) (z_ild _ _),
   zz_of (ok_callv G hnh (zmX9_beginNumber _ G.hst) rfl rfl (RX9, TX9, 32) rfl q2161 q2163 qs74 q93 q2164 (by decide +kernel) ⟨by decide, by decide⟩ dX9_ways_80 rfl) (z_callv _ _ _ _),
   zz_of (ok_iald G dX9_ways_83 rfl) (z_iald _),
   zz_of (ok_iret G dX9_ways_84) (z_iret), trivial⟩

theorem zwX9_ways_0 {Q : Option zv → zz_M → Prop} {X : Nat → zz_M → Prop} {S L : Nat → Nat → Int} {s : Int} {w : Int} {th : Int} {n : Int} (h : (R32 s ∧ ((0 ≤ s ∧ s ≤ 1) → ((R32 w ∧ ((0 ≤ w ∧ w ≤ 1) → ((R32 th ∧ ((0 ≤ th ∧ th ≤ 1) → ((R32 n ∧ R32 (0 : Int) ∧ R32 (30 : Int) ∧ (((0 : Int) ≤ n ∧ n ≤ (30 : Int)) → (zz_J zpX9_ways (zz_ret Q X 0 0) 45 [some (vr 0), some (vi s), some (vi w), some (vi th), some (vi n)] [] (zm (mm_up S 0 0 0) L) (0, 0))) ∧ (¬ ((0 : Int) ≤ n ∧ n ≤ (30 : Int)) → (zz_J zpX9_ways (zz_ret Q X 0 0) 45 [some (vr 0), some (vi s), some (vi w), some (vi th), some (vi n)] [] (zm (mm_up S 0 0 2) L) (0, 0)))))) ∧ (¬ (0 ≤ th ∧ th ≤ 1) → (zz_J zpX9_ways (zz_ret Q X 0 0) 45 [some (vr 0), some (vi s), some (vi w), some (vi th), some (vi n)] [] (zm (mm_up S 0 0 1) L) (0, 0)))))) ∧ (¬ (0 ≤ w ∧ w ≤ 1) → (zz_J zpX9_ways (zz_ret Q X 0 0) 45 [some (vr 0), some (vi s), some (vi w), some (vi th), some (vi n)] [] (zm (mm_up S 0 0 1) L) (0, 0)))))) ∧ (¬ (0 ≤ s ∧ s ≤ 1) → (zz_J zpX9_ways (zz_ret Q X 0 0) 45 [some (vr 0), some (vi s), some (vi w), some (vi th), some (vi n)] [] (zm (mm_up S 0 0 1) L) (0, 0))))) : zz_J zpX9_ways (zz_ret Q X 0 0) 0 [some (vr 0), some (vi s), some (vi w), some (vi th), some (vi n)] [] (zm S L) (0, 0) := zz_J.go [(45, [])] 400 h
theorem zwX9_ways_45 {Q : Option zv → zz_M → Prop} {X : Nat → zz_M → Prop} {S L : Nat → Nat → Int} {x1 : Int} {x2 : Int} {x3 : Int} {x4 : Int} (h : R32 (S 0 0) ∧ (((S 0 0) ≤ 0 → (mG (S 1) ∧ (∀ u_1, u_1 < 2 → plG (S 1) u_1) ∧ gdF S ∧ R32 (S 0 10) ∧ xG (S 6) ∧ (∀ S_1 : Nat → Nat → Int, asQ S S_1 → (((x2 = 0 ∨ x2 = 1) ∧ (x3 = -1 ∨ x3 = 0 ∨ x3 = 1) ∧ (0 ≤ x4 ∧ x4 ≤ 30) ∧ 8 = 8 ∧ 9 = 9 ∧ mG (S_1 1) ∧ whB (S_1 1) 16 = true ∧ stG (S_1 7) ∧ xG (S_1 6) ∧ (∀ (f_2 g_2 x_2 : Nat → Int) (a_2 b_2 : Int), (∀ k_2, k_2 < 15488 → f_2 k_2 = tbR (S_1 1) (S_1 7) x2 x3 x4.toNat k_2) → xG x_2 → (((x1 = 0 ∨ x1 = 1) ∧ wV ((sx (tabS S_1 f_2 g_2) x_2 a_2 b_2) 1) ∧ xG ((sx (tabS S_1 f_2 g_2) x_2 a_2 b_2) 6) ∧ ((0 ≤ (nuR (bgX ((sx (tabS S_1 f_2 g_2) x_2 a_2 b_2) 1) x1)) ∧ (nuR (bgX ((sx (tabS S_1 f_2 g_2) x_2 a_2 b_2) 1) x1)) < 15488) ∧ (Q (some (vi ((sx (sx (tabS S_1 f_2 g_2) x_2 a_2 b_2) (bgX ((sx (tabS S_1 f_2 g_2) x_2 a_2 b_2) 1) x1) ((sx (tabS S_1 f_2 g_2) x_2 a_2 b_2) 0 17) ((sx (tabS S_1 f_2 g_2) x_2 a_2 b_2) 0 18)) 8 ((nuR (bgX ((sx (tabS S_1 f_2 g_2) x_2 a_2 b_2) 1) x1)).toNat)))) (zm (sx (sx (tabS S_1 f_2 g_2) x_2 a_2 b_2) (bgX ((sx (tabS S_1 f_2 g_2) x_2 a_2 b_2) 1) x1) ((sx (tabS S_1 f_2 g_2) x_2 a_2 b_2) 0 17) ((sx (tabS S_1 f_2 g_2) x_2 a_2 b_2) 0 18)) L))))))))))) ∧ (¬ (S 0 0) ≤ 0 → Q (some (vi 0)) (zm S L)))) : zz_J zpX9_ways (zz_ret Q X 0 0) 45 [some (vr 0), some (vi x1), some (vi x2), some (vi x3), some (vi x4)] [] (zm S L) (0, 0) := zz_J.go [(45, [])] 400 h

theorem zmX9_ways (l : Launch) (hl : l.stackTraces = false) : mm_Spec l yX9_ways (ws_ yX9_ways cX9_ways 5 (some .int)) (mm_rm 36 0 0) (zE zX9_ways) := by
  refine zz_Met.J hl (by decide) (fun C G hnh => ztX9_ways G hnh) ?_
  rintro as ⟨⟨t_, f⟩, S, L, P⟩ Q X h
  unfold zX9_ways at h
  split at h
  rotate_left
  · exact h.elim
  rename_i h_ s w th n
  obtain ⟨e1_, e2_, h⟩ := mm_and2 h (fun q => q)
  cases mm_beq e1_
  cases mm_beq e2_
  try dsimp only at h
  refine ⟨rfl, ?_⟩
  refine zz_Jev (M' := zm S L) rfl rfl rfl ?_
  obtain ⟨hs, hw0, hth, hn, hI, hq1, hq0⟩ := h
  have hw := hI.1.2.1
  have cS := coS.rf hI
  have t45 : ∀ t : Int, wyT s w th n = t → (0 ≤ t ∧ t ≤ 2) → zz_J zpX9_ways (zz_ret Q X 0 0) 45 [some (vr 0), some (vi s), some (vi w), some (vi th), some (vi n)] [] (zm (mm_up S 0 0 t) L) (0, 0) := by
    intro t e ht
    have cT := cS.up0 t
    have h0 : mm_up S 0 0 t 0 0 = t := by simp [up_eq]
    refine zwX9_ways_45 ?_
    rw [h0]
    refine ⟨by omega, fun c => ?_, fun c => hq1 _ (by omega) (by rw [e]; exact cT.Q h0)⟩
    have : t = 0 := by omega
    subst this
    have e' := e
    unfold wyT at e'
    split at e'
    · cases e'
    · split at e'
      · cases e'
      · next b1 b2 =>
        have b1 : (0 ≤ s ∧ s ≤ 1) ∧ (0 ≤ w ∧ w ≤ 1) ∧ (0 ≤ th ∧ th ≤ 1) := by omega
        obtain ⟨q1, q2, q3, q4, q5⟩ := hI.pre cT
        refine ⟨q1, q2, q3, q4, q5, fun V hV => ?_⟩
        obtain ⟨v1, v2, v3, v4, v5, v6, v7, v8⟩ := hI.styles cT hV
        refine ⟨by omega, by omega, by omega, rfl, rfl, v3, v4, v5, v6, fun f g x a b hf hx => ?_⟩
        have cU := ((v1.tab f g).sxx hx a b)
        have hB := bgX_V hw (s := s) (by omega)
        have hBG : xG (bgX (S 1) s) := hB.1.xG hB.2 (by decide)
        have hnu := nuR_in hB.1
        rw [cU.r1]
        refine ⟨by omega, hw, cU.2.2, by omega, ?_⟩
        have e8 : sx (sx (tabS V f g) x a b) (bgX (S 1) s) (sx (tabS V f g) x a b 0 17) (sx (tabS V f g) x a b 0 18) 8 (nuR (bgX (S 1) s)).toNat = tbR (S 1) (stT (S 1)) w th n.toNat (nuR (bgX (S 1) s)).toNat := by
          have hlt : (nuR (bgX (S 1) s)).toNat < 15488 := by omega
          have h2 := hf _ hlt
          rw [v7, tbR_s v8 hw n.toNat _ hlt] at h2
          exact h2
        rw [e8]
        refine hq0 _ e ((cU.sxx hBG _ _).Q ?_)
        show V 0 0 = 0
        rw [v2, h0]
  refine zwX9_ways_0 ⟨hs, fun c1 => ⟨hw0, fun c2 => ⟨hth, fun c3 => ⟨hn, by decide, by decide, fun c4 => ?_, fun c4 => ?_⟩, fun c3 => ?_⟩, fun c2 => ?_⟩, fun c1 => ?_⟩
  · exact t45 0 (by unfold wyT; rw [if_neg (by omega), if_neg (by omega)]) (by decide)
  · exact t45 2 (by unfold wyT; rw [if_neg (by omega), if_pos (by omega)]) (by decide)
  · exact t45 1 (by unfold wyT; rw [if_pos (by omega)]) (by decide)
  · exact t45 1 (by unfold wyT; rw [if_pos (by omega)]) (by decide)
  · exact t45 1 (by unfold wyT; rw [if_pos (by omega)]) (by decide)
/-- the handicaps in their order: the first that is so -/
def evI (ok : Nat → Nat → Bool) : Nat → Nat → Int
  | 0, _ => -1
  | r + 1, i => if (i % 4 ≤ i / 4 ∧ i / 4 ≤ i % 4 + 3) ∧ ok (i / 4 - i % 4) (i % 4) = true then ((10 * (i / 4 - i % 4) + i % 4 : Nat) : Int) else evI ok r (i + 1)
/-- the score with a handicap -/
def hcX (x : Nat → Int) (owed given : Nat) : Nat → Int := fun j => if j = 0 then -(owed : Int) else if j = 1 then (given : Int) else if j = 3 then 0 else if j = 6 then 0 else x j
def evB (tb x : Nat → Int) (m : Int) (owed given : Nat) : Bool := decide (tb (nuR (hcX x owed given)).toNat - 500000000 ≤ 1000 * m) && decide (-(1000 * m) ≤ tb (nuR (hcX x owed given)).toNat - 500000000)
theorem hcX_V {x : Nat → Int} {o g : Nat} (h : scV x) (hb : xB 6 x) (ho : o ≤ 3) (hg : g ≤ 3) : scV (hcX x o g) ∧ xB 6 (hcX x o g) := by
  obtain ⟨-, h2, -⟩ := h
  obtain ⟨h4, h5, h7, h8, h9⟩ := hb
  refine ⟨⟨?_, ?_, ?_⟩, ?_⟩
  · unfold pV hcX
    simp
    omega
  · unfold hcX
    simp
    exact h2
  · unfold hV hcX
    simp
  · unfold xB hcX
    simp
    refine ⟨h4, h5, h7, h8, fun j hj => ?_⟩
    rw [if_neg (by omega), if_neg (by omega), if_neg (by omega), if_neg (by omega)]
    exact h9 j hj
def zX9_even : zz_Sp := fun as M Q X => match as with
  | [.inr (.inr (some h_)), .inl n, .inl m] => bif Nat.beq h_ 0 && Nat.beq M.1.1 1 then (R32 n ∧ R32 m ∧ mI M.2.1 ∧ (∀ S_ : Nat → Nat → Int, ¬ ((0 ≤ n ∧ n ≤ 30) ∧ (0 ≤ m ∧ m ≤ 500000)) → coQ (mm_up M.2.1 0 0 1) S_ → Q (some (vi 0)) (zm S_ M.2.2.1)) ∧ (∀ S_ : Nat → Nat → Int, ((0 ≤ n ∧ n ≤ 30) ∧ (0 ≤ m ∧ m ≤ 500000)) → coQ (mm_up M.2.1 0 0 0) S_ → Q (some (vi (evI (evB (tbR (M.2.1 1) (stT (M.2.1 1)) 0 (-1) n.toNat) (nwX M.2.1) m) 28 0))) (zm S_ M.2.2.1))) else False
  | _ => False

def zpX9_even : zz_P := [(0, zo_ald 1 0), (1, zo_ild 2 1), (2, zo_c 3 (vi 0)), (3, zo_c 5 (vi 30)), (5, zo_calls 8 3 zX9_isIn), (8, zo_zifeq 11 22), (11, zo_ild 12 2), (12, zo_c 13 (vi 0)), (13, zo_c 16 (vi 500000)), (16, zo_calls 19 3 zX9_isIn), (19, zo_zifne 22 26), (22, zo_c 23 (vi 1)), (23, zo_goto 27), (26, zo_c 27 (vi 0)), (27, zo_puti 30 8 0), (30, zo_ald 31 0), (31, zo_get 34 8 0 0), (34, zo_ifle false 37 39), (37, zo_c 38 (vi 0)), (38, zo_iret), (39, zo_ald 40 0), (40, zo_callv 43 1 8 zX9_allStyles), (43, zo_ald 44 0), (44, zo_c 45 (vi 0)), (45, zo_c 46 (vi (-1))), (46, zo_ild 47 1), (47, zo_ald 48 0), (48, zo_get 51 8 2 20), (51, zo_ald 52 0), (52, zo_get 55 8 2 21), (55, zo_callv 58 6 8 zX9_plays0), (58, zo_c 59 (vi 0)), (59, zo_ist 60 3), (60, zo_ild 61 3), (61, zo_c 63 (vi 6)), (63, zo_cgt false true 66 187), (66, zo_c 67 (vi 0)), (67, zo_ist 69 4), (69, zo_ild 71 4), (71, zo_c 72 (vi 3)), (72, zo_cgt false true 75 181), (75, zo_ild 76 3), (76, zo_ild 78 4), (78, zo_isub 79), (79, zo_ist 81 5), (81, zo_ild 83 5), (83, zo_c 84 (vi 0)), (84, zo_c 85 (vi 3)), (85, zo_calls 88 3 zX9_isIn), (88, zo_zifne 91 94), (91, zo_goto 175), (94, zo_ald 95 0), (95, zo_callv 98 1 8 zX9_takes), (98, zo_ald 99 0), (99, zo_get 102 8 2 16), (102, zo_c 103 (vi 0)), (103, zo_ild 105 5), (105, zo_ineg 106), (106, zo_iasc 107 0), (107, zo_ald 108 0), (108, zo_get 111 8 2 16), (111, zo_c 112 (vi 1)), (112, zo_ild 114 4), (114, zo_iasc 115 1), (115, zo_ald 116 0), (116, zo_get 119 8 2 16), (119, zo_c 120 (vi 3)), (120, zo_c 121 (vi 0)), (121, zo_iasc 122 3), (122, zo_ald 123 0), (123, zo_get 126 8 2 16), (126, zo_c 128 (vi 6)), (128, zo_c 129 (vi 0)), (129, zo_iasc 130 6), (130, zo_ald 131 0), (131, zo_get 134 8 2 20), (134, zo_ald 135 0), (135, zo_callv 138 1 8 zX9_number), (138, zo_iald 139), (139, zo_c 142 (vi 500000000)), (142, zo_isub 143), (143, zo_ist 145 6), (145, zo_ild 147 6), (147, zo_ifge false 150 156), (150, zo_ild 152 6), (152, zo_ineg 153), (153, zo_goto 158), (156, zo_ild 158 6), (158, zo_c 161 (vi 1000)), (161, zo_ild 162 2), (162, zo_imul 163), (163, zo_cgt false false 166 175), (166, zo_c 168 (vi 10)), (168, zo_ild 170 5), (170, zo_imul 171), (171, zo_ild 173 4), (173, zo_iadd 174), (174, zo_iret), (175, zo_inc 178 4 1), (178, zo_goto 69), (181, zo_inc 184 3 1), (184, zo_goto 60), (187, zo_c 188 (vi (-1))), (188, zo_iret)]
theorem ztX9_even {C : mm_C} (G : mm_G C RX9 cX9_even (some .int) 7 (mm_rm 36 0 0)) (hnh : mm_nh C) : zz_OKs C zpX9_even :=
  ⟨zz_of (ok_aload_n G dX9_even_0 rfl rfl) (z_ald _ _),
   zz_of (ok_iload_n G dX9_even_1 rfl rfl) (z_ild _ _),
   zz_of (ok_iconst G (v := 0) dX9_even_2 (by decide) rfl) (z_cn 3 0),
   zz_of (ok_bipush G (v := 30) dX9_even_3 (by decide) rfl) (z_cn 5 30),
   zz_of (ok_calls G hnh (zmX9_isIn _ G.hst) rfl rfl q1914 q1915 q93 q1916 (by decide +kernel) ⟨by decide, by decide⟩ dX9_even_5 rfl) (z_calls _ _ _),
   zz_of (ok_ifeq G dX9_even_8 rfl rfl) (z_zifeq _ _),
   zz_of (ok_iload_n G dX9_even_11 rfl rfl) (z_ild _ _),
   zz_of (ok_iconst G (v := 0) dX9_even_12 (by decide) rfl) (z_cn 13 0),
   zz_of (ok_ldcw G (v := 500000) q2177 dX9_even_13 rfl) (z_cn 16 500000),
   zz_of (ok_calls G hnh (zmX9_isIn _ G.hst) rfl rfl q1914 q1915 q93 q1916 (by decide +kernel) ⟨by decide, by decide⟩ dX9_even_16 rfl) (z_calls _ _ _),
   zz_of (ok_ifne G dX9_even_19 rfl rfl) (z_zifne _ _),
   zz_of (ok_iconst G (v := 1) dX9_even_22 (by decide) rfl) (z_cn 23 1),
   zz_of (ok_goto G dX9_even_23 rfl) (z_goto _),
   zz_of (ok_iconst G (v := 0) dX9_even_26 (by decide) rfl) (z_cn 27 0),
   zz_of (ok_puti G (nx := 30) (idx := 67) (ci := 8) (k := 0) (RX9, TX9, 32) rfl (by decide) rfl (mm_pw G (ci := 8) (k := 0) (RX9, TX9, 32) rfl (by decide) rfl q1805 dX9_even_27) rfl) (z_puti _ _ _),
   zz_of (ok_aload_n G dX9_even_30 rfl rfl) (z_ald _ _),
   zz_of (ok_get G (nx := 34) (ci := 8) (kd := 0) (k := 0) (RX9, TX9, 32) rfl (by decide) rfl q1805 dX9_even_31 rfl) (z_get _ _ _ _),
   zz_of (ok_ifle G dX9_even_34 rfl rfl) (z_ifle _ _ _),
   zz_of (ok_iconst G (v := 0) dX9_even_37 (by decide) rfl) (z_cn 38 0),
   zz_of (ok_iret G dX9_even_38) (z_iret),
   zz_of (ok_aload_n G dX9_even_39 rfl rfl) (z_ald _ _),
   zz_of (ok_callv G hnh (zmX9_allStyles _ G.hst) rfl rfl (RX9, TX9, 32) rfl q2110 q2112 qs67 q93 q2113 (by decide +kernel) ⟨by decide, by decide⟩ dX9_even_40 rfl) (z_callv _ _ _ _),
   zz_of (ok_aload_n G dX9_even_43 rfl rfl) (z_ald _ _),
   zz_of (ok_iconst G (v := 0) dX9_even_44 (by decide) rfl) (z_cn 45 0),
   zz_of (ok_iconst G (v := (zI (-1))) dX9_even_45 (by decide) rfl) (z_cz 46 (-1)),
   zz_of (ok_iload_n G dX9_even_46 rfl rfl) (z_ild _ _),
   zz_of (ok_aload_n G dX9_even_47 rfl rfl) (z_ald _ _),
   zz_of (ok_get G (nx := 51) (ci := 8) (kd := 2) (k := 20) (RX9, TX9, 32) rfl (by decide) rfl q1825 dX9_even_48 rfl) (z_get _ _ _ _),
   zz_of (ok_aload_n G dX9_even_51 rfl rfl) (z_ald _ _),
   zz_of (ok_get G (nx := 55) (ci := 8) (kd := 2) (k := 21) (RX9, TX9, 32) rfl (by decide) rfl q1826 dX9_even_52 rfl) (z_get _ _ _ _),
   zz_of (ok_callv G hnh (zmX9_plays0 _ G.hst) rfl rfl (RX9, TX9, 32) rfl q2118 q2120 qs69 q93 q2121 (by decide +kernel) ⟨by decide, by decide⟩ dX9_even_55 rfl) (z_callv _ _ _ _),
   zz_of (ok_iconst G (v := 0) dX9_even_58 (by decide) rfl) (z_cn 59 0),
   zz_of (ok_istore_n G dX9_even_59 rfl rfl (by decide)) (z_ist _ _),
   zz_of (ok_iload_n G dX9_even_60 rfl rfl) (z_ild _ _),
   zz_of (ok_bipush G (v := 6) dX9_even_61 (by decide) rfl) (z_cn 63 6),
   zz_of (ok_cgt G dX9_even_63 rfl rfl) (z_cgt _ _ _ _),
   zz_of (ok_iconst G (v := 0) dX9_even_66 (by decide) rfl) (z_cn 67 0),
   zz_of (ok_istore G dX9_even_67 rfl (by decide)) (z_ist _ _),
   zz_of (ok_iload G dX9_even_69 rfl) (z_ild _ _),
   zz_of (ok_iconst G (v := 3) dX9_even_71 (by decide) rfl) (z_cn 72 3),
   zz_of (ok_cgt G dX9_even_72 rfl rfl) (z_cgt _ _ _ _),
   zz_of (ok_iload_n G dX9_even_75 rfl rfl) (z_ild _ _),
   zz_of (ok_iload G dX9_even_76 rfl) (z_ild _ _),
   zz_of (ok_isub G dX9_even_78 rfl) (z_isub _),
   zz_of (ok_istore G dX9_even_79 rfl (by decide)) (z_ist _ _),
   zz_of (ok_iload G dX9_even_81 rfl) (z_ild _ _),
   zz_of (ok_iconst G (v := 0) dX9_even_83 (by decide) rfl) (z_cn 84 0),
   zz_of (ok_iconst G (v := 3) dX9_even_84 (by decide) rfl) (z_cn 85 3),
   zz_of (ok_calls G hnh (zmX9_isIn _ G.hst) rfl rfl q1914 q1915 q93 q1916 (by decide +kernel) ⟨by decide, by decide⟩ dX9_even_85 rfl) (z_calls _ _ _),
   zz_of (ok_ifne G dX9_even_88 rfl rfl) (z_zifne _ _),
   zz_of (ok_goto G dX9_even_91 rfl) (z_goto _),
   zz_of (ok_aload_n G dX9_even_94 rfl rfl) (z_ald _ _),
   zz_of (ok_callv G hnh (zmX9_takes _ G.hst) rfl rfl (RX9, TX9, 32) rfl q2034 q2036 qs55 q93 q2037 (by decide +kernel) ⟨by decide, by decide⟩ dX9_even_95 rfl) (z_callv _ _ _ _),
   zz_of (ok_aload_n G dX9_even_98 rfl rfl) (z_ald _ _),
   zz_of (ok_get G (nx := 102) (ci := 8) (kd := 2) (k := 16) (RX9, TX9, 32) rfl (by decide) rfl q1821 dX9_even_99 rfl) (z_get _ _ _ _),
   zz_of (ok_iconst G (v := 0) dX9_even_102 (by decide) rfl) (z_cn 103 0),
   zz_of (ok_iload G dX9_even_103 rfl) (z_ild _ _),
   zz_of (ok_ineg G dX9_even_105 rfl) (z_ineg _),
   zz_of (ok_iast G dX9_even_106 rfl) (z_iasc _ _),
   zz_of (ok_aload_n G dX9_even_107 rfl rfl) (z_ald _ _),
   zz_of (ok_get G (nx := 111) (ci := 8) (kd := 2) (k := 16) (RX9, TX9, 32) rfl (by decide) rfl q1821 dX9_even_108 rfl) (z_get _ _ _ _),
   zz_of (ok_iconst G (v := 1) dX9_even_111 (by decide) rfl) (z_cn 112 1),
   zz_of (ok_iload G dX9_even_112 rfl) (z_ild _ _),
   zz_of (ok_iast G dX9_even_114 rfl) (z_iasc _ _),
   zz_of (ok_aload_n G dX9_even_115 rfl rfl) (z_ald _ _),
   zz_of (ok_get G (nx := 119) (ci := 8) (kd := 2) (k := 16) (RX9, TX9, 32) rfl (by decide) rfl q1821 dX9_even_116 rfl) (z_get _ _ _ _),
   zz_of (ok_iconst G (v := 3) dX9_even_119 (by decide) rfl) (z_cn 120 3),
   zz_of (ok_iconst G (v := 0) dX9_even_120 (by decide) rfl) (z_cn 121 0),
   zz_of (ok_iast G dX9_even_121 rfl) (z_iasc _ _),
   zz_of (ok_aload_n G dX9_even_122 rfl rfl) (z_ald _ _),
   zz_of (ok_get G (nx := 126) (ci := 8) (kd := 2) (k := 16) (RX9, TX9, 32) rfl (by decide) rfl q1821 dX9_even_123 rfl) (z_get _ _ _ _),
   zz_of (ok_bipush G (v := 6) dX9_even_126 (by decide) rfl) (z_cn 128 6),
   zz_of (ok_iconst G (v := 0) dX9_even_128 (by decide) rfl) (z_cn 129 0),
   zz_of (ok_iast G dX9_even_129 rfl) (z_iasc _ _),
   zz_of (ok_aload_n G dX9_even_130 rfl rfl) (z_ald _ _),
   zz_of (ok_get G (nx := 134) (ci := 8) (kd := 2) (k := 20) (RX9, TX9, 32) rfl (by decide) rfl q1825 dX9_even_131 rfl) (z_get _ _ _ _),
   zz_of (ok_aload_n G dX9_even_134 rfl rfl) (z_ald _ _),
   zz_of (ok_callv G hnh (zmX9_number _ G.hst) rfl rfl (RX9, TX9, 32) rfl q2133 q2135 qs72 q93 q2136 (by decide +kernel) ⟨by decide, by decide⟩ dX9_even_135 rfl) (z_callv _ _ _ _),
   zz_of (ok_iald G dX9_even_138 rfl) (z_iald _),
   zz_of (ok_ldcw G (v := 500000000) q2178 dX9_even_139 rfl) (z_cn 142 500000000),
   zz_of (ok_isub G dX9_even_142 rfl) (z_isub _),
   zz_of (ok_istore G dX9_even_143 rfl (by decide)) (z_ist _ _),
   zz_of (ok_iload G dX9_even_145 rfl) (z_ild _ _),
   zz_of (ok_ifge G dX9_even_147 rfl rfl) (z_ifge _ _ _),
   zz_of (ok_iload G dX9_even_150 rfl) (z_ild _ _),
   zz_of (ok_ineg G dX9_even_152 rfl) (z_ineg _),
   zz_of (ok_goto G dX9_even_153 rfl) (z_goto _),
   zz_of (ok_iload G dX9_even_156 rfl) (z_ild _ _),
   zz_of (ok_sipush G (v := 1000) dX9_even_158 (by decide) rfl) (z_cn 161 1000),
   zz_of (ok_iload_n G dX9_even_161 rfl rfl) (z_ild _ _),
   zz_of (ok_imul G dX9_even_162 rfl) (z_imul _),
   zz_of (ok_cgt G dX9_even_163 rfl rfl) (z_cgt _ _ _ _),
   zz_of (ok_bipush G (v := 10) dX9_even_166 (by decide) rfl) (z_cn 168 10),
   zz_of (ok_iload G dX9_even_168 rfl) (z_ild _ _),
   zz_of (ok_imul G dX9_even_170 rfl) (z_imul _),
   zz_of (ok_iload G dX9_even_171 rfl) (z_ild _ _),
   zz_of (ok_iadd G dX9_even_173 rfl) (z_iadd _),
   zz_of (ok_iret G dX9_even_174) (z_iret),
   zz_of (ok_iinc G (v := 1) dX9_even_175 (by decide) rfl (by decide)) (z_incn 178 4 1),
   zz_of (ok_goto G dX9_even_178 rfl) (z_goto _),
   zz_of (ok_iinc G (v := 1) dX9_even_181 (by decide) rfl (by decide)) (z_incn 184 3 1),
   zz_of (ok_goto G dX9_even_184 rfl) (z_goto _),
   zz_of (ok_iconst G (v := (zI (-1))) dX9_even_187 (by decide) rfl) (z_cz 188 (-1)),
   zz_of (ok_iret G dX9_even_188) (z_iret), trivial⟩

theorem zwX9_even_0 {Q : Option zv → zz_M → Prop} {X : Nat → zz_M → Prop} {S L : Nat → Nat → Int} {n : Int} {m : Int} (h : (R32 n ∧ R32 (0 : Int) ∧ R32 (30 : Int) ∧ (((0 : Int) ≤ n ∧ n ≤ (30 : Int)) → ((R32 m ∧ R32 (0 : Int) ∧ R32 (500000 : Int) ∧ (((0 : Int) ≤ m ∧ m ≤ (500000 : Int)) → (zz_J zpX9_even (zz_ret Q X 0 0) 30 [some (vr 0), some (vi n), some (vi m), none, none, none, none] [] (zm (mm_up S 0 0 0) L) (0, 0))) ∧ (¬ ((0 : Int) ≤ m ∧ m ≤ (500000 : Int)) → (zz_J zpX9_even (zz_ret Q X 0 0) 30 [some (vr 0), some (vi n), some (vi m), none, none, none, none] [] (zm (mm_up S 0 0 1) L) (0, 0)))))) ∧ (¬ ((0 : Int) ≤ n ∧ n ≤ (30 : Int)) → (zz_J zpX9_even (zz_ret Q X 0 0) 30 [some (vr 0), some (vi n), some (vi m), none, none, none, none] [] (zm (mm_up S 0 0 1) L) (0, 0))))) : zz_J zpX9_even (zz_ret Q X 0 0) 0 [some (vr 0), some (vi n), some (vi m), none, none, none, none] [] (zm S L) (0, 0) := zz_J.go [(30, [3, 4, 5, 6]), (60, [1, 4, 5, 6]), (69, [1, 5, 6]), (158, [1, 6]), (175, [1, 5, 6])] 400 h
theorem zwX9_even_30 {Q : Option zv → zz_M → Prop} {X : Nat → zz_M → Prop} {S L : Nat → Nat → Int} {x1 : Int} {x2 : Int} (h : R32 (S 0 0) ∧ (((S 0 0) ≤ 0 → (mG (S 1) ∧ (∀ u_1, u_1 < 2 → plG (S 1) u_1) ∧ gdF S ∧ R32 (S 0 10) ∧ xG (S 6) ∧ (∀ S_1 : Nat → Nat → Int, asQ S S_1 → ((((0 : Int) = 0 ∨ (0 : Int) = 1) ∧ ((-1) = -1 ∨ (-1) = 0 ∨ (-1) = 1) ∧ (0 ≤ x1 ∧ x1 ≤ 30) ∧ 8 = 8 ∧ 9 = 9 ∧ mG (S_1 1) ∧ whB (S_1 1) 16 = true ∧ stG (S_1 7) ∧ xG (S_1 6) ∧ (∀ (f_2 g_2 x_2 : Nat → Int) (a_2 b_2 : Int), (∀ k_2, k_2 < 15488 → f_2 k_2 = tbR (S_1 1) (S_1 7) (0 : Int) (-1) x1.toNat k_2) → xG x_2 → (zz_J zpX9_even (zz_ret Q X 0 0) 60 [some (vr 0), none, some (vi x2), some (vi 0), none, none, none] [] (zm (sx (tabS S_1 f_2 g_2) x_2 a_2 b_2) L) (0, 0)))))))) ∧ (¬ (S 0 0) ≤ 0 → Q (some (vi 0)) (zm S L)))) : zz_J zpX9_even (zz_ret Q X 0 0) 30 [some (vr 0), some (vi x1), some (vi x2), none, none, none, none] [] (zm S L) (0, 0) := zz_J.go [(30, [3, 4, 5, 6]), (60, [1, 4, 5, 6]), (69, [1, 5, 6]), (158, [1, 6]), (175, [1, 5, 6])] 400 h
theorem zwX9_even_60 {Q : Option zv → zz_M → Prop} {X : Nat → zz_M → Prop} {S L : Nat → Nat → Int} {x2 : Int} {x3 : Int} (h : R32 x3 ∧ ((6 < x3 → Q (some (vi (-1))) (zm S L)) ∧ (¬ 6 < x3 → zz_J zpX9_even (zz_ret Q X 0 0) 69 [some (vr 0), none, some (vi x2), some (vi x3), some (vi 0), none, none] [] (zm S L) (0, 0)))) : zz_J zpX9_even (zz_ret Q X 0 0) 60 [some (vr 0), none, some (vi x2), some (vi x3), none, none, none] [] (zm S L) (0, 0) := zz_J.go [(30, [3, 4, 5, 6]), (60, [1, 4, 5, 6]), (69, [1, 5, 6]), (158, [1, 6]), (175, [1, 5, 6])] 400 h
theorem zwX9_even_69 {Q : Option zv → zz_M → Prop} {X : Nat → zz_M → Prop} {S L : Nat → Nat → Int} {x2 : Int} {x3 : Int} {x4 : Int} (h : R32 x4 ∧ ((3 < x4 → zz_J zpX9_even (zz_ret Q X 0 0) 60 [some (vr 0), none, some (vi x2), some (vi (x3 + 1)), none, none, none] [] (zm S L) (0, 0)) ∧ (¬ 3 < x4 → (R32 (x3 - x4) ∧ R32 (0 : Int) ∧ R32 (3 : Int) ∧ (((0 : Int) ≤ (x3 - x4) ∧ (x3 - x4) ≤ (3 : Int)) → ((((bx ((mm_up (mm_up (mm_up (mm_up (tkS S) 6 0 (-(x3 - x4))) 6 1 x4) 6 3 0) 6 6 0) 6) ∧ ((0 ≤ (nuR ((mm_up (mm_up (mm_up (mm_up (tkS S) 6 0 (-(x3 - x4))) 6 1 x4) 6 3 0) 6 6 0) 6)) ∧ (nuR ((mm_up (mm_up (mm_up (mm_up (tkS S) 6 0 (-(x3 - x4))) 6 1 x4) 6 3 0) 6 6 0) 6)) < 15488) ∧ (R32 (((tkS S) 8 ((nuR ((mm_up (mm_up (mm_up (mm_up (tkS S) 6 0 (-(x3 - x4))) 6 1 x4) 6 3 0) 6 6 0) 6)).toNat)) - 500000000) ∧ ((0 ≤ (((tkS S) 8 ((nuR ((mm_up (mm_up (mm_up (mm_up (tkS S) 6 0 (-(x3 - x4))) 6 1 x4) 6 3 0) 6 6 0) 6)).toNat)) - 500000000) → zz_J zpX9_even (zz_ret Q X 0 0) 158 [some (vr 0), none, some (vi x2), some (vi x3), some (vi x4), some (vi (x3 - x4)), none] [vi (((tkS S) 8 ((nuR ((mm_up (mm_up (mm_up (mm_up (tkS S) 6 0 (-(x3 - x4))) 6 1 x4) 6 3 0) 6 6 0) 6)).toNat)) - 500000000)] (zm (mm_up (mm_up (mm_up (mm_up (tkS S) 6 0 (-(x3 - x4))) 6 1 x4) 6 3 0) 6 6 0) L) (0, 0)) ∧ (¬ 0 ≤ (((tkS S) 8 ((nuR ((mm_up (mm_up (mm_up (mm_up (tkS S) 6 0 (-(x3 - x4))) 6 1 x4) 6 3 0) 6 6 0) 6)).toNat)) - 500000000) → zz_J zpX9_even (zz_ret Q X 0 0) 158 [some (vr 0), none, some (vi x2), some (vi x3), some (vi x4), some (vi (x3 - x4)), none] [vi (-(((tkS S) 8 ((nuR ((mm_up (mm_up (mm_up (mm_up (tkS S) 6 0 (-(x3 - x4))) 6 1 x4) 6 3 0) 6 6 0) 6)).toNat)) - 500000000))] (zm (mm_up (mm_up (mm_up (mm_up (tkS S) 6 0 (-(x3 - x4))) 6 1 x4) 6 3 0) 6 6 0) L) (0, 0)))))))))) ∧ (¬ ((0 : Int) ≤ (x3 - x4) ∧ (x3 - x4) ≤ (3 : Int)) → (zz_J zpX9_even (zz_ret Q X 0 0) 175 [some (vr 0), none, some (vi x2), some (vi x3), some (vi x4), none, none] [] (zm S L) (0, 0))))))) : zz_J zpX9_even (zz_ret Q X 0 0) 69 [some (vr 0), none, some (vi x2), some (vi x3), some (vi x4), none, none] [] (zm S L) (0, 0) := zz_J.go [(30, [3, 4, 5, 6]), (60, [1, 4, 5, 6]), (69, [1, 5, 6]), (158, [1, 6]), (175, [1, 5, 6])] 400 h
theorem zwX9_even_158 {Q : Option zv → zz_M → Prop} {X : Nat → zz_M → Prop} {S L : Nat → Nat → Int} {x2 : Int} {x3 : Int} {x4 : Int} {x5 : Int} {t0 : Int} (h : R32 t0 ∧ (R32 (1000 * x2) ∧ (((1000 * x2) < t0 → zz_J zpX9_even (zz_ret Q X 0 0) 175 [some (vr 0), none, some (vi x2), some (vi x3), some (vi x4), none, none] [] (zm S L) (0, 0)) ∧ (¬ (1000 * x2) < t0 → Q (some (vi ((10 * x5) + x4))) (zm S L))))) : zz_J zpX9_even (zz_ret Q X 0 0) 158 [some (vr 0), none, some (vi x2), some (vi x3), some (vi x4), some (vi x5), none] [vi t0] (zm S L) (0, 0) := zz_J.go [(30, [3, 4, 5, 6]), (60, [1, 4, 5, 6]), (69, [1, 5, 6]), (158, [1, 6]), (175, [1, 5, 6])] 400 h
theorem zwX9_even_175 {Q : Option zv → zz_M → Prop} {X : Nat → zz_M → Prop} {S L : Nat → Nat → Int} {x2 : Int} {x3 : Int} {x4 : Int} (h : zz_J zpX9_even (zz_ret Q X 0 0) 69 [some (vr 0), none, some (vi x2), some (vi x3), some (vi (x4 + 1)), none, none] [] (zm S L) (0, 0)) : zz_J zpX9_even (zz_ret Q X 0 0) 175 [some (vr 0), none, some (vi x2), some (vi x3), some (vi x4), none, none] [] (zm S L) (0, 0) := zz_J.go [(30, [3, 4, 5, 6]), (60, [1, 4, 5, 6]), (69, [1, 5, 6]), (158, [1, 6]), (175, [1, 5, 6])] 400 h

theorem zmX9_even (l : Launch) (hl : l.stackTraces = false) : mm_Spec l yX9_even (ws_ yX9_even cX9_even 7 (some .int)) (mm_rm 36 0 0) (zE zX9_even) := by
  refine zz_Met.J hl (by decide) (fun C G hnh => ztX9_even G hnh) ?_
  rintro as ⟨⟨t_, f⟩, S, L, P⟩ Q X h
  unfold zX9_even at h
  split at h
  rotate_left
  · exact h.elim
  rename_i h_ n m
  obtain ⟨e1_, e2_, h⟩ := mm_and2 h (fun q => q)
  cases mm_beq e1_
  cases mm_beq e2_
  try dsimp only at h
  refine ⟨rfl, ?_⟩
  refine zz_Jev (M' := zm S L) rfl rfl rfl ?_
  obtain ⟨hn, hm, hI, hq1, hq0⟩ := h
  have hw := hI.1.2.1
  have cS := coS.rf hI
  have hsc := hI.2.2.2.2.2.2.1
  have hsB := hI.2.2.2.2.2.2.2
  -- the search
  have srch : ((0 ≤ n ∧ n ≤ 30) ∧ (0 ≤ m ∧ m ≤ 500000)) → ∀ (r s g : Nat) (T : Nat → Nat → Int), 4 * s + g + r = 28 → g < 4 → s ≤ 6 → coS S T → T 0 0 = 0 → (∀ k, k < 15488 → T 8 k = tbR (S 1) (stT (S 1)) 0 (-1) n.toNat k) → evI (evB (tbR (S 1) (stT (S 1)) 0 (-1) n.toNat) (nwX S) m) 28 0 = evI (evB (tbR (S 1) (stT (S 1)) 0 (-1) n.toNat) (nwX S) m) r (4 * s + g) → zz_J zpX9_even (zz_ret Q X 0 0) 69 [some (vr 0), none, some (vi m), some (vi s), some (vi g), none, none] [] (zm T L) (0, 0) := by
    intro hb r
    have hq0 := fun S_ => hq0 S_ hb
    generalize hok : evB (tbR (S 1) (stT (S 1)) 0 (-1) n.toNat) (nwX S) m = ok at hq0
    induction r with
    | zero => intro s g T hr hg hs; omega
    | succ r ih =>
      intro s g T hr hg hs cT h0 h8 e
      have d1 : (4 * s + g) / 4 = s := by omega
      have d2 : (4 * s + g) % 4 = g := by omega
      have e2 : evI ok (r + 1) (4 * s + g) = if (g ≤ s ∧ s ≤ g + 3) ∧ ok (s - g) g = true then ((10 * (s - g) + g : Nat) : Int) else evI ok r (4 * s + g + 1) := by
        show (if ((4 * s + g) % 4 ≤ (4 * s + g) / 4 ∧ (4 * s + g) / 4 ≤ (4 * s + g) % 4 + 3) ∧ ok ((4 * s + g) / 4 - (4 * s + g) % 4) ((4 * s + g) % 4) = true then _ else _) = _
        rw [d1, d2]
      rw [e2] at e
      have nx : ∀ T' : Nat → Nat → Int, coS S T' → T' 0 0 = 0 → (∀ k, k < 15488 → T' 8 k = tbR (S 1) (stT (S 1)) 0 (-1) n.toNat k) → evI ok 28 0 = evI ok r (4 * s + g + 1) → zz_J zpX9_even (zz_ret Q X 0 0) 175 [some (vr 0), none, some (vi m), some (vi s), some (vi g), none, none] [] (zm T' L) (0, 0) := by
        intro T' cT' h0' h8' e'
        refine zwX9_even_175 ?_
        by_cases g3 : g + 1 < 4
        · exact ih s (g + 1) T' (by omega) g3 hs cT' h0' h8' e'
        · refine zwX9_even_69 ⟨by omega, fun _ => ?_, fun c => by omega⟩
          refine zwX9_even_60 ⟨by omega, fun c6 => ?_, fun c6 => ?_⟩
          · have r0 : r = 0 := by omega
            subst r0
            have : evI ok 28 0 = -1 := e'
            rw [this] at hq0
            exact hq0 T' (cT'.Q h0')
          · refine ih (s + 1) 0 T' (by omega) (by decide) (by omega) cT' h0' h8' ?_
            rw [e']
            congr 1
            omega
      refine zwX9_even_69 ⟨by omega, fun c => by omega, fun _ => ⟨by omega, by decide, by decide, fun c => ?_, fun c => ?_⟩⟩
      · have hgs : g ≤ s ∧ s ≤ g + 3 := by omega
        obtain ⟨hV, hB⟩ := hcX_V (o := s - g) (g := g) hsc hsB (by omega) (by omega)
        have eT := cT.tk hI.2.2.2.2.2.1
        have eX : (mm_up (mm_up (mm_up (mm_up (tkS T) 6 0 (-((s : Int) - g))) 6 1 g) 6 3 0) 6 6 0) 6 = hcX (nwX S) (s - g) g := by
          funext j
          have := congrFun eT j
          have ec : ((s - g : Nat) : Int) = (s : Int) - g := by omega
          unfold hcX
          rw [ec]
          clear hq0 hq1 ih nx e
          grind [up_eq]
        have eS : mm_up (mm_up (mm_up (mm_up (tkS T) 6 0 (-((s : Int) - g))) 6 1 g) 6 3 0) 6 6 0 = sx T (hcX (nwX S) (s - g) g) (T 0 17) (T 0 18) := by
          funext a b
          by_cases ha : a = 6
          · subst ha
            rw [sx_at, if_pos rfl]
            exact congrFun eX b
          · rw [up_eq, up_eq, up_eq, up_eq, if_neg (fun q => ha q.1), if_neg (fun q => ha q.1), if_neg (fun q => ha q.1), if_neg (fun q => ha q.1), tkS_at, if_neg (fun q => ha q.1), sx_at, if_neg ha]
            split
            · next q => rw [q.1, q.2]
            · split
              · next q => rw [q.1, q.2]
              · rfl
        have hnu := nuR_in hV
        have hG := hV.xG hB (by decide)
        rw [eX, eS]
        have t8 : tkS T 8 (nuR (hcX (nwX S) (s - g) g)).toNat = tbR (S 1) (stT (S 1)) 0 (-1) n.toNat (nuR (hcX (nwX S) (s - g) g)).toNat := h8 _ (by omega)
        have tg := tbR_G (p := 0) (th := -1) hI.1 hI.2.1 (stT_G (S 1)) n.toNat (nuR (hcX (nwX S) (s - g) g)).toNat (by omega)
        rw [t8]
        have ob : ok (s - g) g = evB (tbR (S 1) (stT (S 1)) 0 (-1) n.toNat) (nwX S) m (s - g) g := by rw [hok]
        unfold evB at ob
        generalize tbR (S 1) (stT (S 1)) 0 (-1) n.toNat (nuR (hcX (nwX S) (s - g) g)).toNat = v at ob tg ⊢
        have cU := cT.sxx hG (T 0 17) (T 0 18)
        have t158 : ∀ far : Int, (far = v - 500000000 ∨ far = -(v - 500000000)) → 0 ≤ far → zz_J zpX9_even (zz_ret Q X 0 0) 158 [some (vr 0), none, some (vi m), some (vi s), some (vi g), some (vi ((s : Int) - g)), none] [vi far] (zm (sx T (hcX (nwX S) (s - g) g) (T 0 17) (T 0 18)) L) (0, 0) := by
          intro far hf h0f
          refine zwX9_even_158 ⟨by omega, by omega, fun c1 => ?_, fun c1 => ?_⟩
          · have ob2 : ok (s - g) g = false := by
              rw [ob, ← Bool.not_eq_true, Bool.and_eq_true, decide_eq_true_eq, decide_eq_true_eq]
              omega
            rw [if_neg (by rw [ob2]; simp)] at e
            exact nx _ cU h0 h8 e
          · have ob2 : ok (s - g) g = true := by
              rw [ob, Bool.and_eq_true, decide_eq_true_eq, decide_eq_true_eq]
              omega
            rw [if_pos ⟨hgs, ob2⟩] at e
            rw [e] at hq0
            have ev : (10 : Int) * ((s : Int) - g) + g = ((10 * (s - g) + g : Nat) : Int) := by omega
            rw [ev]
            exact hq0 _ (cU.Q h0)
        exact ⟨hG.1.bx, hnu, by omega, fun c1 => t158 _ (Or.inl rfl) c1, fun c1 => t158 _ (Or.inr rfl) (by omega)⟩
      · rw [if_neg (by omega)] at e
        exact nx T cT h0 h8 e
  have t30 : ∀ t : Int, (t = 1 ∧ ¬ ((0 ≤ n ∧ n ≤ 30) ∧ (0 ≤ m ∧ m ≤ 500000)) ∨ t = 0 ∧ ((0 ≤ n ∧ n ≤ 30) ∧ (0 ≤ m ∧ m ≤ 500000))) → zz_J zpX9_even (zz_ret Q X 0 0) 30 [some (vr 0), some (vi n), some (vi m), none, none, none, none] [] (zm (mm_up S 0 0 t) L) (0, 0) := by
    intro t ht
    have cT := cS.up0 t
    have h0 : mm_up S 0 0 t 0 0 = t := by simp [up_eq]
    refine zwX9_even_30 ?_
    rw [h0]
    refine ⟨by omega, fun c => ?_, fun c => ?_⟩
    · rcases ht with ⟨h, -⟩ | ⟨h, hb⟩
      · omega
      · subst h
        obtain ⟨q1, q2, q3, q4, q5⟩ := hI.pre cT
        refine ⟨q1, q2, q3, q4, q5, fun V hV => ?_⟩
        obtain ⟨v1, v2, v3, v4, v5, v6, v7, v8⟩ := hI.styles cT hV
        refine ⟨Or.inl rfl, Or.inl rfl, hb.1, rfl, rfl, v3, v4, v5, v6, fun f g x a b hf hx => ?_⟩
        have cU := ((v1.tab f g).sxx hx a b)
        refine zwX9_even_60 ⟨by decide, fun c => absurd c (by decide), fun _ => ?_⟩
        refine srch hb 28 0 0 _ (by decide) (by decide) (by decide) cU ?_ (fun k hk => ?_) rfl
        · show V 0 0 = 0
          rw [v2, h0]
        · have h2 := hf _ hk
          rw [v7, tbR_s v8 hw n.toNat _ hk] at h2
          exact h2
    · rcases ht with ⟨h, hb⟩ | ⟨h, -⟩
      · subst h
        exact hq1 _ hb (cT.Q h0)
      · omega
  refine zwX9_even_0 ⟨hn, by decide, by decide, fun c1 => ⟨hm, by decide, by decide, fun c2 => t30 0 (Or.inr ⟨rfl, c1, c2⟩), fun c2 => t30 1 (Or.inl ⟨rfl, fun q => c2 q.2⟩)⟩, fun c1 => t30 1 (Or.inl ⟨rfl, fun q => c1 q.1⟩)⟩
