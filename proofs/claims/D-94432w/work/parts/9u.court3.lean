/-! ===== the component: a text of the court is told; the image ===== -/
set_option maxRecDepth 100000
/-- below t all is as it was but the reader's cells; from u on all is free -/
def grc (t u : Nat) (f : Nat → Nat × Nat) (S L : Nat → Nat → Int) (P : Nat → Nat → Option Nat) (f' : Nat → Nat × Nat) (S' L' : Nat → Nat → Int) (P' : Nat → Nat → Option Nat) : Prop := t ≤ u ∧ (∀ h, h < t → f' h = f h ∧ L' h = L h ∧ P' h = P h) ∧ (∀ h k, h < t → h ≠ 101 → S' h k = S h k) ∧ frF f' u
/-- t is the world now: below t all else is as it was but the reader's cells; what is known is forgotten -/
def cuG (t u : Nat) (f : Nat → Nat × Nat) (S L : Nat → Nat → Int) (P : Nat → Nat → Option Nat) (f' : Nat → Nat × Nat) (S' L' : Nat → Nat → Int) (P' : Nat → Nat → Option Nat) : Prop := t + 26 ≤ u ∧ frF f' u ∧ (∀ h, h < t → f' h = f h ∧ L' h = L h) ∧ (∀ h k, h < t → h ≠ 101 → ¬ (h = 100 ∧ k = 8) → S' h k = S h k) ∧ S' 100 8 = 0 ∧ (∀ h k, h < t → ¬ (h = 100 ∧ k = 0) → P' h k = P h k) ∧ P' 100 0 = some t
/-- at t lies a world made of the world h, its chances and so on by the row r, its texts v -/
def cpE (t h e n : Nat) (r : Nat → Int) (v : Int) (f : Nat → Nat × Nat) (S L : Nat → Nat → Int) (P : Nat → Nat → Option Nat) (f' : Nat → Nat × Nat) (S' : Nat → Nat → Int) (P' : Nat → Nat → Option Nat) : Prop :=
  f' t = (1, 1) ∧ wSh f' P' t 100 ∧ (S' t 0 = v ∧ S' t 4 = S h 4 ∧ S' t 5 = S h 5) ∧ drW S' t r ∧ (S' (t + 2) 2 = (n : Int) ∧ (n = 0 → P' (t + 2) 1 = some 1300) ∧ (0 < n → P' (t + 2) 1 = some (t + 9) ∧ f' (t + 9) = (7, 10) ∧ ∀ i, i < n → P' (t + 9) i = zpt ((2, f), S, L, P) e i)) ∧ (∀ k, k < 2 → S' (t + 3) k = S (h + 3) k) ∧ cx S' (t + 4) = cx S (h + 4)
theorem eM_23 {f : Nat → Nat × Nat} {S L : Nat → Nat → Int} {P : Nat → Nat → Option Nat} : eM ((2, f), S, L, P) = eM ((3, f), S, L, mm_up P 100 0 (some 200)) := by
  have e : zpt ((2, f), S, L, P) = zpt ((3, f), S, L, mm_up P 100 0 (some 200)) := by
    funext h k
    show (bif zfx 2 h k then zfp 2 h k else P h k) = (bif zfx 3 h k then zfp 3 h k else mm_up P 100 0 (some 200) h k)
    by_cases c : h = 100 ∧ k = 0
    · rw [c.1, c.2]
      rfl
    · have e1 : zfx 3 h k = zfx 2 h k := by
        unfold zfx
        have : (Nat.beq h 100 && Nat.beq k 0) = false := by
          cases c1 : Nat.beq h 100 with
          | false => rfl
          | true =>
            cases c2 : Nat.beq k 0 with
            | false => rfl
            | true => exact absurd ⟨Nat.eq_of_beq_eq_true c1, Nat.eq_of_beq_eq_true c2⟩ c
        have e3 : (Nat.beq h 100 && (Nat.beq k 1 || (Nat.beq 3 3 && Nat.beq k 0))) = (Nat.beq h 100 && Nat.beq k 1) := by
          cases c1 : Nat.beq h 100 with
          | false => rfl
          | true =>
            rw [c1] at this
            have this : Nat.beq k 0 = false := this
            rw [this]
            cases Nat.beq k 1 <;> rfl
        have e2 : (Nat.beq h 100 && (Nat.beq k 1 || (Nat.beq 2 3 && Nat.beq k 0))) = (Nat.beq h 100 && Nat.beq k 1) := by
          cases Nat.beq h 100 <;> cases Nat.beq k 1 <;> rfl
        rw [e3, e2]
        rfl
      rw [e1, up_eq, if_neg c]
      rfl
  show (zsh ((2, f), S, L, P), zS S, zJ L, zpt ((2, f), S, L, P)) = (zsh ((3, f), S, L, mm_up P 100 0 (some 200)), zS S, zJ L, zpt ((3, f), S, L, mm_up P 100 0 (some 200)))
  rw [← e]
  rfl
theorem woZ.ofS {f : Nat → Nat × Nat} {S S' L L' : Nat → Nat → Int} {P : Nat → Nat → Option Nat} {x e m n : Nat} (h : woZ ((2, f), S, L, P) x e m n) (e2 : S' (x + 2) 2 = S (x + 2) 2) (e5 : S' (x + 4) 5 = S (x + 4) 5) : woZ ((2, f), S', L', P) x e m n := by
  obtain ⟨h1, h2, h3, h4, h5, h6, ⟨l1, l2, l3, l4⟩, h8, h9⟩ := h
  refine ⟨h1, h2, h3, h4, h5, h6, ⟨l1, l2, ?_, l4⟩, h8, ?_⟩
  · exact e2.trans l3
  · show S' (x + 4) 5 = 0 ∨ S' (x + 4) 5 = 1
    rw [e5]
    exact h9
theorem zsh_hi3 {f : Nat → Nat × Nat} {S L : Nat → Nat → Int} {P : Nat → Nat → Option Nat} {h : Nat} (h2 : 2000 ≤ h) : zsh ((3, f), S, L, P) h = f h := zsh_hi (f := f) (S := S) (L := L) (P := P) h2
theorem wSh.fr {f f' : Nat → Nat × Nat} {P P' : Nat → Nat → Option Nat} {h x : Nat} (q : wSh f P h x) (e : ∀ j, h ≤ j → j ≤ h + 25 → f' j = f j ∧ P' j = P j) : wSh f' P' h x := by
  obtain ⟨⟨⟨q1, q2, q3, q4, q5⟩, q6⟩, q7, q8, q9⟩ := q
  refine ⟨⟨⟨by rw [(e _ (by omega) (by omega)).1]; exact q1, fun i hi => by rw [(e _ (by omega) (by omega)).1]; exact q2 i hi, by rw [(e _ (by omega) (by omega)).1]; exact q3, by rw [(e _ (by omega) (by omega)).1]; exact q4, by rw [(e _ (by omega) (by omega)).1]; exact q5⟩, fun i a b => by rw [(e _ (by omega) (by omega)).1]; exact q6 i a b⟩, by rw [(e h (by omega) (by omega)).2]; exact q7, fun i hi => by rw [(e _ (by omega) (by omega)).2]; exact q8 i hi, by rw [(e _ (by omega) (by omega)).2]; exact q9⟩
def zX1_court : zz_Sp := fun as M Q X => match as with
  | [.inr (.inr (some h_))] => bif Nat.beq h_ 100 && Nat.beq M.1.1 2 then (∃ (tx_ w_ : Nat → Int) (n_ t_ e_ m_ k_ : Nat), tpT M.2.1 tx_ n_ ∧ woZ ((2, M.1.2), M.2.1, M.2.2.1, M.2.2.2) 200 e_ m_ k_ ∧ frF M.1.2 t_ ∧ drW M.2.1 200 w_ ∧ cG w_ ∧ (0 ≤ M.2.1 200 0 ∧ M.2.1 200 0 ≤ 12) ∧ (∀ v_ : Nat, ctW tx_ n_ w_ = .inl v_ → ∀ (S_ L_ : Nat → Nat → Int) (P_ : Nat → Nat → Option Nat) (f_ : Nat → Nat × Nat) (u_ : Nat), grc t_ u_ M.1.2 M.2.1 M.2.2.1 M.2.2.2 f_ S_ L_ P_ → S_ 101 1 = 0 → S_ 101 5 = (v_ : Int) → X 1 ((2, f_), S_, L_, P_)) ∧ (∀ r_ : Nat → Int, ctW tx_ n_ w_ = .inr r_ → (M.2.1 200 0 = 12 → ∀ (S_ L_ : Nat → Nat → Int) (P_ : Nat → Nat → Option Nat) (f_ : Nat → Nat × Nat) (u_ : Nat), grc t_ u_ M.1.2 M.2.1 M.2.2.1 M.2.2.2 f_ S_ L_ P_ → S_ 101 1 = 0 → S_ 101 5 = -1 → X 2 ((2, f_), S_, L_, P_)) ∧ (M.2.1 200 0 < 12 → ∀ (S_ L_ : Nat → Nat → Int) (P_ : Nat → Nat → Option Nat) (f_ : Nat → Nat × Nat) (u_ : Nat), cuG t_ u_ M.1.2 M.2.1 M.2.2.1 M.2.2.2 f_ S_ L_ P_ → S_ 101 1 = 0 → S_ 101 5 = -1 → cpE t_ 200 e_ k_ r_ (M.2.1 200 0 + 1) M.1.2 M.2.1 M.2.2.1 M.2.2.2 f_ S_ P_ → Q (some (vi (M.2.1 200 0 + 1))) ((3, f_), S_, L_, P_)))) else False
  | _ => False

theorem hcX1_court_17 : ∀ q ∈ ([(0, 32, 2)] : mm_H), ∀ E, mm_ex[q.1]? = some E → mm_ct RX1 cX1_court 3 [((15), (28), (31), (194))] 17 E q.2.1 q.2.2 := by
  intro q hq E hE
  simp only [List.mem_cons, List.not_mem_nil, or_false] at hq
  rcases hq with rfl
  · cases hE
    exact ⟨[], ⟨15, 28, 31, 194⟩, [], rfl, fun z hz => absurd hz List.not_mem_nil, by decide, by decide, q604, q961, by decide, Or.inl ⟨2, rfl, dX1_court_31, rfl⟩, by decide⟩
def zpX1_court : zz_P := [(0, zo_ald 1 0), (1, zo_get 4 0 2 2), (4, zo_cvL (mm_rm 12 342 28900) 7 1 3 0 0 zX4_begins), (7, zo_ald 8 0), (8, zo_get 11 0 2 0), (11, zo_cvL (mm_rm 12 342 28900) 14 1 1 26 260 zX2_copy), (14, zo_ast 15 1), (15, zo_ald 16 0), (16, zo_ald 17 1), (17, zo_cvLH (mm_rm 12 342 28900) 20 2 0 312 28600 [(0, 32, 2)] zX1_courtText), (20, zo_ald 21 0), (21, zo_get 24 0 2 2), (24, zo_c 25 (vi (-1))), (25, zo_puti 28 3 5), (28, zo_goto 36), (32, zo_ald 33 0), (33, zo_cvL (mm_rm 12 342 28900) 36 1 0 1 6 zX1_fails), (36, zo_ald 37 0), (37, zo_get 40 0 2 0), (40, zo_getp 43 1 0 0), (43, zo_c 45 (vi 12)), (45, zo_cne false true 48 56), (48, zo_thr0L (mm_rm 12 342 28900) 2), (51, zo_dup 52), (52, zo_bad), (55, zo_athr 20 0), (56, zo_ald 57 1), (57, zo_dup 58), (58, zo_getp 61 1 0 0), (61, zo_c 62 (vi 1)), (62, zo_iadd 63), (63, zo_putip 66 1 0), (66, zo_ald 67 0), (67, zo_ald 68 1), (68, zo_putrp 71 0 0), (71, zo_ald 72 0), (72, zo_c 73 (vi 0)), (73, zo_putz true 76 0 8), (76, zo_ald 77 0), (77, zo_get 80 0 2 0), (80, zo_getp 83 1 0 0), (83, zo_iret)]
theorem ztX1_court {C : mm_C} (G : mm_G C RX1 cX1_court (some .int) 3 (mm_rm 12 342 28900)) (hhd : mm_hd C [((15), (28), (31), (194))]) : zz_OKs C zpX1_court :=
  ⟨zz_of (ok_aload_n G dX1_court_0 rfl rfl) (z_ald _ _),
   zz_of (ok_get G (nx := 4) (ci := 0) (kd := 2) (k := 2) (RX1, TX1, 19) rfl (by decide) rfl q404 dX1_court_1 rfl) (z_get _ _ _ _),
   zz_of (ok_calvF G (hhd.q (pc := 4) (by decide +kernel)) (zmX4_begins _ G.hst) (RX4, TX4, 7) rfl q605 q606 q607 q88 q608 (by decide +kernel) ⟨Nat.le_of_ble_eq_true rfl, Nat.le_of_ble_eq_true rfl⟩ dX1_court_4 rfl) (z_cvL _ _ _ _ _ _ _),
   zz_of (ok_aload_n G dX1_court_7 rfl rfl) (z_ald _ _),
   zz_of (ok_get G (nx := 11) (ci := 0) (kd := 2) (k := 0) (RX1, TX1, 19) rfl (by decide) rfl q399 dX1_court_8 rfl) (z_get _ _ _ _),
   zz_of (ok_calvF G (hhd.q (pc := 11) (by decide +kernel)) (zmX2_copy _ G.hst) (RX2, TX2, 11) rfl q493 q494 q495 q83 q496 (by decide +kernel) ⟨Nat.le_of_ble_eq_true rfl, Nat.le_of_ble_eq_true rfl⟩ dX1_court_11 rfl) (z_cvL _ _ _ _ _ _ _),
   zz_of (ok_astore_n G dX1_court_14 rfl rfl (by decide)) (z_ast _ _),
   zz_of (ok_aload_n G dX1_court_15 rfl rfl) (z_ald _ _),
   zz_of (ok_aload_n G dX1_court_16 rfl rfl) (z_ald _ _),
   zz_of (ok_calvFH G hhd (hs := [(0, 32, 2)]) (pc := 17) hcX1_court_17 (zmX1_courtText _ G.hst) (RX1, TX1, 19) rfl q609 q611 qs1 q82 q612 (by decide +kernel) ⟨Nat.le_of_ble_eq_true rfl, Nat.le_of_ble_eq_true rfl⟩ dX1_court_17 rfl) (z_cvLH _ _ _ _ _ _ _ _),
   zz_of (ok_aload_n G dX1_court_20 rfl rfl) (z_ald _ _),
   zz_of (ok_get G (nx := 24) (ci := 0) (kd := 2) (k := 2) (RX1, TX1, 19) rfl (by decide) rfl q404 dX1_court_21 rfl) (z_get _ _ _ _),
   zz_of (ok_iconst G (v := (zI (-1))) dX1_court_24 (by decide) rfl) (z_cz 25 (-1)),
   zz_of (ok_puti G (nx := 28) (idx := 104) (ci := 3) (k := 5) (RX4, TX4, 7) rfl (by decide) rfl (mm_pwN G (ci := 3) (k := 5) (RX4, TX4, 7) rfl (by decide) rfl q280 dX1_court_25) rfl) (z_puti _ _ _),
   zz_of (ok_goto G dX1_court_28 rfl) (z_goto _),
   zz_of (ok_aload_n G dX1_court_32 rfl rfl) (z_ald _ _),
   zz_of (ok_calvF G (hhd.q (pc := 33) (by decide +kernel)) (zmX1_fails _ G.hst) (RX1, TX1, 19) rfl q1076 q1078 qs7 q82 q1079 (by decide +kernel) ⟨Nat.le_of_ble_eq_true rfl, Nat.le_of_ble_eq_true rfl⟩ dX1_court_33 rfl) (z_cvL _ _ _ _ _ _ _),
   zz_of (ok_aload_n G dX1_court_36 rfl rfl) (z_ald _ _),
   zz_of (ok_get G (nx := 40) (ci := 0) (kd := 2) (k := 0) (RX1, TX1, 19) rfl (by decide) rfl q399 dX1_court_37 rfl) (z_get _ _ _ _),
   zz_of (ok_getN G (nx := 43) (ci := 1) (kd := 0) (k := 0) (RX2, TX2, 11) rfl (by decide) rfl q215 dX1_court_40 rfl) (z_getp _ _ _ _),
   zz_of (ok_bipush G (v := 12) dX1_court_43 (by decide) rfl) (z_cn 45 12),
   zz_of (ok_cne G dX1_court_45 rfl rfl) (z_cne _ _ _ _),
   zz_of (th_X1_UnsupportedOperationException G (hhd.q (pc := 55) (by decide +kernel)) dX1_court_48 dX1_court_51 dX1_court_52 dX1_court_55) (z_thr0L _ _),
   zz_of (ok_dup G dX1_court_51 rfl) (z_dup _),
   zz_of (ok_bad) (z_bad),
   zz_of (ok_athr G (ci := 20) (i := 0) (RX10, TX10, 6) rfl rfl (hhd.q (pc := 55) (by decide +kernel)) dX1_court_55) (z_athr _ _),
   zz_of (ok_aload_n G dX1_court_56 rfl rfl) (z_ald _ _),
   zz_of (ok_dup G dX1_court_57 rfl) (z_dup _),
   zz_of (ok_getN G (nx := 61) (ci := 1) (kd := 0) (k := 0) (RX2, TX2, 11) rfl (by decide) rfl q215 dX1_court_58 rfl) (z_getp _ _ _ _),
   zz_of (ok_iconst G (v := 1) dX1_court_61 (by decide) rfl) (z_cn 62 1),
   zz_of (ok_iadd G dX1_court_62 rfl) (z_iadd _),
   zz_of (ok_puti G (nx := 66) (idx := 199) (ci := 1) (k := 0) (RX2, TX2, 11) rfl (by decide) rfl (mm_pwN G (ci := 1) (k := 0) (RX2, TX2, 11) rfl (by decide) rfl q215 dX1_court_63) rfl) (z_putip _ _ _),
   zz_of (ok_aload_n G dX1_court_66 rfl rfl) (z_ald _ _),
   zz_of (ok_aload_n G dX1_court_67 rfl rfl) (z_ald _ _),
   zz_of (ok_putr G (nx := 71) (idx := 14) (ci := 0) (k := 0) (RX1, TX1, 19) rfl (by decide) rfl (mm_pw G (ci := 0) (k := 0) (RX1, TX1, 19) rfl (by decide) rfl q399 dX1_court_68) rfl) (z_putrp _ _ _),
   zz_of (ok_aload_n G dX1_court_71 rfl rfl) (z_ald _ _),
   zz_of (ok_iconst G (v := 0) dX1_court_72 (by decide) rfl) (z_cn 73 0),
   zz_of (ok_putz G (nx := 76) (idx := 205) (ci := 0) (k := 8) (RX1, TX1, 19) rfl (by decide) rfl (mm_pw G (ci := 0) (k := 8) (RX1, TX1, 19) rfl (by decide) rfl q417 dX1_court_73) rfl) (z_putz _ _ _ _),
   zz_of (ok_aload_n G dX1_court_76 rfl rfl) (z_ald _ _),
   zz_of (ok_get G (nx := 80) (ci := 0) (kd := 2) (k := 0) (RX1, TX1, 19) rfl (by decide) rfl q399 dX1_court_77 rfl) (z_get _ _ _ _),
   zz_of (ok_getN G (nx := 83) (ci := 1) (kd := 0) (k := 0) (RX2, TX2, 11) rfl (by decide) rfl q215 dX1_court_80 rfl) (z_getp _ _ _ _),
   zz_of (ok_iret G dX1_court_83) (z_iret), trivial⟩

theorem zwX1_court_0 {Q : Option zv → zz_M → Prop} {X : Nat → zz_M → Prop} {f : Nat → Nat × Nat} {S L : Nat → Nat → Int} {P : Nat → Nat → Option Nat}  (h : (((∃ t_2 e_2 m_2 n_2 : Nat, woZ ((2, f), mm_up (mm_up (mm_up (mm_up S 101 2 (S 101 1)) 101 1 0) 101 3 0) 101 6 0, L, P) 200 e_2 m_2 n_2 ∧ zsh ((2, f), mm_up (mm_up (mm_up (mm_up S 101 2 (S 101 1)) 101 1 0) 101 3 0) 101 6 0, L, P) 1300 = (23, 0) ∧ 200 + 25 < t_2 ∧ (∀ i, i < 26 → zfree ((2, f), mm_up (mm_up (mm_up (mm_up S 101 2 (S 101 1)) 101 1 0) 101 3 0) 101 6 0, L, P) (t_2 + i)) ∧ (∀ (S_2 L_2 : Nat → Nat → Int) (P_2 : Nat → Nat → Option Nat) (f_2 : Nat → Nat × Nat), (∀ j, (j < t_2 ∨ t_2 + 25 < j) → f_2 j = f j ∧ S_2 j = (mm_up (mm_up (mm_up (mm_up S 101 2 (S 101 1)) 101 1 0) 101 3 0) 101 6 0) j ∧ L_2 j = L j ∧ P_2 j = P j) → f_2 t_2 = (1, 1) → wSh f_2 P_2 t_2 100 → (∀ k, k < 6 → S_2 t_2 k = (mm_up (mm_up (mm_up (mm_up S 101 2 (S 101 1)) 101 1 0) 101 3 0) 101 6 0) 200 k) → (∀ i k, i < 16 → k < 12 → S_2 (t_2 + 10 + i) k = (mm_up (mm_up (mm_up (mm_up S 101 2 (S 101 1)) 101 1 0) 101 3 0) 101 6 0) (200 + 10 + i) k) → S_2 (t_2 + 2) 2 = (n_2 : Int) → (n_2 = 0 → P_2 (t_2 + 2) 1 = some 1300) → (0 < n_2 → P_2 (t_2 + 2) 1 = some (t_2 + 9) ∧ f_2 (t_2 + 9) = (7, 10) ∧ ∀ i, i < n_2 → P_2 (t_2 + 9) i = zpt ((2, f), mm_up (mm_up (mm_up (mm_up S 101 2 (S 101 1)) 101 1 0) 101 3 0) 101 6 0, L, P) e_2 i) → (∀ k, k < 2 → S_2 (t_2 + 3) k = (mm_up (mm_up (mm_up (mm_up S 101 2 (S 101 1)) 101 1 0) 101 3 0) 101 6 0) (200 + 3) k) → cx S_2 (t_2 + 4) = cx (mm_up (mm_up (mm_up (mm_up S 101 2 (S 101 1)) 101 1 0) 101 3 0) 101 6 0) (200 + 4) → ((∃ (tx_3 w_3 : Nat → Int) (n_3 t_3 : Nat), qT S_2 tx_3 n_3 ∧ S_2 101 3 = 0 ∧ frF f_2 t_3 ∧ (2000 ≤ t_2 ∧ t_2 + 26 ≤ t_3) ∧ drS ((2, f_2), S_2, L_2, P_2) t_2 ∧ drW S_2 t_2 w_3 ∧ cG w_3 ∧ (∀ v_3 : Nat, ctW tx_3 n_3 w_3 = .inl v_3 → ∀ (y_3 : Nat → Int) (S_3 L_3 : Nat → Nat → Int) (P_3 : Nat → Nat → Option Nat) (f_3 : Nat → Nat × Nat) (u_3 : Nat), gr t_3 u_3 f_2 (drU S_2 t_2 y_3) L_2 P_2 f_3 S_3 L_3 P_3 → S_3 101 4 = (v_3 : Int) → ((X 1 ((2, f_3), mm_up S_3 101 5 (S_3 101 4), L_3, P_3)))) ∧ (∀ r_3 : Nat → Int, ctW tx_3 n_3 w_3 = .inr r_3 → ∀ (S_3 L_3 : Nat → Nat → Int) (P_3 : Nat → Nat → Option Nat) (f_3 : Nat → Nat × Nat) (u_3 : Nat), gr t_3 u_3 f_2 (drU S_2 t_2 r_3) L_2 P_2 f_3 S_3 L_3 P_3 → (zsh ((2, f_3), mm_up S_3 101 5 (-1), L_3, P_3) 200 = (1, 1) ∧ (R32 (S_3 200 0) ∧ ((¬ (S_3 200 0) = 12 → zsh ((2, f_3), mm_up S_3 101 5 (-1), L_3, P_3) t_2 = (1, 1) ∧ (zsh ((2, f_3), mm_up S_3 101 5 (-1), L_3, P_3) t_2 = (1, 1) ∧ (zz_J zpX1_court (zz_ret Q X 342 28900) 66 [some (vr 100), some (vr t_2), none] [] ((2, f_3), mm_up (mm_up S_3 101 5 (-1)) t_2 0 (((mm_up S_3 101 5 (-1)) t_2 0) + 1), L_3, P_3) (338, 28860)))) ∧ ((S_3 200 0) = 12 → X 2 ((2, f_3), mm_up S_3 101 5 (-1), L_3, P_3))))))))))))) : zz_J zpX1_court (zz_ret Q X 342 28900) 0 [some (vr 100), none, none] [] ((2, f), S, L, P) (0, 0) := zz_J.go [(66, [2])] 400 h
theorem zwX1_court_66 {Q : Option zv → zz_M → Prop} {X : Nat → zz_M → Prop} {f : Nat → Nat × Nat} {S L : Nat → Nat → Int} {P : Nat → Nat → Option Nat} {h1 : Nat} (h : zsh ((3, f), S, L, P) 100 = (1, 0) ∧ (zfx (((3, f), S, L, P).1.1) 100 0 = false ∧ (zsh ((3, f), mm_up S 100 8 0, L, mm_up P 100 0 (some h1)) h1 = (1, 1) ∧ (Q (some (vi ((mm_up S 100 8 0) h1 0))) ((3, f), mm_up S 100 8 0, L, mm_up P 100 0 (some h1)))))) : zz_J zpX1_court (zz_ret Q X 342 28900) 66 [some (vr 100), some (vr h1), none] [] ((3, f), S, L, P) (338, 28860) := zz_J.go [(66, [2])] 400 h

def zX1_image : zz_Sp := fun as M Q X => match as with
  | [.inr (.inr (some h_))] => bif Nat.beq h_ 100 && Nat.beq M.1.1 2 then (∃ (w_ : Nat → Int) (t_ e_ m_ n_ : Nat), woZ ((2, M.1.2), M.2.1, M.2.2.1, M.2.2.2) 200 e_ m_ n_ ∧ frF M.1.2 t_ ∧ drW M.2.1 200 w_ ∧ (∀ (S_ L_ : Nat → Nat → Int) (P_ : Nat → Nat → Option Nat) (f_ : Nat → Nat × Nat), frF f_ (t_ + 26) → (∀ j, j < t_ → f_ j = M.1.2 j ∧ S_ j = M.2.1 j ∧ L_ j = M.2.2.1 j) → (∀ j k, j < t_ → ¬ (j = 100 ∧ k = 1) → P_ j k = M.2.2.2 j k) → P_ 100 1 = some t_ → cpE t_ 200 e_ n_ w_ (M.2.1 200 0) M.1.2 M.2.1 M.2.2.1 M.2.2.2 f_ S_ P_ → Q none ((2, f_), S_, L_, P_))) else False
  | _ => False

def zpX1_image : zz_P := [(0, zo_ald 1 0), (1, zo_ald 2 0), (2, zo_get 5 0 2 0), (5, zo_cvL (mm_rm 12 26 260) 8 1 1 26 260 zX2_copy), (8, zo_putrp 11 0 1), (11, zo_vret)]
theorem ztX1_image {C : mm_C} (G : mm_G C RX1 cX1_image none 1 (mm_rm 12 26 260)) (hnh : mm_nh C) : zz_OKs C zpX1_image :=
  ⟨zz_of (ok_aload_n G dX1_image_0 rfl rfl) (z_ald _ _),
   zz_of (ok_aload_n G dX1_image_1 rfl rfl) (z_ald _ _),
   zz_of (ok_get G (nx := 5) (ci := 0) (kd := 2) (k := 0) (RX1, TX1, 19) rfl (by decide) rfl q399 dX1_image_2 rfl) (z_get _ _ _ _),
   zz_of (ok_calvF G (hnh.q 5) (zmX2_copy _ G.hst) (RX2, TX2, 11) rfl q493 q494 q495 q83 q496 (by decide +kernel) ⟨Nat.le_of_ble_eq_true rfl, Nat.le_of_ble_eq_true rfl⟩ dX1_image_5 rfl) (z_cvL _ _ _ _ _ _ _),
   zz_of (ok_putr G (nx := 11) (idx := 504) (ci := 0) (k := 1) (RX1, TX1, 19) rfl (by decide) rfl (mm_pw G (ci := 0) (k := 1) (RX1, TX1, 19) rfl (by decide) rfl q403 dX1_image_8) rfl) (z_putrp _ _ _),
   zz_of (ok_vret G dX1_image_11) (z_vret), trivial⟩

theorem zwX1_image_0 {Q : Option zv → zz_M → Prop} {X : Nat → zz_M → Prop} {f : Nat → Nat × Nat} {S L : Nat → Nat → Int} {P : Nat → Nat → Option Nat}  (h : (∃ t_1 e_1 m_1 n_1 : Nat, woZ ((2, f), S, L, P) 200 e_1 m_1 n_1 ∧ zsh ((2, f), S, L, P) 1300 = (23, 0) ∧ 200 + 25 < t_1 ∧ (∀ i, i < 26 → zfree ((2, f), S, L, P) (t_1 + i)) ∧ (∀ (S_1 L_1 : Nat → Nat → Int) (P_1 : Nat → Nat → Option Nat) (f_1 : Nat → Nat × Nat), (∀ j, (j < t_1 ∨ t_1 + 25 < j) → f_1 j = f j ∧ S_1 j = S j ∧ L_1 j = L j ∧ P_1 j = P j) → f_1 t_1 = (1, 1) → wSh f_1 P_1 t_1 100 → (∀ k, k < 6 → S_1 t_1 k = S 200 k) → (∀ i k, i < 16 → k < 12 → S_1 (t_1 + 10 + i) k = S (200 + 10 + i) k) → S_1 (t_1 + 2) 2 = (n_1 : Int) → (n_1 = 0 → P_1 (t_1 + 2) 1 = some 1300) → (0 < n_1 → P_1 (t_1 + 2) 1 = some (t_1 + 9) ∧ f_1 (t_1 + 9) = (7, 10) ∧ ∀ i, i < n_1 → P_1 (t_1 + 9) i = zpt ((2, f), S, L, P) e_1 i) → (∀ k, k < 2 → S_1 (t_1 + 3) k = S (200 + 3) k) → cx S_1 (t_1 + 4) = cx S (200 + 4) → (zsh ((2, f_1), S_1, L_1, P_1) 100 = (1, 0) ∧ (zfx (((2, f_1), S_1, L_1, P_1).1.1) 100 1 = false ∧ (Q none ((2, f_1), S_1, L_1, mm_up P_1 100 1 (some t_1)))))))) : zz_J zpX1_image (zz_ret Q X 26 260) 0 [some (vr 100)] [] ((2, f), S, L, P) (0, 0) := zz_J.go [] 400 h

def zX1_back : zz_Sp := fun as M Q X => match as with
  | [.inr (.inr (some h_))] => bif Nat.beq h_ 100 && Nat.beq M.1.1 2 then ((M.2.2.2 100 1 = none → Q (some (vi 0)) ((2, M.1.2), M.2.1, M.2.2.1, M.2.2.2)) ∧ (∀ g_ : Nat, M.2.2.2 100 1 = some g_ → ∃ (w_ : Nat → Int) (t_ e_ m_ n_ : Nat), woZ ((2, M.1.2), M.2.1, M.2.2.1, M.2.2.2) g_ e_ m_ n_ ∧ frF M.1.2 t_ ∧ 100 < g_ ∧ g_ + 25 < t_ ∧ drW M.2.1 g_ w_ ∧ (∀ (S_ L_ : Nat → Nat → Int) (P_ : Nat → Nat → Option Nat) (f_ : Nat → Nat × Nat), cuG t_ (t_ + 26) M.1.2 M.2.1 M.2.2.1 M.2.2.2 f_ S_ L_ P_ → (∀ k, S_ 101 k = M.2.1 101 k) → cpE t_ g_ e_ n_ w_ (M.2.1 g_ 0) M.1.2 M.2.1 M.2.2.1 M.2.2.2 f_ S_ P_ → Q (some (vi 1)) ((3, f_), S_, L_, P_)))) else False
  | _ => False

def zpX1_back : zz_P := [(0, zo_ald 1 0), (1, zo_getq 4 0 1), (4, zo_ifnonnull 7 9), (7, zo_c 8 (vi 0)), (8, zo_zret true), (9, zo_ald 10 0), (10, zo_ald 11 0), (11, zo_getq 14 0 1), (14, zo_cvLp (mm_rm 12 26 260) 17 1 1 26 260 zX2_copy), (17, zo_putrp 20 0 0), (20, zo_ald 21 0), (21, zo_c 22 (vi 0)), (22, zo_putz true 25 0 8), (25, zo_c 26 (vi 1)), (26, zo_zret true)]
theorem ztX1_back {C : mm_C} (G : mm_G C RX1 cX1_back (some .boolean) 1 (mm_rm 12 26 260)) (hnh : mm_nh C) : zz_OKs C zpX1_back :=
  ⟨zz_of (ok_aload_n G dX1_back_0 rfl rfl) (z_ald _ _),
   zz_of (ok_get G (nx := 4) (ci := 0) (kd := 2) (k := 1) (RX1, TX1, 19) rfl (by decide) rfl q403 dX1_back_1 rfl) (z_getq _ _ _),
   zz_of (ok_ifnonnull G dX1_back_4 rfl rfl) (z_ifnonnull _ _),
   zz_of (ok_iconst G (v := 0) dX1_back_7 (by decide) rfl) (z_cn 8 0),
   zz_of (ok_zret G dX1_back_8) (z_zret _),
   zz_of (ok_aload_n G dX1_back_9 rfl rfl) (z_ald _ _),
   zz_of (ok_aload_n G dX1_back_10 rfl rfl) (z_ald _ _),
   zz_of (ok_get G (nx := 14) (ci := 0) (kd := 2) (k := 1) (RX1, TX1, 19) rfl (by decide) rfl q403 dX1_back_11 rfl) (z_getq _ _ _),
   zz_of (ok_calvF G (hnh.q 14) (zmX2_copy _ G.hst) (RX2, TX2, 11) rfl q493 q494 q495 q83 q496 (by decide +kernel) ⟨Nat.le_of_ble_eq_true rfl, Nat.le_of_ble_eq_true rfl⟩ dX1_back_14 rfl) (z_cvLp _ _ _ _ _ _ _),
   zz_of (ok_putr G (nx := 20) (idx := 14) (ci := 0) (k := 0) (RX1, TX1, 19) rfl (by decide) rfl (mm_pw G (ci := 0) (k := 0) (RX1, TX1, 19) rfl (by decide) rfl q399 dX1_back_17) rfl) (z_putrp _ _ _),
   zz_of (ok_aload_n G dX1_back_20 rfl rfl) (z_ald _ _),
   zz_of (ok_iconst G (v := 0) dX1_back_21 (by decide) rfl) (z_cn 22 0),
   zz_of (ok_putz G (nx := 25) (idx := 205) (ci := 0) (k := 8) (RX1, TX1, 19) rfl (by decide) rfl (mm_pw G (ci := 0) (k := 8) (RX1, TX1, 19) rfl (by decide) rfl q417 dX1_back_22) rfl) (z_putz _ _ _ _),
   zz_of (ok_iconst G (v := 1) dX1_back_25 (by decide) rfl) (z_cn 26 1),
   zz_of (ok_zret G dX1_back_26) (z_zret _), trivial⟩

theorem zwX1_back_0 {Q : Option zv → zz_M → Prop} {X : Nat → zz_M → Prop} {f : Nat → Nat × Nat} {S L : Nat → Nat → Int} {P : Nat → Nat → Option Nat}  (h : zsh ((2, f), S, L, P) 100 = (1, 0) ∧ (∀ b1 : Nat, zpt ((2, f), S, L, P) 100 1 = some b1 → zsh ((2, f), S, L, P) 100 = (1, 0) ∧ (∀ b2 : Nat, zpt ((2, f), S, L, P) 100 1 = some b2 → (zsh ((2, f), S, L, P) b2 = (1, 1) ∨ zsh ((2, f), S, L, P) b2 = (17, 1)) ∧ (∃ t_3 e_3 m_3 n_3 : Nat, woZ ((2, f), S, L, P) b2 e_3 m_3 n_3 ∧ zsh ((2, f), S, L, P) 1300 = (23, 0) ∧ b2 + 25 < t_3 ∧ (∀ i, i < 26 → zfree ((2, f), S, L, P) (t_3 + i)) ∧ (∀ (S_3 L_3 : Nat → Nat → Int) (P_3 : Nat → Nat → Option Nat) (f_3 : Nat → Nat × Nat), (∀ j, (j < t_3 ∨ t_3 + 25 < j) → f_3 j = f j ∧ S_3 j = S j ∧ L_3 j = L j ∧ P_3 j = P j) → f_3 t_3 = (1, 1) → wSh f_3 P_3 t_3 100 → (∀ k, k < 6 → S_3 t_3 k = S b2 k) → (∀ i k, i < 16 → k < 12 → S_3 (t_3 + 10 + i) k = S (b2 + 10 + i) k) → S_3 (t_3 + 2) 2 = (n_3 : Int) → (n_3 = 0 → P_3 (t_3 + 2) 1 = some 1300) → (0 < n_3 → P_3 (t_3 + 2) 1 = some (t_3 + 9) ∧ f_3 (t_3 + 9) = (7, 10) ∧ ∀ i, i < n_3 → P_3 (t_3 + 9) i = zpt ((2, f), S, L, P) e_3 i) → (∀ k, k < 2 → S_3 (t_3 + 3) k = S (b2 + 3) k) → cx S_3 (t_3 + 4) = cx S (b2 + 4) → (zz_J zpX1_back (zz_ret Q X 26 260) 17 [some (vr 100)] [vr t_3, vr 100] ((2, f_3), S_3, L_3, P_3) (26, 260))))) ∧ (zpt ((2, f), S, L, P) 100 1 = none → False ∧ False)) ∧ (zpt ((2, f), S, L, P) 100 1 = none → Q (some (vi 0)) ((2, f), S, L, P))) : zz_J zpX1_back (zz_ret Q X 26 260) 0 [some (vr 100)] [] ((2, f), S, L, P) (0, 0) := zz_J.go [(17, [])] 400 h
theorem zwX1_back_17 {Q : Option zv → zz_M → Prop} {X : Nat → zz_M → Prop} {f : Nat → Nat × Nat} {S L : Nat → Nat → Int} {P : Nat → Nat → Option Nat} {k0 : Nat} {k1 : Nat} (h : zsh ((3, f), S, L, P) k1 = (1, 0) ∧ (zfx (((3, f), S, L, P).1.1) k1 0 = false ∧ (Q (some (vi 1)) ((3, f), mm_up S 100 8 0, L, mm_up P k1 0 (some k0))))) : zz_J zpX1_back (zz_ret Q X 26 260) 17 [some (vr 100)] [vr k0, vr k1] ((3, f), S, L, P) (26, 260) := zz_J.go [(17, [])] 400 h

theorem zmX1_court (l : Launch) (hl : l.stackTraces = false) : mm_Spec l yX1_court (wsW_ yX1_court cX1_court 3 (some .int) [((15), (28), (31), (194))]) (mm_rm 12 342 28900) (zE zX1_court) := by
  refine zz_Met.JHN hl (by decide) (fun C G hhd => ztX1_court G hhd) ?_
  rintro as ⟨⟨t_, f⟩, S, L, P⟩ Q X h
  unfold zX1_court at h
  split at h
  rotate_left
  · exact h.elim
  rename_i h_
  obtain ⟨e1_, e2_, h⟩ := mm_and2 h (fun q => q)
  cases mm_beq e1_
  cases mm_beq e2_
  try dsimp only at h
  refine ⟨rfl, ?_⟩
  obtain ⟨tx, w, n, t, e, m, k, ⟨n400, hlen, htx⟩, hZ, hf, hW, hG, h0, qw, qr⟩ := h
  have t2 := hf.1
  obtain ⟨S0, hS0⟩ : ∃ S0, mm_up (mm_up (mm_up (mm_up S 101 2 (S 101 1)) 101 1 0) 101 3 0) 101 6 0 = S0 := ⟨_, rfl⟩
  have so : ∀ h, h ≠ 101 → S0 h = S h := fun h hh => by
    rw [← hS0]
    funext k
    simp only [up_eq, hh, false_and, if_false]
  have s1 : S0 101 1 = 0 := by rw [← hS0]; simp [up_eq]
  have s2 : S0 101 2 = (n : Int) := by rw [← hS0]; simp [up_eq, hlen]
  have s3 : S0 101 3 = 0 := by rw [← hS0]; simp [up_eq]
  refine zwX1_court_0 ⟨t, e, m, k, ?_⟩
  rw [hS0]
  refine ⟨hZ.ofS (by rw [so 202 (by decide)]) (by rw [so 204 (by decide)]), rfl, by omega, fun i _ => hf.z (by omega), fun S2 L2 P2 f2 a1 a2 a3 a4 a5 a6 a7 a8 a9 a10 => ?_⟩
  have fr2 : frF f2 (t + 26) := ⟨by omega, fun h hh => by rw [(a1 h (by omega)).1]; exact hf.2 h (by omega)⟩
  have hD : drS ((2, f2), S2, L2, P2) t := ⟨(zsh_hi t2).trans a2, (zpt_hi t2).trans a3.2.1.1, (zsh_hi (by omega)).trans a3.1.1.1, fun i hi => ⟨(zsh_hi (by omega)).trans (a3.1.1.2.1 i hi), (zpt_hi (by omega)).trans (a3.2.2.1 i hi)⟩⟩
  have hW2 : drW S2 t w := by
    obtain ⟨w1, w2, w3, w4⟩ := hW
    refine ⟨fun i k hi hk => ?_, ?_, ?_, ?_⟩
    · rw [a5 i k hi hk, so _ (by omega)]
      exact w1 i k hi hk
    · rw [a4 1 (by decide), so _ (by decide)]; exact w2
    · rw [a4 2 (by decide), so _ (by decide)]; exact w3
    · rw [a4 3 (by decide), so _ (by decide)]; exact w4
  have hT : qT S2 tx n := by
    refine ⟨n400, ?_, fun k hk => ⟨(htx k hk).1, ?_⟩⟩
    · rw [(a1 101 (by omega)).2.1]; exact s2
    · rw [(a1 102 (by omega)).2.1, so 102 (by decide)]; exact (htx k hk).2
  -- what is below
  have low : ∀ (y : Nat → Int) (u : Nat) (f3 : Nat → Nat × Nat) (S3 L3 : Nat → Nat → Int) (P3 : Nat → Nat → Option Nat), gr (t + 26) u f2 (drU S2 t y) L2 P2 f3 S3 L3 P3 → t + 26 ≤ u ∧ (∀ h, h < t → f3 h = f h ∧ L3 h = L h ∧ P3 h = P h) ∧ (∀ h k, h < t → h ≠ 101 → S3 h k = S h k) ∧ S3 101 1 = 0 := by
    intro y u f3 S3 L3 P3 g
    refine ⟨g.le, fun h hh => ?_, fun h k hh h1 => ?_, ?_⟩
    · obtain ⟨b1, b2, b3, b4⟩ := a1 h (by omega)
      exact ⟨(g.2.1 h (by omega)).trans b1, (g.2.2.2.1 h (by omega)).trans b3, (g.2.2.2.2.1 h (by omega)).trans b4⟩
    · rw [g.2.2.1 h k (by omega) (fun c => h1 c.1), drU_o (Or.inl hh), (a1 h (by omega)).2.1, so h h1]
    · rw [g.2.2.1 101 1 (by omega) (fun c => by have := c.2; omega), drU_o (Or.inl (by omega)), (a1 101 (by omega)).2.1]
      exact s1
  have up5 : ∀ (S3 : Nat → Nat → Int) (v : Int) (h k : Nat), h ≠ 101 → mm_up S3 101 5 v h k = S3 h k := fun S3 v h k hh => by rw [up_eq, if_neg (fun c => hh c.1)]
  refine ⟨tx, w, n, t + 26, hT, ?_, fr2, ⟨t2, Nat.le_refl _⟩, hD, hW2, hG, fun v hv y S3 L3 P3 f3 u g k4 => ?_, fun r hr S3 L3 P3 f3 u g => ?_⟩
  · rw [(a1 101 (by omega)).2.1]; exact s3
  · obtain ⟨b0, b1, b2, b3⟩ := low y u f3 S3 L3 P3 g
    refine qw v hv _ _ _ _ u ⟨by omega, b1, fun h k hh h1 => (up5 _ _ h k h1).trans (b2 h k hh h1), g.fr⟩ ?_ ?_
    · rw [up_eq, if_neg (by decide)]; exact b3
    · rw [up_eq, if_pos ⟨rfl, rfl⟩]; exact k4
  · obtain ⟨b0, b1, b2, b3⟩ := low r u f3 S3 L3 P3 g
    obtain ⟨q12, qok⟩ := qr r hr
    have e0 : S3 200 0 = S 200 0 := b2 200 0 (by omega) (by decide)
    have ft : f3 t = (1, 1) := (g.2.1 t (by omega)).trans a2
    refine ⟨rfl, by omega, fun ne => ⟨(zsh_hi t2).trans ft, (zsh_hi t2).trans ft, ?_⟩, fun eq => ?_⟩
    · refine zz_Jev rfl rfl eM_23 (zwX1_court_66 ⟨rfl, rfl, (zsh_hi3 t2).trans ft, ?_⟩)
      have St : ∀ k, k < 6 → k ≠ 1 → k ≠ 2 → k ≠ 3 → S3 t k = S 200 k := fun k hk k1 k2 k3 => by
        rw [g.2.2.1 t k (by omega) (fun c => by have := c.1; omega)]
        unfold drU
        rw [if_neg (by omega), if_neg (by omega), if_neg (by omega), if_neg (by omega), a4 k hk, so 200 (by decide)]
      have S3o : ∀ h k, t < h → h < t + 10 → S3 h k = S2 h k := fun h k h1 h2 => by
        rw [g.2.2.1 h k (by omega) (fun c => by have := c.1; omega)]
        unfold drU
        rw [if_neg (by omega), if_neg (by omega), if_neg (by omega), if_neg (by omega)]
      have W3 := gr_dW t2 (Nat.le_refl _) g
      obtain ⟨T, hTT⟩ : ∃ T, mm_up (mm_up (mm_up S3 101 5 (-1)) t 0 (mm_up S3 101 5 (-1) t 0 + 1)) 100 8 0 = T := ⟨_, rfl⟩
      have To : ∀ h k, h ≠ 101 → h ≠ t → ¬ (h = 100 ∧ k = 8) → T h k = S3 h k := fun h k h1 h2 h3 => by
        rw [← hTT, up_eq, if_neg h3, up_eq, if_neg (fun c => h2 c.1), up5 _ _ _ _ h1]
      have Tt : ∀ k, k ≠ 0 → T t k = S3 t k := fun k hk => by
        rw [← hTT, up_eq, if_neg (by omega), up_eq, if_neg (fun c => hk c.2), up5 _ _ _ _ (by omega)]
      have T0 : T t 0 = S 200 0 + 1 := by
        rw [← hTT, up_eq, if_neg (by omega), up_eq, if_pos ⟨rfl, rfl⟩, up5 _ _ _ _ (by omega), St 0 (by decide) (by decide) (by decide) (by decide)]
      obtain ⟨P4, hP4⟩ : ∃ P4, mm_up (mm_up P3 100 0 (some 200)) 100 0 (some t) = P4 := ⟨_, rfl⟩
      have Po : ∀ h k, ¬ (h = 100 ∧ k = 0) → P4 h k = P3 h k := fun h k hk => by
        rw [← hP4, up_eq, if_neg hk, up_eq, if_neg hk]
      have Pr : ∀ h, h ≠ 100 → P4 h = P3 h := fun h hh => funext fun k => Po h k (fun c => hh c.1)
      rw [hTT, hP4, T0]
      have p3 : ∀ h, h < t + 26 → P3 h = P2 h := fun h hh => g.2.2.2.2.1 h hh
      have f3e : ∀ h, h < t + 26 → f3 h = f2 h := fun h hh => g.2.1 h hh
      refine qok (by omega) T L3 P4 f3 u ⟨by omega, g.fr, fun h hh => ⟨(b1 h hh).1, (b1 h hh).2.1⟩, fun h k hh h1 h2 => (To h k h1 (by omega) h2).trans (b2 h k hh h1), ?_, fun h k hh hk => (Po h k hk).trans (by rw [(b1 h hh).2.2]), ?_⟩ ?_ ?_ ⟨ft, ?_, ⟨T0, ?_, ?_⟩, ?_, ⟨?_, fun hk => ?_, fun hk => ⟨?_, ?_, fun i hi => ?_⟩⟩, fun k hk => ?_, ?_⟩
      · rw [← hTT, up_eq, if_pos ⟨rfl, rfl⟩]
      · rw [← hP4, up_eq, if_pos ⟨rfl, rfl⟩]
      · rw [← hTT, up_eq, if_neg (by decide), up_eq, if_neg (by omega), up_eq, if_neg (by decide)]; exact b3
      · rw [← hTT, up_eq, if_neg (by decide), up_eq, if_neg (by omega), up_eq, if_pos ⟨rfl, rfl⟩]
      · refine a3.fr (fun h h1 h2 => ⟨f3e h (by omega), (Pr h (by omega)).trans (p3 h (by omega))⟩)
      · rw [Tt 4 (by decide)]; exact St 4 (by decide) (by decide) (by decide) (by decide)
      · rw [Tt 5 (by decide)]; exact St 5 (by decide) (by decide) (by decide) (by decide)
      · obtain ⟨w1, w2, w3, w4⟩ := W3
        exact ⟨fun i k hi hk => (To _ _ (by omega) (by omega) (by omega)).trans (w1 i k hi hk), (Tt 1 (by decide)).trans w2, (Tt 2 (by decide)).trans w3, (Tt 3 (by decide)).trans w4⟩
      · rw [To _ _ (by omega) (by omega) (by omega), S3o _ _ (by omega) (by omega)]; exact a6
      · rw [Pr _ (by omega), p3 _ (by omega)]; exact a7 hk
      · rw [Pr _ (by omega), p3 _ (by omega)]; exact (a8 hk).1
      · rw [f3e _ (by omega)]; exact (a8 hk).2.1
      · rw [Pr _ (by omega), p3 _ (by omega)]; exact (a8 hk).2.2 i hi
      · rw [To _ _ (by omega) (by omega) (by omega), S3o _ _ (by omega) (by omega), a9 k hk, so _ (by decide)]
      · refine (cx_eqS fun j h1 h2 => ?_).trans (a10.trans (cx_eqS fun j h1 h2 => so j (by omega)))
        funext k
        rw [To _ _ (by omega) (by omega) (by omega), S3o _ _ (by omega) (by omega)]
    · refine q12 (by omega) _ _ _ _ u ⟨by omega, b1, fun h k hh h1 => (up5 _ _ h k h1).trans (b2 h k hh h1), g.fr⟩ ?_ ?_
      · rw [up_eq, if_neg (by decide)]; exact b3
      · rw [up_eq, if_pos ⟨rfl, rfl⟩]
theorem zmX1_image (l : Launch) (hl : l.stackTraces = false) : mm_Spec l yX1_image (ws_ yX1_image cX1_image 1 none) (mm_rm 12 26 260) (zE zX1_image) := by
  refine zz_Met.J hl (by decide) (fun C G hnh => ztX1_image G hnh) ?_
  rintro as ⟨⟨t_, f⟩, S, L, P⟩ Q X h
  unfold zX1_image at h
  split at h
  rotate_left
  · exact h.elim
  rename_i h_
  obtain ⟨e1_, e2_, h⟩ := mm_and2 h (fun q => q)
  cases mm_beq e1_
  cases mm_beq e2_
  try dsimp only at h
  refine ⟨rfl, ?_⟩
  obtain ⟨w, t, e, m, n, hZ, hf, hW, hq⟩ := h
  have t2 := hf.1
  refine zwX1_image_0 ⟨t, e, m, n, hZ, rfl, by omega, fun i _ => hf.z (by omega), fun S2 L2 P2 f2 a1 a2 a3 a4 a5 a6 a7 a8 a9 a10 => ⟨rfl, rfl, ?_⟩⟩
  have Po : ∀ h k, ¬ (h = 100 ∧ k = 1) → mm_up P2 100 1 (some t) h k = P2 h k := fun h k hk => by rw [up_eq, if_neg hk]
  have Pr : ∀ h, h ≠ 100 → mm_up P2 100 1 (some t) h = P2 h := fun h hh => funext fun k => Po h k (fun c => hh c.1)
  refine hq S2 L2 _ f2 ⟨by omega, fun h hh => by rw [(a1 h (by omega)).1]; exact hf.2 h (by omega)⟩ (fun j hj => ⟨(a1 j (by omega)).1, (a1 j (by omega)).2.1, (a1 j (by omega)).2.2.1⟩) (fun j k hj hk => (Po j k hk).trans (by rw [(a1 j (by omega)).2.2.2])) (by rw [up_eq, if_pos ⟨rfl, rfl⟩]) ⟨a2, a3.fr (fun h h1 h2 => ⟨rfl, Pr h (by omega)⟩), ⟨a4 0 (by decide), a4 4 (by decide), a4 5 (by decide)⟩, ?_, ⟨a6, fun hk => by rw [Pr _ (by omega)]; exact a7 hk, fun hk => ⟨by rw [Pr _ (by omega)]; exact (a8 hk).1, (a8 hk).2.1, fun i hi => by rw [Pr _ (by omega)]; exact (a8 hk).2.2 i hi⟩⟩, a9, a10⟩
  obtain ⟨w1, w2, w3, w4⟩ := hW
  exact ⟨fun i k hi hk => (a5 i k hi hk).trans (w1 i k hi hk), (a4 1 (by decide)).trans w2, (a4 2 (by decide)).trans w3, (a4 3 (by decide)).trans w4⟩
theorem zmX1_back (l : Launch) (hl : l.stackTraces = false) : mm_Spec l yX1_back (ws_ yX1_back cX1_back 1 (some .boolean)) (mm_rm 12 26 260) (zE zX1_back) := by
  refine zz_Met.J hl (by decide) (fun C G hnh => ztX1_back G hnh) ?_
  rintro as ⟨⟨t_, f⟩, S, L, P⟩ Q X h
  unfold zX1_back at h
  split at h
  rotate_left
  · exact h.elim
  rename_i h_
  obtain ⟨e1_, e2_, h⟩ := mm_and2 h (fun q => q)
  cases mm_beq e1_
  cases mm_beq e2_
  try dsimp only at h
  refine ⟨rfl, ?_⟩
  obtain ⟨h0, h1⟩ := h
  have zp : zpt ((2, f), S, L, P) 100 1 = P 100 1 := rfl
  refine zwX1_back_0 ⟨rfl, fun b hb => ⟨rfl, fun b2 hb2 => ?_, fun c => absurd (hb.symm.trans c) (fun z => by cases z)⟩, fun c => h0 (zp.symm.trans c)⟩
  obtain ⟨w, t, e, m, n, hZ, hf, hb1, hb3, hW, hq⟩ := h1 b2 (zp.symm.trans hb2)
  have t2 := hf.1
  refine ⟨Or.inl hZ.1, t, e, m, n, hZ, rfl, hb3, fun i _ => hf.z (by omega), fun S2 L2 P2 f2 a1 a2 a3 a4 a5 a6 a7 a8 a9 a10 => ?_⟩
  refine zz_Jev rfl rfl eM_23 (zwX1_back_17 ⟨rfl, rfl, ?_⟩)
  obtain ⟨P4, hP4⟩ : ∃ P4, mm_up (mm_up P2 100 0 (some 200)) 100 0 (some t) = P4 := ⟨_, rfl⟩
  have Po : ∀ h k, ¬ (h = 100 ∧ k = 0) → P4 h k = P2 h k := fun h k hk => by
    rw [← hP4, up_eq, if_neg hk, up_eq, if_neg hk]
  have Pr : ∀ h, h ≠ 100 → P4 h = P2 h := fun h hh => funext fun k => Po h k (fun c => hh c.1)
  have So : ∀ h k, ¬ (h = 100 ∧ k = 8) → mm_up S2 100 8 0 h k = S2 h k := fun h k hk => by rw [up_eq, if_neg hk]
  have Sr : ∀ h, h ≠ 100 → mm_up S2 100 8 0 h = S2 h := fun h hh => funext fun k => So h k (fun c => hh c.1)
  rw [hP4]
  refine hq _ L2 P4 f2 ⟨Nat.le_refl _, ⟨by omega, fun h hh => by rw [(a1 h (by omega)).1]; exact hf.2 h (by omega)⟩, fun j hj => ⟨(a1 j (by omega)).1, (a1 j (by omega)).2.2.1⟩, fun j k hj _ hk => (So j k hk).trans (by rw [(a1 j (by omega)).2.1]), by rw [up_eq, if_pos ⟨rfl, rfl⟩], fun j k hj hk => (Po j k hk).trans (by rw [(a1 j (by omega)).2.2.2]), by rw [← hP4, up_eq, if_pos ⟨rfl, rfl⟩]⟩ (fun k => (So _ _ (by omega)).trans (by rw [(a1 101 (by omega)).2.1])) ⟨a2, a3.fr (fun h h1 h2 => ⟨rfl, Pr h (by omega)⟩), ⟨?_, ?_, ?_⟩, ?_, ⟨?_, fun hk => by rw [Pr _ (by omega)]; exact a7 hk, fun hk => ⟨by rw [Pr _ (by omega)]; exact (a8 hk).1, (a8 hk).2.1, fun i hi => by rw [Pr _ (by omega)]; exact (a8 hk).2.2 i hi⟩⟩, fun k hk => ?_, ?_⟩
  · rw [Sr _ (by omega)]; exact a4 0 (by decide)
  · rw [Sr _ (by omega)]; exact a4 4 (by decide)
  · rw [Sr _ (by omega)]; exact a4 5 (by decide)
  · obtain ⟨w1, w2, w3, w4⟩ := hW
    exact ⟨fun i k hi hk => by rw [Sr _ (by omega)]; exact (a5 i k hi hk).trans (w1 i k hi hk), by rw [Sr _ (by omega)]; exact (a4 1 (by decide)).trans w2, by rw [Sr _ (by omega)]; exact (a4 2 (by decide)).trans w3, by rw [Sr _ (by omega)]; exact (a4 3 (by decide)).trans w4⟩
  · rw [Sr _ (by omega)]; exact a6
  · rw [Sr _ (by omega)]; exact a9 k hk
  · refine (cx_eqS fun j h1 h2 => ?_).trans a10
    exact Sr j (by omega)
