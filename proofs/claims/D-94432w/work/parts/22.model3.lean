/-! ===== the model's methods: puts, told, refuses, atNow, beginNumber, whole, unwhole, canBe ===== -/
set_option maxRecDepth 100000

theorem isin_f {a l h : Int} (ha : R32 a) (hl : R32 l) (hh : R32 h) : bz (decide (zI l ≤ zI a) && decide (zI a ≤ zI h)) = 0 ↔ ¬ (l ≤ a ∧ a ≤ h) := by
  rw [bz0, ← Bool.not_eq_true, Bool.and_eq_true, decide_eq_true_eq, decide_eq_true_eq, zI_le hl.1 hl.2 ha.1 ha.2, zI_le ha.1 ha.2 hh.1 hh.2]
theorem isin_t {a l h : Int} (ha : R32 a) (hl : R32 l) (hh : R32 h) : ¬ bz (decide (zI l ≤ zI a) && decide (zI a ≤ zI h)) = 0 ↔ (l ≤ a ∧ a ≤ h) := by
  rw [bz1, Bool.and_eq_true, decide_eq_true_eq, decide_eq_true_eq, zI_le hl.1 hl.2 ha.1 ha.2, zI_le ha.1 ha.2 hh.1 hh.2]
def pX9_puts : mm_P := [(0, o_c 1 (.int 0)), (1, o_ist 2 1), (2, o_ild 3 1), (3, o_c 5 (.int 9)), (5, o_cge 8 30), (8, o_ald 9 0), (9, o_get 12 8 2 1), (12, o_c 15 (.int 201)), (15, o_ild 16 1), (16, o_iadd 17), (17, o_ald 18 0), (18, o_get 21 8 2 16), (21, o_ild 22 1), (22, o_iald 23), (23, o_iast 24), (24, o_inc 27 1 1), (27, o_goto 2), (30, o_vret)]
theorem tX9_puts {C : mm_C} (G : mm_G C RX9 cX9_puts none 2 (mm_rm 1 0 0)) (hnh : mm_nh C) : mm_OKs C pX9_puts :=
  ⟨ok_iconst G dX9_puts_0 (by decide) rfl,
   ok_istore_n G dX9_puts_1 rfl rfl (by decide),
   ok_iload_n G dX9_puts_2 rfl rfl,
   ok_bipush G dX9_puts_3 (by decide) rfl,
   ok_cge G dX9_puts_5 rfl rfl,
   ok_aload_n G dX9_puts_8 rfl rfl,
   ok_get G (RX9, TX9, 32) rfl (by decide) rfl q1806 dX9_puts_9 rfl,
   ok_sipush G dX9_puts_12 (by decide) rfl,
   ok_iload_n G dX9_puts_15 rfl rfl,
   ok_iadd G dX9_puts_16 rfl,
   ok_aload_n G dX9_puts_17 rfl rfl,
   ok_get G (RX9, TX9, 32) rfl (by decide) rfl q1821 dX9_puts_18 rfl,
   ok_iload_n G dX9_puts_21 rfl rfl,
   ok_iald G dX9_puts_22 rfl,
   ok_iast G dX9_puts_23 rfl,
   ok_iinc G dX9_puts_24 (by decide) rfl (by decide),
   ok_goto G dX9_puts_27 rfl,
   ok_vret G dX9_puts_30, trivial⟩

def ptS (S : Nat → Nat → Int) : Nat → Nat → Int := fun h k => if h = 1 ∧ 201 ≤ k ∧ k < 210 then S 6 (k - 201) else S h k
theorem ptS_at (S : Nat → Nat → Int) (h k : Nat) : ptS S h k = if h = 1 ∧ 201 ≤ k ∧ k < 210 then S 6 (k - 201) else S h k := rfl
theorem tkS_at (S : Nat → Nat → Int) (h k : Nat) : tkS S h k = if h = 6 ∧ k < 9 then S 1 (201 + k) else S h k := rfl
def sX9_puts : mm_Sp := fun as M Q X => ∃ S L, as = [.ref 0] ∧ M = mZ S L ∧ Q none (mZ (ptS S) L)
theorem lX9_puts {Q : Option Value → mm_M → Prop} {X : String → mm_M → Prop} {S0 L : Nat → Nat → Int} (hQ : Q none (mZ (ptS S0) L)) : ∀ (n i : Nat) (S : Nat → Nat → Int), i + n = 9 → S = (fun h k => if h = 1 ∧ 201 ≤ k ∧ k < 201 + i then S0 6 (k - 201) else S0 h k) → mm_J pX9_puts (mm_ret Q X 0 0) 2 [some (.ref 0), some (.int (zI i))] [] (mZ S L) (0, 0)
  | 0, i, S, hi, hS => by
    refine mm_J.go [2] 20 ?_
    have e : i = 9 := by omega
    refine And.intro (fun h => ?_) (fun h => ?_)
    · refine ⟨?_, Nat.le_refl _, Nat.le_refl _⟩
      rw [hS, e]
      exact hQ
    · exfalso
      simp (disch := omega) only [zI_n, zI_le] at h
      omega
  | n + 1, i, S, hi, hS => by
    refine mm_J.go [2] 20 ?_
    refine And.intro (fun h => ?_) (fun h => ?_)
    · exfalso
      simp (disch := omega) only [zI_n, zI_le] at h
      omega
    · refine ⟨(?_ : vp_in _ 9), (?_ : vp_in _ 2616), ?_⟩
      · exact zI_in (by omega) (by omega) (by decide)
      · rw [zI_n, zI_add]
        exact zI_in (by omega) (by omega) (by decide)
      · have h1 := lX9_puts (X := X) hQ n (i + 1) (mm_up S 1 (201 + i) (S 6 i)) (by omega) (by
          rw [hS]
          funext h k
          grind [up_eq])
        show mm_J pX9_puts (mm_ret Q X 0 0) 2 [some (.ref 0), some (.int (zI i + 1))] [] (mM (mm_up (zS S) 1 ((201 : Int32) + zI i).toNatClampNeg (zI (S 6 (zI i).toNatClampNeg))) (zJ L)) (0, 0)
        rw [zI_n, zI_n, zI_add, zI_add, zI_cl (by omega) (by omega), zI_cl (by omega) (by omega), zS_up]
        have e1 : (201 + (i : Int)).toNat = 201 + i := by omega
        have e2 : ((i : Int)).toNat = i := by omega
        rw [e1, e2]
        exact h1
theorem mX9_puts (l : Launch) (hl : l.stackTraces = false) : mm_Spec l yX9_puts (ws_ yX9_puts cX9_puts 2 none) (mm_rm 1 0 0) sX9_puts := by
  rintro as M Q X ⟨S, L, rfl, rfl, hQ⟩
  refine mm_Met.J hl (by decide) (Nat.le_of_ble_eq_true rfl) (fun C G hnh => tX9_puts G hnh) (mm_J.go [2] 20 ?_)
  exact lX9_puts hQ 9 0 S rfl (by
    funext h k
    grind)
def pX9_told : mm_P := [(0, o_ild 1 1), (1, o_c 2 (.int 3)), (2, o_cne 5 12), (5, o_ald 6 0), (6, o_get 9 8 2 16), (9, o_c 10 (.int 3)), (10, o_ialc 11 3), (11, o_iret), (12, o_ild 13 1), (13, o_c 14 (.int 4)), (14, o_cne 17 37), (17, o_ald 18 0), (18, o_get 21 8 2 16), (21, o_c 22 (.int 3)), (22, o_ialc 23 3), (23, o_ifle 26 35), (26, o_ald 27 0), (27, o_get 30 8 2 16), (30, o_c 31 (.int 4)), (31, o_ialc 32 4), (32, o_goto 36), (35, o_c 36 (.int (zI (-1)))), (36, o_iret), (37, o_ild 38 1), (38, o_c 39 (.int 5)), (39, o_cne 42 63), (42, o_ald 43 0), (43, o_get 46 8 2 16), (46, o_c 47 (.int 3)), (47, o_ialc 48 3), (48, o_c 49 (.int 1)), (49, o_cle 52 61), (52, o_ald 53 0), (53, o_get 56 8 2 16), (56, o_c 57 (.int 5)), (57, o_ialc 58 5), (58, o_goto 62), (61, o_c 62 (.int (zI (-1)))), (62, o_iret), (63, o_ild 64 1), (64, o_c 66 (.int 9)), (66, o_cne 69 93), (69, o_ald 70 0), (70, o_c 71 (.int 0)), (71, o_callv 74 2 8 sX9_wouldWin), (74, o_ifne 77 85), (77, o_ald 78 0), (78, o_c 79 (.int 1)), (79, o_callv 82 2 8 sX9_wouldWin), (82, o_ifeq 85 89), (85, o_c 86 (.int 1)), (86, o_goto 99), (89, o_c 90 (.int 0)), (90, o_goto 99), (93, o_ald 94 0), (94, o_get 97 8 2 16), (97, o_ild 98 1), (98, o_iald 99), (99, o_iret)]
theorem tX9_told {C : mm_C} (G : mm_G C RX9 cX9_told (some .int) 2 (mm_rm 2 0 0)) (hnh : mm_nh C) : mm_OKs C pX9_told :=
  ⟨ok_iload_n G dX9_told_0 rfl rfl,
   ok_iconst G dX9_told_1 (by decide) rfl,
   ok_cne G dX9_told_2 rfl rfl,
   ok_aload_n G dX9_told_5 rfl rfl,
   ok_get G (RX9, TX9, 32) rfl (by decide) rfl q1821 dX9_told_6 rfl,
   ok_iconst G dX9_told_9 (by decide) rfl,
   ok_ialc G dX9_told_10 rfl (by decide),
   ok_iret G dX9_told_11,
   ok_iload_n G dX9_told_12 rfl rfl,
   ok_iconst G dX9_told_13 (by decide) rfl,
   ok_cne G dX9_told_14 rfl rfl,
   ok_aload_n G dX9_told_17 rfl rfl,
   ok_get G (RX9, TX9, 32) rfl (by decide) rfl q1821 dX9_told_18 rfl,
   ok_iconst G dX9_told_21 (by decide) rfl,
   ok_ialc G dX9_told_22 rfl (by decide),
   ok_ifle G dX9_told_23 rfl rfl,
   ok_aload_n G dX9_told_26 rfl rfl,
   ok_get G (RX9, TX9, 32) rfl (by decide) rfl q1821 dX9_told_27 rfl,
   ok_iconst G dX9_told_30 (by decide) rfl,
   ok_ialc G dX9_told_31 rfl (by decide),
   ok_goto G dX9_told_32 rfl,
   ok_iconst G dX9_told_35 (by decide) rfl,
   ok_iret G dX9_told_36,
   ok_iload_n G dX9_told_37 rfl rfl,
   ok_iconst G dX9_told_38 (by decide) rfl,
   ok_cne G dX9_told_39 rfl rfl,
   ok_aload_n G dX9_told_42 rfl rfl,
   ok_get G (RX9, TX9, 32) rfl (by decide) rfl q1821 dX9_told_43 rfl,
   ok_iconst G dX9_told_46 (by decide) rfl,
   ok_ialc G dX9_told_47 rfl (by decide),
   ok_iconst G dX9_told_48 (by decide) rfl,
   ok_cle G dX9_told_49 rfl rfl,
   ok_aload_n G dX9_told_52 rfl rfl,
   ok_get G (RX9, TX9, 32) rfl (by decide) rfl q1821 dX9_told_53 rfl,
   ok_iconst G dX9_told_56 (by decide) rfl,
   ok_ialc G dX9_told_57 rfl (by decide),
   ok_goto G dX9_told_58 rfl,
   ok_iconst G dX9_told_61 (by decide) rfl,
   ok_iret G dX9_told_62,
   ok_iload_n G dX9_told_63 rfl rfl,
   ok_bipush G dX9_told_64 (by decide) rfl,
   ok_cne G dX9_told_66 rfl rfl,
   ok_aload_n G dX9_told_69 rfl rfl,
   ok_iconst G dX9_told_70 (by decide) rfl,
   ok_callv G hnh (mX9_wouldWin _ G.hst) rfl rfl (RX9, TX9, 32) rfl q2062 q2064 qs58 q93 q2065 (by decide +kernel) ⟨by decide, by decide⟩ dX9_told_71 rfl,
   ok_ifne G dX9_told_74 rfl rfl,
   ok_aload_n G dX9_told_77 rfl rfl,
   ok_iconst G dX9_told_78 (by decide) rfl,
   ok_callv G hnh (mX9_wouldWin _ G.hst) rfl rfl (RX9, TX9, 32) rfl q2062 q2064 qs58 q93 q2065 (by decide +kernel) ⟨by decide, by decide⟩ dX9_told_79 rfl,
   ok_ifeq G dX9_told_82 rfl rfl,
   ok_iconst G dX9_told_85 (by decide) rfl,
   ok_goto G dX9_told_86 rfl,
   ok_iconst G dX9_told_89 (by decide) rfl,
   ok_goto G dX9_told_90 rfl,
   ok_aload_n G dX9_told_93 rfl rfl,
   ok_get G (RX9, TX9, 32) rfl (by decide) rfl q1821 dX9_told_94 rfl,
   ok_iload_n G dX9_told_97 rfl rfl,
   ok_iald G dX9_told_98 rfl,
   ok_iret G dX9_told_99, trivial⟩

def tdR (x : Nat → Int) (k : Int) : Int := if k = 4 then (if 0 < x 3 then x 4 else -1) else if k = 5 then (if 1 < x 3 then x 5 else -1) else if k = 9 then (if wW x 0 || wW x 1 then 1 else 0) else x k.toNat
def sX9_told : mm_Sp := fun as M Q X => ∃ S L, ∃ k : Int, 0 ≤ k ∧ k ≤ 9 ∧ as = [.ref 0, .int (zI k)] ∧ M = mZ S L ∧ bx (S 6) ∧ Q (some (.int (zI (tdR (S 6) k)))) (mZ S L)
theorem mX9_told (l : Launch) (hl : l.stackTraces = false) : mm_Spec l yX9_told (ws_ yX9_told cX9_told 2 (some .int)) (mm_rm 2 0 0) sX9_told := by
  rintro as M Q X ⟨S, L, k, k0, k1, rfl, rfl, hb, hQ⟩
  have b3 := hb 3
  have ze : ∀ c : Int, 0 ≤ c → c ≤ 9 → (zI k = zI c ↔ k = c) := fun c h1 h2 => zI_eq (by omega) (by omega) (by omega) (by omega)
  have z0 : zI (S 6 3) ≤ 0 ↔ S 6 3 ≤ 0 := by rw [zI_n, zI_le (by omega) (by omega) (by omega) (by omega)]
  have z1 : zI (S 6 3) ≤ 1 ↔ S 6 3 ≤ 1 := by rw [zI_n, zI_le (by omega) (by omega) (by omega) (by omega)]
  have t99 : ∀ v : Int, v = tdR (S 6) k → mm_J pX9_told (mm_ret Q X 0 0) 99 [some (.ref 0), some (.int (zI k))] [.int (zI v)] (mZ S L) (0, 0) := by
    rintro v rfl
    exact mm_J.go [] 5 ⟨hQ, Nat.le_refl _, Nat.le_refl _⟩
  refine mm_Met.J hl (by decide) (Nat.le_of_ble_eq_true rfl) (fun C G hnh => tX9_told G hnh) (mm_J.go [99] 60 ?_)
  refine And.intro (fun h3 => And.intro (fun h4 => And.intro (fun h5 => And.intro (fun h9 => ?_) (fun h9 => ?_)) (fun h5 => And.intro (fun c => ?_) (fun c => ?_))) (fun h4 => And.intro (fun c => ?_) (fun c => ?_))) (fun h3 => ?_)
  · have h4 : ¬ k = 4 := fun q => h4 ((ze 4 (by decide) (by decide)).mpr q)
    have h5 : ¬ k = 5 := fun q => h5 ((ze 5 (by decide) (by decide)).mpr q)
    have h9 : ¬ k = 9 := fun q => h9 ((ze 9 (by decide) (by decide)).mpr q)
    refine And.intro (zI_in (n := 9) (by omega) (by omega) (by decide)) ?_
    refine mm_Jx (st' := [.int (zI (S 6 k.toNat))]) ?_ (t99 _ ?_)
    · show [Value.int (zI (S 6 (zI k).toNatClampNeg))] = _
      rw [zI_cl k0 (by omega)]
    · rw [tdR, if_neg h4, if_neg h5, if_neg h9]
  · have h9 : k = 9 := (ze 9 (by decide) (by decide)).mp h9
    refine ⟨S, L, 0, by decide, rfl, rfl, hb, And.intro (fun d => t99 1 ?_) (fun d => ⟨S, L, 1, by decide, rfl, rfl, hb, And.intro (fun d2 => t99 0 ?_) (fun d2 => t99 1 ?_)⟩)⟩
    · rw [bz1] at d
      simp [tdR, h9, d]
    · rw [bz0] at d d2
      simp [tdR, h9, d, d2]
    · rw [bz1] at d2
      simp [tdR, h9, d2]
  · have h5 : k = 5 := (ze 5 (by decide) (by decide)).mp h5
    have c := z1.mp c
    have e : tdR (S 6) k = -1 := by rw [tdR, if_neg (by omega), if_pos h5, if_neg (by omega)]
    rw [e] at hQ
    exact ⟨hQ, Nat.le_refl _, Nat.le_refl _⟩
  · have h5 : k = 5 := (ze 5 (by decide) (by decide)).mp h5
    have c : ¬ S 6 3 ≤ 1 := fun q => c (z1.mpr q)
    have e : tdR (S 6) k = S 6 5 := by rw [tdR, if_neg (by omega), if_pos h5, if_pos (by omega)]
    rw [e] at hQ
    exact ⟨hQ, Nat.le_refl _, Nat.le_refl _⟩
  · have h4 : k = 4 := (ze 4 (by decide) (by decide)).mp h4
    have c := z0.mp c
    have e : tdR (S 6) k = -1 := by rw [tdR, if_pos h4, if_neg (by omega)]
    rw [e] at hQ
    exact ⟨hQ, Nat.le_refl _, Nat.le_refl _⟩
  · have h4 : k = 4 := (ze 4 (by decide) (by decide)).mp h4
    have c : ¬ S 6 3 ≤ 0 := fun q => c (z0.mpr q)
    have e : tdR (S 6) k = S 6 4 := by rw [tdR, if_pos h4, if_pos (by omega)]
    rw [e] at hQ
    exact ⟨hQ, Nat.le_refl _, Nat.le_refl _⟩
  · have h3 : k = 3 := (ze 3 (by decide) (by decide)).mp h3
    have e : tdR (S 6) k = S 6 3 := by rw [tdR, if_neg (by omega), if_neg (by omega), if_neg (by omega), h3]; rfl
    rw [e] at hQ
    exact ⟨hQ, Nat.le_refl _, Nat.le_refl _⟩
def pX9_atNow : mm_P := [(0, o_ald 1 0), (1, o_callv 4 1 8 sX9_takes), (4, o_ald 5 0), (5, o_callv 8 1 8 sX9_number), (8, o_iret)]
theorem tX9_atNow {C : mm_C} (G : mm_G C RX9 cX9_atNow (some .int) 1 (mm_rm 2 0 0)) (hnh : mm_nh C) : mm_OKs C pX9_atNow :=
  ⟨ok_aload_n G dX9_atNow_0 rfl rfl,
   ok_callv G hnh (mX9_takes _ G.hst) rfl rfl (RX9, TX9, 32) rfl q2034 q2036 qs55 q93 q2037 (by decide +kernel) ⟨by decide, by decide⟩ dX9_atNow_1 rfl,
   ok_aload_n G dX9_atNow_4 rfl rfl,
   ok_callv G hnh (mX9_number _ G.hst) rfl rfl (RX9, TX9, 32) rfl q2133 q2135 qs72 q93 q2136 (by decide +kernel) ⟨by decide, by decide⟩ dX9_atNow_5 rfl,
   ok_iret G dX9_atNow_8, trivial⟩

def sX9_atNow : mm_Sp := fun as M Q X => ∃ S L, as = [.ref 0] ∧ M = mZ S L ∧ bx (tkS S 6) ∧ Q (some (.int (zI (nuR (tkS S 6))))) (mZ (tkS S) L)
theorem mX9_atNow (l : Launch) (hl : l.stackTraces = false) : mm_Spec l yX9_atNow (ws_ yX9_atNow cX9_atNow 1 (some .int)) (mm_rm 2 0 0) sX9_atNow := by
  rintro as M Q X ⟨S, L, rfl, rfl, hb, hQ⟩
  refine mm_Met.J hl (by decide) (Nat.le_of_ble_eq_true rfl) (fun C G hnh => tX9_atNow G hnh) (mm_J.go [] 60 ?_)
  exact ⟨S, L, rfl, rfl, tkS S, L, rfl, rfl, hb, hQ, Nat.le_refl _, Nat.le_refl _⟩
def pX9_refuses : mm_P := [(0, o_ald 1 0), (1, o_callv 4 1 8 sX9_takes), (4, o_ild 5 1), (5, o_calls 8 1 sX9_isPlayer), (8, o_ifne 11 15), (11, o_c 12 (.int 1)), (12, o_goto 41), (15, o_ild 16 2), (16, o_c 17 (.int 0)), (17, o_c 19 (.int 30)), (19, o_calls 22 3 sX9_isIn), (22, o_ifne 25 29), (25, o_c 26 (.int 2)), (26, o_goto 41), (29, o_ald 30 0), (30, o_callv 33 1 8 sX9_isOver), (33, o_ifeq 36 40), (36, o_c 37 (.int 3)), (37, o_goto 41), (40, o_c 41 (.int 0)), (41, o_iret)]
theorem tX9_refuses {C : mm_C} (G : mm_G C RX9 cX9_refuses (some .int) 3 (mm_rm 3 0 0)) (hnh : mm_nh C) : mm_OKs C pX9_refuses :=
  ⟨ok_aload_n G dX9_refuses_0 rfl rfl,
   ok_callv G hnh (mX9_takes _ G.hst) rfl rfl (RX9, TX9, 32) rfl q2034 q2036 qs55 q93 q2037 (by decide +kernel) ⟨by decide, by decide⟩ dX9_refuses_1 rfl,
   ok_iload_n G dX9_refuses_4 rfl rfl,
   ok_calls G hnh (mX9_isPlayer _ G.hst) rfl rfl q2027 q2028 q93 q2029 (by decide +kernel) ⟨by decide, by decide⟩ dX9_refuses_5 rfl,
   ok_ifne G dX9_refuses_8 rfl rfl,
   ok_iconst G dX9_refuses_11 (by decide) rfl,
   ok_goto G dX9_refuses_12 rfl,
   ok_iload_n G dX9_refuses_15 rfl rfl,
   ok_iconst G dX9_refuses_16 (by decide) rfl,
   ok_bipush G dX9_refuses_17 (by decide) rfl,
   ok_calls G hnh (mX9_isIn _ G.hst) rfl rfl q1914 q1915 q93 q1916 (by decide +kernel) ⟨by decide, by decide⟩ dX9_refuses_19 rfl,
   ok_ifne G dX9_refuses_22 rfl rfl,
   ok_iconst G dX9_refuses_25 (by decide) rfl,
   ok_goto G dX9_refuses_26 rfl,
   ok_aload_n G dX9_refuses_29 rfl rfl,
   ok_callv G hnh (mX9_isOver _ G.hst) rfl rfl (RX9, TX9, 32) rfl q2070 q2072 qs59 q93 q2073 (by decide +kernel) ⟨by decide, by decide⟩ dX9_refuses_30 rfl,
   ok_ifeq G dX9_refuses_33 rfl rfl,
   ok_iconst G dX9_refuses_36 (by decide) rfl,
   ok_goto G dX9_refuses_37 rfl,
   ok_iconst G dX9_refuses_40 (by decide) rfl,
   ok_iret G dX9_refuses_41, trivial⟩

/-- what a call of chances throws by: 1 no player, 2 no rallies, 3 the set is over -/
def rfR (w : Nat → Int) (x : Nat → Int) (p n : Int) : Int := if ¬ (0 ≤ p ∧ p ≤ 1) then 1 else if ¬ (0 ≤ n ∧ n ≤ 30) then 2 else if ovR (w 194) x then 3 else 0
def sX9_refuses : mm_Sp := fun as M Q X => ∃ S L, ∃ p n : Int, R32 p ∧ R32 n ∧ as = [.ref 0, .int (zI p), .int (zI n)] ∧ M = mZ S L ∧ bx (tkS S 6) ∧ -100 ≤ S 1 194 ∧ S 1 194 ≤ 100 ∧ Q (some (.int (zI (rfR (S 1) (tkS S 6) p n)))) (mZ (tkS S) L)
theorem tkS_1 (S : Nat → Nat → Int) : tkS S 1 = S 1 := by funext k; simp [tkS]
theorem mX9_refuses (l : Launch) (hl : l.stackTraces = false) : mm_Spec l yX9_refuses (ws_ yX9_refuses cX9_refuses 3 (some .int)) (mm_rm 3 0 0) sX9_refuses := by
  rintro as M Q X ⟨S, L, p, n, hp, hn, rfl, rfl, hb, g1, g2, hQ⟩
  have t41 : ∀ v : Int, v = rfR (S 1) (tkS S 6) p n → mm_J pX9_refuses (mm_ret Q X 0 0) 41 [some (.ref 0), some (.int (zI p)), some (.int (zI n))] [.int (zI v)] (mZ (tkS S) L) (0, 0) := by
    rintro v rfl
    exact mm_J.go [] 5 ⟨hQ, Nat.le_refl _, Nat.le_refl _⟩
  refine mm_Met.J hl (by decide) (Nat.le_of_ble_eq_true rfl) (fun C G hnh => tX9_refuses G hnh) (mm_J.go [41] 60 ?_)
  refine ⟨S, L, rfl, rfl, zI p, rfl, And.intro (fun h => ?_) (fun h => ?_)⟩
  · have h := (isin_t (l := 0) (h := 1) hp (by decide) (by decide)).mp h
    refine ⟨zI n, 0, 30, rfl, And.intro (fun h2 => ?_) (fun h2 => ?_)⟩
    · have h2 := (isin_t (l := 0) (h := 30) hn (by decide) (by decide)).mp h2
      refine ⟨tkS S, L, rfl, rfl, hb, by rw [tkS_1]; exact g1, by rw [tkS_1]; exact g2, And.intro (fun h3 => t41 0 ?_) (fun h3 => t41 3 ?_)⟩
      · rw [bz0, tkS_1] at h3
        simp [rfR, h, h2, h3]
      · rw [bz1, tkS_1] at h3
        simp [rfR, h, h2, h3]
    · have h2 := (isin_f (l := 0) (h := 30) hn (by decide) (by decide)).mp h2
      refine t41 2 ?_
      rw [rfR, if_neg (by omega), if_pos h2]
  · have h := (isin_f (l := 0) (h := 1) hp (by decide) (by decide)).mp h
    refine t41 1 ?_
    rw [rfR, if_pos h]
def pX9_whole : mm_P := [(0, o_ald 1 0), (1, o_callv 4 1 8 sX9_number), (4, o_c 6 (.int 8)), (6, o_imul 7), (7, o_ald 8 0), (8, o_get 11 8 2 16), (11, o_c 13 (.int 7)), (13, o_ialc 14 7), (14, o_iadd 15), (15, o_c 17 (.int 8)), (17, o_imul 18), (18, o_ald 19 0), (19, o_get 22 8 2 16), (22, o_c 24 (.int 8)), (24, o_ialc 25 8), (25, o_iadd 26), (26, o_iret)]
theorem tX9_whole {C : mm_C} (G : mm_G C RX9 cX9_whole (some .int) 1 (mm_rm 2 0 0)) (hnh : mm_nh C) : mm_OKs C pX9_whole :=
  ⟨ok_aload_n G dX9_whole_0 rfl rfl,
   ok_callv G hnh (mX9_number _ G.hst) rfl rfl (RX9, TX9, 32) rfl q2133 q2135 qs72 q93 q2136 (by decide +kernel) ⟨by decide, by decide⟩ dX9_whole_1 rfl,
   ok_bipush G dX9_whole_4 (by decide) rfl,
   ok_imul G dX9_whole_6 rfl,
   ok_aload_n G dX9_whole_7 rfl rfl,
   ok_get G (RX9, TX9, 32) rfl (by decide) rfl q1821 dX9_whole_8 rfl,
   ok_bipush G dX9_whole_11 (by decide) rfl,
   ok_ialc G dX9_whole_13 rfl (by decide),
   ok_iadd G dX9_whole_14 rfl,
   ok_bipush G dX9_whole_15 (by decide) rfl,
   ok_imul G dX9_whole_17 rfl,
   ok_aload_n G dX9_whole_18 rfl rfl,
   ok_get G (RX9, TX9, 32) rfl (by decide) rfl q1821 dX9_whole_19 rfl,
   ok_bipush G dX9_whole_22 (by decide) rfl,
   ok_ialc G dX9_whole_24 rfl (by decide),
   ok_iadd G dX9_whole_25 rfl,
   ok_iret G dX9_whole_26, trivial⟩

def whR (x : Nat → Int) : Int := (nuR x * 8 + x 7) * 8 + x 8
def sX9_whole : mm_Sp := fun as M Q X => ∃ S L, as = [.ref 0] ∧ M = mZ S L ∧ bx (S 6) ∧ Q (some (.int (zI (whR (S 6))))) (mZ S L)
theorem mX9_whole (l : Launch) (hl : l.stackTraces = false) : mm_Spec l yX9_whole (ws_ yX9_whole cX9_whole 1 (some .int)) (mm_rm 2 0 0) sX9_whole := by
  rintro as M Q X ⟨S, L, rfl, rfl, hb, hQ⟩
  refine mm_Met.J hl (by decide) (Nat.le_of_ble_eq_true rfl) (fun C G hnh => tX9_whole G hnh) (mm_J.go [] 60 ?_)
  refine ⟨S, L, rfl, rfl, hb, ?_, Nat.le_refl _, Nat.le_refl _⟩
  have e : (zI (nuR (S 6)) * 8 + zI (S 6 7)) * 8 + zI (S 6 8) = zI (whR (S 6)) := by
    simp only [zI_n, zI_add, zI_mul]
    rfl
  rw [← e] at hQ
  exact hQ
def pX9_unwhole : mm_P := [(0, o_ald 1 0), (1, o_ild 2 1), (2, o_c 4 (.int 64)), (4, o_idiv 5), (5, o_callv 8 2 8 sX9_unnumber), (8, o_ald 9 0), (9, o_get 12 8 2 16), (12, o_c 14 (.int 7)), (14, o_ild 15 1), (15, o_c 17 (.int 8)), (17, o_idiv 18), (18, o_c 20 (.int 8)), (20, o_irem 21), (21, o_iasc 22 7), (22, o_ald 23 0), (23, o_get 26 8 2 16), (26, o_c 28 (.int 8)), (28, o_ild 29 1), (29, o_c 31 (.int 8)), (31, o_irem 32), (32, o_iasc 33 8), (33, o_vret)]
theorem tX9_unwhole {C : mm_C} (G : mm_G C RX9 cX9_unwhole none 2 (mm_rm 2 0 0)) (hnh : mm_nh C) : mm_OKs C pX9_unwhole :=
  ⟨ok_aload_n G dX9_unwhole_0 rfl rfl,
   ok_iload_n G dX9_unwhole_1 rfl rfl,
   ok_bipush G dX9_unwhole_2 (by decide) rfl,
   ok_idiv G dX9_unwhole_4 rfl,
   ok_callv G hnh (mX9_unnumber _ G.hst) rfl rfl (RX9, TX9, 32) rfl q2114 q2116 qs68 q93 q2117 (by decide +kernel) ⟨by decide, by decide⟩ dX9_unwhole_5 rfl,
   ok_aload_n G dX9_unwhole_8 rfl rfl,
   ok_get G (RX9, TX9, 32) rfl (by decide) rfl q1821 dX9_unwhole_9 rfl,
   ok_bipush G dX9_unwhole_12 (by decide) rfl,
   ok_iload_n G dX9_unwhole_14 rfl rfl,
   ok_bipush G dX9_unwhole_15 (by decide) rfl,
   ok_idiv G dX9_unwhole_17 rfl,
   ok_bipush G dX9_unwhole_18 (by decide) rfl,
   ok_irem G dX9_unwhole_20 rfl,
   ok_iasc G dX9_unwhole_21 rfl (by decide),
   ok_aload_n G dX9_unwhole_22 rfl rfl,
   ok_get G (RX9, TX9, 32) rfl (by decide) rfl q1821 dX9_unwhole_23 rfl,
   ok_bipush G dX9_unwhole_26 (by decide) rfl,
   ok_iload_n G dX9_unwhole_28 rfl rfl,
   ok_bipush G dX9_unwhole_29 (by decide) rfl,
   ok_irem G dX9_unwhole_31 rfl,
   ok_iasc G dX9_unwhole_32 rfl (by decide),
   ok_vret G dX9_unwhole_33, trivial⟩

def uwR (w x : Nat → Int) (k : Int) : Nat → Int := fun j => if j = 7 then k / 8 % 8 else if j = 8 then k % 8 else unR w x (k / 64) j
theorem uwR_at (w x : Nat → Int) (k : Int) (j : Nat) : uwR w x k j = if j = 7 then k / 8 % 8 else if j = 8 then k % 8 else unR w x (k / 64) j := rfl
def sX9_unwhole : mm_Sp := fun as M Q X => ∃ S L, ∃ k : Int, 0 ≤ k ∧ k < 100000000 ∧ as = [.ref 0, .int (zI k)] ∧ M = mZ S L ∧ Q none (mZ (sx S (uwR (S 1) (S 6) k) (S 0 17) (S 0 18)) L)
theorem mX9_unwhole (l : Launch) (hl : l.stackTraces = false) : mm_Spec l yX9_unwhole (ws_ yX9_unwhole cX9_unwhole 2 none) (mm_rm 2 0 0) sX9_unwhole := by
  rintro as M Q X ⟨S, L, k, k0, k1, rfl, rfl, hQ⟩
  refine mm_Met.J hl (by decide) (Nat.le_of_ble_eq_true rfl) (fun C G hnh => tX9_unwhole G hnh) (mm_J.go [] 60 ?_)
  have e64 : zI k / 64 = zI (k / 64) := by rw [zI_n, zI_div k0 (by omega) (by decide) (by decide)]
  refine ⟨S, L, k / 64, by omega, by omega, congrArg (fun z => [Value.ref 0, Value.int z]) e64, rfl, mm_Qm ?_ hQ, Nat.le_refl _, Nat.le_refl _⟩
  simp (disch := omega) only [zI_n, zI_div, zI_mul, zI_sub, mZ_wI]
  refine mZ_c ?_ rfl
  have q1 : k / 8 - k / 8 / 8 * 8 = k / 8 % 8 := by omega
  have q2 : k - k / 8 * 8 = k % 8 := by omega
  rw [q1, q2]
  clear hQ e64
  funext a b
  grind [up_eq, sx_at, uwR_at]
def pX9_canBe : mm_P := [(0, o_ild 1 0), (1, o_c 4 (.int 242)), (4, o_idiv 5), (5, o_c 7 (.int 8)), (7, o_irem 8), (8, o_c 9 (.int 3)), (9, o_isub 10), (10, o_ist 11 1), (11, o_ild 12 0), (12, o_c 15 (.int 1936)), (15, o_idiv 16), (16, o_c 17 (.int 3)), (17, o_isub 18), (18, o_ist 19 2), (19, o_ild 20 2), (20, o_c 21 (.int 4)), (21, o_clt 24 29), (24, o_ild 25 1), (25, o_c 26 (.int 3)), (26, o_cne 29 43), (29, o_ild 30 1), (30, o_c 31 (.int 4)), (31, o_clt 34 39), (34, o_ild 35 2), (35, o_c 36 (.int 3)), (36, o_cne 39 43), (39, o_c 40 (.int 1)), (40, o_goto 44), (43, o_c 44 (.int 0)), (44, o_zret)]
theorem tX9_canBe {C : mm_C} (G : mm_G C RX9 cX9_canBe (some .boolean) 3 (mm_rm 1 0 0)) (hnh : mm_nh C) : mm_OKs C pX9_canBe :=
  ⟨ok_iload_n G dX9_canBe_0 rfl rfl,
   ok_sipush G dX9_canBe_1 (by decide) rfl,
   ok_idiv G dX9_canBe_4 rfl,
   ok_bipush G dX9_canBe_5 (by decide) rfl,
   ok_irem G dX9_canBe_7 rfl,
   ok_iconst G dX9_canBe_8 (by decide) rfl,
   ok_isub G dX9_canBe_9 rfl,
   ok_istore_n G dX9_canBe_10 rfl rfl (by decide),
   ok_iload_n G dX9_canBe_11 rfl rfl,
   ok_sipush G dX9_canBe_12 (by decide) rfl,
   ok_idiv G dX9_canBe_15 rfl,
   ok_iconst G dX9_canBe_16 (by decide) rfl,
   ok_isub G dX9_canBe_17 rfl,
   ok_istore_n G dX9_canBe_18 rfl rfl (by decide),
   ok_iload_n G dX9_canBe_19 rfl rfl,
   ok_iconst G dX9_canBe_20 (by decide) rfl,
   ok_clt G dX9_canBe_21 rfl rfl,
   ok_iload_n G dX9_canBe_24 rfl rfl,
   ok_iconst G dX9_canBe_25 (by decide) rfl,
   ok_cne G dX9_canBe_26 rfl rfl,
   ok_iload_n G dX9_canBe_29 rfl rfl,
   ok_iconst G dX9_canBe_30 (by decide) rfl,
   ok_clt G dX9_canBe_31 rfl rfl,
   ok_iload_n G dX9_canBe_34 rfl rfl,
   ok_iconst G dX9_canBe_35 (by decide) rfl,
   ok_cne G dX9_canBe_36 rfl rfl,
   ok_iconst G dX9_canBe_39 (by decide) rfl,
   ok_goto G dX9_canBe_40 rfl,
   ok_iconst G dX9_canBe_43 (by decide) rfl,
   ok_zret G dX9_canBe_44, trivial⟩

def cbR (k : Int) : Bool := (decide (k / 1936 - 3 < 4) || decide (k / 242 % 8 - 3 = 3)) && (decide (k / 242 % 8 - 3 < 4) || decide (k / 1936 - 3 = 3))
def sX9_canBe : mm_Sp := fun as M Q X => ∃ k : Int, 0 ≤ k ∧ k < 100000000 ∧ as = [.int (zI k)] ∧ Q (some (.int (bz (cbR k)))) M
theorem mX9_canBe (l : Launch) (hl : l.stackTraces = false) : mm_Spec l yX9_canBe (ws_ yX9_canBe cX9_canBe 3 (some .boolean)) (mm_rm 1 0 0) sX9_canBe := by
  rintro as M Q X ⟨k, k0, k1, rfl, hQ⟩
  have e1 : zI k / 242 - zI k / 242 / 8 * 8 - 3 = zI (k / 242 % 8 - 3) := by
    rw [zI_n, zI_n, zI_n, zI_div k0 (by omega) (by decide) (by decide), zI_rem (by omega) (by omega) (by decide) (by decide), zI_sub]
  have e2 : zI k / 1936 - 3 = zI (k / 1936 - 3) := by
    rw [zI_n, zI_n, zI_div k0 (by omega) (by decide) (by decide), zI_sub]
  refine mm_Met.J hl (by decide) (Nat.le_of_ble_eq_true rfl) (fun C G hnh => tX9_canBe G hnh) (mm_J.go [19] 60 ?_)
  refine mm_Jl (lv' := [some (.int (zI k)), some (.int (zI (k / 242 % 8 - 3))), some (.int (zI (k / 1936 - 3)))]) (by rw [← e1, ← e2]; rfl) (mm_J.go [29] 60 ?_)
  have hcb : cbR k = ((decide (k / 1936 - 3 < 4) || decide (k / 242 % 8 - 3 = 3)) && (decide (k / 242 % 8 - 3 < 4) || decide (k / 1936 - 3 = 3))) := rfl
  have r1 : 0 ≤ k / 242 % 8 := by omega
  have r2 : k / 242 % 8 < 8 := by omega
  have r3 : 0 ≤ k / 1936 := by omega
  have r4 : k / 1936 < 100000000 := by omega
  generalize k / 242 % 8 = b at *
  generalize k / 1936 = a at *
  have z1 : zI (a - 3) < 4 ↔ a - 3 < 4 := by rw [zI_n, zI_lt (by omega) (by omega) (by omega) (by omega)]
  have z2 : zI (b - 3) = 3 ↔ b - 3 = 3 := by rw [zI_n, zI_eq (by omega) (by omega) (by omega) (by omega)]
  have z3 : zI (b - 3) < 4 ↔ b - 3 < 4 := by rw [zI_n, zI_lt (by omega) (by omega) (by omega) (by omega)]
  have z4 : zI (a - 3) = 3 ↔ a - 3 = 3 := by rw [zI_n, zI_eq (by omega) (by omega) (by omega) (by omega)]
  have t29 : (a - 3 < 4 ∨ b - 3 = 3) → mm_J pX9_canBe (mm_ret Q X 0 0) 29 [some (.int (zI k)), some (.int (zI (b - 3))), some (.int (zI (a - 3)))] [] M (0, 0) := by
    intro h
    have h : (decide (a - 3 < 4) || decide (b - 3 = 3)) = true := by simpa using h
    refine mm_J.go [] 20 (And.intro (fun c => ?_) (fun c => And.intro (fun d => ?_) (fun d => ?_)))
    · have c := z3.mp c
      exact ⟨Or.inr rfl, bzT hQ (by rw [hcb, h]; simp [c]), Nat.le_refl _, Nat.le_refl _⟩
    · have c : ¬ b - 3 < 4 := fun q => c (z3.mpr q)
      have d : ¬ a - 3 = 3 := fun q => d (z4.mpr q)
      exact ⟨Or.inl rfl, bzF hQ (by rw [hcb, h]; simp [c, d]), Nat.le_refl _, Nat.le_refl _⟩
    · have d := z4.mp d
      exact ⟨Or.inr rfl, bzT hQ (by rw [hcb, h]; simp [d]), Nat.le_refl _, Nat.le_refl _⟩
  refine And.intro (fun c => t29 (Or.inl (z1.mp c))) (fun c => And.intro (fun d => ?_) (fun d => t29 (Or.inr (z2.mp d))))
  have c : ¬ a - 3 < 4 := fun q => c (z1.mpr q)
  have d : ¬ b - 3 = 3 := fun q => d (z2.mpr q)
  exact ⟨Or.inl rfl, bzF hQ (by rw [hcb]; simp [c, d]), Nat.le_refl _, Nat.le_refl _⟩
