/-! ===== the model's methods: what is told ===== -/
set_option maxRecDepth 100000
def pX9_look : mm_P := [(0, o_ald 1 0), (1, o_ild 2 1), (2, o_c 3 (.int 0)), (3, o_c 4 (.int 3)), (4, o_calls 7 3 sX9_isIn), (7, o_ifeq 10 19), (10, o_ild 11 2), (11, o_c 12 (.int 0)), (12, o_c 13 (.int 3)), (13, o_calls 16 3 sX9_isIn), (16, o_ifne 19 23), (19, o_c 20 (.int 1)), (20, o_goto 38), (23, o_ild 24 3), (24, o_c 25 (.int 0)), (25, o_c 27 (.int 11)), (27, o_calls 30 3 sX9_isIn), (30, o_ifne 33 37), (33, o_c 34 (.int 2)), (34, o_goto 38), (37, o_c 38 (.int 0)), (38, o_puti 41 8 0), (41, o_ald 42 0), (42, o_get 45 8 0 0), (45, o_ifle 48 50), (48, o_c 49 (.int 0)), (49, o_iret), (50, o_ald 51 0), (51, o_get 54 8 2 1), (54, o_c 55 (.int 0)), (55, o_c 57 (.int 12)), (57, o_c 58 (.int 4)), (58, o_ild 59 1), (59, o_imul 60), (60, o_ild 61 2), (61, o_iadd 62), (62, o_imul 63), (63, o_iadd 64), (64, o_ild 65 3), (65, o_iadd 66), (66, o_iald 67), (67, o_iret)]
theorem tX9_look {C : mm_C} (G : mm_G C RX9 cX9_look (some .int) 4 (mm_rm 2 0 0)) (hnh : mm_nh C) : mm_OKs C pX9_look :=
  ⟨ok_aload_n G dX9_look_0 rfl rfl,
   ok_iload_n G dX9_look_1 rfl rfl,
   ok_iconst G dX9_look_2 (by decide) rfl,
   ok_iconst G dX9_look_3 (by decide) rfl,
   ok_calls G hnh (mX9_isIn _ G.hst) rfl rfl q1914 q1915 q93 q1916 (by decide +kernel) ⟨by decide, by decide⟩ dX9_look_4 rfl,
   ok_ifeq G dX9_look_7 rfl rfl,
   ok_iload_n G dX9_look_10 rfl rfl,
   ok_iconst G dX9_look_11 (by decide) rfl,
   ok_iconst G dX9_look_12 (by decide) rfl,
   ok_calls G hnh (mX9_isIn _ G.hst) rfl rfl q1914 q1915 q93 q1916 (by decide +kernel) ⟨by decide, by decide⟩ dX9_look_13 rfl,
   ok_ifne G dX9_look_16 rfl rfl,
   ok_iconst G dX9_look_19 (by decide) rfl,
   ok_goto G dX9_look_20 rfl,
   ok_iload_n G dX9_look_23 rfl rfl,
   ok_iconst G dX9_look_24 (by decide) rfl,
   ok_bipush G dX9_look_25 (by decide) rfl,
   ok_calls G hnh (mX9_isIn _ G.hst) rfl rfl q1914 q1915 q93 q1916 (by decide +kernel) ⟨by decide, by decide⟩ dX9_look_27 rfl,
   ok_ifne G dX9_look_30 rfl rfl,
   ok_iconst G dX9_look_33 (by decide) rfl,
   ok_goto G dX9_look_34 rfl,
   ok_iconst G dX9_look_37 (by decide) rfl,
   ok_puti G (idx := 67) (RX9, TX9, 32) rfl (by decide) rfl (mm_pw G (ci := 8) (k := 0) (RX9, TX9, 32) rfl (by decide) rfl q1805 dX9_look_38) rfl,
   ok_aload_n G dX9_look_41 rfl rfl,
   ok_get G (RX9, TX9, 32) rfl (by decide) rfl q1805 dX9_look_42 rfl,
   ok_ifle G dX9_look_45 rfl rfl,
   ok_iconst G dX9_look_48 (by decide) rfl,
   ok_iret G dX9_look_49,
   ok_aload_n G dX9_look_50 rfl rfl,
   ok_get G (RX9, TX9, 32) rfl (by decide) rfl q1806 dX9_look_51 rfl,
   ok_iconst G dX9_look_54 (by decide) rfl,
   ok_bipush G dX9_look_55 (by decide) rfl,
   ok_iconst G dX9_look_57 (by decide) rfl,
   ok_iload_n G dX9_look_58 rfl rfl,
   ok_imul G dX9_look_59 rfl,
   ok_iload_n G dX9_look_60 rfl rfl,
   ok_iadd G dX9_look_61 rfl,
   ok_imul G dX9_look_62 rfl,
   ok_iadd G dX9_look_63 rfl,
   ok_iload_n G dX9_look_64 rfl rfl,
   ok_iadd G dX9_look_65 rfl,
   ok_iald G dX9_look_66 rfl,
   ok_iret G dX9_look_67, trivial⟩

def lkT (s h w : Int) : Int := if ¬ (0 ≤ s ∧ s ≤ 3) ∨ ¬ (0 ≤ h ∧ h ≤ 3) then 1 else if ¬ (0 ≤ w ∧ w ≤ 11) then 2 else 0
def sX9_look : mm_Sp := fun as M Q X => ∃ S L, ∃ s h w : Int, R32 s ∧ R32 h ∧ R32 w ∧ as = [.ref 0, .int (zI s), .int (zI h), .int (zI w)] ∧ M = mZ S L ∧ Q (some (.int (zI (if lkT s h w = 0 then S 1 (12 * (4 * s + h) + w).toNat else 0)))) (mZ (mm_up S 0 0 (lkT s h w)) L)
theorem mX9_look (l : Launch) (hl : l.stackTraces = false) : mm_Spec l yX9_look (ws_ yX9_look cX9_look 4 (some .int)) (mm_rm 2 0 0) sX9_look := by
  rintro as M Q X ⟨S, L, s, h, w, hs, hh, hw, rfl, rfl, hQ⟩
  have t38 : ∀ v : Int, v = lkT s h w → mm_J pX9_look (mm_ret Q X 0 0) 38 [some (.ref 0), some (.int (zI s)), some (.int (zI h)), some (.int (zI w))] [.int (zI v), .ref 0] (mZ S L) (0, 0) := by
    rintro v rfl
    have hv : 0 ≤ lkT s h w ∧ lkT s h w ≤ 2 := by unfold lkT; grind
    refine mm_J.go [41] 5 ?_
    refine mm_Jm (mZ_wI S L 0 0 (lkT s h w)) (mm_J.go [] 30 (And.intro (fun c => ?_) (fun c => ?_)))
    · have c : zI (mm_up S 0 0 (lkT s h w) 0 0) ≤ 0 := c
      rw [up_eq, if_pos ⟨rfl, rfl⟩, zI_n, zI_le (by omega) (by omega) (by omega) (by omega)] at c
      have h0 : lkT s h w = 0 := by omega
      have hr : (0 ≤ s ∧ s ≤ 3) ∧ (0 ≤ h ∧ h ≤ 3) ∧ (0 ≤ w ∧ w ≤ 11) := by
        unfold lkT at h0
        grind
      have e : (0 : Int32) + 12 * (4 * zI s + zI h) + zI w = zI (12 * (4 * s + h) + w) := by
        simp only [zI_n, zI_add, zI_mul]
        congr 1
        omega
      have e2 : ((0 : Int32) + 12 * (4 * zI s + zI h) + zI w).toNatClampNeg = (12 * (4 * s + h) + w).toNat := by rw [e, zI_cl (by omega) (by omega)]
      refine And.intro (in_z (n := 2616) e (by omega) (by omega) (by decide)) ?_
      refine ⟨?_, Nat.le_refl _, Nat.le_refl _⟩
      rw [if_pos h0] at hQ
      show Q (some (.int (zI (mm_up S 0 0 (lkT s h w) 1 ((0 : Int32) + 12 * (4 * zI s + zI h) + zI w).toNatClampNeg)))) _
      rw [e2, up_eq, if_neg (by simp)]
      exact hQ
    · have c : ¬ zI (mm_up S 0 0 (lkT s h w) 0 0) ≤ 0 := c
      rw [up_eq, if_pos ⟨rfl, rfl⟩, zI_n, zI_le (by omega) (by omega) (by omega) (by omega)] at c
      rw [if_neg (by omega)] at hQ
      exact ⟨hQ, Nat.le_refl _, Nat.le_refl _⟩
  refine mm_Met.J hl (by decide) (Nat.le_of_ble_eq_true rfl) (fun C G hnh => tX9_look G hnh) (mm_J.go [38] 30 ?_)
  refine ⟨zI s, 0, 3, rfl, And.intro (fun c => t38 1 ?_) (fun c => ⟨zI h, 0, 3, rfl, And.intro (fun d => ⟨zI w, 0, 11, rfl, And.intro (fun f => t38 0 ?_) (fun f => t38 2 ?_)⟩) (fun d => t38 1 ?_)⟩)⟩
  · have c := (isin_f (l := 0) (h := 3) hs (by decide) (by decide)).mp c
    rw [lkT, if_pos (Or.inl c)]
  · have c := (isin_t (l := 0) (h := 3) hs (by decide) (by decide)).mp c
    have d := (isin_t (l := 0) (h := 3) hh (by decide) (by decide)).mp d
    have f := (isin_t (l := 0) (h := 11) hw (by decide) (by decide)).mp f
    rw [lkT, if_neg (by omega), if_neg (by omega)]
  · have c := (isin_t (l := 0) (h := 3) hs (by decide) (by decide)).mp c
    have d := (isin_t (l := 0) (h := 3) hh (by decide) (by decide)).mp d
    have f := (isin_f (l := 0) (h := 11) hw (by decide) (by decide)).mp f
    rw [lkT, if_neg (by omega), if_pos f]
  · have d := (isin_f (l := 0) (h := 3) hh (by decide) (by decide)).mp d
    rw [lkT, if_pos (Or.inr d)]
def pX9_plays : mm_P := [(0, o_ald 1 0), (1, o_ild 2 1), (2, o_calls 5 1 sX9_isPlayer), (5, o_ifeq 8 26), (8, o_ild 9 2), (9, o_c 10 (.int (zI (-1)))), (10, o_ald 11 0), (11, o_get 14 8 2 1), (14, o_c 17 (.int 193)), (17, o_ialc 18 193), (18, o_c 19 (.int 1)), (19, o_isub 20), (20, o_calls 23 3 sX9_isIn), (23, o_ifne 26 30), (26, o_c 27 (.int 1)), (27, o_goto 31), (30, o_c 31 (.int 0)), (31, o_puti 34 8 0), (34, o_ald 35 0), (35, o_get 38 8 0 0), (38, o_ifle 41 43), (41, o_c 42 (.int 0)), (42, o_iret), (43, o_ald 44 0), (44, o_get 47 8 2 1), (47, o_c 50 (.int 199)), (50, o_ild 51 1), (51, o_iadd 52), (52, o_iald 53), (53, o_ist 54 3), (54, o_ald 55 0), (55, o_get 58 8 2 1), (58, o_c 61 (.int 199)), (61, o_ild 62 1), (62, o_iadd 63), (63, o_ild 64 2), (64, o_iast 65), (65, o_ild 66 3), (66, o_iret)]
theorem tX9_plays {C : mm_C} (G : mm_G C RX9 cX9_plays (some .int) 4 (mm_rm 3 0 0)) (hnh : mm_nh C) : mm_OKs C pX9_plays :=
  ⟨ok_aload_n G dX9_plays_0 rfl rfl,
   ok_iload_n G dX9_plays_1 rfl rfl,
   ok_calls G hnh (mX9_isPlayer _ G.hst) rfl rfl q2027 q2028 q93 q2029 (by decide +kernel) ⟨by decide, by decide⟩ dX9_plays_2 rfl,
   ok_ifeq G dX9_plays_5 rfl rfl,
   ok_iload_n G dX9_plays_8 rfl rfl,
   ok_iconst G dX9_plays_9 (by decide) rfl,
   ok_aload_n G dX9_plays_10 rfl rfl,
   ok_get G (RX9, TX9, 32) rfl (by decide) rfl q1806 dX9_plays_11 rfl,
   ok_sipush G dX9_plays_14 (by decide) rfl,
   ok_ialc G dX9_plays_17 rfl (by decide),
   ok_iconst G dX9_plays_18 (by decide) rfl,
   ok_isub G dX9_plays_19 rfl,
   ok_calls G hnh (mX9_isIn _ G.hst) rfl rfl q1914 q1915 q93 q1916 (by decide +kernel) ⟨by decide, by decide⟩ dX9_plays_20 rfl,
   ok_ifne G dX9_plays_23 rfl rfl,
   ok_iconst G dX9_plays_26 (by decide) rfl,
   ok_goto G dX9_plays_27 rfl,
   ok_iconst G dX9_plays_30 (by decide) rfl,
   ok_puti G (idx := 67) (RX9, TX9, 32) rfl (by decide) rfl (mm_pw G (ci := 8) (k := 0) (RX9, TX9, 32) rfl (by decide) rfl q1805 dX9_plays_31) rfl,
   ok_aload_n G dX9_plays_34 rfl rfl,
   ok_get G (RX9, TX9, 32) rfl (by decide) rfl q1805 dX9_plays_35 rfl,
   ok_ifle G dX9_plays_38 rfl rfl,
   ok_iconst G dX9_plays_41 (by decide) rfl,
   ok_iret G dX9_plays_42,
   ok_aload_n G dX9_plays_43 rfl rfl,
   ok_get G (RX9, TX9, 32) rfl (by decide) rfl q1806 dX9_plays_44 rfl,
   ok_sipush G dX9_plays_47 (by decide) rfl,
   ok_iload_n G dX9_plays_50 rfl rfl,
   ok_iadd G dX9_plays_51 rfl,
   ok_iald G dX9_plays_52 rfl,
   ok_istore_n G dX9_plays_53 rfl rfl (by decide),
   ok_aload_n G dX9_plays_54 rfl rfl,
   ok_get G (RX9, TX9, 32) rfl (by decide) rfl q1806 dX9_plays_55 rfl,
   ok_sipush G dX9_plays_58 (by decide) rfl,
   ok_iload_n G dX9_plays_61 rfl rfl,
   ok_iadd G dX9_plays_62 rfl,
   ok_iload_n G dX9_plays_63 rfl rfl,
   ok_iast G dX9_plays_64 rfl,
   ok_iload_n G dX9_plays_65 rfl rfl,
   ok_iret G dX9_plays_66, trivial⟩

def plT (r : Int) (p k : Int) : Int := if ¬ (0 ≤ p ∧ p ≤ 1) ∨ ¬ (-1 ≤ k ∧ k ≤ r - 1) then 1 else 0
def sX9_plays : mm_Sp := fun as M Q X => ∃ S L, ∃ p k : Int, R32 p ∧ R32 k ∧ as = [.ref 0, .int (zI p), .int (zI k)] ∧ M = mZ S L ∧ -100 ≤ S 1 193 ∧ S 1 193 ≤ 100 ∧
  (plT (S 1 193) p k = 1 → Q (some (.int 0)) (mZ (mm_up S 0 0 1) L)) ∧ (plT (S 1 193) p k = 0 → Q (some (.int (zI (S 1 (199 + p).toNat)))) (mZ (mm_up (mm_up S 0 0 0) 1 (199 + p).toNat k) L))
theorem mX9_plays (l : Launch) (hl : l.stackTraces = false) : mm_Spec l yX9_plays (ws_ yX9_plays cX9_plays 4 (some .int)) (mm_rm 3 0 0) sX9_plays := by
  rintro as M Q X ⟨S, L, p, k, hp, hk, rfl, rfl, g1, g2, hQ1, hQ0⟩
  have hr : zI (S 1 193) - 1 = zI (S 1 193 - 1) := by rw [zI_n, zI_sub]
  have bad : plT (S 1 193) p k = 1 → mm_J pX9_plays (mm_ret Q X 0 0) 31 [some (.ref 0), some (.int (zI p)), some (.int (zI k)), none] [.int 1, .ref 0] (mZ S L) (0, 0) := by
    intro h
    refine mm_J.go [34] 5 ?_
    refine mm_Jm (M' := mZ (mm_up S 0 0 1) L) (by rw [zI_n, mZ_wI]) (mm_J.go [] 30 (And.intro (fun c => ?_) (fun c => ?_)))
    · exact absurd (show (1 : Int32) ≤ 0 from c) (by decide)
    · exact ⟨hQ1 h, Nat.le_refl _, Nat.le_refl _⟩
  have good : plT (S 1 193) p k = 0 → mm_J pX9_plays (mm_ret Q X 0 0) 31 [some (.ref 0), some (.int (zI p)), some (.int (zI k)), none] [.int 0, .ref 0] (mZ S L) (0, 0) := by
    intro h
    have hr : (0 ≤ p ∧ p ≤ 1) := by unfold plT at h; grind
    refine mm_J.go [34] 5 ?_
    have e : (199 : Int32) + zI p = zI (199 + p) := by rw [zI_n, zI_add]
    have e2 : ((199 : Int32) + zI p).toNatClampNeg = (199 + p).toNat := by rw [e, zI_cl (by omega) (by omega)]
    have v1 : vp_in ((199 : Int32) + zI p) 2616 := in_z e (by omega) (by omega) (by decide)
    refine mm_Jm (M' := mZ (mm_up S 0 0 0) L) (by rw [zI_n, mZ_wI]) (mm_J.go [] 30 (And.intro (fun c => ?_) (fun c => ?_)))
    · refine And.intro v1 (And.intro v1 ⟨?_, Nat.le_refl _, Nat.le_refl _⟩)
      show Q (some (.int (zI (mm_up S 0 0 0 1 ((199 : Int32) + zI p).toNatClampNeg)))) (mm_wI (mZ (mm_up S 0 0 0) L) 1 ((199 : Int32) + zI p).toNatClampNeg (zI k))
      rw [e2, mZ_wI, up_eq, if_neg (by simp)]
      exact hQ0 h
    · exact absurd (show (0 : Int32) ≤ 0 by decide) c
  refine mm_Met.J hl (by decide) (Nat.le_of_ble_eq_true rfl) (fun C G hnh => tX9_plays G hnh) (mm_J.go [31] 30 ?_)
  refine ⟨zI p, rfl, And.intro (fun c => bad ?_) (fun c => ⟨zI k, -1, zI (S 1 193) - 1, rfl, And.intro (fun d => good ?_) (fun d => bad ?_)⟩)⟩
  · have c := (isin_f (l := 0) (h := 1) hp (by decide) (by decide)).mp c
    rw [plT, if_pos (Or.inl c)]
  · have c := (isin_t (l := 0) (h := 1) hp (by decide) (by decide)).mp c
    rw [hr] at d
    have d := (isin_t (l := -1) (h := S 1 193 - 1) hk (by decide) ⟨by omega, by omega⟩).mp d
    rw [plT, if_neg (by omega)]
  · rw [hr] at d
    have d := (isin_f (l := -1) (h := S 1 193 - 1) hk (by decide) ⟨by omega, by omega⟩).mp d
    rw [plT, if_pos (Or.inr d)]
def pX9_games : mm_P := [(0, o_ald 1 0), (1, o_ild 2 1), (2, o_c 3 (.int 0)), (3, o_c 5 (.int 6)), (5, o_calls 8 3 sX9_isIn), (8, o_ifeq 11 21), (11, o_ild 12 2), (12, o_c 13 (.int 0)), (13, o_c 15 (.int 6)), (15, o_calls 18 3 sX9_isIn), (18, o_ifne 21 25), (21, o_c 22 (.int 1)), (22, o_goto 26), (25, o_c 26 (.int 0)), (26, o_puti 29 8 0), (29, o_ald 30 0), (30, o_get 33 8 0 0), (33, o_ifle 36 37), (36, o_vret), (37, o_ald 38 0), (38, o_get 41 8 2 1), (41, o_c 44 (.int 208)), (44, o_ild 45 1), (45, o_iasc 46 208), (46, o_ald 47 0), (47, o_get 50 8 2 1), (50, o_c 53 (.int 209)), (53, o_ild 54 2), (54, o_iasc 55 209), (55, o_vret)]
theorem tX9_games {C : mm_C} (G : mm_G C RX9 cX9_games none 3 (mm_rm 2 0 0)) (hnh : mm_nh C) : mm_OKs C pX9_games :=
  ⟨ok_aload_n G dX9_games_0 rfl rfl,
   ok_iload_n G dX9_games_1 rfl rfl,
   ok_iconst G dX9_games_2 (by decide) rfl,
   ok_bipush G dX9_games_3 (by decide) rfl,
   ok_calls G hnh (mX9_isIn _ G.hst) rfl rfl q1914 q1915 q93 q1916 (by decide +kernel) ⟨by decide, by decide⟩ dX9_games_5 rfl,
   ok_ifeq G dX9_games_8 rfl rfl,
   ok_iload_n G dX9_games_11 rfl rfl,
   ok_iconst G dX9_games_12 (by decide) rfl,
   ok_bipush G dX9_games_13 (by decide) rfl,
   ok_calls G hnh (mX9_isIn _ G.hst) rfl rfl q1914 q1915 q93 q1916 (by decide +kernel) ⟨by decide, by decide⟩ dX9_games_15 rfl,
   ok_ifne G dX9_games_18 rfl rfl,
   ok_iconst G dX9_games_21 (by decide) rfl,
   ok_goto G dX9_games_22 rfl,
   ok_iconst G dX9_games_25 (by decide) rfl,
   ok_puti G (idx := 67) (RX9, TX9, 32) rfl (by decide) rfl (mm_pw G (ci := 8) (k := 0) (RX9, TX9, 32) rfl (by decide) rfl q1805 dX9_games_26) rfl,
   ok_aload_n G dX9_games_29 rfl rfl,
   ok_get G (RX9, TX9, 32) rfl (by decide) rfl q1805 dX9_games_30 rfl,
   ok_ifle G dX9_games_33 rfl rfl,
   ok_vret G dX9_games_36,
   ok_aload_n G dX9_games_37 rfl rfl,
   ok_get G (RX9, TX9, 32) rfl (by decide) rfl q1806 dX9_games_38 rfl,
   ok_sipush G dX9_games_41 (by decide) rfl,
   ok_iload_n G dX9_games_44 rfl rfl,
   ok_iasc G dX9_games_45 rfl (by decide),
   ok_aload_n G dX9_games_46 rfl rfl,
   ok_get G (RX9, TX9, 32) rfl (by decide) rfl q1806 dX9_games_47 rfl,
   ok_sipush G dX9_games_50 (by decide) rfl,
   ok_iload_n G dX9_games_53 rfl rfl,
   ok_iasc G dX9_games_54 rfl (by decide),
   ok_vret G dX9_games_55, trivial⟩

def sX9_games : mm_Sp := fun as M Q X => ∃ S L, ∃ a b : Int, R32 a ∧ R32 b ∧ as = [.ref 0, .int (zI a), .int (zI b)] ∧ M = mZ S L ∧
  (¬ ((0 ≤ a ∧ a ≤ 6) ∧ (0 ≤ b ∧ b ≤ 6)) → Q none (mZ (mm_up S 0 0 1) L)) ∧ ((0 ≤ a ∧ a ≤ 6) ∧ (0 ≤ b ∧ b ≤ 6) → Q none (mZ (mm_up (mm_up (mm_up S 0 0 0) 1 208 a) 1 209 b) L))
theorem mX9_games (l : Launch) (hl : l.stackTraces = false) : mm_Spec l yX9_games (ws_ yX9_games cX9_games 3 none) (mm_rm 2 0 0) sX9_games := by
  rintro as M Q X ⟨S, L, a, b, ha, hb, rfl, rfl, hQ1, hQ0⟩
  have bad : ¬ ((0 ≤ a ∧ a ≤ 6) ∧ (0 ≤ b ∧ b ≤ 6)) → mm_J pX9_games (mm_ret Q X 0 0) 26 [some (.ref 0), some (.int (zI a)), some (.int (zI b))] [.int 1, .ref 0] (mZ S L) (0, 0) := by
    intro h
    refine mm_J.go [29] 5 ?_
    refine mm_Jm (M' := mZ (mm_up S 0 0 1) L) (by rw [zI_n, mZ_wI]) (mm_J.go [] 30 (And.intro (fun c => ?_) (fun c => ?_)))
    · exact absurd (show (1 : Int32) ≤ 0 from c) (by decide)
    · exact ⟨hQ1 h, Nat.le_refl _, Nat.le_refl _⟩
  refine mm_Met.J hl (by decide) (Nat.le_of_ble_eq_true rfl) (fun C G hnh => tX9_games G hnh) (mm_J.go [26] 30 ?_)
  refine ⟨zI a, 0, 6, rfl, And.intro (fun c => bad ?_) (fun c => ⟨zI b, 0, 6, rfl, And.intro (fun d => ?_) (fun d => bad ?_)⟩)⟩
  · have c := (isin_f (l := 0) (h := 6) ha (by decide) (by decide)).mp c
    exact fun q => c q.1
  · have c := (isin_t (l := 0) (h := 6) ha (by decide) (by decide)).mp c
    have d := (isin_t (l := 0) (h := 6) hb (by decide) (by decide)).mp d
    refine mm_J.go [29] 5 ?_
    refine mm_Jm (M' := mZ (mm_up S 0 0 0) L) (by rw [zI_n, mZ_wI]) (mm_J.go [] 30 (And.intro (fun f => ?_) (fun f => ?_)))
    · refine ⟨mm_Qm ?_ (hQ0 ⟨c, d⟩), Nat.le_refl _, Nat.le_refl _⟩
      rw [mZ_wI, mZ_wI]
    · exact absurd (show (0 : Int32) ≤ 0 by decide) f
  · have d := (isin_f (l := 0) (h := 6) hb (by decide) (by decide)).mp d
    exact fun q => d q.2
def pX9_begin : mm_P := [(0, o_ald 1 0), (1, o_ild 2 1), (2, o_c 3 (.int 0)), (3, o_c 4 (.int 3)), (4, o_calls 7 3 sX9_isIn), (7, o_ifeq 10 19), (10, o_ild 11 2), (11, o_c 12 (.int 0)), (12, o_c 13 (.int 3)), (13, o_calls 16 3 sX9_isIn), (16, o_ifne 19 23), (19, o_c 20 (.int 1)), (20, o_goto 24), (23, o_c 24 (.int 0)), (24, o_puti 27 8 0), (27, o_ald 28 0), (28, o_get 31 8 0 0), (31, o_ifle 34 35), (34, o_vret), (35, o_ald 36 0), (36, o_get 39 8 2 1), (39, o_c 42 (.int 197)), (42, o_ild 43 1), (43, o_iasc 44 197), (44, o_ald 45 0), (45, o_get 48 8 2 1), (48, o_c 51 (.int 198)), (51, o_ild 52 2), (52, o_iasc 53 198), (53, o_vret)]
theorem tX9_begin {C : mm_C} (G : mm_G C RX9 cX9_begin none 3 (mm_rm 2 0 0)) (hnh : mm_nh C) : mm_OKs C pX9_begin :=
  ⟨ok_aload_n G dX9_begin_0 rfl rfl,
   ok_iload_n G dX9_begin_1 rfl rfl,
   ok_iconst G dX9_begin_2 (by decide) rfl,
   ok_iconst G dX9_begin_3 (by decide) rfl,
   ok_calls G hnh (mX9_isIn _ G.hst) rfl rfl q1914 q1915 q93 q1916 (by decide +kernel) ⟨by decide, by decide⟩ dX9_begin_4 rfl,
   ok_ifeq G dX9_begin_7 rfl rfl,
   ok_iload_n G dX9_begin_10 rfl rfl,
   ok_iconst G dX9_begin_11 (by decide) rfl,
   ok_iconst G dX9_begin_12 (by decide) rfl,
   ok_calls G hnh (mX9_isIn _ G.hst) rfl rfl q1914 q1915 q93 q1916 (by decide +kernel) ⟨by decide, by decide⟩ dX9_begin_13 rfl,
   ok_ifne G dX9_begin_16 rfl rfl,
   ok_iconst G dX9_begin_19 (by decide) rfl,
   ok_goto G dX9_begin_20 rfl,
   ok_iconst G dX9_begin_23 (by decide) rfl,
   ok_puti G (idx := 67) (RX9, TX9, 32) rfl (by decide) rfl (mm_pw G (ci := 8) (k := 0) (RX9, TX9, 32) rfl (by decide) rfl q1805 dX9_begin_24) rfl,
   ok_aload_n G dX9_begin_27 rfl rfl,
   ok_get G (RX9, TX9, 32) rfl (by decide) rfl q1805 dX9_begin_28 rfl,
   ok_ifle G dX9_begin_31 rfl rfl,
   ok_vret G dX9_begin_34,
   ok_aload_n G dX9_begin_35 rfl rfl,
   ok_get G (RX9, TX9, 32) rfl (by decide) rfl q1806 dX9_begin_36 rfl,
   ok_sipush G dX9_begin_39 (by decide) rfl,
   ok_iload_n G dX9_begin_42 rfl rfl,
   ok_iasc G dX9_begin_43 rfl (by decide),
   ok_aload_n G dX9_begin_44 rfl rfl,
   ok_get G (RX9, TX9, 32) rfl (by decide) rfl q1806 dX9_begin_45 rfl,
   ok_sipush G dX9_begin_48 (by decide) rfl,
   ok_iload_n G dX9_begin_51 rfl rfl,
   ok_iasc G dX9_begin_52 rfl (by decide),
   ok_vret G dX9_begin_53, trivial⟩

def sX9_begin : mm_Sp := fun as M Q X => ∃ S L, ∃ a b : Int, R32 a ∧ R32 b ∧ as = [.ref 0, .int (zI a), .int (zI b)] ∧ M = mZ S L ∧
  (¬ ((0 ≤ a ∧ a ≤ 3) ∧ (0 ≤ b ∧ b ≤ 3)) → Q none (mZ (mm_up S 0 0 1) L)) ∧ ((0 ≤ a ∧ a ≤ 3) ∧ (0 ≤ b ∧ b ≤ 3) → Q none (mZ (mm_up (mm_up (mm_up S 0 0 0) 1 197 a) 1 198 b) L))
theorem mX9_begin (l : Launch) (hl : l.stackTraces = false) : mm_Spec l yX9_begin (ws_ yX9_begin cX9_begin 3 none) (mm_rm 2 0 0) sX9_begin := by
  rintro as M Q X ⟨S, L, a, b, ha, hb, rfl, rfl, hQ1, hQ0⟩
  have bad : ¬ ((0 ≤ a ∧ a ≤ 3) ∧ (0 ≤ b ∧ b ≤ 3)) → mm_J pX9_begin (mm_ret Q X 0 0) 24 [some (.ref 0), some (.int (zI a)), some (.int (zI b))] [.int 1, .ref 0] (mZ S L) (0, 0) := by
    intro h
    refine mm_J.go [27] 5 ?_
    refine mm_Jm (M' := mZ (mm_up S 0 0 1) L) (by rw [zI_n, mZ_wI]) (mm_J.go [] 30 (And.intro (fun c => ?_) (fun c => ?_)))
    · exact absurd (show (1 : Int32) ≤ 0 from c) (by decide)
    · exact ⟨hQ1 h, Nat.le_refl _, Nat.le_refl _⟩
  refine mm_Met.J hl (by decide) (Nat.le_of_ble_eq_true rfl) (fun C G hnh => tX9_begin G hnh) (mm_J.go [24] 30 ?_)
  refine ⟨zI a, 0, 3, rfl, And.intro (fun c => bad ?_) (fun c => ⟨zI b, 0, 3, rfl, And.intro (fun d => ?_) (fun d => bad ?_)⟩)⟩
  · have c := (isin_f (l := 0) (h := 3) ha (by decide) (by decide)).mp c
    exact fun q => c q.1
  · have c := (isin_t (l := 0) (h := 3) ha (by decide) (by decide)).mp c
    have d := (isin_t (l := 0) (h := 3) hb (by decide) (by decide)).mp d
    refine mm_J.go [27] 5 ?_
    refine mm_Jm (M' := mZ (mm_up S 0 0 0) L) (by rw [zI_n, mZ_wI]) (mm_J.go [] 30 (And.intro (fun f => ?_) (fun f => ?_)))
    · refine ⟨mm_Qm ?_ (hQ0 ⟨c, d⟩), Nat.le_refl _, Nat.le_refl _⟩
      rw [mZ_wI, mZ_wI]
    · exact absurd (show (0 : Int32) ≤ 0 by decide) f
  · have d := (isin_f (l := 0) (h := 3) hb (by decide) (by decide)).mp d
    exact fun q => d q.2
def pX9_fault : mm_P := [(0, o_ald 1 0), (1, o_c 2 (.int 0)), (2, o_puti 5 8 0), (5, o_ald 6 0), (6, o_get 9 8 0 10), (9, o_iret)]
theorem tX9_fault {C : mm_C} (G : mm_G C RX9 cX9_fault (some .int) 1 (mm_rm 1 0 0)) (hnh : mm_nh C) : mm_OKs C pX9_fault :=
  ⟨ok_aload_n G dX9_fault_0 rfl rfl,
   ok_iconst G dX9_fault_1 (by decide) rfl,
   ok_puti G (idx := 67) (RX9, TX9, 32) rfl (by decide) rfl (mm_pw G (ci := 8) (k := 0) (RX9, TX9, 32) rfl (by decide) rfl q1805 dX9_fault_2) rfl,
   ok_aload_n G dX9_fault_5 rfl rfl,
   ok_get G (RX9, TX9, 32) rfl (by decide) rfl q1815 dX9_fault_6 rfl,
   ok_iret G dX9_fault_9, trivial⟩

def sX9_fault : mm_Sp := fun as M Q X => ∃ S L, as = [.ref 0] ∧ M = mZ S L ∧ Q (some (.int (zI (S 0 10)))) (mZ (mm_up S 0 0 0) L)
theorem mX9_fault (l : Launch) (hl : l.stackTraces = false) : mm_Spec l yX9_fault (ws_ yX9_fault cX9_fault 1 (some .int)) (mm_rm 1 0 0) sX9_fault := by
  rintro as M Q X ⟨S, L, rfl, rfl, hQ⟩
  refine mm_Met.J hl (by decide) (Nat.le_of_ble_eq_true rfl) (fun C G hnh => tX9_fault G hnh) (mm_J.go [] 30 ?_)
  refine ⟨mm_Qm ?_ hQ, Nat.le_refl _, Nat.le_refl _⟩
  rw [zI_n, mZ_wI]
def pX9_end : mm_P := [(0, o_ald 1 0), (1, o_c 2 (.int 0)), (2, o_puti 5 8 0), (5, o_ild 6 1), (6, o_c 7 (.int 0)), (7, o_ald 8 0), (8, o_get 11 8 0 6), (11, o_calls 14 3 sX9_isIn), (14, o_ifne 17 19), (17, o_c 18 (.int 0)), (18, o_zret), (19, o_ald 20 0), (20, o_ild 21 1), (21, o_puti 24 8 6), (24, o_c 25 (.int 1)), (25, o_zret)]
theorem tX9_end {C : mm_C} (G : mm_G C RX9 cX9_end (some .boolean) 2 (mm_rm 2 0 0)) (hnh : mm_nh C) : mm_OKs C pX9_end :=
  ⟨ok_aload_n G dX9_end_0 rfl rfl,
   ok_iconst G dX9_end_1 (by decide) rfl,
   ok_puti G (idx := 67) (RX9, TX9, 32) rfl (by decide) rfl (mm_pw G (ci := 8) (k := 0) (RX9, TX9, 32) rfl (by decide) rfl q1805 dX9_end_2) rfl,
   ok_iload_n G dX9_end_5 rfl rfl,
   ok_iconst G dX9_end_6 (by decide) rfl,
   ok_aload_n G dX9_end_7 rfl rfl,
   ok_get G (RX9, TX9, 32) rfl (by decide) rfl q1811 dX9_end_8 rfl,
   ok_calls G hnh (mX9_isIn _ G.hst) rfl rfl q1914 q1915 q93 q1916 (by decide +kernel) ⟨by decide, by decide⟩ dX9_end_11 rfl,
   ok_ifne G dX9_end_14 rfl rfl,
   ok_iconst G dX9_end_17 (by decide) rfl,
   ok_zret G dX9_end_18,
   ok_aload_n G dX9_end_19 rfl rfl,
   ok_iload_n G dX9_end_20 rfl rfl,
   ok_puti G (idx := 74) (RX9, TX9, 32) rfl (by decide) rfl (mm_pw G (ci := 8) (k := 6) (RX9, TX9, 32) rfl (by decide) rfl q1811 dX9_end_21) rfl,
   ok_iconst G dX9_end_24 (by decide) rfl,
   ok_zret G dX9_end_25, trivial⟩

def sX9_end : mm_Sp := fun as M Q X => ∃ S L, ∃ n : Int, R32 n ∧ R32 (S 0 6) ∧ as = [.ref 0, .int (zI n)] ∧ M = mZ S L ∧
  (¬ (0 ≤ n ∧ n ≤ S 0 6) → Q (some (.int 0)) (mZ (mm_up S 0 0 0) L)) ∧ ((0 ≤ n ∧ n ≤ S 0 6) → Q (some (.int 1)) (mZ (mm_up (mm_up S 0 0 0) 0 6 n) L))
theorem mX9_end (l : Launch) (hl : l.stackTraces = false) : mm_Spec l yX9_end (ws_ yX9_end cX9_end 2 (some .boolean)) (mm_rm 2 0 0) sX9_end := by
  rintro as M Q X ⟨S, L, n, hn, h6, rfl, rfl, hQ0, hQ1⟩
  refine mm_Met.J hl (by decide) (Nat.le_of_ble_eq_true rfl) (fun C G hnh => tX9_end G hnh) (mm_J.go [5] 30 ?_)
  refine mm_Jm (M' := mZ (mm_up S 0 0 0) L) (by rw [zI_n, mZ_wI]) (mm_J.go [] 30 ?_)
  refine ⟨zI n, 0, zI (S 0 6), rfl, And.intro (fun c => ?_) (fun c => ?_)⟩
  · have c := (isin_t (l := 0) (h := S 0 6) hn (by decide) h6).mp c
    exact ⟨Or.inr rfl, mm_Qm (mZ_wI _ _ _ _ _) (hQ1 c), Nat.le_refl _, Nat.le_refl _⟩
  · have c := (isin_f (l := 0) (h := S 0 6) hn (by decide) h6).mp c
    exact ⟨Or.inl rfl, hQ0 c, Nat.le_refl _, Nat.le_refl _⟩
def pX9_stands : mm_P := [(0, o_ald 1 0), (1, o_ild 2 1), (2, o_c 3 (.int 0)), (3, o_c 5 (.int 9)), (5, o_calls 8 3 sX9_isIn), (8, o_ifne 11 15), (11, o_c 12 (.int 1)), (12, o_goto 16), (15, o_c 16 (.int 0)), (16, o_puti 19 8 0), (19, o_ald 20 0), (20, o_get 23 8 0 0), (23, o_ifle 26 28), (26, o_c 27 (.int 0)), (27, o_iret), (28, o_ald 29 0), (29, o_callv 32 1 8 sX9_takes), (32, o_ald 33 0), (33, o_ild 34 1), (34, o_callv 37 2 8 sX9_told), (37, o_iret)]
theorem tX9_stands {C : mm_C} (G : mm_G C RX9 cX9_stands (some .int) 2 (mm_rm 3 0 0)) (hnh : mm_nh C) : mm_OKs C pX9_stands :=
  ⟨ok_aload_n G dX9_stands_0 rfl rfl,
   ok_iload_n G dX9_stands_1 rfl rfl,
   ok_iconst G dX9_stands_2 (by decide) rfl,
   ok_bipush G dX9_stands_3 (by decide) rfl,
   ok_calls G hnh (mX9_isIn _ G.hst) rfl rfl q1914 q1915 q93 q1916 (by decide +kernel) ⟨by decide, by decide⟩ dX9_stands_5 rfl,
   ok_ifne G dX9_stands_8 rfl rfl,
   ok_iconst G dX9_stands_11 (by decide) rfl,
   ok_goto G dX9_stands_12 rfl,
   ok_iconst G dX9_stands_15 (by decide) rfl,
   ok_puti G (idx := 67) (RX9, TX9, 32) rfl (by decide) rfl (mm_pw G (ci := 8) (k := 0) (RX9, TX9, 32) rfl (by decide) rfl q1805 dX9_stands_16) rfl,
   ok_aload_n G dX9_stands_19 rfl rfl,
   ok_get G (RX9, TX9, 32) rfl (by decide) rfl q1805 dX9_stands_20 rfl,
   ok_ifle G dX9_stands_23 rfl rfl,
   ok_iconst G dX9_stands_26 (by decide) rfl,
   ok_iret G dX9_stands_27,
   ok_aload_n G dX9_stands_28 rfl rfl,
   ok_callv G hnh (mX9_takes _ G.hst) rfl rfl (RX9, TX9, 32) rfl q2034 q2036 qs55 q93 q2037 (by decide +kernel) ⟨by decide, by decide⟩ dX9_stands_29 rfl,
   ok_aload_n G dX9_stands_32 rfl rfl,
   ok_iload_n G dX9_stands_33 rfl rfl,
   ok_callv G hnh (mX9_told _ G.hst) rfl rfl (RX9, TX9, 32) rfl q2058 q2060 qs57 q93 q2061 (by decide +kernel) ⟨by decide, by decide⟩ dX9_stands_34 rfl,
   ok_iret G dX9_stands_37, trivial⟩

def sX9_stands : mm_Sp := fun as M Q X => ∃ S L, ∃ k : Int, R32 k ∧ as = [.ref 0, .int (zI k)] ∧ M = mZ S L ∧ bx (tkS S 6) ∧
  (¬ (0 ≤ k ∧ k ≤ 9) → Q (some (.int 0)) (mZ (mm_up S 0 0 1) L)) ∧ ((0 ≤ k ∧ k ≤ 9) → Q (some (.int (zI (tdR (tkS S 6) k)))) (mZ (tkS (mm_up S 0 0 0)) L))
theorem mX9_stands (l : Launch) (hl : l.stackTraces = false) : mm_Spec l yX9_stands (ws_ yX9_stands cX9_stands 2 (some .int)) (mm_rm 3 0 0) sX9_stands := by
  rintro as M Q X ⟨S, L, k, hk, rfl, rfl, hb, hQ1, hQ0⟩
  refine mm_Met.J hl (by decide) (Nat.le_of_ble_eq_true rfl) (fun C G hnh => tX9_stands G hnh) (mm_J.go [16] 30 ?_)
  refine ⟨zI k, 0, 9, rfl, And.intro (fun c => ?_) (fun c => ?_)⟩
  · have c := (isin_t (l := 0) (h := 9) hk (by decide) (by decide)).mp c
    refine mm_J.go [19] 5 ?_
    refine mm_Jm (M' := mZ (mm_up S 0 0 0) L) (by rw [zI_n, mZ_wI]) (mm_J.go [] 30 (And.intro (fun f => ?_) (fun f => ?_)))
    · have e6 : tkS (mm_up S 0 0 0) 6 = tkS S 6 := by
        funext j
        grind [tkS_at, up_eq]
      refine ⟨_, L, rfl, rfl, _, L, k, c.1, c.2, rfl, rfl, by rw [e6]; exact hb, ?_, Nat.le_refl _, Nat.le_refl _⟩
      rw [e6]
      exact hQ0 c
    · exact absurd (show (0 : Int32) ≤ 0 by decide) f
  · have c := (isin_f (l := 0) (h := 9) hk (by decide) (by decide)).mp c
    refine mm_J.go [19] 5 ?_
    refine mm_Jm (M' := mZ (mm_up S 0 0 1) L) (by rw [zI_n, mZ_wI]) (mm_J.go [] 30 (And.intro (fun f => ?_) (fun f => ?_)))
    · exact absurd (show (1 : Int32) ≤ 0 from f) (by decide)
    · exact ⟨hQ1 c, Nat.le_refl _, Nat.le_refl _⟩
