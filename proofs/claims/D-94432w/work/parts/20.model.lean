/-! ===== the model's methods ===== -/
set_option maxRecDepth 100000
def mM (I : Nat → Nat → Int32) (J : Nat → Nat → Int64) : mm_M := (mS, I, J, mP)
def bz (b : Bool) : Int32 := bif b then 1 else 0
def pX9_isIn : mm_P := [(0, o_ild 1 0), (1, o_ild 2 1), (2, o_clt 5 14), (5, o_ild 6 0), (6, o_ild 7 2), (7, o_cgt 10 14), (10, o_c 11 (.int 1)), (11, o_goto 15), (14, o_c 15 (.int 0)), (15, o_zret)]
theorem tX9_isIn {C : mm_C} (G : mm_G C RX9 cX9_isIn (some .boolean) 3 (mm_rm 1 0 0)) (hnh : mm_nh C) : mm_OKs C pX9_isIn :=
  ⟨ok_iload_n G dX9_isIn_0 rfl rfl,
   ok_iload_n G dX9_isIn_1 rfl rfl,
   ok_clt G dX9_isIn_2 rfl rfl,
   ok_iload_n G dX9_isIn_5 rfl rfl,
   ok_iload_n G dX9_isIn_6 rfl rfl,
   ok_cgt G dX9_isIn_7 rfl rfl,
   ok_iconst G dX9_isIn_10 (by decide) rfl,
   ok_goto G dX9_isIn_11 rfl,
   ok_iconst G dX9_isIn_14 (by decide) rfl,
   ok_zret G dX9_isIn_15, trivial⟩

def sX9_isIn : mm_Sp := fun as M Q X => ∃ v lo hi, as = [.int v, .int lo, .int hi] ∧ Q (some (.int (bz (decide (lo ≤ v) && decide (v ≤ hi))))) M
theorem mX9_isIn (l : Launch) (hl : l.stackTraces = false) : mm_Spec l yX9_isIn (ws_ yX9_isIn cX9_isIn 3 (some .boolean)) (mm_rm 1 0 0) sX9_isIn := by
  rintro as M Q X ⟨v, lo, hi, rfl, hQ⟩
  refine mm_Met.J hl (by decide) (Nat.le_of_ble_eq_true rfl) (fun C G hnh => tX9_isIn G hnh) (mm_J.go [] 20 ?_)
  refine And.intro (fun h => ?_) (fun h => And.intro (fun h2 => ?_) (fun h2 => ?_))
  · refine ⟨Or.inl rfl, ?_, Nat.le_refl _, Nat.le_refl _⟩
    have e : (decide (lo ≤ v) && decide (v ≤ hi)) = false := by simp [Int32.not_le.mpr h]
    rw [e] at hQ
    exact hQ
  · refine ⟨Or.inl rfl, ?_, Nat.le_refl _, Nat.le_refl _⟩
    have e : (decide (lo ≤ v) && decide (v ≤ hi)) = false := by simp [Int32.not_le.mpr h2]
    rw [e] at hQ
    exact hQ
  · refine ⟨Or.inr rfl, ?_, Nat.le_refl _, Nat.le_refl _⟩
    have e : (decide (lo ≤ v) && decide (v ≤ hi)) = true := by simp [Int32.not_lt.mp h, Int32.not_lt.mp h2]
    rw [e] at hQ
    exact hQ
def pX9_thrown : mm_P := [(0, o_ald 1 0), (1, o_get 4 8 0 0), (4, o_iret)]
theorem tX9_thrown {C : mm_C} (G : mm_G C RX9 cX9_thrown (some .int) 1 (mm_rm 1 0 0)) (hnh : mm_nh C) : mm_OKs C pX9_thrown :=
  ⟨ok_aload_n G dX9_thrown_0 rfl rfl,
   ok_get G (RX9, TX9, 32) rfl (by decide) rfl q1805 dX9_thrown_1 rfl,
   ok_iret G dX9_thrown_4, trivial⟩

def sX9_thrown : mm_Sp := fun as M Q X => ∃ I J, as = [.ref 0] ∧ M = mM I J ∧ Q (some (.int (I 0 0))) (mM I J)
theorem mX9_thrown (l : Launch) (hl : l.stackTraces = false) : mm_Spec l yX9_thrown (ws_ yX9_thrown cX9_thrown 1 (some .int)) (mm_rm 1 0 0) sX9_thrown := by
  rintro as M Q X ⟨I, J, rfl, rfl, hQ⟩
  refine mm_Met.J hl (by decide) (Nat.le_of_ble_eq_true rfl) (fun C G hnh => tX9_thrown G hnh) (mm_J.go [] 20 ?_)
  exact ⟨hQ, Nat.le_refl _, Nat.le_refl _⟩
def pX9_isPlayer : mm_P := [(0, o_ild 1 0), (1, o_c 2 (.int 0)), (2, o_c 3 (.int 1)), (3, o_calls 6 3 sX9_isIn), (6, o_zret)]
theorem tX9_isPlayer {C : mm_C} (G : mm_G C RX9 cX9_isPlayer (some .boolean) 1 (mm_rm 2 0 0)) (hnh : mm_nh C) : mm_OKs C pX9_isPlayer :=
  ⟨ok_iload_n G dX9_isPlayer_0 rfl rfl,
   ok_iconst G dX9_isPlayer_1 (by decide) rfl,
   ok_iconst G dX9_isPlayer_2 (by decide) rfl,
   ok_calls G hnh (mX9_isIn _ G.hst) rfl rfl q1914 q1915 q93 q1916 (by decide +kernel) ⟨by decide, by decide⟩ dX9_isPlayer_3 rfl,
   ok_zret G dX9_isPlayer_6, trivial⟩

def sX9_isPlayer : mm_Sp := fun as M Q X => ∃ v, as = [.int v] ∧ Q (some (.int (bz (decide (0 ≤ v) && decide (v ≤ 1))))) M
theorem bz01 (b : Bool) : bz b = 0 ∨ bz b = 1 := by cases b <;> decide
theorem mX9_isPlayer (l : Launch) (hl : l.stackTraces = false) : mm_Spec l yX9_isPlayer (ws_ yX9_isPlayer cX9_isPlayer 1 (some .boolean)) (mm_rm 2 0 0) sX9_isPlayer := by
  rintro as M Q X ⟨v, rfl, hQ⟩
  refine mm_Met.J hl (by decide) (Nat.le_of_ble_eq_true rfl) (fun C G hnh => tX9_isPlayer G hnh) (mm_J.go [] 20 ?_)
  exact ⟨v, 0, 1, rfl, bz01 _, hQ, Nat.le_refl _, Nat.le_refl _⟩
/-- the model's memory by whole numbers -/
def mZ (S L : Nat → Nat → Int) : mm_M := mM (zS S) (zJ L)
theorem mZ_wI (S L : Nat → Nat → Int) (h k : Nat) (v : Int) : mm_wI (mZ S L) h k (zI v) = mZ (mm_up S h k v) L := by
  show mM (mm_up (zS S) h k (zI v)) (zJ L) = _
  rw [zS_up]
  rfl
theorem mM_wI (I : Nat → Nat → Int32) (J : Nat → Nat → Int64) (h k : Nat) (v : Int32) : mm_wI (mM I J) h k v = mM (mm_up I h k v) J := rfl
theorem mM_wJ (I : Nat → Nat → Int32) (J : Nat → Nat → Int64) (h k : Nat) (v : Int64) : mm_wJ (mM I J) h k v = mM I (mm_up J h k v) := rfl
theorem mZ_I (S L : Nat → Nat → Int) (h k : Nat) : (mZ S L).2.1 h k = zI (S h k) := rfl
theorem mm_Jm {c : mm_P} {K : mm_K} {pc : Nat} {lv : mm_L} {st : List Value} {M M' : mm_M} {N : mm_N} (e : M = M') (h : mm_J c K pc lv st M' N) : mm_J c K pc lv st M N := e ▸ h
theorem mm_Jl {c : mm_P} {K : mm_K} {pc : Nat} {lv lv' : mm_L} {st : List Value} {M : mm_M} {N : mm_N} (e : lv = lv') (h : mm_J c K pc lv' st M N) : mm_J c K pc lv st M N := e ▸ h
theorem mm_Jx {c : mm_P} {K : mm_K} {pc : Nat} {lv : mm_L} {st st' : List Value} {M : mm_M} {N : mm_N} (e : st = st') (h : mm_J c K pc lv st' M N) : mm_J c K pc lv st M N := e ▸ h
theorem mm_Qm {Q : Option Value → mm_M → Prop} {r : Option Value} {M M' : mm_M} (e : M = M') (h : Q r M') : Q r M := e ▸ h
theorem mm_Rm {c : mm_P} {stops : List Nat} {K : mm_K} {n pc : Nat} {lv : mm_L} {st : List Value} {M M' : mm_M} {N : mm_N} (e : M = M') (h : mm_run c stops K n pc lv st M' N) : mm_run c stops K n pc lv st M N := e ▸ h
theorem mZ_c {S S' L L' : Nat → Nat → Int} (e : S = S') (e2 : L = L') : mZ S L = mZ S' L' := by rw [e, e2]
def bx (f : Nat → Int) : Prop := ∀ j, -100 ≤ f j ∧ f j ≤ 100
def ru (x : Nat → Int) (k : Nat) (v : Int) : Nat → Int := fun j => if j = k then v else x j
/-- the score that is worked with is set, with winner and pointOf -/
def sx (S : Nat → Nat → Int) (x : Nat → Int) (w p : Int) : Nat → Nat → Int := fun h k => if h = 6 then x k else if h = 0 ∧ k = 17 then w else if h = 0 ∧ k = 18 then p else S h k
theorem sx_at (S : Nat → Nat → Int) (x : Nat → Int) (w p : Int) (h k : Nat) : sx S x w p h k = if h = 6 then x k else if h = 0 ∧ k = 17 then w else if h = 0 ∧ k = 18 then p else S h k := rfl
theorem ru_at (x : Nat → Int) (k : Nat) (v : Int) (j : Nat) : ru x k v j = if j = k then v else x j := rfl
theorem sx_6 (S : Nat → Nat → Int) (x : Nat → Int) (w p : Int) : sx S x w p 6 = x := by funext k; simp [sx]
theorem sx_1 (S : Nat → Nat → Int) (x : Nat → Int) (w p : Int) : sx S x w p 1 = S 1 := by funext k; simp [sx]
theorem sx_0 (S : Nat → Nat → Int) (x : Nat → Int) (w p : Int) (k : Nat) (h1 : k ≠ 17) (h2 : k ≠ 18) : sx S x w p 0 k = S 0 k := by simp [sx, h1, h2]
theorem sx_17 (S : Nat → Nat → Int) (x : Nat → Int) (w p : Int) : sx S x w p 0 17 = w := by simp [sx]
theorem sx_18 (S : Nat → Nat → Int) (x : Nat → Int) (w p : Int) : sx S x w p 0 18 = p := by simp [sx]
theorem sx_sx (S : Nat → Nat → Int) (x x' : Nat → Int) (w p w' p' : Int) : sx (sx S x w p) x' w' p' = sx S x' w' p' := by
  funext h k
  grind [sx_at]
def pX9_takes : mm_P := [(0, o_c 1 (.int 0)), (1, o_ist 2 1), (2, o_ild 3 1), (3, o_c 5 (.int 9)), (5, o_cge 8 30), (8, o_ald 9 0), (9, o_get 12 8 2 16), (12, o_ild 13 1), (13, o_ald 14 0), (14, o_get 17 8 2 1), (17, o_c 20 (.int 201)), (20, o_ild 21 1), (21, o_iadd 22), (22, o_iald 23), (23, o_iast 24), (24, o_inc 27 1 1), (27, o_goto 2), (30, o_vret)]
theorem tX9_takes {C : mm_C} (G : mm_G C RX9 cX9_takes none 2 (mm_rm 1 0 0)) (hnh : mm_nh C) : mm_OKs C pX9_takes :=
  ⟨ok_iconst G dX9_takes_0 (by decide) rfl,
   ok_istore_n G dX9_takes_1 rfl rfl (by decide),
   ok_iload_n G dX9_takes_2 rfl rfl,
   ok_bipush G dX9_takes_3 (by decide) rfl,
   ok_cge G dX9_takes_5 rfl rfl,
   ok_aload_n G dX9_takes_8 rfl rfl,
   ok_get G (RX9, TX9, 32) rfl (by decide) rfl q1821 dX9_takes_9 rfl,
   ok_iload_n G dX9_takes_12 rfl rfl,
   ok_aload_n G dX9_takes_13 rfl rfl,
   ok_get G (RX9, TX9, 32) rfl (by decide) rfl q1806 dX9_takes_14 rfl,
   ok_sipush G dX9_takes_17 (by decide) rfl,
   ok_iload_n G dX9_takes_20 rfl rfl,
   ok_iadd G dX9_takes_21 rfl,
   ok_iald G dX9_takes_22 rfl,
   ok_iast G dX9_takes_23 rfl,
   ok_iinc G dX9_takes_24 (by decide) rfl (by decide),
   ok_goto G dX9_takes_27 rfl,
   ok_vret G dX9_takes_30, trivial⟩

def tkS (S : Nat → Nat → Int) : Nat → Nat → Int := fun h k => if h = 6 ∧ k < 9 then S 1 (201 + k) else S h k
def sX9_takes : mm_Sp := fun as M Q X => ∃ S L, as = [.ref 0] ∧ M = mZ S L ∧ Q none (mZ (tkS S) L)
theorem lX9_takes {Q : Option Value → mm_M → Prop} {X : String → mm_M → Prop} {S0 L : Nat → Nat → Int} (hQ : Q none (mZ (tkS S0) L)) : ∀ (n i : Nat) (S : Nat → Nat → Int), i + n = 9 → S = (fun h k => if h = 6 ∧ k < i then S0 1 (201 + k) else S0 h k) → mm_J pX9_takes (mm_ret Q X 0 0) 2 [some (.ref 0), some (.int (zI i))] [] (mZ S L) (0, 0)
  | 0, i, S, hi, hS => by
    refine mm_J.go [2] 20 ?_
    have e : i = 9 := by omega
    refine And.intro (fun h => ?_) (fun h => ?_)
    · refine ⟨?_, Nat.le_refl _, Nat.le_refl _⟩
      rw [hS, e]
      exact hQ
    · exfalso
      simp (disch := omega) only [zI_n, zI_le] at h
      omega
  | n + 1, i, S, hi, hS => by
    refine mm_J.go [2] 20 ?_
    refine And.intro (fun h => ?_) (fun h => ?_)
    · exfalso
      simp (disch := omega) only [zI_n, zI_le] at h
      omega
    · refine ⟨(?_ : vp_in _ 2616), (?_ : vp_in _ 9), ?_⟩
      · rw [zI_n, zI_add]
        exact zI_in (by omega) (by omega) (by decide)
      · exact zI_in (by omega) (by omega) (by decide)
      · have h1 := lX9_takes (X := X) hQ n (i + 1) (mm_up S 6 i (S 1 (201 + i))) (by omega) (by
          rw [hS]
          funext h k
          grind [up_eq])
        show mm_J pX9_takes (mm_ret Q X 0 0) 2 [some (.ref 0), some (.int (zI i + 1))] [] (mM (mm_up (zS S) 6 (zI i).toNatClampNeg (zI (S 1 ((201 : Int32) + zI i).toNatClampNeg))) (zJ L)) (0, 0)
        rw [zI_n, zI_n, zI_add, zI_add, zI_cl (by omega) (by omega), zI_cl (by omega) (by omega), zS_up]
        have e1 : (201 + (i : Int)).toNat = 201 + i := by omega
        have e2 : ((i : Int)).toNat = i := by omega
        rw [e1, e2]
        exact h1
theorem mX9_takes (l : Launch) (hl : l.stackTraces = false) : mm_Spec l yX9_takes (ws_ yX9_takes cX9_takes 2 none) (mm_rm 1 0 0) sX9_takes := by
  rintro as M Q X ⟨S, L, rfl, rfl, hQ⟩
  refine mm_Met.J hl (by decide) (Nat.le_of_ble_eq_true rfl) (fun C G hnh => tX9_takes G hnh) (mm_J.go [2] 20 ?_)
  exact lX9_takes hQ 9 0 S rfl (by
    funext h k
    grind)
def pX9_wouldWin : mm_P := [(0, o_ald 1 0), (1, o_get 4 8 2 16), (4, o_ild 5 1), (5, o_iald 6), (6, o_c 7 (.int 1)), (7, o_iadd 8), (8, o_c 9 (.int 4)), (9, o_clt 12 37), (12, o_ald 13 0), (13, o_get 16 8 2 16), (16, o_ild 17 1), (17, o_iald 18), (18, o_c 19 (.int 1)), (19, o_iadd 20), (20, o_ald 21 0), (21, o_get 24 8 2 16), (24, o_c 25 (.int 1)), (25, o_ild 26 1), (26, o_isub 27), (27, o_iald 28), (28, o_isub 29), (29, o_c 30 (.int 2)), (30, o_clt 33 37), (33, o_c 34 (.int 1)), (34, o_goto 38), (37, o_c 38 (.int 0)), (38, o_zret)]
theorem tX9_wouldWin {C : mm_C} (G : mm_G C RX9 cX9_wouldWin (some .boolean) 2 (mm_rm 1 0 0)) (hnh : mm_nh C) : mm_OKs C pX9_wouldWin :=
  ⟨ok_aload_n G dX9_wouldWin_0 rfl rfl,
   ok_get G (RX9, TX9, 32) rfl (by decide) rfl q1821 dX9_wouldWin_1 rfl,
   ok_iload_n G dX9_wouldWin_4 rfl rfl,
   ok_iald G dX9_wouldWin_5 rfl,
   ok_iconst G dX9_wouldWin_6 (by decide) rfl,
   ok_iadd G dX9_wouldWin_7 rfl,
   ok_iconst G dX9_wouldWin_8 (by decide) rfl,
   ok_clt G dX9_wouldWin_9 rfl rfl,
   ok_aload_n G dX9_wouldWin_12 rfl rfl,
   ok_get G (RX9, TX9, 32) rfl (by decide) rfl q1821 dX9_wouldWin_13 rfl,
   ok_iload_n G dX9_wouldWin_16 rfl rfl,
   ok_iald G dX9_wouldWin_17 rfl,
   ok_iconst G dX9_wouldWin_18 (by decide) rfl,
   ok_iadd G dX9_wouldWin_19 rfl,
   ok_aload_n G dX9_wouldWin_20 rfl rfl,
   ok_get G (RX9, TX9, 32) rfl (by decide) rfl q1821 dX9_wouldWin_21 rfl,
   ok_iconst G dX9_wouldWin_24 (by decide) rfl,
   ok_iload_n G dX9_wouldWin_25 rfl rfl,
   ok_isub G dX9_wouldWin_26 rfl,
   ok_iald G dX9_wouldWin_27 rfl,
   ok_isub G dX9_wouldWin_28 rfl,
   ok_iconst G dX9_wouldWin_29 (by decide) rfl,
   ok_clt G dX9_wouldWin_30 rfl rfl,
   ok_iconst G dX9_wouldWin_33 (by decide) rfl,
   ok_goto G dX9_wouldWin_34 rfl,
   ok_iconst G dX9_wouldWin_37 (by decide) rfl,
   ok_zret G dX9_wouldWin_38, trivial⟩

def wW (x : Nat → Int) (p : Nat) : Bool := decide (4 ≤ x p + 1) && decide (2 ≤ x p + 1 - x (1 - p))
def sX9_wouldWin : mm_Sp := fun as M Q X => ∃ S L, ∃ p : Nat, p < 2 ∧ as = [.ref 0, .int (zI p)] ∧ M = mZ S L ∧ bx (S 6) ∧ Q (some (.int (bz (wW (S 6) p)))) (mZ S L)
theorem bzT {Q : Option Value → mm_M → Prop} {M : mm_M} {b : Bool} (hQ : Q (some (.int (bz b))) M) (h : b = true) : Q (some (.int 1)) M := by rw [h] at hQ; exact hQ
theorem bzF {Q : Option Value → mm_M → Prop} {M : mm_M} {b : Bool} (hQ : Q (some (.int (bz b))) M) (h : b = false) : Q (some (.int 0)) M := by rw [h] at hQ; exact hQ
theorem bz0 {b : Bool} : bz b = 0 ↔ b = false := by cases b <;> decide
theorem bz1 {b : Bool} : ¬ bz b = 0 ↔ b = true := by cases b <;> decide
theorem wW_t {x : Nat → Int} {p : Nat} : wW x p = true ↔ 4 ≤ x p + 1 ∧ 2 ≤ x p + 1 - x (1 - p) := by simp [wW]
theorem wW_f {x : Nat → Int} {p : Nat} : wW x p = false ↔ ¬ (4 ≤ x p + 1 ∧ 2 ≤ x p + 1 - x (1 - p)) := by rw [← wW_t]; simp
theorem mX9_wouldWin (l : Launch) (hl : l.stackTraces = false) : mm_Spec l yX9_wouldWin (ws_ yX9_wouldWin cX9_wouldWin 2 (some .boolean)) (mm_rm 1 0 0) sX9_wouldWin := by
  rintro as M Q X ⟨S, L, p, hp, rfl, rfl, hb, hQ⟩
  have h1 := hb p
  have h2 := hb (1 - p)
  refine mm_Met.J hl (by decide) (Nat.le_of_ble_eq_true rfl) (fun C G hnh => tX9_wouldWin G hnh) (mm_J.go [] 40 ?_)
  have e1 : (zI (p : Int)).toNatClampNeg = p := cl_z rfl rfl (by omega)
  have e2 : ((1 : Int32) - zI (p : Int)).toNatClampNeg = 1 - p := cl_z (z := 1 - p) (by rw [zI_n, zI_sub]) (by omega) (by omega)
  have v1 : vp_in (zI (p : Int)) 9 := zI_in (by omega) (by omega) (by decide)
  have v2 : vp_in ((1 : Int32) - zI (p : Int)) 9 := in_z (z := 1 - p) (by rw [zI_n, zI_sub]) (by omega) (by omega) (by decide)
  refine And.intro v1 (And.intro (fun h => ?_) (fun h => And.intro v1 (And.intro v2 (And.intro (fun h3 => ?_) (fun h3 => ?_)))))
  · have h : zI (S 6 (zI (p : Int)).toNatClampNeg) + 1 < 4 := h
    simp (disch := omega) only [e1, zI_n, zI_add, zI_lt] at h
    exact ⟨Or.inl rfl, bzF hQ (wW_f.mpr (by omega)), Nat.le_refl _, Nat.le_refl _⟩
  · have h : ¬ zI (S 6 (zI (p : Int)).toNatClampNeg) + 1 < 4 := h
    have h3 : zI (S 6 (zI (p : Int)).toNatClampNeg) + 1 - zI (S 6 ((1 : Int32) - zI (p : Int)).toNatClampNeg) < 2 := h3
    rw [e1, e2] at h3
    simp (disch := omega) only [e1, zI_n, zI_add, zI_sub, zI_lt] at h h3
    exact ⟨Or.inl rfl, bzF hQ (wW_f.mpr (by omega)), Nat.le_refl _, Nat.le_refl _⟩
  · have h : ¬ zI (S 6 (zI (p : Int)).toNatClampNeg) + 1 < 4 := h
    have h3 : ¬ zI (S 6 (zI (p : Int)).toNatClampNeg) + 1 - zI (S 6 ((1 : Int32) - zI (p : Int)).toNatClampNeg) < 2 := h3
    rw [e1, e2] at h3
    simp (disch := omega) only [e1, zI_n, zI_add, zI_sub, zI_lt] at h h3
    exact ⟨Or.inr rfl, bzT hQ (wW_t.mpr (by omega)), Nat.le_refl _, Nat.le_refl _⟩
def pX9_isOver : mm_P := [(0, o_ald 1 0), (1, o_get 4 8 2 16), (4, o_c 6 (.int 7)), (6, o_ialc 7 7), (7, o_ald 8 0), (8, o_get 11 8 2 1), (11, o_c 14 (.int 194)), (14, o_ialc 15 194), (15, o_cge 18 36), (18, o_ald 19 0), (19, o_get 22 8 2 16), (22, o_c 24 (.int 8)), (24, o_ialc 25 8), (25, o_ald 26 0), (26, o_get 29 8 2 1), (29, o_c 32 (.int 194)), (32, o_ialc 33 194), (33, o_clt 36 40), (36, o_c 37 (.int 1)), (37, o_goto 41), (40, o_c 41 (.int 0)), (41, o_zret)]
theorem tX9_isOver {C : mm_C} (G : mm_G C RX9 cX9_isOver (some .boolean) 1 (mm_rm 1 0 0)) (hnh : mm_nh C) : mm_OKs C pX9_isOver :=
  ⟨ok_aload_n G dX9_isOver_0 rfl rfl,
   ok_get G (RX9, TX9, 32) rfl (by decide) rfl q1821 dX9_isOver_1 rfl,
   ok_bipush G dX9_isOver_4 (by decide) rfl,
   ok_ialc G dX9_isOver_6 rfl (by decide),
   ok_aload_n G dX9_isOver_7 rfl rfl,
   ok_get G (RX9, TX9, 32) rfl (by decide) rfl q1806 dX9_isOver_8 rfl,
   ok_sipush G dX9_isOver_11 (by decide) rfl,
   ok_ialc G dX9_isOver_14 rfl (by decide),
   ok_cge G dX9_isOver_15 rfl rfl,
   ok_aload_n G dX9_isOver_18 rfl rfl,
   ok_get G (RX9, TX9, 32) rfl (by decide) rfl q1821 dX9_isOver_19 rfl,
   ok_bipush G dX9_isOver_22 (by decide) rfl,
   ok_ialc G dX9_isOver_24 rfl (by decide),
   ok_aload_n G dX9_isOver_25 rfl rfl,
   ok_get G (RX9, TX9, 32) rfl (by decide) rfl q1806 dX9_isOver_26 rfl,
   ok_sipush G dX9_isOver_29 (by decide) rfl,
   ok_ialc G dX9_isOver_32 rfl (by decide),
   ok_clt G dX9_isOver_33 rfl rfl,
   ok_iconst G dX9_isOver_36 (by decide) rfl,
   ok_goto G dX9_isOver_37 rfl,
   ok_iconst G dX9_isOver_40 (by decide) rfl,
   ok_zret G dX9_isOver_41, trivial⟩

def ovR (g : Int) (x : Nat → Int) : Bool := decide (g ≤ x 7) || decide (g ≤ x 8)
def sX9_isOver : mm_Sp := fun as M Q X => ∃ S L, as = [.ref 0] ∧ M = mZ S L ∧ bx (S 6) ∧ -100 ≤ S 1 194 ∧ S 1 194 ≤ 100 ∧ Q (some (.int (bz (ovR (S 1 194) (S 6))))) (mZ S L)
theorem mX9_isOver (l : Launch) (hl : l.stackTraces = false) : mm_Spec l yX9_isOver (ws_ yX9_isOver cX9_isOver 1 (some .boolean)) (mm_rm 1 0 0) sX9_isOver := by
  rintro as M Q X ⟨S, L, rfl, rfl, hb, g1, g2, hQ⟩
  have h1 := hb 7
  have h2 := hb 8
  refine mm_Met.J hl (by decide) (Nat.le_of_ble_eq_true rfl) (fun C G hnh => tX9_isOver G hnh) (mm_J.go [] 40 ?_)
  refine And.intro (fun h => ?_) (fun h => And.intro (fun h3 => ?_) (fun h3 => ?_))
  · have h : zI (S 1 194) ≤ zI (S 6 7) := h
    simp (disch := omega) only [zI_le] at h
    exact ⟨Or.inr rfl, bzT hQ (by simp [ovR]; omega), Nat.le_refl _, Nat.le_refl _⟩
  · have h : ¬ zI (S 1 194) ≤ zI (S 6 7) := h
    have h3 : zI (S 6 8) < zI (S 1 194) := h3
    simp (disch := omega) only [zI_le, zI_lt] at h h3
    exact ⟨Or.inl rfl, bzF hQ (by simp [ovR]; omega), Nat.le_refl _, Nat.le_refl _⟩
  · have h3 : ¬ zI (S 6 8) < zI (S 1 194) := h3
    simp (disch := omega) only [zI_le, zI_lt] at h3
    exact ⟨Or.inr rfl, bzT hQ (by simp [ovR]; omega), Nat.le_refl _, Nat.le_refl _⟩
def pX9_point : mm_P := [(0, o_ald 1 0), (1, o_ild 2 1), (2, o_puti 5 8 18), (5, o_ald 6 0), (6, o_get 9 8 2 16), (9, o_ild 10 1), (10, o_dup2 11), (11, o_iald 12), (12, o_c 13 (.int 1)), (13, o_iadd 14), (14, o_iast 15), (15, o_ald 16 0), (16, o_get 19 8 2 16), (19, o_c 20 (.int 0)), (20, o_ialc 21 0), (21, o_c 22 (.int 4)), (22, o_cne 25 49), (25, o_ald 26 0), (26, o_get 29 8 2 16), (29, o_c 30 (.int 1)), (30, o_ialc 31 1), (31, o_c 32 (.int 4)), (32, o_cne 35 49), (35, o_ald 36 0), (36, o_get 39 8 2 16), (39, o_c 40 (.int 0)), (40, o_c 41 (.int 3)), (41, o_iasc 42 0), (42, o_ald 43 0), (43, o_get 46 8 2 16), (46, o_c 47 (.int 1)), (47, o_c 48 (.int 3)), (48, o_iasc 49 1), (49, o_ald 50 0), (50, o_get 53 8 2 16), (53, o_ild 54 1), (54, o_iald 55), (55, o_c 56 (.int 4)), (56, o_clt 59 78), (59, o_ald 60 0), (60, o_get 63 8 2 16), (63, o_ild 64 1), (64, o_iald 65), (65, o_ald 66 0), (66, o_get 69 8 2 16), (69, o_c 70 (.int 1)), (70, o_ild 71 1), (71, o_isub 72), (72, o_iald 73), (73, o_isub 74), (74, o_c 75 (.int 2)), (75, o_cge 78 79), (78, o_vret), (79, o_ald 80 0), (80, o_ild 81 1), (81, o_puti 84 8 17), (84, o_ald 85 0), (85, o_get 88 8 2 16), (88, o_c 90 (.int 7)), (90, o_ild 91 1), (91, o_iadd 92), (92, o_dup2 93), (93, o_iald 94), (94, o_c 95 (.int 1)), (95, o_iadd 96), (96, o_iast 97), (97, o_ald 98 0), (98, o_get 101 8 2 16), (101, o_c 102 (.int 0)), (102, o_ald 103 0), (103, o_get 106 8 2 1), (106, o_c 109 (.int 197)), (109, o_ialc 110 197), (110, o_ineg 111), (111, o_iasc 112 0), (112, o_ald 113 0), (113, o_get 116 8 2 16), (116, o_c 117 (.int 1)), (117, o_ald 118 0), (118, o_get 121 8 2 1), (121, o_c 124 (.int 198)), (124, o_ialc 125 198), (125, o_iasc 126 1), (126, o_ald 127 0), (127, o_get 130 8 2 16), (130, o_c 131 (.int 3)), (131, o_c 132 (.int 0)), (132, o_iasc 133 3), (133, o_ald 134 0), (134, o_get 137 8 2 16), (137, o_c 139 (.int 6)), (139, o_c 140 (.int 0)), (140, o_iasc 141 6), (141, o_vret)]
theorem tX9_point {C : mm_C} (G : mm_G C RX9 cX9_point none 2 (mm_rm 1 0 0)) (hnh : mm_nh C) : mm_OKs C pX9_point :=
  ⟨ok_aload_n G dX9_point_0 rfl rfl,
   ok_iload_n G dX9_point_1 rfl rfl,
   ok_puti G (idx := 212) (RX9, TX9, 32) rfl (by decide) rfl (mm_pw G (ci := 8) (k := 18) (RX9, TX9, 32) rfl (by decide) rfl q1823 dX9_point_2) rfl,
   ok_aload_n G dX9_point_5 rfl rfl,
   ok_get G (RX9, TX9, 32) rfl (by decide) rfl q1821 dX9_point_6 rfl,
   ok_iload_n G dX9_point_9 rfl rfl,
   ok_dup2 G dX9_point_10 rfl,
   ok_iald G dX9_point_11 rfl,
   ok_iconst G dX9_point_12 (by decide) rfl,
   ok_iadd G dX9_point_13 rfl,
   ok_iast G dX9_point_14 rfl,
   ok_aload_n G dX9_point_15 rfl rfl,
   ok_get G (RX9, TX9, 32) rfl (by decide) rfl q1821 dX9_point_16 rfl,
   ok_iconst G dX9_point_19 (by decide) rfl,
   ok_ialc G dX9_point_20 rfl (by decide),
   ok_iconst G dX9_point_21 (by decide) rfl,
   ok_cne G dX9_point_22 rfl rfl,
   ok_aload_n G dX9_point_25 rfl rfl,
   ok_get G (RX9, TX9, 32) rfl (by decide) rfl q1821 dX9_point_26 rfl,
   ok_iconst G dX9_point_29 (by decide) rfl,
   ok_ialc G dX9_point_30 rfl (by decide),
   ok_iconst G dX9_point_31 (by decide) rfl,
   ok_cne G dX9_point_32 rfl rfl,
   ok_aload_n G dX9_point_35 rfl rfl,
   ok_get G (RX9, TX9, 32) rfl (by decide) rfl q1821 dX9_point_36 rfl,
   ok_iconst G dX9_point_39 (by decide) rfl,
   ok_iconst G dX9_point_40 (by decide) rfl,
   ok_iasc G dX9_point_41 rfl (by decide),
   ok_aload_n G dX9_point_42 rfl rfl,
   ok_get G (RX9, TX9, 32) rfl (by decide) rfl q1821 dX9_point_43 rfl,
   ok_iconst G dX9_point_46 (by decide) rfl,
   ok_iconst G dX9_point_47 (by decide) rfl,
   ok_iasc G dX9_point_48 rfl (by decide),
   ok_aload_n G dX9_point_49 rfl rfl,
   ok_get G (RX9, TX9, 32) rfl (by decide) rfl q1821 dX9_point_50 rfl,
   ok_iload_n G dX9_point_53 rfl rfl,
   ok_iald G dX9_point_54 rfl,
   ok_iconst G dX9_point_55 (by decide) rfl,
   ok_clt G dX9_point_56 rfl rfl,
   ok_aload_n G dX9_point_59 rfl rfl,
   ok_get G (RX9, TX9, 32) rfl (by decide) rfl q1821 dX9_point_60 rfl,
   ok_iload_n G dX9_point_63 rfl rfl,
   ok_iald G dX9_point_64 rfl,
   ok_aload_n G dX9_point_65 rfl rfl,
   ok_get G (RX9, TX9, 32) rfl (by decide) rfl q1821 dX9_point_66 rfl,
   ok_iconst G dX9_point_69 (by decide) rfl,
   ok_iload_n G dX9_point_70 rfl rfl,
   ok_isub G dX9_point_71 rfl,
   ok_iald G dX9_point_72 rfl,
   ok_isub G dX9_point_73 rfl,
   ok_iconst G dX9_point_74 (by decide) rfl,
   ok_cge G dX9_point_75 rfl rfl,
   ok_vret G dX9_point_78,
   ok_aload_n G dX9_point_79 rfl rfl,
   ok_iload_n G dX9_point_80 rfl rfl,
   ok_puti G (idx := 215) (RX9, TX9, 32) rfl (by decide) rfl (mm_pw G (ci := 8) (k := 17) (RX9, TX9, 32) rfl (by decide) rfl q1822 dX9_point_81) rfl,
   ok_aload_n G dX9_point_84 rfl rfl,
   ok_get G (RX9, TX9, 32) rfl (by decide) rfl q1821 dX9_point_85 rfl,
   ok_bipush G dX9_point_88 (by decide) rfl,
   ok_iload_n G dX9_point_90 rfl rfl,
   ok_iadd G dX9_point_91 rfl,
   ok_dup2 G dX9_point_92 rfl,
   ok_iald G dX9_point_93 rfl,
   ok_iconst G dX9_point_94 (by decide) rfl,
   ok_iadd G dX9_point_95 rfl,
   ok_iast G dX9_point_96 rfl,
   ok_aload_n G dX9_point_97 rfl rfl,
   ok_get G (RX9, TX9, 32) rfl (by decide) rfl q1821 dX9_point_98 rfl,
   ok_iconst G dX9_point_101 (by decide) rfl,
   ok_aload_n G dX9_point_102 rfl rfl,
   ok_get G (RX9, TX9, 32) rfl (by decide) rfl q1806 dX9_point_103 rfl,
   ok_sipush G dX9_point_106 (by decide) rfl,
   ok_ialc G dX9_point_109 rfl (by decide),
   ok_ineg G dX9_point_110 rfl,
   ok_iasc G dX9_point_111 rfl (by decide),
   ok_aload_n G dX9_point_112 rfl rfl,
   ok_get G (RX9, TX9, 32) rfl (by decide) rfl q1821 dX9_point_113 rfl,
   ok_iconst G dX9_point_116 (by decide) rfl,
   ok_aload_n G dX9_point_117 rfl rfl,
   ok_get G (RX9, TX9, 32) rfl (by decide) rfl q1806 dX9_point_118 rfl,
   ok_sipush G dX9_point_121 (by decide) rfl,
   ok_ialc G dX9_point_124 rfl (by decide),
   ok_iasc G dX9_point_125 rfl (by decide),
   ok_aload_n G dX9_point_126 rfl rfl,
   ok_get G (RX9, TX9, 32) rfl (by decide) rfl q1821 dX9_point_127 rfl,
   ok_iconst G dX9_point_130 (by decide) rfl,
   ok_iconst G dX9_point_131 (by decide) rfl,
   ok_iasc G dX9_point_132 rfl (by decide),
   ok_aload_n G dX9_point_133 rfl rfl,
   ok_get G (RX9, TX9, 32) rfl (by decide) rfl q1821 dX9_point_134 rfl,
   ok_bipush G dX9_point_137 (by decide) rfl,
   ok_iconst G dX9_point_139 (by decide) rfl,
   ok_iasc G dX9_point_140 rfl (by decide),
   ok_vret G dX9_point_141, trivial⟩

/-- a point of p: the row behind it, and whether the game is won -/
def ptA (x : Nat → Int) (p : Nat) : Nat → Int := ru x p (x p + 1)
def ptB (x : Nat → Int) : Nat → Int := fun j => if x 0 = 4 ∧ x 1 = 4 ∧ (j = 0 ∨ j = 1) then 3 else x j
def ptW (x : Nat → Int) (p : Nat) : Prop := 4 ≤ x p ∧ 2 ≤ x p - x (1 - p)
def ptC (w x : Nat → Int) (p : Nat) : Nat → Int := ru (ru (ru (ru (ru x (7 + p) (x (7 + p) + 1)) 0 (-w 197)) 1 (w 198)) 3 0) 6 0
theorem ptA_at (x : Nat → Int) (p j : Nat) : ptA x p j = if j = p then x p + 1 else x j := rfl
theorem ptB_at (x : Nat → Int) (j : Nat) : ptB x j = if x 0 = 4 ∧ x 1 = 4 ∧ (j = 0 ∨ j = 1) then 3 else x j := rfl
theorem ptC_at (w x : Nat → Int) (p j : Nat) : ptC w x p j = if j = 6 then 0 else if j = 3 then 0 else if j = 1 then w 198 else if j = 0 then -w 197 else if j = 7 + p then x (7 + p) + 1 else x j := rfl
/-- whether the game is won by a point of p; the row behind it -/
def ptw (x : Nat → Int) (p : Nat) : Bool := decide (4 ≤ ptB (ptA x p) p) && decide (2 ≤ ptB (ptA x p) p - ptB (ptA x p) (1 - p))
def pnt (w x : Nat → Int) (p : Nat) : Nat → Int := fun j => if ptw x p = true then ptC w (ptB (ptA x p)) p j else ptB (ptA x p) j
theorem pnt_at (w x : Nat → Int) (p j : Nat) : pnt w x p j = if ptw x p = true then ptC w (ptB (ptA x p)) p j else ptB (ptA x p) j := rfl
theorem ptw_t {x : Nat → Int} {p : Nat} : ptw x p = true ↔ ptW (ptB (ptA x p)) p := by simp [ptw, ptW]
def sX9_point : mm_Sp := fun as M Q X => ∃ S L, ∃ p : Nat, p < 2 ∧ as = [.ref 0, .int (zI p)] ∧ M = mZ S L ∧ bx (S 6) ∧
  Q none (mZ (sx S (pnt (S 1) (S 6) p) (if ptw (S 6) p then (p : Int) else S 0 17) p) L)
theorem mX9_point (l : Launch) (hl : l.stackTraces = false) : mm_Spec l yX9_point (ws_ yX9_point cX9_point 2 none) (mm_rm 1 0 0) sX9_point := by
  rintro as M Q X ⟨S, L, p, hp, rfl, rfl, hb, hQ⟩
  have hQ1 : ¬ ptW (ptB (ptA (S 6) p)) p → Q none (mZ (sx S (ptB (ptA (S 6) p)) (S 0 17) p) L) := by
    intro h
    rw [← ptw_t] at h
    refine mm_Qm (mZ_c ?_ rfl) hQ
    funext a k
    grind [sx_at, pnt_at]
  have hQ2 : ptW (ptB (ptA (S 6) p)) p → Q none (mZ (sx S (ptC (S 1) (ptB (ptA (S 6) p)) p) p p) L) := by
    intro h
    rw [← ptw_t] at h
    refine mm_Qm (mZ_c ?_ rfl) hQ
    funext a k
    grind [sx_at, pnt_at]
  have b0 := hb 0
  have b1 := hb 1
  have e1 : (zI (p : Int)).toNatClampNeg = p := cl_z rfl rfl (by omega)
  have e2 : ((1 : Int32) - zI (p : Int)).toNatClampNeg = 1 - p := cl_z (z := 1 - p) (by rw [zI_n, zI_sub]) (by omega) (by omega)
  have e7 : ((7 : Int32) + zI (p : Int)).toNatClampNeg = 7 + p := cl_z (z := 7 + p) (by rw [zI_n, zI_add]) (by omega) (by omega)
  have v1 : vp_in (zI (p : Int)) 9 := zI_in (by omega) (by omega) (by decide)
  have v2 : vp_in ((1 : Int32) - zI (p : Int)) 9 := in_z (z := 1 - p) (by rw [zI_n, zI_sub]) (by omega) (by omega) (by decide)
  have v7 : vp_in ((7 : Int32) + zI (p : Int)) 9 := in_z (z := 7 + p) (by rw [zI_n, zI_add]) (by omega) (by omega) (by decide)
  have tail : ∀ T : Nat → Nat → Int, T = sx S (ptB (ptA (S 6) p)) (S 0 17) p → mm_J pX9_point (mm_ret Q X 0 0) 49 [some (.ref 0), some (.int (zI p))] [] (mZ T L) (0, 0) := by
    intro T hT
    have hT6 : T 6 = ptB (ptA (S 6) p) := by rw [hT, sx_6]
    have hT1 : T 1 = S 1 := by rw [hT, sx_1]
    have hbT : ∀ j, -200 ≤ T 6 j ∧ T 6 j ≤ 200 := by
      intro j
      have hj := hb j
      have hj2 := hb p
      rw [hT6]
      grind [ptB_at, ptA_at]
    have q1 := hbT p
    have q2 := hbT (1 - p)
    refine mm_J.go [78, 79] 40 ?_
    refine And.intro v1 (And.intro (fun h => ?_) (fun h => And.intro v1 (And.intro v2 (And.intro (fun h3 => ?_) (fun h3 => ?_)))))
    · have h : zI (T 6 (zI (p : Int)).toNatClampNeg) < 4 := h
      simp (disch := omega) only [e1, zI_n, zI_lt] at h
      refine mm_J.go [] 10 ?_
      refine ⟨mm_Qm (mZ_c hT rfl) (hQ1 (fun q => ?_)), Nat.le_refl _, Nat.le_refl _⟩
      have := q.1
      rw [← hT6] at this
      omega
    · have h : ¬ zI (T 6 (zI (p : Int)).toNatClampNeg) < 4 := h
      have h3 : 2 ≤ zI (T 6 (zI (p : Int)).toNatClampNeg) - zI (T 6 ((1 : Int32) - zI (p : Int)).toNatClampNeg) := h3
      rw [e1, e2] at h3
      simp (disch := omega) only [e1, zI_n, zI_lt, zI_le, zI_sub] at h h3
      have hw : ptW (ptB (ptA (S 6) p)) p := by rw [← hT6]; exact ⟨by omega, h3⟩
      refine mm_J.go [] 50 ?_
      refine And.intro v7 (And.intro v7 ⟨mm_Qm ?_ (hQ2 hw), Nat.le_refl _, Nat.le_refl _⟩)
      have hTp : ∀ h k, T h k = sx S (ptB (ptA (S 6) p)) (S 0 17) p h k := fun h k => by rw [hT]
      simp only [e7]
      simp only [mZ_wI, mZ_I, zI_n, zI_add, zI_neg]
      refine mZ_c ?_ rfl
      rw [← hT6, ← hT1]
      clear hQ1 hQ2 hT h h3
      funext h k
      grind [up_eq, sx_at, ptC_at]
    · have h3 : ¬ 2 ≤ zI (T 6 (zI (p : Int)).toNatClampNeg) - zI (T 6 ((1 : Int32) - zI (p : Int)).toNatClampNeg) := h3
      rw [e1, e2] at h3
      simp (disch := omega) only [zI_n, zI_lt, zI_le, zI_sub] at h3
      refine mm_J.go [] 10 ?_
      refine ⟨mm_Qm (mZ_c hT rfl) (hQ1 (fun q => ?_)), Nat.le_refl _, Nat.le_refl _⟩
      have := q.2
      rw [← hT6] at this
      omega
  refine mm_Met.J hl (by decide) (Nat.le_of_ble_eq_true rfl) (fun C G hnh => tX9_point G hnh) (mm_J.go [49] 40 (And.intro v1 (And.intro v1 ?_)))
  have c0 : (mm_wI (mm_wI (mZ S L) 0 18 (zI ↑p)) 6 (zI ↑p).toNatClampNeg ((mm_wI (mZ S L) 0 18 (zI ↑p)).snd.fst 6 (zI ↑p).toNatClampNeg + 1)) = mZ (sx S (ptA (S 6) p) (S 0 17) p) L := by
    simp only [e1, mZ_wI, mZ_I, zI_n, zI_add]
    refine mZ_c ?_ rfl
    funext h k
    grind [up_eq, sx_at, ptA_at]
  refine mm_Rm c0 ?_
  have hA : ∀ j, -200 ≤ ptA (S 6) p j ∧ ptA (S 6) p j ≤ 200 := by
    intro j
    have := hb j
    have := hb p
    grind [ptA_at]
  have a0 := hA 0
  have a1 := hA 1
  have hsx : ¬ (ptA (S 6) p 0 = 4 ∧ ptA (S 6) p 1 = 4) → sx S (ptA (S 6) p) (S 0 17) p = sx S (ptB (ptA (S 6) p)) (S 0 17) p := by
    intro hn
    funext h k
    grind [sx_at, ptB_at]
  refine And.intro (fun h => tail _ (hsx ?_)) (fun h => And.intro (fun h3 => tail _ (hsx ?_)) (fun h3 => mm_Jm ?_ (tail _ rfl)))
  · simp (disch := omega) only [mZ_I, sx_6, zI_n, zI_eq] at h
    omega
  · simp (disch := omega) only [mZ_I, sx_6, zI_n, zI_eq] at h h3
    omega
  · simp (disch := omega) only [mZ_I, sx_6, zI_n, zI_eq] at h h3
    simp only [mZ_wI, mZ_I, zI_n]
    refine mZ_c ?_ rfl
    clear hQ1 hQ2 tail hsx
    funext a k
    grind [up_eq, sx_at, ptB_at]
def pX9_changes : mm_P := [(0, o_ald 1 0), (1, o_get 4 8 2 16), (4, o_c 5 (.int 3)), (5, o_ialc 6 3), (6, o_ifne 9 10), (9, o_vret), (10, o_ald 11 0), (11, o_get 14 8 2 16), (14, o_c 15 (.int 3)), (15, o_ialc 16 3), (16, o_c 17 (.int 2)), (17, o_ceq 20 59), (20, o_ald 21 0), (21, o_get 24 8 2 1), (24, o_c 27 (.int 195)), (27, o_ialc 28 195), (28, o_c 29 (.int 1)), (29, o_ceq 32 59), (32, o_ald 33 0), (33, o_get 36 8 2 1), (36, o_c 39 (.int 195)), (39, o_ialc 40 195), (40, o_ifne 43 63), (43, o_ald 44 0), (44, o_c 45 (.int 0)), (45, o_callv 48 2 8 sX9_wouldWin), (48, o_ifne 51 59), (51, o_ald 52 0), (52, o_c 53 (.int 1)), (53, o_callv 56 2 8 sX9_wouldWin), (56, o_ifeq 59 63), (59, o_c 60 (.int 1)), (60, o_goto 64), (63, o_c 64 (.int 0)), (64, o_ist 65 1), (65, o_ild 66 1), (66, o_ifne 69 70), (69, o_vret), (70, o_ald 71 0), (71, o_get 74 8 2 16), (74, o_c 75 (.int 2)), (75, o_c 76 (.int 1)), (76, o_ald 77 0), (77, o_get 80 8 2 16), (80, o_c 81 (.int 2)), (81, o_ialc 82 2), (82, o_isub 83), (83, o_iasc 84 2), (84, o_ald 85 0), (85, o_get 88 8 2 16), (88, o_c 90 (.int 6)), (90, o_c 91 (.int 1)), (91, o_iasc 92 6), (92, o_vret)]
theorem tX9_changes {C : mm_C} (G : mm_G C RX9 cX9_changes none 2 (mm_rm 2 0 0)) (hnh : mm_nh C) : mm_OKs C pX9_changes :=
  ⟨ok_aload_n G dX9_changes_0 rfl rfl,
   ok_get G (RX9, TX9, 32) rfl (by decide) rfl q1821 dX9_changes_1 rfl,
   ok_iconst G dX9_changes_4 (by decide) rfl,
   ok_ialc G dX9_changes_5 rfl (by decide),
   ok_ifne G dX9_changes_6 rfl rfl,
   ok_vret G dX9_changes_9,
   ok_aload_n G dX9_changes_10 rfl rfl,
   ok_get G (RX9, TX9, 32) rfl (by decide) rfl q1821 dX9_changes_11 rfl,
   ok_iconst G dX9_changes_14 (by decide) rfl,
   ok_ialc G dX9_changes_15 rfl (by decide),
   ok_iconst G dX9_changes_16 (by decide) rfl,
   ok_ceq G dX9_changes_17 rfl rfl,
   ok_aload_n G dX9_changes_20 rfl rfl,
   ok_get G (RX9, TX9, 32) rfl (by decide) rfl q1806 dX9_changes_21 rfl,
   ok_sipush G dX9_changes_24 (by decide) rfl,
   ok_ialc G dX9_changes_27 rfl (by decide),
   ok_iconst G dX9_changes_28 (by decide) rfl,
   ok_ceq G dX9_changes_29 rfl rfl,
   ok_aload_n G dX9_changes_32 rfl rfl,
   ok_get G (RX9, TX9, 32) rfl (by decide) rfl q1806 dX9_changes_33 rfl,
   ok_sipush G dX9_changes_36 (by decide) rfl,
   ok_ialc G dX9_changes_39 rfl (by decide),
   ok_ifne G dX9_changes_40 rfl rfl,
   ok_aload_n G dX9_changes_43 rfl rfl,
   ok_iconst G dX9_changes_44 (by decide) rfl,
   ok_callv G hnh (mX9_wouldWin _ G.hst) rfl rfl (RX9, TX9, 32) rfl q2062 q2064 qs58 q93 q2065 (by decide +kernel) ⟨by decide, by decide⟩ dX9_changes_45 rfl,
   ok_ifne G dX9_changes_48 rfl rfl,
   ok_aload_n G dX9_changes_51 rfl rfl,
   ok_iconst G dX9_changes_52 (by decide) rfl,
   ok_callv G hnh (mX9_wouldWin _ G.hst) rfl rfl (RX9, TX9, 32) rfl q2062 q2064 qs58 q93 q2065 (by decide +kernel) ⟨by decide, by decide⟩ dX9_changes_53 rfl,
   ok_ifeq G dX9_changes_56 rfl rfl,
   ok_iconst G dX9_changes_59 (by decide) rfl,
   ok_goto G dX9_changes_60 rfl,
   ok_iconst G dX9_changes_63 (by decide) rfl,
   ok_istore_n G dX9_changes_64 rfl rfl (by decide),
   ok_iload_n G dX9_changes_65 rfl rfl,
   ok_ifne G dX9_changes_66 rfl rfl,
   ok_vret G dX9_changes_69,
   ok_aload_n G dX9_changes_70 rfl rfl,
   ok_get G (RX9, TX9, 32) rfl (by decide) rfl q1821 dX9_changes_71 rfl,
   ok_iconst G dX9_changes_74 (by decide) rfl,
   ok_iconst G dX9_changes_75 (by decide) rfl,
   ok_aload_n G dX9_changes_76 rfl rfl,
   ok_get G (RX9, TX9, 32) rfl (by decide) rfl q1821 dX9_changes_77 rfl,
   ok_iconst G dX9_changes_80 (by decide) rfl,
   ok_ialc G dX9_changes_81 rfl (by decide),
   ok_isub G dX9_changes_82 rfl,
   ok_iasc G dX9_changes_83 rfl (by decide),
   ok_aload_n G dX9_changes_84 rfl rfl,
   ok_get G (RX9, TX9, 32) rfl (by decide) rfl q1821 dX9_changes_85 rfl,
   ok_bipush G dX9_changes_88 (by decide) rfl,
   ok_iconst G dX9_changes_90 (by decide) rfl,
   ok_iasc G dX9_changes_91 rfl (by decide),
   ok_vret G dX9_changes_92, trivial⟩

/-- ends are changed -/
def chD (w x : Nat → Int) : Bool := x 3 != 0 && (x 3 == 2 || w 195 == 1 || (w 195 == 0 && (wW x 0 || wW x 1)))
def chR (w x : Nat → Int) : Nat → Int := fun j => if chD w x = true then (if j = 2 then 1 - x 2 else if j = 6 then 1 else x j) else x j
theorem chR_at (w x : Nat → Int) (j : Nat) : chR w x j = if chD w x = true then (if j = 2 then 1 - x 2 else if j = 6 then 1 else x j) else x j := rfl
def sX9_changes : mm_Sp := fun as M Q X => ∃ S L, as = [.ref 0] ∧ M = mZ S L ∧ bx (S 6) ∧ -100 ≤ S 1 195 ∧ S 1 195 ≤ 100 ∧ Q none (mZ (sx S (chR (S 1) (S 6)) (S 0 17) (S 0 18)) L)
theorem sx_id (S : Nat → Nat → Int) : sx S (S 6) (S 0 17) (S 0 18) = S := by
  funext h k
  grind [sx_at]
theorem mX9_changes (l : Launch) (hl : l.stackTraces = false) : mm_Spec l yX9_changes (ws_ yX9_changes cX9_changes 2 none) (mm_rm 2 0 0) sX9_changes := by
  rintro as M Q X ⟨S, L, rfl, rfl, hb, g1, g2, hQ⟩
  have h3 := hb 3
  have h2 := hb 2
  have no : chD (S 1) (S 6) = false → Q none (mZ S L) := by
    intro h
    refine mm_Qm (mZ_c ?_ rfl) hQ
    funext a k
    grind [sx_at, chR_at]
  have yes : chD (S 1) (S 6) = true → Q none (mm_wI (mm_wI (mZ S L) 6 2 (1 - zI (S 6 2))) 6 6 1) := by
    intro h
    refine mm_Qm ?_ hQ
    simp only [mZ_wI, mZ_I, zI_n, zI_sub]
    refine mZ_c ?_ rfl
    funext a k
    grind [up_eq, sx_at, chR_at]
  have t64 : ∀ v : Int32, (v = 1 ∧ chD (S 1) (S 6) = true) ∨ (v = 0 ∧ chD (S 1) (S 6) = false) → mm_J pX9_changes (mm_ret Q X 0 0) 64 [some (.ref 0), none] [.int v] (mZ S L) (0, 0) := by
    rintro v (⟨rfl, h⟩ | ⟨rfl, h⟩)
    · refine mm_J.go [] 40 (And.intro (fun _ => ?_) (fun q => absurd q (by decide)))
      exact ⟨yes h, Nat.le_refl _, Nat.le_refl _⟩
    · refine mm_J.go [] 40 (And.intro (fun q => absurd rfl q) (fun _ => ?_))
      exact ⟨no h, Nat.le_refl _, Nat.le_refl _⟩
  refine mm_Met.J hl (by decide) (Nat.le_of_ble_eq_true rfl) (fun C G hnh => tX9_changes G hnh) (mm_J.go [64] 60 ?_)
  refine And.intro (fun h => ?_) (fun h => ?_)
  · have h : ¬ zI (S 6 3) = 0 := h
    simp (disch := omega) only [zI_n, zI_eq] at h
    refine And.intro (fun c2 => t64 1 (Or.inl ⟨rfl, ?_⟩)) (fun c2 => And.intro (fun c3 => t64 1 (Or.inl ⟨rfl, ?_⟩)) (fun c3 => And.intro (fun c4 => t64 0 (Or.inr ⟨rfl, ?_⟩)) (fun c4 => ?_)))
    · have c2 : zI (S 6 3) = 2 := c2
      simp (disch := omega) only [zI_n, zI_eq] at c2
      simp [chD, c2]
    · have c3 : zI (S 1 195) = 1 := c3
      simp (disch := omega) only [zI_n, zI_eq] at c3
      simp [chD, c3, h]
    · have c2 : ¬ zI (S 6 3) = 2 := c2
      have c3 : ¬ zI (S 1 195) = 1 := c3
      have c4 : ¬ zI (S 1 195) = 0 := c4
      simp (disch := omega) only [zI_n, zI_eq] at c2 c3 c4
      simp [chD, c2, c3, c4]
    · have c2 : ¬ zI (S 6 3) = 2 := c2
      have c4 : zI (S 1 195) = 0 := c4
      simp (disch := omega) only [zI_n, zI_eq] at c2 c4
      refine ⟨S, L, 0, by decide, rfl, rfl, hb, And.intro (fun d => t64 1 (Or.inl ⟨rfl, ?_⟩)) (fun d => ⟨S, L, 1, by decide, rfl, rfl, hb, And.intro (fun d2 => t64 0 (Or.inr ⟨rfl, ?_⟩)) (fun d2 => t64 1 (Or.inl ⟨rfl, ?_⟩))⟩)⟩
      · rw [bz1] at d
        simp [chD, c4, h, d]
      · rw [bz0] at d d2
        simp [chD, c2, c4, d, d2]
      · rw [bz1] at d2
        simp [chD, c4, h, d2]
  · have h : zI (S 6 3) = 0 := h
    simp (disch := omega) only [zI_n, zI_eq] at h
    exact ⟨no (by simp [chD, h]), Nat.le_refl _, Nat.le_refl _⟩
def pX9_gone : mm_P := [(0, o_ald 1 0), (1, o_get 4 8 2 16), (4, o_c 6 (.int 6)), (6, o_ialc 7 6), (7, o_ifne 10 11), (10, o_vret), (11, o_ald 12 0), (12, o_get 15 8 2 16), (15, o_c 16 (.int 3)), (16, o_dup2 17), (17, o_ialc 18 3), (18, o_c 19 (.int 1)), (19, o_isub 20), (20, o_iasc 21 3), (21, o_ald 22 0), (22, o_get 25 8 2 16), (25, o_c 26 (.int 4)), (26, o_ald 27 0), (27, o_get 30 8 2 16), (30, o_c 31 (.int 5)), (31, o_ialc 32 5), (32, o_iasc 33 4), (33, o_ald 34 0), (34, o_get 37 8 2 16), (37, o_c 39 (.int 6)), (39, o_ald 40 0), (40, o_get 43 8 2 16), (43, o_c 44 (.int 3)), (44, o_ialc 45 3), (45, o_ifle 48 52), (48, o_c 49 (.int 1)), (49, o_goto 53), (52, o_c 53 (.int 0)), (53, o_iasc 54 6), (54, o_vret)]
theorem tX9_gone {C : mm_C} (G : mm_G C RX9 cX9_gone none 1 (mm_rm 1 0 0)) (hnh : mm_nh C) : mm_OKs C pX9_gone :=
  ⟨ok_aload_n G dX9_gone_0 rfl rfl,
   ok_get G (RX9, TX9, 32) rfl (by decide) rfl q1821 dX9_gone_1 rfl,
   ok_bipush G dX9_gone_4 (by decide) rfl,
   ok_ialc G dX9_gone_6 rfl (by decide),
   ok_ifne G dX9_gone_7 rfl rfl,
   ok_vret G dX9_gone_10,
   ok_aload_n G dX9_gone_11 rfl rfl,
   ok_get G (RX9, TX9, 32) rfl (by decide) rfl q1821 dX9_gone_12 rfl,
   ok_iconst G dX9_gone_15 (by decide) rfl,
   ok_dup2 G dX9_gone_16 rfl,
   ok_ialc G dX9_gone_17 rfl (by decide),
   ok_iconst G dX9_gone_18 (by decide) rfl,
   ok_isub G dX9_gone_19 rfl,
   ok_iasc G dX9_gone_20 rfl (by decide),
   ok_aload_n G dX9_gone_21 rfl rfl,
   ok_get G (RX9, TX9, 32) rfl (by decide) rfl q1821 dX9_gone_22 rfl,
   ok_iconst G dX9_gone_25 (by decide) rfl,
   ok_aload_n G dX9_gone_26 rfl rfl,
   ok_get G (RX9, TX9, 32) rfl (by decide) rfl q1821 dX9_gone_27 rfl,
   ok_iconst G dX9_gone_30 (by decide) rfl,
   ok_ialc G dX9_gone_31 rfl (by decide),
   ok_iasc G dX9_gone_32 rfl (by decide),
   ok_aload_n G dX9_gone_33 rfl rfl,
   ok_get G (RX9, TX9, 32) rfl (by decide) rfl q1821 dX9_gone_34 rfl,
   ok_bipush G dX9_gone_37 (by decide) rfl,
   ok_aload_n G dX9_gone_39 rfl rfl,
   ok_get G (RX9, TX9, 32) rfl (by decide) rfl q1821 dX9_gone_40 rfl,
   ok_iconst G dX9_gone_43 (by decide) rfl,
   ok_ialc G dX9_gone_44 rfl (by decide),
   ok_ifle G dX9_gone_45 rfl rfl,
   ok_iconst G dX9_gone_48 (by decide) rfl,
   ok_goto G dX9_gone_49 rfl,
   ok_iconst G dX9_gone_52 (by decide) rfl,
   ok_iasc G dX9_gone_53 rfl (by decide),
   ok_vret G dX9_gone_54, trivial⟩

/-- the chase that is played off is gone -/
def gnR (x : Nat → Int) : Nat → Int := fun j => if x 6 = 0 then x j else if j = 3 then x 3 - 1 else if j = 4 then x 5 else if j = 6 then (if 0 < x 3 - 1 then 1 else 0) else x j
theorem gnR_at (x : Nat → Int) (j : Nat) : gnR x j = if x 6 = 0 then x j else if j = 3 then x 3 - 1 else if j = 4 then x 5 else if j = 6 then (if 0 < x 3 - 1 then 1 else 0) else x j := rfl
def sX9_gone : mm_Sp := fun as M Q X => ∃ S L, as = [.ref 0] ∧ M = mZ S L ∧ bx (S 6) ∧ Q none (mZ (sx S (gnR (S 6)) (S 0 17) (S 0 18)) L)
theorem mX9_gone (l : Launch) (hl : l.stackTraces = false) : mm_Spec l yX9_gone (ws_ yX9_gone cX9_gone 1 none) (mm_rm 1 0 0) sX9_gone := by
  rintro as M Q X ⟨S, L, rfl, rfl, hb, hQ⟩
  have h3 := hb 3
  have h6 := hb 6
  refine mm_Met.J hl (by decide) (Nat.le_of_ble_eq_true rfl) (fun C G hnh => tX9_gone G hnh) (mm_J.go [] 60 ?_)
  refine And.intro (fun h => ?_) (fun h => ?_)
  · have h : ¬ zI (S 6 6) = 0 := h
    simp (disch := omega) only [zI_n, zI_eq] at h
    refine And.intro (fun c => ⟨mm_Qm ?_ hQ, Nat.le_refl _, Nat.le_refl _⟩) (fun c => ⟨mm_Qm ?_ hQ, Nat.le_refl _, Nat.le_refl _⟩)
    · have c : (zI (S 6 3) - 1) ≤ 0 := c
      simp (disch := omega) only [zI_n, zI_sub, zI_le] at c
      simp only [mZ_wI, mZ_I, zI_n, zI_sub]
      refine mZ_c ?_ rfl
      funext a k
      grind [up_eq, sx_at, gnR_at]
    · have c : ¬ (zI (S 6 3) - 1) ≤ 0 := c
      simp (disch := omega) only [zI_n, zI_sub, zI_le] at c
      simp only [mZ_wI, mZ_I, zI_n, zI_sub]
      refine mZ_c ?_ rfl
      funext a k
      grind [up_eq, sx_at, gnR_at]
  · have h : zI (S 6 6) = 0 := h
    simp (disch := omega) only [zI_n, zI_eq] at h
    refine ⟨mm_Qm (mZ_c ?_ rfl) hQ, Nat.le_refl _, Nat.le_refl _⟩
    funext a k
    grind [sx_at, gnR_at]
def pX9_takesBisque : mm_P := [(0, o_ald 1 0), (1, o_c 2 (.int (zI (-1)))), (2, o_puti 5 8 17), (5, o_ald 6 0), (6, o_get 9 8 2 16), (9, o_c 11 (.int 6)), (11, o_ialc 12 6), (12, o_c 13 (.int 1)), (13, o_cne 16 20), (16, o_c 17 (.int 1)), (17, o_goto 21), (20, o_c 21 (.int 0)), (21, o_ist 22 2), (22, o_ald 23 0), (23, o_ild 24 1), (24, o_callv 27 2 8 sX9_point), (27, o_ild 28 2), (28, o_ifne 31 35), (31, o_ald 32 0), (32, o_callv 35 1 8 sX9_changes), (35, o_vret)]
theorem tX9_takesBisque {C : mm_C} (G : mm_G C RX9 cX9_takesBisque none 3 (mm_rm 3 0 0)) (hnh : mm_nh C) : mm_OKs C pX9_takesBisque :=
  ⟨ok_aload_n G dX9_takesBisque_0 rfl rfl,
   ok_iconst G dX9_takesBisque_1 (by decide) rfl,
   ok_puti G (idx := 215) (RX9, TX9, 32) rfl (by decide) rfl (mm_pw G (ci := 8) (k := 17) (RX9, TX9, 32) rfl (by decide) rfl q1822 dX9_takesBisque_2) rfl,
   ok_aload_n G dX9_takesBisque_5 rfl rfl,
   ok_get G (RX9, TX9, 32) rfl (by decide) rfl q1821 dX9_takesBisque_6 rfl,
   ok_bipush G dX9_takesBisque_9 (by decide) rfl,
   ok_ialc G dX9_takesBisque_11 rfl (by decide),
   ok_iconst G dX9_takesBisque_12 (by decide) rfl,
   ok_cne G dX9_takesBisque_13 rfl rfl,
   ok_iconst G dX9_takesBisque_16 (by decide) rfl,
   ok_goto G dX9_takesBisque_17 rfl,
   ok_iconst G dX9_takesBisque_20 (by decide) rfl,
   ok_istore_n G dX9_takesBisque_21 rfl rfl (by decide),
   ok_aload_n G dX9_takesBisque_22 rfl rfl,
   ok_iload_n G dX9_takesBisque_23 rfl rfl,
   ok_callv G hnh (mX9_point _ G.hst) rfl rfl (RX9, TX9, 32) rfl q2078 q2080 qs61 q93 q2081 (by decide +kernel) ⟨by decide, by decide⟩ dX9_takesBisque_24 rfl,
   ok_iload_n G dX9_takesBisque_27 rfl rfl,
   ok_ifne G dX9_takesBisque_28 rfl rfl,
   ok_aload_n G dX9_takesBisque_31 rfl rfl,
   ok_callv G hnh (mX9_changes _ G.hst) rfl rfl (RX9, TX9, 32) rfl q2082 q2084 qs62 q93 q2085 (by decide +kernel) ⟨by decide, by decide⟩ dX9_takesBisque_32 rfl,
   ok_vret G dX9_takesBisque_35, trivial⟩

def by5 (f : Nat → Int) : Prop := ∀ j, -50 ≤ f j ∧ f j ≤ 50
def bw (w : Nat → Int) : Prop := ∀ j, 194 ≤ j → j < 199 → -50 ≤ w j ∧ w j ≤ 50
theorem by5.bx {f : Nat → Int} (h : by5 f) : bx f := fun j => by have := h j; omega
theorem pnt_bx {w x : Nat → Int} {p : Nat} (h : by5 x) (hw : bw w) : bx (pnt w x p) := by
  intro j
  have h1 := h j
  have h2 := h p
  have h3 := h (7 + p)
  have h4 := hw 197 (by decide) (by decide)
  have h5 := hw 198 (by decide) (by decide)
  grind [pnt_at, ptA_at, ptB_at, ptC_at]
/-- a bisque -/
def bqR (w x : Nat → Int) (p : Nat) : Nat → Int := fun j => if x 6 = 1 then pnt w x p j else chR w (pnt w x p) j
theorem bqR_at (w x : Nat → Int) (p j : Nat) : bqR w x p j = if x 6 = 1 then pnt w x p j else chR w (pnt w x p) j := rfl
def sX9_takesBisque : mm_Sp := fun as M Q X => ∃ S L, ∃ p : Nat, p < 2 ∧ as = [.ref 0, .int (zI p)] ∧ M = mZ S L ∧ by5 (S 6) ∧ bw (S 1) ∧ Q none (mZ (sx S (bqR (S 1) (S 6) p) (if ptw (S 6) p then (p : Int) else -1) p) L)
theorem mX9_takesBisque (l : Launch) (hl : l.stackTraces = false) : mm_Spec l yX9_takesBisque (ws_ yX9_takesBisque cX9_takesBisque 3 none) (mm_rm 3 0 0) sX9_takesBisque := by
  rintro as M Q X ⟨S, L, p, hp, rfl, rfl, hb, hw, hQ⟩
  have b6 := hb 6
  have w5 := hw 195 (by decide) (by decide)
  have c0 : mm_wI (mZ S L) 0 17 (-1) = mZ (sx S (S 6) (-1) (S 0 18)) L := by
    show mm_wI (mZ S L) 0 17 (zI (-1)) = _
    rw [mZ_wI]
    refine mZ_c ?_ rfl
    funext a k
    grind [up_eq, sx_at]
  refine mm_Met.J hl (by decide) (Nat.le_of_ble_eq_true rfl) (fun C G hnh => tX9_takesBisque G hnh) (mm_J.go [5] 40 ?_)
  refine mm_Jm c0 (mm_J.go [] 40 ?_)
  refine And.intro (fun h => ?_) (fun h => ?_)
  · have h : ¬ zI (S 6 6) = 1 := h
    simp (disch := omega) only [zI_n, zI_eq] at h
    refine ⟨sx S (S 6) (-1) (S 0 18), L, p, hp, rfl, rfl, by rw [sx_6]; exact hb.bx, ?_⟩
    refine And.intro (fun q => absurd rfl q) (fun _ => ?_)
    refine ⟨_, L, rfl, rfl, ?_, ?_, ?_, ?_⟩
    · rw [sx_6, sx_6, sx_1]
      exact pnt_bx hb hw
    · rw [sx_1, sx_1]; omega
    · rw [sx_1, sx_1]; omega
    · refine ⟨mm_Qm (mZ_c ?_ rfl) hQ, Nat.le_refl _, Nat.le_refl _⟩
      simp only [sx_sx, sx_6, sx_1, sx_17, sx_18]
      funext a k
      grind [sx_at, bqR_at]
  · have h : zI (S 6 6) = 1 := h
    simp (disch := omega) only [zI_n, zI_eq] at h
    refine ⟨sx S (S 6) (-1) (S 0 18), L, p, hp, rfl, rfl, by rw [sx_6]; exact hb.bx, ?_⟩
    refine And.intro (fun q => ?_) (fun q => absurd q (by decide))
    refine ⟨mm_Qm (mZ_c ?_ rfl) hQ, Nat.le_refl _, Nat.le_refl _⟩
    simp only [sx_sx, sx_6, sx_1, sx_17]
    funext a k
    grind [sx_at, bqR_at]
def pX9_number : mm_P := [(0, o_ald 1 0), (1, o_get 4 8 2 16), (4, o_c 5 (.int 3)), (5, o_ialc 6 3), (6, o_ifne 9 13), (9, o_c 10 (.int 0)), (10, o_goto 76), (13, o_ald 14 0), (14, o_get 17 8 2 16), (17, o_c 18 (.int 3)), (18, o_ialc 19 3), (19, o_c 20 (.int 2)), (20, o_cne 23 45), (23, o_c 25 (.int 21)), (25, o_c 27 (.int 10)), (27, o_ald 28 0), (28, o_get 31 8 2 16), (31, o_c 32 (.int 4)), (32, o_ialc 33 4), (33, o_imul 34), (34, o_iadd 35), (35, o_ald 36 0), (36, o_get 39 8 2 16), (39, o_c 40 (.int 5)), (40, o_ialc 41 5), (41, o_iadd 42), (42, o_goto 76), (45, o_ald 46 0), (46, o_get 49 8 2 16), (49, o_c 51 (.int 6)), (51, o_ialc 52 6), (52, o_c 53 (.int 1)), (53, o_cne 56 68), (56, o_c 58 (.int 11)), (58, o_ald 59 0), (59, o_get 62 8 2 16), (62, o_c 63 (.int 4)), (63, o_ialc 64 4), (64, o_iadd 65), (65, o_goto 76), (68, o_c 69 (.int 1)), (69, o_ald 70 0), (70, o_get 73 8 2 16), (73, o_c 74 (.int 4)), (74, o_ialc 75 4), (75, o_iadd 76), (76, o_ist 77 1), (77, o_ald 78 0), (78, o_get 81 8 2 16), (81, o_c 82 (.int 0)), (82, o_ialc 83 0), (83, o_c 84 (.int 3)), (84, o_iadd 85), (85, o_c 87 (.int 8)), (87, o_imul 88), (88, o_ald 89 0), (89, o_get 92 8 2 16), (92, o_c 93 (.int 1)), (93, o_ialc 94 1), (94, o_iadd 95), (95, o_c 96 (.int 3)), (96, o_iadd 97), (97, o_c 100 (.int 242)), (100, o_imul 101), (101, o_c 103 (.int 121)), (103, o_ald 104 0), (104, o_get 107 8 2 16), (107, o_c 108 (.int 2)), (108, o_ialc 109 2), (109, o_imul 110), (110, o_iadd 111), (111, o_ild 112 1), (112, o_iadd 113), (113, o_iret)]
theorem tX9_number {C : mm_C} (G : mm_G C RX9 cX9_number (some .int) 2 (mm_rm 1 0 0)) (hnh : mm_nh C) : mm_OKs C pX9_number :=
  ⟨ok_aload_n G dX9_number_0 rfl rfl,
   ok_get G (RX9, TX9, 32) rfl (by decide) rfl q1821 dX9_number_1 rfl,
   ok_iconst G dX9_number_4 (by decide) rfl,
   ok_ialc G dX9_number_5 rfl (by decide),
   ok_ifne G dX9_number_6 rfl rfl,
   ok_iconst G dX9_number_9 (by decide) rfl,
   ok_goto G dX9_number_10 rfl,
   ok_aload_n G dX9_number_13 rfl rfl,
   ok_get G (RX9, TX9, 32) rfl (by decide) rfl q1821 dX9_number_14 rfl,
   ok_iconst G dX9_number_17 (by decide) rfl,
   ok_ialc G dX9_number_18 rfl (by decide),
   ok_iconst G dX9_number_19 (by decide) rfl,
   ok_cne G dX9_number_20 rfl rfl,
   ok_bipush G dX9_number_23 (by decide) rfl,
   ok_bipush G dX9_number_25 (by decide) rfl,
   ok_aload_n G dX9_number_27 rfl rfl,
   ok_get G (RX9, TX9, 32) rfl (by decide) rfl q1821 dX9_number_28 rfl,
   ok_iconst G dX9_number_31 (by decide) rfl,
   ok_ialc G dX9_number_32 rfl (by decide),
   ok_imul G dX9_number_33 rfl,
   ok_iadd G dX9_number_34 rfl,
   ok_aload_n G dX9_number_35 rfl rfl,
   ok_get G (RX9, TX9, 32) rfl (by decide) rfl q1821 dX9_number_36 rfl,
   ok_iconst G dX9_number_39 (by decide) rfl,
   ok_ialc G dX9_number_40 rfl (by decide),
   ok_iadd G dX9_number_41 rfl,
   ok_goto G dX9_number_42 rfl,
   ok_aload_n G dX9_number_45 rfl rfl,
   ok_get G (RX9, TX9, 32) rfl (by decide) rfl q1821 dX9_number_46 rfl,
   ok_bipush G dX9_number_49 (by decide) rfl,
   ok_ialc G dX9_number_51 rfl (by decide),
   ok_iconst G dX9_number_52 (by decide) rfl,
   ok_cne G dX9_number_53 rfl rfl,
   ok_bipush G dX9_number_56 (by decide) rfl,
   ok_aload_n G dX9_number_58 rfl rfl,
   ok_get G (RX9, TX9, 32) rfl (by decide) rfl q1821 dX9_number_59 rfl,
   ok_iconst G dX9_number_62 (by decide) rfl,
   ok_ialc G dX9_number_63 rfl (by decide),
   ok_iadd G dX9_number_64 rfl,
   ok_goto G dX9_number_65 rfl,
   ok_iconst G dX9_number_68 (by decide) rfl,
   ok_aload_n G dX9_number_69 rfl rfl,
   ok_get G (RX9, TX9, 32) rfl (by decide) rfl q1821 dX9_number_70 rfl,
   ok_iconst G dX9_number_73 (by decide) rfl,
   ok_ialc G dX9_number_74 rfl (by decide),
   ok_iadd G dX9_number_75 rfl,
   ok_istore_n G dX9_number_76 rfl rfl (by decide),
   ok_aload_n G dX9_number_77 rfl rfl,
   ok_get G (RX9, TX9, 32) rfl (by decide) rfl q1821 dX9_number_78 rfl,
   ok_iconst G dX9_number_81 (by decide) rfl,
   ok_ialc G dX9_number_82 rfl (by decide),
   ok_iconst G dX9_number_83 (by decide) rfl,
   ok_iadd G dX9_number_84 rfl,
   ok_bipush G dX9_number_85 (by decide) rfl,
   ok_imul G dX9_number_87 rfl,
   ok_aload_n G dX9_number_88 rfl rfl,
   ok_get G (RX9, TX9, 32) rfl (by decide) rfl q1821 dX9_number_89 rfl,
   ok_iconst G dX9_number_92 (by decide) rfl,
   ok_ialc G dX9_number_93 rfl (by decide),
   ok_iadd G dX9_number_94 rfl,
   ok_iconst G dX9_number_95 (by decide) rfl,
   ok_iadd G dX9_number_96 rfl,
   ok_sipush G dX9_number_97 (by decide) rfl,
   ok_imul G dX9_number_100 rfl,
   ok_bipush G dX9_number_101 (by decide) rfl,
   ok_aload_n G dX9_number_103 rfl rfl,
   ok_get G (RX9, TX9, 32) rfl (by decide) rfl q1821 dX9_number_104 rfl,
   ok_iconst G dX9_number_107 (by decide) rfl,
   ok_ialc G dX9_number_108 rfl (by decide),
   ok_imul G dX9_number_109 rfl,
   ok_iadd G dX9_number_110 rfl,
   ok_iload_n G dX9_number_111 rfl rfl,
   ok_iadd G dX9_number_112 rfl,
   ok_iret G dX9_number_113, trivial⟩

def nuC (x : Nat → Int) : Int := if x 3 = 0 then 0 else if x 3 = 2 then 21 + 10 * x 4 + x 5 else if x 6 = 1 then 11 + x 4 else 1 + x 4
def nuR (x : Nat → Int) : Int := ((x 0 + 3) * 8 + x 1 + 3) * 242 + 121 * x 2 + nuC x
def sX9_number : mm_Sp := fun as M Q X => ∃ S L, as = [.ref 0] ∧ M = mZ S L ∧ bx (S 6) ∧ Q (some (.int (zI (nuR (S 6))))) (mZ S L)
theorem mX9_number (l : Launch) (hl : l.stackTraces = false) : mm_Spec l yX9_number (ws_ yX9_number cX9_number 2 (some .int)) (mm_rm 1 0 0) sX9_number := by
  rintro as M Q X ⟨S, L, rfl, rfl, hb, hQ⟩
  have h3 := hb 3
  have h6 := hb 6
  have t76 : ∀ v : Int32, v = zI (nuC (S 6)) → mm_J pX9_number (mm_ret Q X 0 0) 76 [some (.ref 0), none] [.int v] (mZ S L) (0, 0) := by
    rintro v rfl
    refine mm_J.go [] 50 ?_
    have e : ((zI (S 6 0) + 3) * 8 + zI (S 6 1) + 3) * 242 + 121 * zI (S 6 2) + zI (nuC (S 6)) = zI (nuR (S 6)) := by
      simp only [zI_n, zI_add, zI_mul]
      rfl
    rw [← e] at hQ
    exact ⟨hQ, Nat.le_refl _, Nat.le_refl _⟩
  refine mm_Met.J hl (by decide) (Nat.le_of_ble_eq_true rfl) (fun C G hnh => tX9_number G hnh) (mm_J.go [76] 50 ?_)
  refine And.intro (fun h => And.intro (fun h2 => And.intro (fun h1 => t76 _ ?_) (fun h1 => t76 _ ?_)) (fun h2 => t76 _ ?_)) (fun h => t76 _ ?_)
  · have h : ¬ zI (S 6 3) = 0 := h
    have h2 : ¬ zI (S 6 3) = 2 := h2
    have h1 : ¬ zI (S 6 6) = 1 := h1
    simp (disch := omega) only [zI_n, zI_eq] at h h1 h2
    show (1 : Int32) + zI (S 6 4) = _
    rw [zI_n, zI_add]
    simp [nuC, h, h1, h2]
  · have h : ¬ zI (S 6 3) = 0 := h
    have h2 : ¬ zI (S 6 3) = 2 := h2
    have h1 : zI (S 6 6) = 1 := h1
    simp (disch := omega) only [zI_n, zI_eq] at h h1 h2
    show (11 : Int32) + zI (S 6 4) = _
    rw [zI_n, zI_add]
    simp [nuC, h, h1, h2]
  · have h : ¬ zI (S 6 3) = 0 := h
    have h2 : zI (S 6 3) = 2 := h2
    simp (disch := omega) only [zI_n, zI_eq] at h h2
    show (21 : Int32) + 10 * zI (S 6 4) + zI (S 6 5) = _
    simp only [zI_n, zI_add, zI_mul]
    simp [nuC, h2]
  · have h : zI (S 6 3) = 0 := h
    simp (disch := omega) only [zI_n, zI_eq] at h
    show (0 : Int32) = _
    rw [zI_n]
    simp [nuC, h]
def pX9_unnumber : mm_P := [(0, o_ild 1 1), (1, o_c 3 (.int 121)), (3, o_irem 4), (4, o_ist 5 2), (5, o_ald 6 0), (6, o_get 9 8 2 16), (9, o_c 10 (.int 2)), (10, o_ild 11 1), (11, o_c 13 (.int 121)), (13, o_idiv 14), (14, o_c 15 (.int 2)), (15, o_irem 16), (16, o_iasc 17 2), (17, o_ald 18 0), (18, o_get 21 8 2 16), (21, o_c 22 (.int 1)), (22, o_ild 23 1), (23, o_c 26 (.int 242)), (26, o_idiv 27), (27, o_c 29 (.int 8)), (29, o_irem 30), (30, o_c 31 (.int 3)), (31, o_isub 32), (32, o_iasc 33 1), (33, o_ald 34 0), (34, o_get 37 8 2 16), (37, o_c 38 (.int 0)), (38, o_ild 39 1), (39, o_c 42 (.int 1936)), (42, o_idiv 43), (43, o_c 44 (.int 3)), (44, o_isub 45), (45, o_iasc 46 0), (46, o_ald 47 0), (47, o_get 50 8 2 16), (50, o_c 51 (.int 3)), (51, o_ild 52 2), (52, o_ifne 55 59), (55, o_c 56 (.int 0)), (56, o_goto 70), (59, o_ild 60 2), (60, o_c 62 (.int 21)), (62, o_cge 65 69), (65, o_c 66 (.int 1)), (66, o_goto 70), (69, o_c 70 (.int 2)), (70, o_iasc 71 3), (71, o_ald 72 0), (72, o_get 75 8 2 16), (75, o_c 77 (.int 6)), (77, o_ild 78 2), (78, o_c 80 (.int 10)), (80, o_cle 83 87), (83, o_c 84 (.int 1)), (84, o_goto 88), (87, o_c 88 (.int 0)), (88, o_iasc 89 6), (89, o_ald 90 0), (90, o_get 93 8 2 16), (93, o_c 94 (.int 4)), (94, o_ild 95 2), (95, o_ifne 98 102), (98, o_c 99 (.int 0)), (99, o_goto 134), (102, o_ild 103 2), (103, o_c 105 (.int 11)), (105, o_cge 108 114), (108, o_ild 109 2), (109, o_c 110 (.int 1)), (110, o_isub 111), (111, o_goto 134), (114, o_ild 115 2), (115, o_c 117 (.int 21)), (117, o_cge 120 127), (120, o_ild 121 2), (121, o_c 123 (.int 11)), (123, o_isub 124), (124, o_goto 134), (127, o_ild 128 2), (128, o_c 130 (.int 21)), (130, o_isub 131), (131, o_c 133 (.int 10)), (133, o_idiv 134), (134, o_iasc 135 4), (135, o_ald 136 0), (136, o_get 139 8 2 16), (139, o_c 140 (.int 5)), (140, o_ild 141 2), (141, o_c 143 (.int 21)), (143, o_cge 146 150), (146, o_c 147 (.int 0)), (147, o_goto 157), (150, o_ild 151 2), (151, o_c 153 (.int 21)), (153, o_isub 154), (154, o_c 156 (.int 10)), (156, o_irem 157), (157, o_iasc 158 5), (158, o_ald 159 0), (159, o_get 162 8 2 16), (162, o_c 164 (.int 7)), (164, o_ald 165 0), (165, o_get 168 8 2 1), (168, o_c 171 (.int 208)), (171, o_ialc 172 208), (172, o_iasc 173 7), (173, o_ald 174 0), (174, o_get 177 8 2 16), (177, o_c 179 (.int 8)), (179, o_ald 180 0), (180, o_get 183 8 2 1), (183, o_c 186 (.int 209)), (186, o_ialc 187 209), (187, o_iasc 188 8), (188, o_vret)]
theorem tX9_unnumber {C : mm_C} (G : mm_G C RX9 cX9_unnumber none 3 (mm_rm 1 0 0)) (hnh : mm_nh C) : mm_OKs C pX9_unnumber :=
  ⟨ok_iload_n G dX9_unnumber_0 rfl rfl,
   ok_bipush G dX9_unnumber_1 (by decide) rfl,
   ok_irem G dX9_unnumber_3 rfl,
   ok_istore_n G dX9_unnumber_4 rfl rfl (by decide),
   ok_aload_n G dX9_unnumber_5 rfl rfl,
   ok_get G (RX9, TX9, 32) rfl (by decide) rfl q1821 dX9_unnumber_6 rfl,
   ok_iconst G dX9_unnumber_9 (by decide) rfl,
   ok_iload_n G dX9_unnumber_10 rfl rfl,
   ok_bipush G dX9_unnumber_11 (by decide) rfl,
   ok_idiv G dX9_unnumber_13 rfl,
   ok_iconst G dX9_unnumber_14 (by decide) rfl,
   ok_irem G dX9_unnumber_15 rfl,
   ok_iasc G dX9_unnumber_16 rfl (by decide),
   ok_aload_n G dX9_unnumber_17 rfl rfl,
   ok_get G (RX9, TX9, 32) rfl (by decide) rfl q1821 dX9_unnumber_18 rfl,
   ok_iconst G dX9_unnumber_21 (by decide) rfl,
   ok_iload_n G dX9_unnumber_22 rfl rfl,
   ok_sipush G dX9_unnumber_23 (by decide) rfl,
   ok_idiv G dX9_unnumber_26 rfl,
   ok_bipush G dX9_unnumber_27 (by decide) rfl,
   ok_irem G dX9_unnumber_29 rfl,
   ok_iconst G dX9_unnumber_30 (by decide) rfl,
   ok_isub G dX9_unnumber_31 rfl,
   ok_iasc G dX9_unnumber_32 rfl (by decide),
   ok_aload_n G dX9_unnumber_33 rfl rfl,
   ok_get G (RX9, TX9, 32) rfl (by decide) rfl q1821 dX9_unnumber_34 rfl,
   ok_iconst G dX9_unnumber_37 (by decide) rfl,
   ok_iload_n G dX9_unnumber_38 rfl rfl,
   ok_sipush G dX9_unnumber_39 (by decide) rfl,
   ok_idiv G dX9_unnumber_42 rfl,
   ok_iconst G dX9_unnumber_43 (by decide) rfl,
   ok_isub G dX9_unnumber_44 rfl,
   ok_iasc G dX9_unnumber_45 rfl (by decide),
   ok_aload_n G dX9_unnumber_46 rfl rfl,
   ok_get G (RX9, TX9, 32) rfl (by decide) rfl q1821 dX9_unnumber_47 rfl,
   ok_iconst G dX9_unnumber_50 (by decide) rfl,
   ok_iload_n G dX9_unnumber_51 rfl rfl,
   ok_ifne G dX9_unnumber_52 rfl rfl,
   ok_iconst G dX9_unnumber_55 (by decide) rfl,
   ok_goto G dX9_unnumber_56 rfl,
   ok_iload_n G dX9_unnumber_59 rfl rfl,
   ok_bipush G dX9_unnumber_60 (by decide) rfl,
   ok_cge G dX9_unnumber_62 rfl rfl,
   ok_iconst G dX9_unnumber_65 (by decide) rfl,
   ok_goto G dX9_unnumber_66 rfl,
   ok_iconst G dX9_unnumber_69 (by decide) rfl,
   ok_iasc G dX9_unnumber_70 rfl (by decide),
   ok_aload_n G dX9_unnumber_71 rfl rfl,
   ok_get G (RX9, TX9, 32) rfl (by decide) rfl q1821 dX9_unnumber_72 rfl,
   ok_bipush G dX9_unnumber_75 (by decide) rfl,
   ok_iload_n G dX9_unnumber_77 rfl rfl,
   ok_bipush G dX9_unnumber_78 (by decide) rfl,
   ok_cle G dX9_unnumber_80 rfl rfl,
   ok_iconst G dX9_unnumber_83 (by decide) rfl,
   ok_goto G dX9_unnumber_84 rfl,
   ok_iconst G dX9_unnumber_87 (by decide) rfl,
   ok_iasc G dX9_unnumber_88 rfl (by decide),
   ok_aload_n G dX9_unnumber_89 rfl rfl,
   ok_get G (RX9, TX9, 32) rfl (by decide) rfl q1821 dX9_unnumber_90 rfl,
   ok_iconst G dX9_unnumber_93 (by decide) rfl,
   ok_iload_n G dX9_unnumber_94 rfl rfl,
   ok_ifne G dX9_unnumber_95 rfl rfl,
   ok_iconst G dX9_unnumber_98 (by decide) rfl,
   ok_goto G dX9_unnumber_99 rfl,
   ok_iload_n G dX9_unnumber_102 rfl rfl,
   ok_bipush G dX9_unnumber_103 (by decide) rfl,
   ok_cge G dX9_unnumber_105 rfl rfl,
   ok_iload_n G dX9_unnumber_108 rfl rfl,
   ok_iconst G dX9_unnumber_109 (by decide) rfl,
   ok_isub G dX9_unnumber_110 rfl,
   ok_goto G dX9_unnumber_111 rfl,
   ok_iload_n G dX9_unnumber_114 rfl rfl,
   ok_bipush G dX9_unnumber_115 (by decide) rfl,
   ok_cge G dX9_unnumber_117 rfl rfl,
   ok_iload_n G dX9_unnumber_120 rfl rfl,
   ok_bipush G dX9_unnumber_121 (by decide) rfl,
   ok_isub G dX9_unnumber_123 rfl,
   ok_goto G dX9_unnumber_124 rfl,
   ok_iload_n G dX9_unnumber_127 rfl rfl,
   ok_bipush G dX9_unnumber_128 (by decide) rfl,
   ok_isub G dX9_unnumber_130 rfl,
   ok_bipush G dX9_unnumber_131 (by decide) rfl,
   ok_idiv G dX9_unnumber_133 rfl,
   ok_iasc G dX9_unnumber_134 rfl (by decide),
   ok_aload_n G dX9_unnumber_135 rfl rfl,
   ok_get G (RX9, TX9, 32) rfl (by decide) rfl q1821 dX9_unnumber_136 rfl,
   ok_iconst G dX9_unnumber_139 (by decide) rfl,
   ok_iload_n G dX9_unnumber_140 rfl rfl,
   ok_bipush G dX9_unnumber_141 (by decide) rfl,
   ok_cge G dX9_unnumber_143 rfl rfl,
   ok_iconst G dX9_unnumber_146 (by decide) rfl,
   ok_goto G dX9_unnumber_147 rfl,
   ok_iload_n G dX9_unnumber_150 rfl rfl,
   ok_bipush G dX9_unnumber_151 (by decide) rfl,
   ok_isub G dX9_unnumber_153 rfl,
   ok_bipush G dX9_unnumber_154 (by decide) rfl,
   ok_irem G dX9_unnumber_156 rfl,
   ok_iasc G dX9_unnumber_157 rfl (by decide),
   ok_aload_n G dX9_unnumber_158 rfl rfl,
   ok_get G (RX9, TX9, 32) rfl (by decide) rfl q1821 dX9_unnumber_159 rfl,
   ok_bipush G dX9_unnumber_162 (by decide) rfl,
   ok_aload_n G dX9_unnumber_164 rfl rfl,
   ok_get G (RX9, TX9, 32) rfl (by decide) rfl q1806 dX9_unnumber_165 rfl,
   ok_sipush G dX9_unnumber_168 (by decide) rfl,
   ok_ialc G dX9_unnumber_171 rfl (by decide),
   ok_iasc G dX9_unnumber_172 rfl (by decide),
   ok_aload_n G dX9_unnumber_173 rfl rfl,
   ok_get G (RX9, TX9, 32) rfl (by decide) rfl q1821 dX9_unnumber_174 rfl,
   ok_bipush G dX9_unnumber_177 (by decide) rfl,
   ok_aload_n G dX9_unnumber_179 rfl rfl,
   ok_get G (RX9, TX9, 32) rfl (by decide) rfl q1806 dX9_unnumber_180 rfl,
   ok_sipush G dX9_unnumber_183 (by decide) rfl,
   ok_ialc G dX9_unnumber_186 rfl (by decide),
   ok_iasc G dX9_unnumber_187 rfl (by decide),
   ok_vret G dX9_unnumber_188, trivial⟩

/-- the score of a number -/
def unR (w x : Nat → Int) (k : Int) : Nat → Int := fun j => if j = 0 then k / 1936 - 3 else if j = 1 then k / 242 % 8 - 3 else if j = 2 then k / 121 % 2 else if j = 3 then (if k % 121 = 0 then 0 else if k % 121 < 21 then 1 else 2) else if j = 4 then (if k % 121 = 0 then 0 else if k % 121 < 11 then k % 121 - 1 else if k % 121 < 21 then k % 121 - 11 else (k % 121 - 21) / 10) else if j = 5 then (if k % 121 < 21 then 0 else (k % 121 - 21) % 10) else if j = 6 then (if 10 < k % 121 then 1 else 0) else if j = 7 then w 208 else if j = 8 then w 209 else x j
theorem unR_at (w x : Nat → Int) (k : Int) (j : Nat) : unR w x k j = if j = 0 then k / 1936 - 3 else if j = 1 then k / 242 % 8 - 3 else if j = 2 then k / 121 % 2 else if j = 3 then (if k % 121 = 0 then 0 else if k % 121 < 21 then 1 else 2) else if j = 4 then (if k % 121 = 0 then 0 else if k % 121 < 11 then k % 121 - 1 else if k % 121 < 21 then k % 121 - 11 else (k % 121 - 21) / 10) else if j = 5 then (if k % 121 < 21 then 0 else (k % 121 - 21) % 10) else if j = 6 then (if 10 < k % 121 then 1 else 0) else if j = 7 then w 208 else if j = 8 then w 209 else x j := rfl
theorem row9 (S : Nat → Nat → Int) (u : Nat → Int) (h9 : ∀ j, 9 ≤ j → u j = S 6 j) : mm_up (mm_up (mm_up (mm_up (mm_up (mm_up (mm_up (mm_up (mm_up S 6 2 (u 2)) 6 1 (u 1)) 6 0 (u 0)) 6 3 (u 3)) 6 6 (u 6)) 6 4 (u 4)) 6 5 (u 5)) 6 7 (u 7)) 6 8 (u 8) = sx S u (S 0 17) (S 0 18) := by
  funext a b
  by_cases ha : a = 6
  · subst ha
    by_cases hb : 9 ≤ b
    · have := h9 b hb
      simp [up_eq, sx_at, this, show b ≠ 0 by omega, show b ≠ 1 by omega, show b ≠ 2 by omega, show b ≠ 3 by omega, show b ≠ 4 by omega, show b ≠ 5 by omega, show b ≠ 6 by omega, show b ≠ 7 by omega, show b ≠ 8 by omega]
    · have : b = 0 ∨ b = 1 ∨ b = 2 ∨ b = 3 ∨ b = 4 ∨ b = 5 ∨ b = 6 ∨ b = 7 ∨ b = 8 := by omega
      rcases this with h | h | h | h | h | h | h | h | h <;> subst h <;> simp [up_eq, sx_at]
  · simp [up_eq, sx_at, ha]
    grind
def sX9_unnumber : mm_Sp := fun as M Q X => ∃ S L, ∃ k : Int, 0 ≤ k ∧ k < 100000000 ∧ as = [.ref 0, .int (zI k)] ∧ M = mZ S L ∧ Q none (mZ (sx S (unR (S 1) (S 6) k) (S 0 17) (S 0 18)) L)
theorem mX9_unnumber (l : Launch) (hl : l.stackTraces = false) : mm_Spec l yX9_unnumber (ws_ yX9_unnumber cX9_unnumber 3 none) (mm_rm 1 0 0) sX9_unnumber := by
  rintro as M Q X ⟨S, L, k, k0, k1, rfl, rfl, hQ⟩
  have hc0 : 0 ≤ k % 121 := Int.emod_nonneg _ (by decide)
  have hc1 : k % 121 < 121 := Int.emod_lt_of_pos _ (by decide)
  have e121 : zI k - zI k / 121 * 121 = zI (k % 121) := by rw [zI_n, zI_rem k0 (by omega) (by decide) (by decide)]
  refine mm_Met.J hl (by decide) (Nat.le_of_ble_eq_true rfl) (fun C G hnh => tX9_unnumber G hnh) (mm_J.go [5] 20 ?_)
  refine mm_Jl (lv' := [some (.ref 0), some (.int (zI k)), some (.int (zI (k % 121)))]) (by rw [← e121]; rfl) (mm_J.go [] 120 ?_)
  generalize hc : k % 121 = c at hc0 hc1 ⊢
  have fin : ∀ a3 a6 a4 a5 : Int32, a3 = zI (unR (S 1) (S 6) k 3) → a6 = zI (unR (S 1) (S 6) k 6) → a4 = zI (unR (S 1) (S 6) k 4) → a5 = zI (unR (S 1) (S 6) k 5) →
      Q none (mm_wI (mm_wI (mm_wI (mm_wI (mm_wI (mm_wI (mm_wI (mm_wI (mm_wI (mZ S L) 6 2 (zI k / 121 - zI k / 121 / 2 * 2)) 6 1 (zI k / 242 - zI k / 242 / 8 * 8 - 3)) 6 0 (zI k / 1936 - 3)) 6 3 a3) 6 6 a6) 6 4 a4) 6 5 a5) 6 7 (zI (S 1 208))) 6 8 (zI (S 1 209))) := by
    rintro a3 a6 a4 a5 rfl rfl rfl rfl
    refine mm_Qm ?_ hQ
    simp (disch := omega) only [zI_n, zI_div, zI_mul, zI_sub, mZ_wI]
    refine mZ_c ?_ rfl
    clear hQ
    funext a b
    have q1 : k / 121 - k / 121 / 2 * 2 = k / 121 % 2 := by omega
    have q2 : k / 242 - k / 242 / 8 * 8 - 3 = k / 242 % 8 - 3 := by omega
    rw [q1, q2]
    have u9 : ∀ j, 9 ≤ j → unR (S 1) (S 6) k j = S 6 j := by
      intro j hj
      rw [unR_at]
      simp [show j ≠ 0 by omega, show j ≠ 1 by omega, show j ≠ 2 by omega, show j ≠ 3 by omega, show j ≠ 4 by omega, show j ≠ 5 by omega, show j ≠ 6 by omega, show j ≠ 7 by omega, show j ≠ 8 by omega]
    exact congrFun (congrFun (row9 S (unR (S 1) (S 6) k) u9) a) b
  have x3 : unR (S 1) (S 6) k 3 = if c = 0 then 0 else if c < 21 then 1 else 2 := by rw [← hc]; rfl
  have x6 : unR (S 1) (S 6) k 6 = if 10 < c then 1 else 0 := by rw [← hc]; rfl
  have x4 : unR (S 1) (S 6) k 4 = if c = 0 then 0 else if c < 11 then c - 1 else if c < 21 then c - 11 else (c - 21) / 10 := by rw [← hc]; rfl
  have x5 : unR (S 1) (S 6) k 5 = if c < 21 then 0 else (c - 21) % 10 := by rw [← hc]; rfl
  have z0 : zI c = 0 ↔ c = 0 := by rw [zI_n, zI_eq (by omega) (by omega) (by omega) (by omega)]
  have z21 : (21 : Int32) ≤ zI c ↔ 21 ≤ c := by rw [zI_n, zI_le (by omega) (by omega) (by omega) (by omega)]
  have z10 : zI c ≤ (10 : Int32) ↔ c ≤ 10 := by rw [zI_n, zI_le (by omega) (by omega) (by omega) (by omega)]
  have z11 : (11 : Int32) ≤ zI c ↔ 11 ≤ c := by rw [zI_n, zI_le (by omega) (by omega) (by omega) (by omega)]
  have l3 : ∀ a b : Int, zI a - zI b = zI (a - b) := zI_sub
  refine And.intro (fun h => And.intro (fun h2 => And.intro (fun h3 => ?_) (fun h3 => ?_)) (fun h2 => And.intro (fun h3 => ?_) (fun h3 => ?_))) (fun h => And.intro (fun h3 => ?_) (fun h3 => ?_))
  · exfalso
    have h2 := z21.mp h2
    have h3 := z10.mp h3
    omega
  · have h2 := z21.mp h2
    refine And.intro (fun h4 => And.intro (fun h5 => And.intro (fun h6 => And.intro (fun h7 => ?_) (fun h7 => absurd (z21.mpr h2) h7)) (fun h6 => absurd (z21.mpr h2) h6)) (fun h5 => absurd (z11.mpr (by omega)) h5)) (fun h4 => absurd (z0.mp h4) (by omega))
    refine ⟨fin 2 1 _ _ ?_ ?_ ?_ ?_, Nat.le_refl _, Nat.le_refl _⟩
    · rw [x3, if_neg (by omega), if_neg (by omega)]; rfl
    · rw [x6, if_pos (by omega)]; rfl
    · show (zI c - 21) / 10 = _
      rw [x4, if_neg (by omega), if_neg (by omega), if_neg (by omega)]
      simp (disch := omega) only [zI_n, zI_sub, zI_div]
    · show (zI c - 21) - (zI c - 21) / 10 * 10 = _
      rw [x5, if_neg (by omega), zI_n, zI_n, zI_sub, zI_rem (by omega) (by omega) (by decide) (by decide)]
  · have h2 : ¬ 21 ≤ c := fun q => h2 (z21.mpr q)
    have h3 := z10.mp h3
    have h : ¬ c = 0 := fun q => h (z0.mpr q)
    refine And.intro (fun h4 => And.intro (fun h5 => absurd (z11.mp h5) (by omega)) (fun h5 => And.intro (fun h7 => absurd (z21.mp h7) h2) (fun h7 => ?_))) (fun h4 => absurd (z0.mp h4) h)
    refine ⟨fin 1 0 _ _ ?_ ?_ ?_ ?_, Nat.le_refl _, Nat.le_refl _⟩
    · rw [x3, if_neg (by omega), if_pos (by omega)]; rfl
    · rw [x6, if_neg (by omega)]; rfl
    · show zI c - 1 = _
      rw [x4, if_neg (by omega), if_pos (by omega), zI_n, zI_sub]
    · show (0 : Int32) = _
      rw [x5, if_pos (by omega), zI_n]
  · have h2 : ¬ 21 ≤ c := fun q => h2 (z21.mpr q)
    have h3 : ¬ c ≤ 10 := fun q => h3 (z10.mpr q)
    refine And.intro (fun h4 => And.intro (fun h5 => And.intro (fun h6 => absurd (z21.mp h6) h2) (fun h6 => And.intro (fun h7 => absurd (z21.mp h7) h2) (fun h7 => ?_))) (fun h5 => absurd (z11.mpr (by omega)) h5)) (fun h4 => absurd (z0.mp h4) (by omega))
    refine ⟨fin 1 1 _ _ ?_ ?_ ?_ ?_, Nat.le_refl _, Nat.le_refl _⟩
    · rw [x3, if_neg (by omega), if_pos (by omega)]; rfl
    · rw [x6, if_pos (by omega)]; rfl
    · show zI c - 11 = _
      rw [x4, if_neg (by omega), if_neg (by omega), if_pos (by omega), zI_n, zI_sub]
    · show (0 : Int32) = _
      rw [x5, if_pos (by omega), zI_n]
  · have h := z0.mp h
    refine And.intro (fun h4 => absurd (z0.mpr h) h4) (fun h4 => And.intro (fun h7 => absurd (z21.mp h7) (by omega)) (fun h7 => ?_))
    refine ⟨fin 0 0 _ _ ?_ ?_ ?_ ?_, Nat.le_refl _, Nat.le_refl _⟩
    · rw [x3, if_pos (by omega)]; rfl
    · rw [x6, if_neg (by omega)]; rfl
    · show (0 : Int32) = _
      rw [x4, if_pos (by omega), zI_n]
    · show (0 : Int32) = _
      rw [x5, if_pos (by omega), zI_n]
  · have h := z0.mp h
    exact absurd (z10.mpr (by omega)) h3
