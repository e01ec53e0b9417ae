/-! ===== texts: words, numbers, signs; the model's methods that read them ===== -/
set_option maxRecDepth 100000
def rnF (q : Nat → Bool) (n : Nat) : Nat → Nat → Nat
  | 0, a => a
  | f + 1, a => bif decide (a < n) && q a then rnF q n f (a + 1) else a
/-- the first place from a on that is n or has not q -/
def rn (q : Nat → Bool) (n a : Nat) : Nat := rnF q n (n - a) a
theorem rn_t {q : Nat → Bool} {n a : Nat} (h : a < n) (hq : q a = true) : rn q n a = rn q n (a + 1) := by
  unfold rn
  obtain ⟨f, e⟩ : ∃ f, n - a = f + 1 := ⟨n - a - 1, by omega⟩
  have e2 : n - (a + 1) = f := by omega
  rw [e, e2]
  show (bif decide (a < n) && q a then rnF q n f (a + 1) else a) = _
  rw [hq, decide_eq_true h]
  rfl
theorem rn_f {q : Nat → Bool} {n a : Nat} (h : a < n → q a = false) : rn q n a = a := by
  unfold rn
  by_cases ha : a < n
  · obtain ⟨f, e⟩ : ∃ f, n - a = f + 1 := ⟨n - a - 1, by omega⟩
    rw [e]
    show (bif decide (a < n) && q a then rnF q n f (a + 1) else a) = _
    rw [h ha, Bool.and_false]
    rfl
  · have e : n - a = 0 := by omega
    rw [e]
    rfl
theorem rn_in {q : Nat → Bool} {n : Nat} : ∀ (f a : Nat), n - a = f → a ≤ n → a ≤ rn q n a ∧ rn q n a ≤ n ∧ (rn q n a < n → q (rn q n a) = false) ∧ ∀ k, a ≤ k → k < rn q n a → q k = true
  | 0, a, h, h2 => by
    have e : rn q n a = a := rn_f (fun h => by omega)
    rw [e]
    exact ⟨Nat.le_refl _, h2, fun h => by omega, fun k h1 h2 => by omega⟩
  | f + 1, a, h, h2 => by
    cases hq : q a with
    | false =>
      have e : rn q n a = a := rn_f (fun _ => hq)
      rw [e]
      exact ⟨Nat.le_refl _, h2, fun _ => hq, fun k h1 h2 => by omega⟩
    | true =>
      have e : rn q n a = rn q n (a + 1) := rn_t (by omega) hq
      obtain ⟨i1, i2, i3, i4⟩ := rn_in (q := q) (n := n) f (a + 1) (by omega) (by omega)
      rw [e]
      refine ⟨by omega, i2, i3, fun k h3 h4 => ?_⟩
      by_cases hk : k = a
      · rw [hk]; exact hq
      · exact i4 k (by omega) h4
theorem rn_ge {q : Nat → Bool} {n a : Nat} (h : a ≤ n) : a ≤ rn q n a := (rn_in _ a rfl h).1
theorem rn_le {q : Nat → Bool} {n a : Nat} (h : a ≤ n) : rn q n a ≤ n := (rn_in _ a rfl h).2.1
def qB (tx : Nat → Int) (k : Nat) : Bool := decide (tx k = 32)
def qL (tx : Nat → Int) (k : Nat) : Bool := decide (97 ≤ tx k) && decide (tx k ≤ 122)
def qD (tx : Nat → Int) (k : Nat) : Bool := decide (48 ≤ tx k) && decide (tx k ≤ 57)
/-- at, fault and deep are set -/
def pS (S : Nat → Nat → Int) (a f d : Int) : Nat → Nat → Int := fun h k => if h = 0 ∧ k = 9 then a else if h = 0 ∧ k = 10 then f else if h = 0 ∧ k = 11 then d else S h k
theorem pS_at (S : Nat → Nat → Int) (a f d : Int) (h k : Nat) : pS S a f d h k = if h = 0 ∧ k = 9 then a else if h = 0 ∧ k = 10 then f else if h = 0 ∧ k = 11 then d else S h k := rfl
theorem pS_9 (S : Nat → Nat → Int) (a f d v : Int) : mm_up (pS S a f d) 0 9 v = pS S v f d := by
  funext h k
  grind [up_eq, pS_at]
theorem pS_10 (S : Nat → Nat → Int) (a f d v : Int) : mm_up (pS S a f d) 0 10 v = pS S a v d := by
  funext h k
  grind [up_eq, pS_at]
theorem pS_11 (S : Nat → Nat → Int) (a f d v : Int) : mm_up (pS S a f d) 0 11 v = pS S a f v := by
  funext h k
  grind [up_eq, pS_at]
theorem pS_pS (S : Nat → Nat → Int) (a f d a' f' d' : Int) : pS (pS S a f d) a' f' d' = pS S a' f' d' := by
  funext h k
  grind [pS_at]
theorem pS_id (S : Nat → Nat → Int) : pS S (S 0 9) (S 0 10) (S 0 11) = S := by
  funext h k
  grind [pS_at]
/-- the text that is read -/
def mT (S : Nat → Nat → Int) (tx : Nat → Int) (n : Nat) : Prop := n ≤ 400 ∧ S 0 8 = n ∧ (∀ k, k < n → 0 ≤ tx k ∧ tx k ≤ 255) ∧ ((S 0 7 = -1 ∧ ∀ k, k < n → S 4 k = tx k) ∨ ∃ b : Nat, S 0 7 = b ∧ b + n ≤ 2616 ∧ ∀ k, k < n → S 1 (b + k) = tx k)
theorem mT.pS {S : Nat → Nat → Int} {tx : Nat → Int} {n : Nat} (h : mT S tx n) (a f d : Int) : mT (pS S a f d) tx n := by
  obtain ⟨h1, h2, h3, h4⟩ := h
  refine ⟨h1, by rw [pS_at]; simpa using h2, h3, ?_⟩
  rcases h4 with ⟨h5, h6⟩ | ⟨b, h5, h6, h7⟩
  · exact Or.inl ⟨by rw [pS_at]; simpa using h5, fun k hk => by rw [pS_at]; simpa using h6 k hk⟩
  · exact Or.inr ⟨b, by rw [pS_at]; simpa using h5, h6, fun k hk => by rw [pS_at]; simpa using h7 k hk⟩
def pX9_letter : mm_P := [(0, o_ald 1 0), (1, o_get 4 8 0 7), (4, o_c 5 (.int (zI (-1)))), (5, o_cne 8 17), (8, o_ald 9 0), (9, o_get 12 8 2 5), (12, o_ild 13 1), (13, o_iald 14), (14, o_goto 28), (17, o_ald 18 0), (18, o_get 21 8 2 1), (21, o_ald 22 0), (22, o_get 25 8 0 7), (25, o_ild 26 1), (26, o_iadd 27), (27, o_iald 28), (28, o_iret)]
theorem tX9_letter {C : mm_C} (G : mm_G C RX9 cX9_letter (some .int) 2 (mm_rm 1 0 0)) (hnh : mm_nh C) : mm_OKs C pX9_letter :=
  ⟨ok_aload_n G dX9_letter_0 rfl rfl,
   ok_get G (RX9, TX9, 32) rfl (by decide) rfl q1812 dX9_letter_1 rfl,
   ok_iconst G dX9_letter_4 (by decide) rfl,
   ok_cne G dX9_letter_5 rfl rfl,
   ok_aload_n G dX9_letter_8 rfl rfl,
   ok_get G (RX9, TX9, 32) rfl (by decide) rfl q1810 dX9_letter_9 rfl,
   ok_iload_n G dX9_letter_12 rfl rfl,
   ok_iald G dX9_letter_13 rfl,
   ok_goto G dX9_letter_14 rfl,
   ok_aload_n G dX9_letter_17 rfl rfl,
   ok_get G (RX9, TX9, 32) rfl (by decide) rfl q1806 dX9_letter_18 rfl,
   ok_aload_n G dX9_letter_21 rfl rfl,
   ok_get G (RX9, TX9, 32) rfl (by decide) rfl q1812 dX9_letter_22 rfl,
   ok_iload_n G dX9_letter_25 rfl rfl,
   ok_iadd G dX9_letter_26 rfl,
   ok_iald G dX9_letter_27 rfl,
   ok_iret G dX9_letter_28, trivial⟩

def sX9_letter : mm_Sp := fun as M Q X => ∃ S L tx n, ∃ k : Nat, as = [.ref 0, .int (zI k)] ∧ M = mZ S L ∧ mT S tx n ∧ k < n ∧ Q (some (.int (zI (tx k)))) (mZ S L)
theorem mX9_letter (l : Launch) (hl : l.stackTraces = false) : mm_Spec l yX9_letter (ws_ yX9_letter cX9_letter 2 (some .int)) (mm_rm 1 0 0) sX9_letter := by
  rintro as M Q X ⟨S, L, tx, n, k, rfl, rfl, ⟨h1, h2, h3, h4⟩, hk, hQ⟩
  refine mm_Met.J hl (by decide) (Nat.le_of_ble_eq_true rfl) (fun C G hnh => tX9_letter G hnh) (mm_J.go [] 20 ?_)
  rcases h4 with ⟨h5, h6⟩ | ⟨b, h5, h6, h7⟩
  · refine And.intro (fun c => ?_) (fun c => ?_)
    · exact absurd (show zI (S 0 7) = zI (-1) by rw [h5]) c
    · refine ⟨(zI_in (by omega) (by omega) (by decide) : vp_in _ 400), ?_, Nat.le_refl _, Nat.le_refl _⟩
      show Q (some (.int (zI (S 4 (zI (k : Int)).toNatClampNeg)))) (mZ S L)
      rw [zI_cl (by omega) (by omega), Int.toNat_natCast, h6 k hk]
      exact hQ
  · refine And.intro (fun c => ?_) (fun c => ?_)
    · have e : zI (S 0 7) + zI (k : Int) = zI ((b + k : Nat) : Int) := by rw [h5, zI_add]; congr 1
      refine ⟨(in_z e (by omega) (by omega) (by decide) : vp_in _ 2616), ?_, Nat.le_refl _, Nat.le_refl _⟩
      show Q (some (.int (zI (S 1 (zI (S 0 7) + zI (k : Int)).toNatClampNeg)))) (mZ S L)
      rw [e, zI_cl (by omega) (by omega), Int.toNat_natCast, h7 k hk]
      exact hQ
    · have c : zI (S 0 7) = zI (-1) := c
      rw [h5, zI_eq (by omega) (by omega) (by omega) (by omega)] at c
      omega
def pX9_skip : mm_P := [(0, o_ald 1 0), (1, o_get 4 8 0 9), (4, o_ald 5 0), (5, o_get 8 8 0 8), (8, o_cge 11 37), (11, o_ald 12 0), (12, o_ald 13 0), (13, o_get 16 8 0 9), (16, o_callv 19 2 8 sX9_letter), (19, o_c 21 (.int 32)), (21, o_cne 24 37), (24, o_ald 25 0), (25, o_dup 26), (26, o_get 29 8 0 9), (29, o_c 30 (.int 1)), (30, o_iadd 31), (31, o_puti 34 8 9), (34, o_goto 0), (37, o_vret)]
theorem tX9_skip {C : mm_C} (G : mm_G C RX9 cX9_skip none 1 (mm_rm 2 0 0)) (hnh : mm_nh C) : mm_OKs C pX9_skip :=
  ⟨ok_aload_n G dX9_skip_0 rfl rfl,
   ok_get G (RX9, TX9, 32) rfl (by decide) rfl q1814 dX9_skip_1 rfl,
   ok_aload_n G dX9_skip_4 rfl rfl,
   ok_get G (RX9, TX9, 32) rfl (by decide) rfl q1813 dX9_skip_5 rfl,
   ok_cge G dX9_skip_8 rfl rfl,
   ok_aload_n G dX9_skip_11 rfl rfl,
   ok_aload_n G dX9_skip_12 rfl rfl,
   ok_get G (RX9, TX9, 32) rfl (by decide) rfl q1814 dX9_skip_13 rfl,
   ok_callv G hnh (mX9_letter _ G.hst) rfl rfl (RX9, TX9, 32) rfl q1929 q1931 qs42 q93 q1932 (by decide +kernel) ⟨by decide, by decide⟩ dX9_skip_16 rfl,
   ok_bipush G dX9_skip_19 (by decide) rfl,
   ok_cne G dX9_skip_21 rfl rfl,
   ok_aload_n G dX9_skip_24 rfl rfl,
   ok_dup G dX9_skip_25 rfl,
   ok_get G (RX9, TX9, 32) rfl (by decide) rfl q1814 dX9_skip_26 rfl,
   ok_iconst G dX9_skip_29 (by decide) rfl,
   ok_iadd G dX9_skip_30 rfl,
   ok_puti G (idx := 80) (RX9, TX9, 32) rfl (by decide) rfl (mm_pw G (ci := 8) (k := 9) (RX9, TX9, 32) rfl (by decide) rfl q1814 dX9_skip_31) rfl,
   ok_goto G dX9_skip_34 rfl,
   ok_vret G dX9_skip_37, trivial⟩

def sX9_skip : mm_Sp := fun as M Q X => ∃ S L tx n, ∃ a : Nat, ∃ f d : Int, as = [.ref 0] ∧ M = mZ (pS S a f d) L ∧ mT S tx n ∧ a ≤ n ∧ Q none (mZ (pS S (rn (qB tx) n a : Nat) f d) L)
theorem mX9_skip (l : Launch) (hl : l.stackTraces = false) : mm_Spec l yX9_skip (ws_ yX9_skip cX9_skip 1 none) (mm_rm 2 0 0) sX9_skip := by
  rintro as M Q X ⟨S, L, tx, n, a, f, d, rfl, rfl, hT, ha, hQ⟩
  refine mm_Met.J hl (by decide) (Nat.le_of_ble_eq_true rfl) (fun C G hnh => tX9_skip G hnh) ?_
  have hn := hT.1
  have h8 := hT.2.1
  have lp : ∀ (j a : Nat), n - a = j → a ≤ n → Q none (mZ (pS S (rn (qB tx) n a : Nat) f d) L) → mm_J pX9_skip (mm_ret Q X 0 0) 0 [some (.ref 0)] [] (mZ (pS S a f d) L) (0, 0) := by
    intro j
    induction j with
    | zero =>
      intro a hj ha hQ
      refine mm_J.go [0] 20 (And.intro (fun c => ?_) (fun c => ?_))
      · have e : rn (qB tx) n a = a := rn_f (fun h => by omega)
        rw [e] at hQ
        exact ⟨hQ, Nat.le_refl _, Nat.le_refl _⟩
      · have c : ¬ zI (S 0 8) ≤ zI (a : Int) := c
        rw [h8, zI_le (by omega) (by omega) (by omega) (by omega)] at c
        omega
    | succ j ih =>
      intro a hj ha hQ
      refine mm_J.go [0] 20 (And.intro (fun c => ?_) (fun c => ?_))
      · have c : zI (S 0 8) ≤ zI (a : Int) := c
        rw [h8, zI_le (by omega) (by omega) (by omega) (by omega)] at c
        omega
      · have hx := hT.2.2.1 a (by omega)
        refine ⟨pS S a f d, L, tx, n, a, rfl, rfl, hT.pS _ _ _, by omega, ?_⟩
        refine And.intro (fun c => ?_) (fun c => ?_)
        · have c : ¬ zI (tx a) = 32 := c
          rw [zI_n, zI_eq (by omega) (by omega) (by omega) (by omega)] at c
          have e : rn (qB tx) n a = a := rn_f (fun _ => by unfold qB; exact decide_eq_false c)
          rw [e] at hQ
          exact ⟨hQ, Nat.le_refl _, Nat.le_refl _⟩
        · have c : zI (tx a) = 32 := c
          rw [zI_n, zI_eq (by omega) (by omega) (by omega) (by omega)] at c
          have e : rn (qB tx) n a = rn (qB tx) n (a + 1) := rn_t (by omega) (by unfold qB; exact decide_eq_true c)
          rw [e] at hQ
          refine mm_Jm (M' := mZ (pS S (a + 1 : Nat) f d) L) ?_ (ih (a + 1) (by omega) (by omega) hQ)
          show mm_wI (mZ (pS S a f d) L) 0 9 (zI (a : Int) + 1) = _
          rw [zI_n, zI_add, mZ_wI, pS_9]
          rfl
  exact lp _ a rfl ha hQ
def pX9_isSign : mm_P := [(0, o_ald 1 0), (1, o_callv 4 1 8 sX9_skip), (4, o_ald 5 0), (5, o_get 8 8 0 9), (8, o_ald 9 0), (9, o_get 12 8 0 8), (12, o_cge 15 31), (15, o_ald 16 0), (16, o_ald 17 0), (17, o_get 20 8 0 9), (20, o_callv 23 2 8 sX9_letter), (23, o_ild 24 1), (24, o_cne 27 31), (27, o_c 28 (.int 1)), (28, o_goto 32), (31, o_c 32 (.int 0)), (32, o_zret)]
theorem tX9_isSign {C : mm_C} (G : mm_G C RX9 cX9_isSign (some .boolean) 2 (mm_rm 3 0 0)) (hnh : mm_nh C) : mm_OKs C pX9_isSign :=
  ⟨ok_aload_n G dX9_isSign_0 rfl rfl,
   ok_callv G hnh (mX9_skip _ G.hst) rfl rfl (RX9, TX9, 32) rfl q1925 q1927 qs41 q93 q1928 (by decide +kernel) ⟨by decide, by decide⟩ dX9_isSign_1 rfl,
   ok_aload_n G dX9_isSign_4 rfl rfl,
   ok_get G (RX9, TX9, 32) rfl (by decide) rfl q1814 dX9_isSign_5 rfl,
   ok_aload_n G dX9_isSign_8 rfl rfl,
   ok_get G (RX9, TX9, 32) rfl (by decide) rfl q1813 dX9_isSign_9 rfl,
   ok_cge G dX9_isSign_12 rfl rfl,
   ok_aload_n G dX9_isSign_15 rfl rfl,
   ok_aload_n G dX9_isSign_16 rfl rfl,
   ok_get G (RX9, TX9, 32) rfl (by decide) rfl q1814 dX9_isSign_17 rfl,
   ok_callv G hnh (mX9_letter _ G.hst) rfl rfl (RX9, TX9, 32) rfl q1929 q1931 qs42 q93 q1932 (by decide +kernel) ⟨by decide, by decide⟩ dX9_isSign_20 rfl,
   ok_iload_n G dX9_isSign_23 rfl rfl,
   ok_cne G dX9_isSign_24 rfl rfl,
   ok_iconst G dX9_isSign_27 (by decide) rfl,
   ok_goto G dX9_isSign_28 rfl,
   ok_iconst G dX9_isSign_31 (by decide) rfl,
   ok_zret G dX9_isSign_32, trivial⟩

def isSg (tx : Nat → Int) (n b : Nat) (c : Int) : Bool := decide (b < n) && decide (tx b = c)
theorem isSg_t {tx : Nat → Int} {n b : Nat} {c : Int} : isSg tx n b c = true ↔ b < n ∧ tx b = c := by simp [isSg]
theorem isSg_f {tx : Nat → Int} {n b : Nat} {c : Int} : isSg tx n b c = false ↔ ¬ (b < n ∧ tx b = c) := by rw [← isSg_t]; simp
def sX9_isSign : mm_Sp := fun as M Q X => ∃ S L tx n, ∃ a : Nat, ∃ f d c : Int, R32 c ∧ as = [.ref 0, .int (zI c)] ∧ M = mZ (pS S a f d) L ∧ mT S tx n ∧ a ≤ n ∧ Q (some (.int (bz (isSg tx n (rn (qB tx) n a) c)))) (mZ (pS S (rn (qB tx) n a : Nat) f d) L)
theorem mX9_isSign (l : Launch) (hl : l.stackTraces = false) : mm_Spec l yX9_isSign (ws_ yX9_isSign cX9_isSign 2 (some .boolean)) (mm_rm 3 0 0) sX9_isSign := by
  rintro as M Q X ⟨S, L, tx, n, a, f, d, c, hc, rfl, rfl, hT, ha, hQ⟩
  have hn := hT.1
  have h8 := hT.2.1
  have hb := rn_le (q := qB tx) ha
  refine mm_Met.J hl (by decide) (Nat.le_of_ble_eq_true rfl) (fun C G hnh => tX9_isSign G hnh) (mm_J.go [4] 20 ?_)
  refine ⟨S, L, tx, n, a, f, d, rfl, rfl, hT, ha, ?_⟩
  generalize rn (qB tx) n a = b at hQ hb
  refine mm_J.go [] 30 (And.intro (fun h => ?_) (fun h => ?_))
  · have h : zI (S 0 8) ≤ zI (b : Int) := h
    rw [h8, zI_le (by omega) (by omega) (by omega) (by omega)] at h
    exact ⟨Or.inl rfl, bzF hQ (isSg_f.mpr (by omega)), Nat.le_refl _, Nat.le_refl _⟩
  · have h : ¬ zI (S 0 8) ≤ zI (b : Int) := h
    rw [h8, zI_le (by omega) (by omega) (by omega) (by omega)] at h
    have hx := hT.2.2.1 b (by omega)
    refine ⟨pS S b f d, L, tx, n, b, rfl, rfl, hT.pS _ _ _, by omega, And.intro (fun h2 => ?_) (fun h2 => ?_)⟩
    · have h2 : ¬ zI (tx b) = zI c := h2
      rw [zI_eq (by omega) (by omega) hc.1 hc.2] at h2
      exact ⟨Or.inl rfl, bzF hQ (isSg_f.mpr (by omega)), Nat.le_refl _, Nat.le_refl _⟩
    · have h2 : zI (tx b) = zI c := h2
      rw [zI_eq (by omega) (by omega) hc.1 hc.2] at h2
      exact ⟨Or.inr rfl, bzT hQ (isSg_t.mpr (by omega)), Nat.le_refl _, Nat.le_refl _⟩
def pX9_wrong : mm_P := [(0, o_ald 1 0), (1, o_get 4 8 0 10), (4, o_c 5 (.int (zI (-1)))), (5, o_cne 8 13), (8, o_ald 9 0), (9, o_ild 10 1), (10, o_puti 13 8 10), (13, o_vret)]
theorem tX9_wrong {C : mm_C} (G : mm_G C RX9 cX9_wrong none 2 (mm_rm 1 0 0)) (hnh : mm_nh C) : mm_OKs C pX9_wrong :=
  ⟨ok_aload_n G dX9_wrong_0 rfl rfl,
   ok_get G (RX9, TX9, 32) rfl (by decide) rfl q1815 dX9_wrong_1 rfl,
   ok_iconst G dX9_wrong_4 (by decide) rfl,
   ok_cne G dX9_wrong_5 rfl rfl,
   ok_aload_n G dX9_wrong_8 rfl rfl,
   ok_iload_n G dX9_wrong_9 rfl rfl,
   ok_puti G (idx := 22) (RX9, TX9, 32) rfl (by decide) rfl (mm_pw G (ci := 8) (k := 10) (RX9, TX9, 32) rfl (by decide) rfl q1815 dX9_wrong_10) rfl,
   ok_vret G dX9_wrong_13, trivial⟩

def wrF (f w : Int) : Int := if f = -1 then w else f
def sX9_wrong : mm_Sp := fun as M Q X => ∃ S L, ∃ a f d w : Int, R32 f ∧ as = [.ref 0, .int (zI w)] ∧ M = mZ (pS S a f d) L ∧ Q none (mZ (pS S a (wrF f w) d) L)
theorem mX9_wrong (l : Launch) (hl : l.stackTraces = false) : mm_Spec l yX9_wrong (ws_ yX9_wrong cX9_wrong 2 none) (mm_rm 1 0 0) sX9_wrong := by
  rintro as M Q X ⟨S, L, a, f, d, w, hf, rfl, rfl, hQ⟩
  refine mm_Met.J hl (by decide) (Nat.le_of_ble_eq_true rfl) (fun C G hnh => tX9_wrong G hnh) (mm_J.go [] 20 (And.intro (fun c => ?_) (fun c => ?_)))
  · have c : ¬ zI f = zI (-1) := c
    rw [zI_eq hf.1 hf.2 (by omega) (by omega)] at c
    refine ⟨mm_Qm ?_ hQ, Nat.le_refl _, Nat.le_refl _⟩
    rw [wrF, if_neg c]
  · have c : zI f = zI (-1) := c
    rw [zI_eq hf.1 hf.2 (by omega) (by omega)] at c
    refine ⟨mm_Qm ?_ hQ, Nat.le_refl _, Nat.le_refl _⟩
    show mm_wI (mZ (pS S a f d) L) 0 10 (zI w) = _
    rw [mZ_wI, pS_10, wrF, if_pos c]
def pX9_has : mm_P := [(0, o_ald 1 0), (1, o_callv 4 1 8 sX9_skip), (4, o_ald 5 0), (5, o_get 8 8 0 9), (8, o_ist 9 2), (9, o_ild 10 2), (10, o_ald 11 0), (11, o_get 14 8 0 8), (14, o_cge 17 38), (17, o_ald 18 0), (18, o_ild 19 2), (19, o_callv 22 2 8 sX9_letter), (22, o_c 24 (.int 97)), (24, o_c 26 (.int 122)), (26, o_calls 29 3 sX9_isIn), (29, o_ifeq 32 38), (32, o_inc 35 2 1), (35, o_goto 9), (38, o_ild 39 2), (39, o_ald 40 0), (40, o_get 43 8 0 9), (43, o_isub 44), (44, o_ald 45 1), (45, o_callv 48 1 19 sJ8_length), (48, o_ceq 51 53), (51, o_c 52 (.int 0)), (52, o_zret), (53, o_c 54 (.int 0)), (54, o_ist 55 3), (55, o_ild 56 3), (56, o_ald 57 1), (57, o_callv 60 1 19 sJ8_length), (60, o_cge 63 89), (63, o_ald 64 0), (64, o_ald 65 0), (65, o_get 68 8 0 9), (68, o_ild 69 3), (69, o_iadd 70), (70, o_callv 73 2 8 sX9_letter), (73, o_ald 74 1), (74, o_ild 75 3), (75, o_callv 78 2 19 sJ8_charAt), (78, o_ceq 81 83), (81, o_c 82 (.int 0)), (82, o_zret), (83, o_inc 86 3 1), (86, o_goto 55), (89, o_ald 90 0), (90, o_ild 91 2), (91, o_puti 94 8 9), (94, o_c 95 (.int 1)), (95, o_zret)]
theorem tX9_has {C : mm_C} (G : mm_G C RX9 cX9_has (some .boolean) 4 (mm_rm 5 0 0)) (hnh : mm_nh C) : mm_OKs C pX9_has :=
  ⟨ok_aload_n G dX9_has_0 rfl rfl,
   ok_callv G hnh (mX9_skip _ G.hst) rfl rfl (RX9, TX9, 32) rfl q1925 q1927 qs41 q93 q1928 (by decide +kernel) ⟨by decide, by decide⟩ dX9_has_1 rfl,
   ok_aload_n G dX9_has_4 rfl rfl,
   ok_get G (RX9, TX9, 32) rfl (by decide) rfl q1814 dX9_has_5 rfl,
   ok_istore_n G dX9_has_8 rfl rfl (by decide),
   ok_iload_n G dX9_has_9 rfl rfl,
   ok_aload_n G dX9_has_10 rfl rfl,
   ok_get G (RX9, TX9, 32) rfl (by decide) rfl q1813 dX9_has_11 rfl,
   ok_cge G dX9_has_14 rfl rfl,
   ok_aload_n G dX9_has_17 rfl rfl,
   ok_iload_n G dX9_has_18 rfl rfl,
   ok_callv G hnh (mX9_letter _ G.hst) rfl rfl (RX9, TX9, 32) rfl q1929 q1931 qs42 q93 q1932 (by decide +kernel) ⟨by decide, by decide⟩ dX9_has_19 rfl,
   ok_bipush G dX9_has_22 (by decide) rfl,
   ok_bipush G dX9_has_24 (by decide) rfl,
   ok_calls G hnh (mX9_isIn _ G.hst) rfl rfl q1914 q1915 q93 q1916 (by decide +kernel) ⟨by decide, by decide⟩ dX9_has_26 rfl,
   ok_ifeq G dX9_has_29 rfl rfl,
   ok_iinc G dX9_has_32 (by decide) rfl (by decide),
   ok_goto G dX9_has_35 rfl,
   ok_iload_n G dX9_has_38 rfl rfl,
   ok_aload_n G dX9_has_39 rfl rfl,
   ok_get G (RX9, TX9, 32) rfl (by decide) rfl q1814 dX9_has_40 rfl,
   ok_isub G dX9_has_43 rfl,
   ok_aload_n G dX9_has_44 rfl rfl,
   ok_callv G hnh (mJ8_length _ G.hst) rfl rfl (RJ8, TJ8, 4) rfl q1946 q880 q881 q100 q882 (by decide +kernel) ⟨by decide, by decide⟩ dX9_has_45 rfl,
   ok_ceq G dX9_has_48 rfl rfl,
   ok_iconst G dX9_has_51 (by decide) rfl,
   ok_zret G dX9_has_52,
   ok_iconst G dX9_has_53 (by decide) rfl,
   ok_istore_n G dX9_has_54 rfl rfl (by decide),
   ok_iload_n G dX9_has_55 rfl rfl,
   ok_aload_n G dX9_has_56 rfl rfl,
   ok_callv G hnh (mJ8_length _ G.hst) rfl rfl (RJ8, TJ8, 4) rfl q1946 q880 q881 q100 q882 (by decide +kernel) ⟨by decide, by decide⟩ dX9_has_57 rfl,
   ok_cge G dX9_has_60 rfl rfl,
   ok_aload_n G dX9_has_63 rfl rfl,
   ok_aload_n G dX9_has_64 rfl rfl,
   ok_get G (RX9, TX9, 32) rfl (by decide) rfl q1814 dX9_has_65 rfl,
   ok_iload_n G dX9_has_68 rfl rfl,
   ok_iadd G dX9_has_69 rfl,
   ok_callv G hnh (mX9_letter _ G.hst) rfl rfl (RX9, TX9, 32) rfl q1929 q1931 qs42 q93 q1932 (by decide +kernel) ⟨by decide, by decide⟩ dX9_has_70 rfl,
   ok_aload_n G dX9_has_73 rfl rfl,
   ok_iload_n G dX9_has_74 rfl rfl,
   ok_callv G hnh (mJ8_charAt _ G.hst) rfl rfl (RJ8, TJ8, 4) rfl q1947 q1948 q1949 q100 q1950 (by decide +kernel) ⟨by decide, by decide⟩ dX9_has_75 rfl,
   ok_ceq G dX9_has_78 rfl rfl,
   ok_iconst G dX9_has_81 (by decide) rfl,
   ok_zret G dX9_has_82,
   ok_iinc G dX9_has_83 (by decide) rfl (by decide),
   ok_goto G dX9_has_86 rfl,
   ok_aload_n G dX9_has_89 rfl rfl,
   ok_iload_n G dX9_has_90 rfl rfl,
   ok_puti G (idx := 80) (RX9, TX9, 32) rfl (by decide) rfl (mm_pw G (ci := 8) (k := 9) (RX9, TX9, 32) rfl (by decide) rfl q1814 dX9_has_91) rfl,
   ok_iconst G dX9_has_94 (by decide) rfl,
   ok_zret G dX9_has_95, trivial⟩

/-- the j-th word constant -/
def wo (j : Nat) : List Nat := mm_txt.getD j []
theorem wo_str (S L : Nat → Nat → Int) : ∀ j, j < 18 → isStr (mZ S L) (1000 + j) (1100 + j) (wo j).length (mm_kI (1100 + j)) := by
  have h : ∀ j, j < 18 → mS (1000 + j) = (17, 19) ∧ mm_kP (1000 + j) 0 = some (1100 + j) ∧ mm_kI (1000 + j) 1 = 0 ∧ mS (1100 + j) = (20, (wo j).length) := by decide +kernel
  intro j hj
  obtain ⟨h1, h2, h3, h4⟩ := h j hj
  exact Or.inr ⟨h1, h2, h3, h4, rfl⟩
theorem wo_chr : ∀ j, j < 18 → ∀ i, i < (wo j).length → mm_kI (1100 + j) i = zI ((wo j).getD i 0) ∧ 97 ≤ (wo j).getD i 0 ∧ (wo j).getD i 0 < 123 := by decide +kernel
theorem wo_len : ∀ j, j < 18 → (wo j).length < 10 ∧ 0 < (wo j).length := by decide +kernel
def hsW (tx : Nat → Int) (n b : Nat) (w : List Nat) : Bool := decide (rn (qL tx) n b = b + w.length) && (List.range w.length).all (fun i => decide (tx (b + i) = (w.getD i 0 : Nat)))
theorem hsW_t {tx : Nat → Int} {n b : Nat} {w : List Nat} : hsW tx n b w = true ↔ rn (qL tx) n b = b + w.length ∧ ∀ i, i < w.length → tx (b + i) = (w.getD i 0 : Nat) := by
  unfold hsW
  simp only [Bool.and_eq_true, decide_eq_true_eq, List.all_eq_true, List.mem_range]
theorem hsW_f {tx : Nat → Int} {n b : Nat} {w : List Nat} : hsW tx n b w = false ↔ ¬ (rn (qL tx) n b = b + w.length ∧ ∀ i, i < w.length → tx (b + i) = (w.getD i 0 : Nat)) := by
  rw [← hsW_t]; simp
/-- where one is behind has -/
def hsA (tx : Nat → Int) (n b : Nat) (w : List Nat) : Nat := bif hsW tx n b w then b + w.length else b
def sX9_has : mm_Sp := fun as M Q X => ∃ S L tx n, ∃ a j : Nat, ∃ f d : Int, j < 18 ∧ as = [.ref 0, .ref (1000 + j)] ∧ M = mZ (pS S a f d) L ∧ mT S tx n ∧ a ≤ n ∧ Q (some (.int (bz (hsW tx n (rn (qB tx) n a) (wo j))))) (mZ (pS S (hsA tx n (rn (qB tx) n a) (wo j) : Nat) f d) L)
theorem mX9_has (l : Launch) (hl : l.stackTraces = false) : mm_Spec l yX9_has (ws_ yX9_has cX9_has 4 (some .boolean)) (mm_rm 5 0 0) sX9_has := by
  rintro as M Q X ⟨S, L, tx, n, a, j, f, d, hj, rfl, rfl, hT, ha, hQ⟩
  have hn := hT.1
  have h8 := hT.2.1
  have hb := rn_le (q := qB tx) ha
  obtain ⟨wl, wl0⟩ := wo_len j hj
  refine mm_Met.J hl (by decide) (Nat.le_of_ble_eq_true rfl) (fun C G hnh => tX9_has G hnh) (mm_J.go [4] 20 ?_)
  refine ⟨S, L, tx, n, a, f, d, rfl, rfl, hT, ha, ?_⟩
  generalize rn (qB tx) n a = b at hQ hb
  have hk1 := rn_ge (q := qL tx) hb
  have hk2 := rn_le (q := qL tx) hb
  -- the letters are compared
  have l55 : ∀ (r i : Nat) (hk : rn (qL tx) n b = b + (wo j).length), i + r = (wo j).length → (∀ i', i' < i → tx (b + i') = ((wo j).getD i' 0 : Nat)) → mm_J pX9_has (mm_ret Q X 0 0) 55 [some (.ref 0), some (.ref (1000 + j)), some (.int (zI (rn (qL tx) n b : Nat))), some (.int (zI i))] [] (mZ (pS S b f d) L) (0, 0) := by
    intro r
    induction r with
    | zero =>
      intro i hk hi hm
      refine mm_J.go [57] 10 ?_
      refine mm_J.op rfl (o_callv_w [.ref (1000 + j)] [.int (zI i)] rfl rfl ((wo_str _ L j hj).recv _) (by show 1 ≤ 8; decide) ⟨_, _, _, _, rfl, wo_str _ L j hj, ?_⟩)
      refine mm_J.go [55] 30 (And.intro (fun h => ?_) (fun h => ?_))
      · have e : hsW tx n b (wo j) = true := hsW_t.mpr ⟨hk, fun i' h' => hm i' (by omega)⟩
        refine ⟨Or.inr rfl, mm_Qm ?_ (bzT hQ e), Nat.le_refl _, Nat.le_refl _⟩
        show mm_wI (mZ (pS S b f d) L) 0 9 (zI (rn (qL tx) n b : Nat)) = _
        rw [mZ_wI, pS_9, hk, hsA, e]
        rfl
      · have h : ¬ nI (wo j).length ≤ zI (i : Int) := h
        rw [zI_nI, zI_le (by omega) (by omega) (by omega) (by omega)] at h
        omega
    | succ r ih =>
      intro i hk hi hm
      refine mm_J.go [57] 10 ?_
      refine mm_J.op rfl (o_callv_w [.ref (1000 + j)] [.int (zI i)] rfl rfl ((wo_str _ L j hj).recv _) (by show 1 ≤ 8; decide) ⟨_, _, _, _, rfl, wo_str _ L j hj, ?_⟩)
      refine mm_J.go [55, 75] 30 (And.intro (fun h => ?_) (fun h => ?_))
      · have h : nI (wo j).length ≤ zI (i : Int) := h
        rw [zI_nI, zI_le (by omega) (by omega) (by omega) (by omega)] at h
        omega
      · have e1 : zI (b : Int) + zI (i : Int) = zI ((b + i : Nat) : Int) := by rw [zI_add]; rfl
        refine ⟨pS S b f d, L, tx, n, b + i, congrArg (fun z => [Value.ref 0, Value.int z]) e1, rfl, hT.pS _ _ _, by omega, ?_⟩
        obtain ⟨c1, c2, c3⟩ := wo_chr j hj i (by omega)
        have hx := hT.2.2.1 (b + i) (by omega)
        refine mm_J.op rfl (o_callv_w [.ref (1000 + j), .int (zI i)] [.int (zI (tx (b + i)))] rfl rfl ((wo_str _ L j hj).recv _) (by show 1 ≤ 8; decide) ⟨_, _, i, _, _, rfl, wo_str _ L j hj, by omega, by omega, _, c1, by omega, ?_⟩)
        refine mm_J.go [55] 30 (And.intro (fun h2 => ?_) (fun h2 => ?_))
        · have h2 : zI (tx (b + i)) = zI ((wo j).getD i 0 : Nat) := h2
          rw [zI_eq (by omega) (by omega) (by omega) (by omega)] at h2
          refine mm_Jl (lv' := [some (.ref 0), some (.ref (1000 + j)), some (.int (zI (rn (qL tx) n b : Nat))), some (.int (zI (i + 1 : Nat)))]) ?_ (ih (i + 1) hk (by omega) (fun i' h' => ?_))
          · show [some (Value.ref 0), some (.ref (1000 + j)), some (.int (zI (rn (qL tx) n b : Nat))), some (.int (zI (i : Int) + 1))] = _
            rw [zI_n, zI_add]
            rfl
          · by_cases e : i' = i
            · rw [e]; exact h2
            · exact hm i' (by omega)
        · have h2 : ¬ zI (tx (b + i)) = zI ((wo j).getD i 0 : Nat) := h2
          rw [zI_eq (by omega) (by omega) (by omega) (by omega)] at h2
          have e : hsW tx n b (wo j) = false := hsW_f.mpr (fun q => h2 (q.2 i (by omega)))
          refine ⟨Or.inl rfl, mm_Qm ?_ (bzF hQ e), Nat.le_refl _, Nat.le_refl _⟩
          rw [hsA, e]
          rfl
  -- behind the word
  have l38 : ∀ lv3 : Option Value, mm_J pX9_has (mm_ret Q X 0 0) 38 [some (.ref 0), some (.ref (1000 + j)), some (.int (zI (rn (qL tx) n b : Nat))), lv3] [] (mZ (pS S b f d) L) (0, 0) := by
    intro lv3
    refine mm_J.go [45] 10 ?_
    refine mm_J.op rfl (o_callv_w [.ref (1000 + j)] [.int (zI (rn (qL tx) n b : Nat) - zI b)] rfl rfl ((wo_str _ L j hj).recv _) (by show 1 ≤ 8; decide) ⟨_, _, _, _, rfl, wo_str _ L j hj, ?_⟩)
    refine mm_J.go [55] 30 (And.intro (fun h => ?_) (fun h => ?_))
    · have h : zI (rn (qL tx) n b : Nat) - zI b = nI (wo j).length := h
      rw [zI_nI, zI_sub, zI_eq (by omega) (by omega) (by omega) (by omega)] at h
      exact l55 _ 0 (by omega) (Nat.zero_add _) (fun i' h' => absurd h' (Nat.not_lt_zero _))
    · have h : ¬ zI (rn (qL tx) n b : Nat) - zI b = nI (wo j).length := h
      rw [zI_nI, zI_sub, zI_eq (by omega) (by omega) (by omega) (by omega)] at h
      have e : hsW tx n b (wo j) = false := hsW_f.mpr (fun q => h (by omega))
      refine ⟨Or.inl rfl, mm_Qm ?_ (bzF hQ e), Nat.le_refl _, Nat.le_refl _⟩
      rw [hsA, e]
      rfl
  -- the word's end is found
  have l9 : ∀ (r k : Nat) (lv3 : Option Value), n - k = r → b ≤ k → k ≤ n → rn (qL tx) n k = rn (qL tx) n b → mm_J pX9_has (mm_ret Q X 0 0) 9 [some (.ref 0), some (.ref (1000 + j)), some (.int (zI k)), lv3] [] (mZ (pS S b f d) L) (0, 0) := by
    intro r
    induction r with
    | zero =>
      intro k lv3 hr h1 h2 he
      refine mm_J.go [9, 38] 20 (And.intro (fun h => ?_) (fun h => ?_))
      · have e : rn (qL tx) n k = k := rn_f (fun h => by omega)
        refine mm_Jl (lv' := [some (.ref 0), some (.ref (1000 + j)), some (.int (zI (rn (qL tx) n b : Nat))), lv3]) ?_ (l38 lv3)
        rw [← he, e]
      · have h : ¬ zI (S 0 8) ≤ zI (k : Int) := h
        rw [h8, zI_le (by omega) (by omega) (by omega) (by omega)] at h
        omega
    | succ r ih =>
      intro k lv3 hr h1 h2 he
      refine mm_J.go [9, 38] 20 (And.intro (fun h => ?_) (fun h => ?_))
      · have h : zI (S 0 8) ≤ zI (k : Int) := h
        rw [h8, zI_le (by omega) (by omega) (by omega) (by omega)] at h
        omega
      · have hx := hT.2.2.1 k (by omega)
        refine ⟨pS S b f d, L, tx, n, k, rfl, rfl, hT.pS _ _ _, by omega, ?_⟩
        refine ⟨zI (tx k), 97, 122, rfl, And.intro (fun c => ?_) (fun c => ?_)⟩
        · have c := (isin_f (l := 97) (h := 122) ⟨by omega, by omega⟩ (by decide) (by decide)).mp c
          have e : rn (qL tx) n k = k := rn_f (fun _ => by unfold qL; grind)
          refine mm_Jl (lv' := [some (.ref 0), some (.ref (1000 + j)), some (.int (zI (rn (qL tx) n b : Nat))), lv3]) ?_ (l38 lv3)
          rw [← he, e]
        · have c := (isin_t (l := 97) (h := 122) ⟨by omega, by omega⟩ (by decide) (by decide)).mp c
          have e : rn (qL tx) n k = rn (qL tx) n (k + 1) := rn_t (by omega) (by unfold qL; grind)
          refine mm_Jl (lv' := [some (.ref 0), some (.ref (1000 + j)), some (.int (zI (k + 1 : Nat))), lv3]) ?_ (ih (k + 1) lv3 (by omega) (by omega) (by omega) (by rw [← e]; exact he))
          show [some (Value.ref 0), some (.ref (1000 + j)), some (.int (zI (k : Int) + 1)), lv3] = _
          rw [zI_n, zI_add]
          rfl
  refine mm_J.go [9] 20 ?_
  exact l9 _ b _ rfl (Nat.le_refl _) hb rfl
def pX9_figures : mm_P := [(0, o_ald 1 0), (1, o_get 4 8 0 10), (4, o_c 5 (.int (zI (-1)))), (5, o_ceq 8 10), (8, o_c 9 (.int 0)), (9, o_iret), (10, o_ald 11 0), (11, o_callv 14 1 8 sX9_skip), (14, o_ald 15 0), (15, o_get 18 8 0 9), (18, o_ist 19 3), (19, o_c 20 (.int 0)), (20, o_ist 22 4), (22, o_ald 23 0), (23, o_get 26 8 0 9), (26, o_ald 27 0), (27, o_get 30 8 0 8), (30, o_cge 33 93), (33, o_ald 34 0), (34, o_ald 35 0), (35, o_get 38 8 0 9), (38, o_callv 41 2 8 sX9_letter), (41, o_c 43 (.int 48)), (43, o_c 45 (.int 57)), (45, o_calls 48 3 sX9_isIn), (48, o_ifeq 51 93), (51, o_ald 52 0), (52, o_get 55 8 0 9), (55, o_ild 56 3), (56, o_isub 57), (57, o_c 58 (.int 4)), (58, o_cge 61 93), (61, o_c 63 (.int 10)), (63, o_ild 65 4), (65, o_imul 66), (66, o_ald 67 0), (67, o_ald 68 0), (68, o_get 71 8 0 9), (71, o_callv 74 2 8 sX9_letter), (74, o_iadd 75), (75, o_c 77 (.int 48)), (77, o_isub 78), (78, o_ist 80 4), (80, o_ald 81 0), (81, o_dup 82), (82, o_get 85 8 0 9), (85, o_c 86 (.int 1)), (86, o_iadd 87), (87, o_puti 90 8 9), (90, o_goto 22), (93, o_ald 94 0), (94, o_get 97 8 0 9), (97, o_ild 98 3), (98, o_ceq 101 123), (101, o_ald 102 0), (102, o_get 105 8 0 9), (105, o_ild 106 3), (106, o_isub 107), (107, o_c 108 (.int 3)), (108, o_cgt 111 123), (111, o_ild 113 4), (113, o_ild 114 1), (114, o_clt 117 123), (117, o_ild 119 4), (119, o_ild 120 2), (120, o_cle 123 128), (123, o_ald 124 0), (124, o_ild 125 3), (125, o_callv 128 2 8 sX9_wrong), (128, o_ild 130 4), (130, o_iret)]
theorem tX9_figures {C : mm_C} (G : mm_G C RX9 cX9_figures (some .int) 5 (mm_rm 5 0 0)) (hnh : mm_nh C) : mm_OKs C pX9_figures :=
  ⟨ok_aload_n G dX9_figures_0 rfl rfl,
   ok_get G (RX9, TX9, 32) rfl (by decide) rfl q1815 dX9_figures_1 rfl,
   ok_iconst G dX9_figures_4 (by decide) rfl,
   ok_ceq G dX9_figures_5 rfl rfl,
   ok_iconst G dX9_figures_8 (by decide) rfl,
   ok_iret G dX9_figures_9,
   ok_aload_n G dX9_figures_10 rfl rfl,
   ok_callv G hnh (mX9_skip _ G.hst) rfl rfl (RX9, TX9, 32) rfl q1925 q1927 qs41 q93 q1928 (by decide +kernel) ⟨by decide, by decide⟩ dX9_figures_11 rfl,
   ok_aload_n G dX9_figures_14 rfl rfl,
   ok_get G (RX9, TX9, 32) rfl (by decide) rfl q1814 dX9_figures_15 rfl,
   ok_istore_n G dX9_figures_18 rfl rfl (by decide),
   ok_iconst G dX9_figures_19 (by decide) rfl,
   ok_istore G dX9_figures_20 rfl (by decide),
   ok_aload_n G dX9_figures_22 rfl rfl,
   ok_get G (RX9, TX9, 32) rfl (by decide) rfl q1814 dX9_figures_23 rfl,
   ok_aload_n G dX9_figures_26 rfl rfl,
   ok_get G (RX9, TX9, 32) rfl (by decide) rfl q1813 dX9_figures_27 rfl,
   ok_cge G dX9_figures_30 rfl rfl,
   ok_aload_n G dX9_figures_33 rfl rfl,
   ok_aload_n G dX9_figures_34 rfl rfl,
   ok_get G (RX9, TX9, 32) rfl (by decide) rfl q1814 dX9_figures_35 rfl,
   ok_callv G hnh (mX9_letter _ G.hst) rfl rfl (RX9, TX9, 32) rfl q1929 q1931 qs42 q93 q1932 (by decide +kernel) ⟨by decide, by decide⟩ dX9_figures_38 rfl,
   ok_bipush G dX9_figures_41 (by decide) rfl,
   ok_bipush G dX9_figures_43 (by decide) rfl,
   ok_calls G hnh (mX9_isIn _ G.hst) rfl rfl q1914 q1915 q93 q1916 (by decide +kernel) ⟨by decide, by decide⟩ dX9_figures_45 rfl,
   ok_ifeq G dX9_figures_48 rfl rfl,
   ok_aload_n G dX9_figures_51 rfl rfl,
   ok_get G (RX9, TX9, 32) rfl (by decide) rfl q1814 dX9_figures_52 rfl,
   ok_iload_n G dX9_figures_55 rfl rfl,
   ok_isub G dX9_figures_56 rfl,
   ok_iconst G dX9_figures_57 (by decide) rfl,
   ok_cge G dX9_figures_58 rfl rfl,
   ok_bipush G dX9_figures_61 (by decide) rfl,
   ok_iload G dX9_figures_63 rfl,
   ok_imul G dX9_figures_65 rfl,
   ok_aload_n G dX9_figures_66 rfl rfl,
   ok_aload_n G dX9_figures_67 rfl rfl,
   ok_get G (RX9, TX9, 32) rfl (by decide) rfl q1814 dX9_figures_68 rfl,
   ok_callv G hnh (mX9_letter _ G.hst) rfl rfl (RX9, TX9, 32) rfl q1929 q1931 qs42 q93 q1932 (by decide +kernel) ⟨by decide, by decide⟩ dX9_figures_71 rfl,
   ok_iadd G dX9_figures_74 rfl,
   ok_bipush G dX9_figures_75 (by decide) rfl,
   ok_isub G dX9_figures_77 rfl,
   ok_istore G dX9_figures_78 rfl (by decide),
   ok_aload_n G dX9_figures_80 rfl rfl,
   ok_dup G dX9_figures_81 rfl,
   ok_get G (RX9, TX9, 32) rfl (by decide) rfl q1814 dX9_figures_82 rfl,
   ok_iconst G dX9_figures_85 (by decide) rfl,
   ok_iadd G dX9_figures_86 rfl,
   ok_puti G (idx := 80) (RX9, TX9, 32) rfl (by decide) rfl (mm_pw G (ci := 8) (k := 9) (RX9, TX9, 32) rfl (by decide) rfl q1814 dX9_figures_87) rfl,
   ok_goto G dX9_figures_90 rfl,
   ok_aload_n G dX9_figures_93 rfl rfl,
   ok_get G (RX9, TX9, 32) rfl (by decide) rfl q1814 dX9_figures_94 rfl,
   ok_iload_n G dX9_figures_97 rfl rfl,
   ok_ceq G dX9_figures_98 rfl rfl,
   ok_aload_n G dX9_figures_101 rfl rfl,
   ok_get G (RX9, TX9, 32) rfl (by decide) rfl q1814 dX9_figures_102 rfl,
   ok_iload_n G dX9_figures_105 rfl rfl,
   ok_isub G dX9_figures_106 rfl,
   ok_iconst G dX9_figures_107 (by decide) rfl,
   ok_cgt G dX9_figures_108 rfl rfl,
   ok_iload G dX9_figures_111 rfl,
   ok_iload_n G dX9_figures_113 rfl rfl,
   ok_clt G dX9_figures_114 rfl rfl,
   ok_iload G dX9_figures_117 rfl,
   ok_iload_n G dX9_figures_119 rfl rfl,
   ok_cle G dX9_figures_120 rfl rfl,
   ok_aload_n G dX9_figures_123 rfl rfl,
   ok_iload_n G dX9_figures_124 rfl rfl,
   ok_callv G hnh (mX9_wrong _ G.hst) rfl rfl (RX9, TX9, 32) rfl q1933 q1935 qs43 q93 q1936 (by decide +kernel) ⟨by decide, by decide⟩ dX9_figures_125 rfl,
   ok_iload G dX9_figures_128 rfl,
   ok_iret G dX9_figures_130, trivial⟩

/-- the number of the figures from b up to k -/
def fgV (tx : Nat → Int) (b : Nat) : Nat → Int
  | 0 => 0
  | k + 1 => 10 * fgV tx b k + tx (b + k) - 48
/-- a number may not stand at b -/
def fgB (tx : Nat → Int) (n b : Nat) (lo hi : Int) : Bool := decide (rn (qD tx) n b = b) || decide (b + 3 < rn (qD tx) n b) || decide (fgV tx b (rn (qD tx) n b - b) < lo) || decide (hi < fgV tx b (rn (qD tx) n b - b))
theorem fgV_in {tx : Nat → Int} {n b : Nat} (hx : ∀ k, k < n → 0 ≤ tx k ∧ tx k ≤ 255) : ∀ k, b + k ≤ rn (qD tx) n b → b ≤ n → 0 ≤ fgV tx b k ∧ (k ≤ 4 → fgV tx b k < 10 ^ k)
  | 0, _, _ => by unfold fgV; exact ⟨by omega, fun _ => by decide⟩
  | k + 1, h, hb => by
    obtain ⟨i1, i2⟩ := fgV_in (n := n) hx k (by omega) hb
    have hq := (rn_in (q := qD tx) _ b rfl hb).2.2.2 (b + k) (by omega) (by omega)
    have hq : 48 ≤ tx (b + k) ∧ tx (b + k) ≤ 57 := by unfold qD at hq; simpa using hq
    unfold fgV
    refine ⟨by omega, fun h4 => ?_⟩
    have i2 := i2 (by omega)
    have : (10 : Int) ^ (k + 1) = 10 * 10 ^ k := by rw [Int.pow_succ]; omega
    omega
def sX9_figures : mm_Sp := fun as M Q X => ∃ S L tx n, ∃ a : Nat, ∃ f d lo hi : Int, R32 f ∧ R32 lo ∧ R32 hi ∧ as = [.ref 0, .int (zI lo), .int (zI hi)] ∧ M = mZ (pS S a f d) L ∧
  (f ≠ -1 → Q (some (.int 0)) (mZ (pS S a f d) L)) ∧
  (f = -1 → mT S tx n ∧ a ≤ n ∧
    (fgB tx n (rn (qB tx) n a) lo hi = true → ∀ v (a' : Nat), a' ≤ n → Q (some (.int (zI v))) (mZ (pS S a' (rn (qB tx) n a : Nat) d) L)) ∧
    (fgB tx n (rn (qB tx) n a) lo hi = false → Q (some (.int (zI (fgV tx (rn (qB tx) n a) (rn (qD tx) n (rn (qB tx) n a) - rn (qB tx) n a))))) (mZ (pS S (rn (qD tx) n (rn (qB tx) n a) : Nat) f d) L)))
theorem mX9_figures (l : Launch) (hl : l.stackTraces = false) : mm_Spec l yX9_figures (ws_ yX9_figures cX9_figures 5 (some .int)) (mm_rm 5 0 0) sX9_figures := by
  rintro as M Q X ⟨S, L, tx, n, a, f, d, lo, hi, hf, hlo, hhi, rfl, rfl, hQ0, hQ⟩
  refine mm_Met.J hl (by decide) (Nat.le_of_ble_eq_true rfl) (fun C G hnh => tX9_figures G hnh) (mm_J.go [14] 20 (And.intro (fun h => ?_) (fun h => ?_)))
  · have h : zI f = zI (-1) := h
    rw [zI_eq hf.1 hf.2 (by omega) (by omega)] at h
    obtain ⟨hT, ha, hQ1, hQ2⟩ := hQ h
    have hn := hT.1
    have h8 := hT.2.1
    have hb := rn_le (q := qB tx) ha
    refine ⟨S, L, tx, n, a, f, d, rfl, rfl, hT, ha, ?_⟩
    generalize rn (qB tx) n a = b at hQ1 hQ2 hb
    have hk := rn_in (q := qD tx) _ b rfl hb
    have t93 : ∀ k : Nat, b ≤ k → k ≤ n → 0 ≤ fgV tx b (k - b) → fgV tx b (k - b) < 10000 → ((k = rn (qD tx) n b ∧ k ≤ b + 3) ∨ (b + 3 < k ∧ b + 3 < rn (qD tx) n b)) → mm_J pX9_figures (mm_ret Q X 0 0) 93 [some (.ref 0), some (.int (zI lo)), some (.int (zI hi)), some (.int (zI b)), some (.int (zI (fgV tx b (k - b))))] [] (mZ (pS S k f d) L) (0, 0) := by
      intro k h1 h2 v0 v1 hkk
      generalize hv : fgV tx b (k - b) = v at v0 v1
      have t123 : fgB tx n b lo hi = true → mm_J pX9_figures (mm_ret Q X 0 0) 123 [some (.ref 0), some (.int (zI lo)), some (.int (zI hi)), some (.int (zI b)), some (.int (zI v))] [] (mZ (pS S k f d) L) (0, 0) := by
        intro e
        refine mm_J.go [] 20 ⟨S, L, k, f, d, b, hf, rfl, rfl, ?_⟩
        refine ⟨mm_Qm ?_ (hQ1 e v k h2), Nat.le_refl _, Nat.le_refl _⟩
        rw [wrF, if_pos h]
      refine mm_J.go [123] 40 (And.intro (fun c => t123 ?_) (fun c => And.intro (fun c2 => t123 ?_) (fun c2 => And.intro (fun c3 => t123 ?_) (fun c3 => And.intro (fun c4 => ?_) (fun c4 => t123 ?_)))))
      · have c : zI (k : Int) = zI (b : Int) := c
        rw [zI_eq (by omega) (by omega) (by omega) (by omega)] at c
        have e : rn (qD tx) n b = b := by omega
        unfold fgB
        rw [decide_eq_true e]
        rfl
      · have c2 : zI 3 < zI (k : Int) - zI (b : Int) := c2
        rw [zI_sub, zI_lt (by omega) (by omega) (by omega) (by omega)] at c2
        have e : b + 3 < rn (qD tx) n b := by omega
        unfold fgB
        rw [decide_eq_true e]
        simp
      · have c3 : zI v < zI lo := c3
        rw [zI_lt (by omega) (by omega) hlo.1 hlo.2] at c3
        rcases hkk with ⟨e, -⟩ | ⟨-, e⟩
        · unfold fgB
          rw [← e, hv, decide_eq_true c3]
          simp
        · unfold fgB
          rw [decide_eq_true e]
          simp
      · have c : ¬ zI (k : Int) = zI (b : Int) := c
        rw [zI_eq (by omega) (by omega) (by omega) (by omega)] at c
        have c2 : ¬ zI 3 < zI (k : Int) - zI (b : Int) := c2
        rw [zI_sub, zI_lt (by omega) (by omega) (by omega) (by omega)] at c2
        have c3 : ¬ zI v < zI lo := c3
        rw [zI_lt (by omega) (by omega) hlo.1 hlo.2] at c3
        have c4 : zI v ≤ zI hi := c4
        rw [zI_le (by omega) (by omega) hhi.1 hhi.2] at c4
        have e : k = rn (qD tx) n b := by omega
        have eB : fgB tx n b lo hi = false := by
          unfold fgB
          rw [← e, hv, decide_eq_false (show ¬ k = b by omega), decide_eq_false (show ¬ b + 3 < k by omega), decide_eq_false c3, decide_eq_false (show ¬ hi < v by omega)]
          rfl
        have hq := hQ2 eB
        rw [← e, hv] at hq
        exact ⟨hq, Nat.le_refl _, Nat.le_refl _⟩
      · have c4 : ¬ zI v ≤ zI hi := c4
        rw [zI_le (by omega) (by omega) hhi.1 hhi.2] at c4
        have c4 : hi < v := by omega
        rcases hkk with ⟨e, -⟩ | ⟨-, e⟩
        · unfold fgB
          rw [← e, hv, decide_eq_true c4]
          simp
        · unfold fgB
          rw [decide_eq_true e]
          simp
    have l22 : ∀ (r k : Nat), n - k = r → b ≤ k → k ≤ n → k ≤ b + 4 → k ≤ rn (qD tx) n b → mm_J pX9_figures (mm_ret Q X 0 0) 22 [some (.ref 0), some (.int (zI lo)), some (.int (zI hi)), some (.int (zI b)), some (.int (zI (fgV tx b (k - b))))] [] (mZ (pS S k f d) L) (0, 0) := by
      intro r
      induction r with
      | zero =>
        intro k hr h1 h2 h4 hkr
        have hv := fgV_in (n := n) (b := b) hT.2.2.1 (k - b) (by omega) hb
        have hv2 : fgV tx b (k - b) < 10000 := by
          have := hv.2 (by omega)
          have h5 : (10 : Int) ^ (k - b) ≤ 10000 := by
            have : ∀ i, i ≤ 4 → (10 : Int) ^ i ≤ 10000 := by decide
            exact this _ (by omega)
          omega
        refine mm_J.go [22, 93] 20 (And.intro (fun c => ?_) (fun c => ?_))
        · exact t93 k h1 h2 hv.1 hv2 (by omega)
        · have c : ¬ zI (S 0 8) ≤ zI (k : Int) := c
          rw [h8, zI_le (by omega) (by omega) (by omega) (by omega)] at c
          omega
      | succ r ih =>
        intro k hr h1 h2 h4 hkr
        have hv := fgV_in (n := n) (b := b) hT.2.2.1 (k - b) (by omega) hb
        have hv2 : fgV tx b (k - b) < 10000 := by
          have := hv.2 (by omega)
          have h5 : (10 : Int) ^ (k - b) ≤ 10000 := by
            have : ∀ i, i ≤ 4 → (10 : Int) ^ i ≤ 10000 := by decide
            exact this _ (by omega)
          omega
        have hx := hT.2.2.1 k (by omega)
        refine mm_J.go [22, 93] 40 (And.intro (fun c => ?_) (fun c => ?_))
        · have c : zI (S 0 8) ≤ zI (k : Int) := c
          rw [h8, zI_le (by omega) (by omega) (by omega) (by omega)] at c
          omega
        · refine ⟨pS S k f d, L, tx, n, k, rfl, rfl, hT.pS _ _ _, by omega, ?_⟩
          refine ⟨zI (tx k), 48, 57, rfl, And.intro (fun c => ?_) (fun c => ?_)⟩
          · have c := (isin_f (l := 48) (h := 57) ⟨by omega, by omega⟩ (by decide) (by decide)).mp c
            have e : rn (qD tx) n k = k := rn_f (fun _ => by unfold qD; grind)
            have e2 : rn (qD tx) n b = k := by
              by_cases hk2 : k < rn (qD tx) n b
              · have := hk.2.2.2 k h1 hk2
                unfold qD at this
                grind
              · omega
            exact t93 k h1 h2 hv.1 hv2 (by omega)
          · have c := (isin_t (l := 48) (h := 57) ⟨by omega, by omega⟩ (by decide) (by decide)).mp c
            have e2 : k < rn (qD tx) n b := by
              by_cases hk2 : k < rn (qD tx) n b
              · exact hk2
              · have e3 : rn (qD tx) n b = k := by omega
                have := hk.2.2.1 (by omega)
                rw [e3] at this
                unfold qD at this
                grind
            refine And.intro (fun c2 => ?_) (fun c2 => ?_)
            · have c2 : zI 4 ≤ zI (k : Int) - zI (b : Int) := c2
              rw [zI_sub, zI_le (by omega) (by omega) (by omega) (by omega)] at c2
              exact t93 k h1 h2 hv.1 hv2 (by omega)
            · have c2 : ¬ zI 4 ≤ zI (k : Int) - zI (b : Int) := c2
              rw [zI_sub, zI_le (by omega) (by omega) (by omega) (by omega)] at c2
              refine ⟨pS S k f d, L, tx, n, k, rfl, rfl, hT.pS _ _ _, by omega, ?_⟩
              have hih := ih (k + 1) (by omega) (by omega) (by omega) (by omega) (by omega)
              have e4 : k + 1 - b = k - b + 1 := by omega
              have e5 : fgV tx b (k + 1 - b) = 10 * fgV tx b (k - b) + tx k - 48 := by
                rw [e4]
                show 10 * fgV tx b (k - b) + tx (b + (k - b)) - 48 = _
                rw [show b + (k - b) = k by omega]
              rw [e5] at hih
              refine mm_Jm (M' := mZ (pS S (k + 1 : Nat) f d) L) ?_ (mm_Jl ?_ hih)
              · show mm_wI (mZ (pS S k f d) L) 0 9 (zI (k : Int) + 1) = _
                rw [zI_n, zI_add, mZ_wI, pS_9]
                rfl
              · show [some (Value.ref 0), some (.int (zI lo)), some (.int (zI hi)), some (.int (zI b)), some (.int (10 * zI (fgV tx b (k - b)) + zI (tx k) - 48))] = _
                rw [zI_n, zI_n, zI_mul, zI_add, zI_sub]
    refine mm_J.go [22] 20 ?_
    have := l22 _ b rfl (Nat.le_refl _) hb (by omega) hk.1
    rw [Nat.sub_self] at this
    exact this
  · have h : ¬ zI f = zI (-1) := h
    rw [zI_eq hf.1 hf.2 (by omega) (by omega)] at h
    exact ⟨hQ0 h, Nat.le_refl _, Nat.le_refl _⟩
