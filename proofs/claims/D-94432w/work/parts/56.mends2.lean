/-! ===== the model's mends ===== -/
set_option maxRecDepth 100000
/-- a row of states, each once, with its ways -/
def jnI (V : Int → Prop) (r l : Nat → Int) (N : Nat) (A : Int → Nat → Int) : Prop := N ≤ 4000 ∧ (∀ i j, i < N → j < N → r i = r j → i = j) ∧ (∀ i, i < N → V (r i) ∧ cV (r i)) ∧ (∀ i j, i < N → j < 31 → l (31 * i + j) = A (r i) j) ∧ (∀ c j, (∀ i, i < N → r i ≠ c) → A c j = 0)
theorem jnI.c {V : Int → Prop} {r l : Nat → Int} {N : Nat} {A B : Int → Nat → Int} (h : jnI V r l N A) (e : ∀ c j, A c j = B c j) : jnI V r l N B := by
  have : A = B := by
    funext c j
    exact e c j
  rw [← this]
  exact h
theorem jnI.cp {V : Int → Prop} {r l r' l' : Nat → Int} {N : Nat} {A : Int → Nat → Int} (h : jnI V r l N A) (e : ∀ i, i < N → r' i = r i) (e2 : ∀ i j, i < N → j < 31 → l' (31 * i + j) = l (31 * i + j)) : jnI V r' l' N A := by
  obtain ⟨h1, h2, h3, h4, h5⟩ := h
  refine ⟨h1, fun i j hi hj q => ?_, fun i hi => ?_, fun i j hi hj => ?_, fun c j hn => ?_⟩
  · rw [e i hi, e j hj] at q
    exact h2 i j hi hj q
  · rw [e i hi]
    exact h3 i hi
  · rw [e i hi, e2 i j hi hj]
    exact h4 i j hi hj
  · refine h5 c j (fun i hi => ?_)
    rw [← e i hi]
    exact hn i hi
theorem jnI.a {V : Int → Prop} {r : Nat → Int} {L : Nat → Nat → Int} {N k u mo : Nat} {A : Int → Nat → Int} {K y : Nat → Int} (h : jnI V r (L 17) N A) (hk : k < N) (e : r k = whR y) (hK : ∀ j, j < 31 → L 16 (31 * u + j) = K j) : jnI V r (jnL L k u mo (31 - mo) 17) N (fun c j => A c j + mnT c K y mo j) := by
  obtain ⟨h1, h2, h3, h4, h5⟩ := h
  refine ⟨h1, h2, h3, fun i j hi hj => ?_, fun c j hn => ?_⟩
  · show jnL L k u mo (31 - mo) 17 (31 * i + j) = A (r i) j + mnT (r i) K y mo j
    rw [jnL_at, h4 i j hi hj]
    unfold mnT
    by_cases q : whR y = r i ∧ mo ≤ j
    · have ei : k = i := h2 k i hk hi (by rw [e]; exact q.1)
      subst ei
      have c1 : 17 = 17 ∧ 31 * k + mo ≤ 31 * k + j ∧ 31 * k + j < 31 * k + mo + (31 - mo) := by omega
      rw [if_pos q, if_pos c1, show 31 * u + (31 * k + j - (31 * k + mo)) = 31 * u + (j - mo) by omega, hK _ (by omega)]
    · have c1 : ¬ (17 = 17 ∧ 31 * k + mo ≤ 31 * i + j ∧ 31 * i + j < 31 * k + mo + (31 - mo)) := by
        intro z
        have ei : i = k := by omega
        exact q ⟨by rw [ei, e], by omega⟩
      rw [if_neg q, if_neg c1, Int.add_zero]
  · have c1 : ¬ (whR y = c ∧ mo ≤ j) := fun z => hn k hk (by rw [e]; exact z.1)
    show A c j + mnT c K y mo j = 0
    unfold mnT
    rw [h5 c j hn, if_neg c1]
    rfl
theorem jnI.b {V : Int → Prop} {T L : Nat → Nat → Int} {N u mo : Nat} {A : Int → Nat → Int} {K y : Nat → Int} {v : Int} (h : jnI V (T 15) (L 17) N A) (hn : ∀ s, s < N → T 15 s ≠ whR y) (hN : N < 4000) (hV : V (whR y)) (hc : cV (whR y)) (hK : ∀ j, j < 31 → L 16 (31 * u + j) = K j) : jnI V (mm_up (mm_up T 15 N (whR y)) 0 31 v 15) (jnL (jnZ L N 31) N u mo (31 - mo) 17) (N + 1) (fun c j => A c j + mnT c K y mo j) := by
  have er : ∀ i, mm_up (mm_up T 15 N (whR y)) 0 31 v 15 i = if i = N then whR y else T 15 i := by
    intro i
    rw [up_eq, if_neg (by omega), up_eq]
    simp
  generalize mm_up (mm_up T 15 N (whR y)) 0 31 v 15 = r at er
  have eN : r N = whR y := by rw [er, if_pos rfl]
  have el : ∀ i, i < N → r i = T 15 i := fun i hi => by rw [er, if_neg (by omega)]
  obtain ⟨h1, h2, h3, h4, h5⟩ := h
  refine ⟨by omega, fun i j hi hj q => ?_, fun i hi => ?_, fun i j hi hj => ?_, fun c j hn2 => ?_⟩
  · by_cases e1 : i = N
    · by_cases e2 : j = N
      · omega
      · rw [e1, eN, el j (by omega)] at q
        exact absurd q.symm (hn j (by omega))
    · by_cases e2 : j = N
      · rw [e2, eN, el i (by omega)] at q
        exact absurd q (hn i (by omega))
      · rw [el i (by omega), el j (by omega)] at q
        exact h2 i j (by omega) (by omega) q
  · by_cases e1 : i = N
    · rw [e1, eN]
      exact ⟨hV, hc⟩
    · rw [el i (by omega)]
      exact h3 i (by omega)
  · show jnL (jnZ L N 31) N u mo (31 - mo) 17 (31 * i + j) = A (r i) j + mnT (r i) K y mo j
    rw [jnL_at, jnZ_at, jnZ_at]
    unfold mnT
    by_cases e1 : i = N
    · subst e1
      have c2 : 17 = 17 ∧ 31 * i ≤ 31 * i + j ∧ 31 * i + j < 31 * i + 31 := by omega
      rw [eN, h5 _ j hn, if_pos c2]
      by_cases q : mo ≤ j
      · have c1 : 17 = 17 ∧ 31 * i + mo ≤ 31 * i + j ∧ 31 * i + j < 31 * i + mo + (31 - mo) := by omega
        have c3 : ¬ (16 = 17 ∧ 31 * i ≤ 31 * u + (31 * i + j - (31 * i + mo)) ∧ 31 * u + (31 * i + j - (31 * i + mo)) < 31 * i + 31) := by omega
        rw [if_pos c1, if_neg c3, if_pos ⟨rfl, q⟩, show 31 * u + (31 * i + j - (31 * i + mo)) = 31 * u + (j - mo) by omega, hK _ (by omega)]
      · have c1 : ¬ (17 = 17 ∧ 31 * i + mo ≤ 31 * i + j ∧ 31 * i + j < 31 * i + mo + (31 - mo)) := by omega
        rw [if_neg c1, if_neg (fun z => q z.2)]
        rfl
    · have c1 : ¬ (17 = 17 ∧ 31 * N + mo ≤ 31 * i + j ∧ 31 * i + j < 31 * N + mo + (31 - mo)) := by omega
      have c2 : ¬ (17 = 17 ∧ 31 * N ≤ 31 * i + j ∧ 31 * i + j < 31 * N + 31) := by omega
      rw [if_neg c1, if_neg c2, el i (by omega), h4 i j (by omega) hj, if_neg (fun z => hn i (by omega) z.1.symm), Int.add_zero]
  · have hc1 : ¬ (whR y = c ∧ mo ≤ j) := fun z => hn2 N (by omega) (by rw [eN]; exact z.1)
    show A c j + mnT c K y mo j = 0
    unfold mnT
    rw [h5 c j (fun i hi => by rw [← el i hi]; exact hn2 i (by omega)), if_neg hc1]
    rfl
theorem jnI.room {V : Int → Prop} {r l : Nat → Int} {N : Nat} {A : Int → Nat → Int} {c : Int} (h : jnI V r l N A) (hV : V c) (hB : ∀ (f : Nat → Int) (m : Nat), (∀ i, i < m → V (f i)) → (∀ i j, i < m → j < m → f i = f j → i = j) → m ≤ 4000) (hn : ∀ s, s < N → r s ≠ c) : N < 4000 := by
  obtain ⟨h1, h2, h3, h4, h5⟩ := h
  have := hB (fun i => if i = N then c else r i) (N + 1) (fun i hi => ?_) (fun i j hi hj q => ?_)
  · omega
  · by_cases e : i = N
    · simp only [if_pos e]
      exact hV
    · simp only [if_neg e]
      exact (h3 i (by omega)).1
  · by_cases e : i = N
    · by_cases e2 : j = N
      · omega
      · simp only [if_pos e, if_neg e2] at q
        exact absurd q.symm (hn j (by omega))
    · by_cases e2 : j = N
      · simp only [if_neg e, if_pos e2] at q
        exact absurd q (hn i (by omega))
      · simp only [if_neg e, if_neg e2] at q
        exact h2 i j (by omega) (by omega) q
theorem jnI.sum {V : Int → Prop} {r l : Nat → Int} {N : Nat} {A : Int → Nat → Int} (h : jnI V r l N A) (g : Int → Int) (h0 : ∀ c, (∀ i, i < N → r i ≠ c) → g c = 0) : sumN mnN (fun s => g (s : Int)) = sumN N (fun i => g (r i)) := by
  obtain ⟨h1, h2, h3, h4, h5⟩ := h
  refine (sum_ss N mnN (fun i => (r i).toNat) (fun s => g (s : Int)) (fun i hi => ?_) (fun i j hi hj e => ?_) (fun c hc hn => ?_)).trans (sumN_c (fun i hi => ?_))
  · have := (h3 i hi).2.1
    show (r i).toNat < 991232
    omega
  · have a := (h3 i hi).2.1
    have b := (h3 j hj).2.1
    have e' : (r i).toNat = (r j).toNat := e
    exact h2 i j hi hj (by omega)
  · refine h0 c (fun i hi q => hn i hi ?_)
    show (r i).toNat = c
    omega
  · have a := (h3 i hi).2.1
    show g (((r i).toNat : Nat) : Int) = g (r i)
    rw [Int.toNat_of_nonneg a.1]
theorem coS.up {S T : Nat → Nat → Int} (h : coS S T) {a b : Nat} (v : Int) (hc : core a b = false) (h5 : a ≠ 5) (h6 : a ≠ 6) (h0 : a = 0 → b ≠ 13 ∧ b ≠ 14) : coS S (mm_up T a b v) := by
  refine ⟨fun x k hk hn => ?_, gdF.up v h5 h0 h.2.1, ?_⟩
  · rw [up_eq]
    by_cases q : x = a ∧ k = b
    · rw [q.1, q.2, hc] at hk
      cases hk
    · rw [if_neg q]
      exact h.1 x k hk hn
  · have e : mm_up T a b v 6 = T 6 := by
      funext k
      rw [up_eq, if_neg (by omega)]
    rw [e]
    exact h.2.2
/-- the model within a rally of the log -/
def mnI (S0 : Nat → Nat → Int) (w t x0 : Nat → Int) (k m : Nat) (rr : Nat → Int) (T L : Nat → Nat → Int) (N : Nat) (A : Int → Nat → Int) : Prop := coS S0 T ∧ T 0 0 = 0 ∧ T 0 30 = m ∧ T 14 = rr ∧ jnI (mnV w t x0 k) rr (L 16) m (mnK w t x0 k) ∧ T 0 31 = N ∧ jnI (mnV w t x0 (k + 1)) (T 15) (L 17) N A
theorem mnI.c {S0 : Nat → Nat → Int} {w t x0 : Nat → Int} {k m : Nat} {rr : Nat → Int} {T L : Nat → Nat → Int} {N : Nat} {A B : Int → Nat → Int} (h : mnI S0 w t x0 k m rr T L N A) (e : ∀ c j, A c j = B c j) : mnI S0 w t x0 k m rr T L N B := ⟨h.1, h.2.1, h.2.2.1, h.2.2.2.1, h.2.2.2.2.1, h.2.2.2.2.2.1, h.2.2.2.2.2.2.c e⟩
theorem mnI.sxx {S0 : Nat → Nat → Int} {w t x0 : Nat → Int} {k m : Nat} {rr : Nat → Int} {T L : Nat → Nat → Int} {N : Nat} {A : Int → Nat → Int} (h : mnI S0 w t x0 k m rr T L N A) {x : Nat → Int} (hx : xG x) (a b : Int) : mnI S0 w t x0 k m rr (sx T x a b) L N A := by
  obtain ⟨h1, h2, h3, h4, h5, h6, h7⟩ := h
  refine ⟨h1.sxx hx a b, h2, h3, ?_, h5, h6, ?_⟩
  · rw [sx_t T x a b (t := 14) (by decide) (by decide)]; exact h4
  · rw [sx_t T x a b (t := 15) (by decide) (by decide)]; exact h7
theorem jnL_16 (L : Nat → Nat → Int) (k u mo i : Nat) : jnL L k u mo i 16 = L 16 := by
  funext j
  rw [jnL_at, if_neg (by omega)]
theorem jnZ_16 (L : Nat → Nat → Int) (k i : Nat) : jnZ L k i 16 = L 16 := by
  funext j
  rw [jnZ_at, if_neg (by omega)]
/-- what joins needs, and what it brings -/
theorem mnI.jn {S0 : Nat → Nat → Int} {w t x0 : Nat → Int} {k m : Nat} {rr : Nat → Int} {T L : Nat → Nat → Int} {N : Nat} {A : Int → Nat → Int} (h : mnI S0 w t x0 k m rr T L N A) {y : Nat → Int} (hy : T 6 = y) (hv : scV y) (hb : xB 6 y) (hV : mnV w t x0 (k + 1) (whR y)) (hB : mnB w t x0 (k + 1)) {s : Nat} (hs : s < m) {mo : Nat} (hmo : mo < 2) {mi : Int} (hmi : mi = mo) (F : (Nat → Nat → Int) → (Nat → Nat → Int) → Prop) (hF : ∀ (T' L' : Nat → Nat → Int) (N' : Nat), mnI S0 w t x0 k m rr T' L' N' (fun c j => A c j + mnT c (mnK w t x0 k (rr s)) y mo j) → F T' L') : ∃ N_ u_ v_ : Nat, bx (T 6) ∧ R32 (whR (T 6)) ∧ T 0 31 = N_ ∧ N_ ≤ 4000 ∧ (∀ s_, s_ < N_ → R32 (T 15 s_)) ∧ ((∀ s_, s_ < N_ → T 15 s_ ≠ whR (T 6)) → N_ < 4000) ∧ (s : Int) = u_ ∧ u_ < 4000 ∧ mi = v_ ∧ v_ < 2 ∧ (∀ k_, k_ < N_ → T 15 k_ = whR (T 6) → F T (jnL L k_ u_ v_ (31 - v_))) ∧ ((∀ s_, s_ < N_ → T 15 s_ ≠ whR (T 6)) → F (mm_up (mm_up T 15 N_ (whR (T 6))) 0 31 (N_ + 1 : Nat)) (jnL (jnZ L N_ 31) N_ u_ v_ (31 - v_))) := by
  obtain ⟨h1, h2, h3, h4, h5, h6, h7⟩ := h
  have hc := whR_V hv hb
  have hc1 := hc.1
  have hm := h5.1
  have hK : ∀ j, j < 31 → L 16 (31 * s + j) = mnK w t x0 k (rr s) j := fun j hj => h5.2.2.2.1 s j hs hj
  rw [hy]
  refine ⟨N, s, mo, (hv.xG hb (by decide)).1.bx, by omega, h6, h7.1, fun i hi => ?_, h7.room hV hB, rfl, by omega, hmi, hmo, fun i hi e => ?_, fun hn => ?_⟩
  · have := (h7.2.2.1 i hi).2.1
    omega
  · refine hF _ _ N ⟨h1, h2, h3, h4, ?_, h6, h7.a hi e hK⟩
    rw [jnL_16]
    exact h5
  · refine hF _ _ (N + 1) ⟨(h1.up _ (by simp [core]) (by decide) (by decide) (by omega)).up _ (by simp [core]) (by decide) (by decide) (by omega), ?_, ?_, ?_, ?_, ?_, h7.b hn (h7.room hV hB hn) hV hc hK⟩
    · rw [up_eq, if_neg (by omega), up_eq, if_neg (by omega)]; exact h2
    · rw [up_eq, if_neg (by omega), up_eq, if_neg (by omega)]; exact h3
    · rw [← h4]
      funext i
      rw [up_eq, if_neg (by omega), up_eq, if_neg (by omega)]
    · rw [jnL_16, jnZ_16]
      exact h5
    · rw [up_eq, if_pos ⟨rfl, rfl⟩]
/-- is it the score that is asked for -/
def mnM (w : Nat → Int) (a b c d : Int) (s : Int) : Bool := decide (wcX w s 0 = a) && decide (wcX w s 1 = b) && decide (wcX w s 7 = c) && decide (wcX w s 8 = d)
theorem mnM_t {w : Nat → Int} {a b c d s : Int} : mnM w a b c d s = true ↔ (((wcX w s 0 = a ∧ wcX w s 1 = b) ∧ wcX w s 7 = c) ∧ wcX w s 8 = d) := by
  unfold mnM
  simp only [Bool.and_eq_true, decide_eq_true_eq]
/-- ways to it with so many mends -/
def mnS (w t x0 : Nat → Int) (n : Nat) (a b c d : Int) (i : Nat) : Int := sumN mnN (fun s => if mnM w a b c d (s : Int) = true then mnK w t x0 n (s : Int) i else 0)
def mnF (f : Nat → Int) (ways : Int) : Nat → Nat → Int
  | 0, _ => if ways = 0 then -1 else 0
  | r + 1, i => if 0 < f i then (if ways = 0 then (i : Int) else f i) else mnF f ways r (i + 1)
theorem mnS_in (w t x0 : Nat → Int) (n : Nat) (hn : n ≤ 30) (a b c d : Int) (i : Nat) : 0 ≤ mnS w t x0 n a b c d i ∧ mnS w t x0 n a b c d i ≤ 205891132094649 := by
  have h0 := mnK_nn w t x0 n
  constructor
  · refine sumN_nn (fun s _ => ?_)
    split
    · exact h0 _ _
    · exact Int.le_refl _
  · have h1 : mnS w t x0 n a b c d i ≤ sumN mnN (fun s => mnK w t x0 n (s : Int) i) := sumN_le (fun s _ => by
      split
      · exact Int.le_refl _
      · exact h0 _ _)
    have h2 := mnK_sum w t x0 n i
    have h3 : (3 : Int) ^ n ≤ 205891132094649 := by
      have h4 : (3 : Nat) ^ n ≤ 3 ^ 30 := Nat.pow_le_pow_right (by decide) hn
      have h5 : (3 : Nat) ^ 30 = 205891132094649 := by decide
      have h6 : ((3 ^ n : Nat) : Int) = (3 : Int) ^ n := by rw [Int.natCast_pow]; rfl
      omega
    omega
def zX9_mends : zz_Sp := fun as M Q X => match as with
  | [.inr (.inr (some h_)), .inl a, .inl b, .inl c, .inl d, .inl ways] => bif Nat.beq h_ 0 && Nat.beq M.1.1 1 then (∃ n_ : Nat, M.2.1 0 6 = n_ ∧ n_ ≤ 400 ∧ tpG (M.2.1 4) ∧ (R32 a ∧ R32 b ∧ R32 c ∧ R32 d ∧ R32 ways) ∧ mI M.2.1 ∧ (lgB (M.2.1 4) n_ = true → ∀ k_, k_ ≤ n_ / 2 → mnB (M.2.1 1) (M.2.1 4) (nwX M.2.1) k_) ∧ (∀ S_ : Nat → Nat → Int, lgB (M.2.1 4) n_ = false → coQ (mm_up (mm_up M.2.1 0 6 0) 0 0 1) S_ → Q (some (vl 0)) (zm S_ M.2.2.1)) ∧ (∀ S_ L_ : Nat → Nat → Int, lgB (M.2.1 4) n_ = true → coQ (mm_up (mm_up M.2.1 0 6 0) 0 0 0) S_ → Q (some (vl (mnF (mnS (M.2.1 1) (M.2.1 4) (nwX M.2.1) (n_ / 2) a b c d) ways 31 0))) (zm S_ L_))) else False
  | _ => False

def zpX9_mends : zz_P := [(0, zo_ald 1 0), (1, zo_get 4 8 0 6), (4, zo_ist 6 6), (6, zo_ald 7 0), (7, zo_c 8 (vi 0)), (8, zo_puti 11 8 6), (11, zo_ald 12 0), (12, zo_ald 13 0), (13, zo_ild 15 6), (15, zo_callv 18 2 8 zX9_isLog), (18, zo_zifne 21 25), (21, zo_c 22 (vi 1)), (22, zo_goto 26), (25, zo_c 26 (vi 0)), (26, zo_puti 29 8 0), (29, zo_ald 30 0), (30, zo_get 33 8 0 0), (33, zo_ifle false 36 38), (36, zo_c 37 (vl 0)), (37, zo_lret), (38, zo_ald 39 0), (39, zo_callv 42 1 8 zX9_takes), (42, zo_ald 43 0), (43, zo_get 46 8 2 26), (46, zo_c 47 (vi 0)), (47, zo_ald 48 0), (48, zo_callv 51 1 8 zX9_whole), (51, zo_iasc 52 0), (52, zo_ald 53 0), (53, zo_c 54 (vi 1)), (54, zo_puti 57 8 30), (57, zo_c 58 (vi 0)), (58, zo_ist 60 7), (60, zo_ild 62 7), (62, zo_c 64 (vi 31)), (64, zo_cge false true 67 90), (67, zo_ald 68 0), (68, zo_get 71 8 2 28), (71, zo_ild 73 7), (73, zo_ild 75 7), (75, zo_ifne false 78 82), (78, zo_c 79 (vl 1)), (79, zo_goto 83), (82, zo_c 83 (vl 0)), (83, zo_lasd 84), (84, zo_inc 87 7 1), (87, zo_goto 60), (90, zo_c 91 (vi 0)), (91, zo_ist 93 7), (93, zo_ild 95 7), (95, zo_ild 97 6), (97, zo_cge false false 100 373), (100, zo_ald 101 0), (101, zo_ild 103 7), (103, zo_callv 106 2 8 zX9_howOf), (106, zo_ist 108 8), (108, zo_ald 109 0), (109, zo_c 110 (vi 0)), (110, zo_puti 113 8 31), (113, zo_c 114 (vi 0)), (114, zo_ist 116 9), (116, zo_ild 118 9), (118, zo_ald 119 0), (119, zo_get 122 8 0 30), (122, zo_cge false false 125 285), (125, zo_ald 126 0), (126, zo_ald 127 0), (127, zo_get 130 8 2 26), (130, zo_ild 132 9), (132, zo_iald 133), (133, zo_callv 136 2 8 zX9_unwhole), (136, zo_ald 137 0), (137, zo_callv 140 1 8 zX9_isOver), (140, zo_zifeq 143 146), (143, zo_goto 279), (146, zo_ild 148 8), (148, zo_c 149 (vi 2)), (149, zo_clt false true 152 167), (152, zo_ald 153 0), (153, zo_get 156 8 2 16), (156, zo_c 158 (vi 6)), (158, zo_ialc 159 6), (159, zo_c 160 (vi 1)), (160, zo_cne false true 163 167), (163, zo_c 164 (vi 1)), (164, zo_goto 168), (167, zo_c 168 (vi 0)), (168, zo_ist 170 10), (170, zo_ild 172 8), (172, zo_c 173 (vi 2)), (173, zo_isub 174), (174, zo_ald 175 0), (175, zo_get 178 8 2 16), (178, zo_c 179 (vi 4)), (179, zo_ialc 180 4), (180, zo_cge false false 183 188), (183, zo_c 185 (vi 12)), (185, zo_goto 208), (188, zo_ild 190 8), (190, zo_c 191 (vi 2)), (191, zo_isub 192), (192, zo_ald 193 0), (193, zo_get 196 8 2 16), (196, zo_c 197 (vi 4)), (197, zo_ialc 198 4), (198, zo_cle false false 201 206), (201, zo_c 203 (vi 13)), (203, zo_goto 208), (206, zo_c 208 (vi 14)), (208, zo_ist 210 11), (210, zo_ald 211 0), (211, zo_ild 213 8), (213, zo_callv 216 2 8 zX9_rallies), (216, zo_ald 217 0), (217, zo_ild 219 9), (219, zo_c 220 (vi 0)), (220, zo_callv 223 3 8 zX9_joins), (223, zo_c 225 (vi 12)), (225, zo_ist 227 12), (227, zo_ild 229 12), (229, zo_c 231 (vi 15)), (231, zo_cge false true 234 279), (234, zo_ild 236 10), (236, zo_ifeq false 239 279), (239, zo_ild 241 12), (241, zo_ild 243 11), (243, zo_cne false false 246 249), (246, zo_goto 273), (249, zo_ald 250 0), (250, zo_ald 251 0), (251, zo_get 254 8 2 26), (254, zo_ild 256 9), (256, zo_iald 257), (257, zo_callv 260 2 8 zX9_unwhole), (260, zo_ald 261 0), (261, zo_ild 263 12), (263, zo_callv 266 2 8 zX9_rallies), (266, zo_ald 267 0), (267, zo_ild 269 9), (269, zo_c 270 (vi 1)), (270, zo_callv 273 3 8 zX9_joins), (273, zo_inc 276 12 1), (276, zo_goto 227), (279, zo_inc 282 9 1), (282, zo_goto 116), (285, zo_ald 286 0), (286, zo_ald 287 0), (287, zo_get 290 8 0 31), (290, zo_puti 293 8 30), (293, zo_c 294 (vi 0)), (294, zo_ist 296 9), (296, zo_ild 298 9), (298, zo_ald 299 0), (299, zo_get 302 8 0 30), (302, zo_cge false false 305 367), (305, zo_ald 306 0), (306, zo_get 309 8 2 26), (309, zo_ild 311 9), (311, zo_ald 312 0), (312, zo_get 315 8 2 27), (315, zo_ild 317 9), (317, zo_iald 318), (318, zo_iasd 319), (319, zo_c 320 (vi 0)), (320, zo_ist 322 10), (322, zo_ild 324 10), (324, zo_c 326 (vi 31)), (326, zo_cge false true 329 361), (329, zo_ald 330 0), (330, zo_get 333 8 2 28), (333, zo_c 335 (vi 31)), (335, zo_ild 337 9), (337, zo_imul 338), (338, zo_ild 340 10), (340, zo_iadd 341), (341, zo_ald 342 0), (342, zo_get 345 8 2 29), (345, zo_c 347 (vi 31)), (347, zo_ild 349 9), (349, zo_imul 350), (350, zo_ild 352 10), (352, zo_iadd 353), (353, zo_lald 354), (354, zo_lasd 355), (355, zo_inc 358 10 1), (358, zo_goto 322), (361, zo_inc 364 9 1), (364, zo_goto 296), (367, zo_inc 370 7 2), (370, zo_goto 93), (373, zo_c 374 (vi 0)), (374, zo_ist 376 7), (376, zo_ild 378 7), (378, zo_c 380 (vi 31)), (380, zo_cge false true 383 503), (383, zo_c 384 (vl 0)), (384, zo_lst 386 8), (386, zo_c 387 (vi 0)), (387, zo_ist 389 10), (389, zo_ild 391 10), (391, zo_ald 392 0), (392, zo_get 395 8 0 30), (395, zo_cge false false 398 476), (398, zo_ald 399 0), (399, zo_ald 400 0), (400, zo_get 403 8 2 26), (403, zo_ild 405 10), (405, zo_iald 406), (406, zo_callv 409 2 8 zX9_unwhole), (409, zo_ald 410 0), (410, zo_get 413 8 2 16), (413, zo_c 414 (vi 0)), (414, zo_ialc 415 0), (415, zo_ild 416 1), (416, zo_cne false false 419 470), (419, zo_ald 420 0), (420, zo_get 423 8 2 16), (423, zo_c 424 (vi 1)), (424, zo_ialc 425 1), (425, zo_ild 426 2), (426, zo_cne false false 429 470), (429, zo_ald 430 0), (430, zo_get 433 8 2 16), (433, zo_c 435 (vi 7)), (435, zo_ialc 436 7), (436, zo_ild 437 3), (437, zo_cne false false 440 470), (440, zo_ald 441 0), (441, zo_get 444 8 2 16), (444, zo_c 446 (vi 8)), (446, zo_ialc 447 8), (447, zo_ild 449 4), (449, zo_cne false false 452 470), (452, zo_lld 454 8), (454, zo_ald 455 0), (455, zo_get 458 8 2 28), (458, zo_c 460 (vi 31)), (460, zo_ild 462 10), (462, zo_imul 463), (463, zo_ild 465 7), (465, zo_iadd 466), (466, zo_lald 467), (467, zo_ladd 468), (468, zo_lst 470 8), (470, zo_inc 473 10 1), (473, zo_goto 389), (476, zo_lld 478 8), (478, zo_c 479 (vl 0)), (479, zo_lcmp 480), (480, zo_ifle false 483 497), (483, zo_ild 485 5), (485, zo_ifeq false 488 493), (488, zo_lld 490 8), (490, zo_goto 496), (493, zo_ild 495 7), (495, zo_i2l 496), (496, zo_lret), (497, zo_inc 500 7 1), (500, zo_goto 376), (503, zo_ild 505 5), (505, zo_ifeq false 508 512), (508, zo_c 509 (vl 0)), (509, zo_goto 515), (512, zo_c 515 (vl (-1))), (515, zo_lret)]
theorem ztX9_mends {C : mm_C} (G : mm_G C RX9 cX9_mends (some .long) 13 (mm_rm 4 0 0)) (hnh : mm_nh C) : zz_OKs C zpX9_mends :=
  ⟨zz_of (ok_aload_n G dX9_mends_0 rfl rfl) (z_ald _ _),
   zz_of (ok_get G (nx := 4) (ci := 8) (kd := 0) (k := 6) (RX9, TX9, 32) rfl (by decide) rfl q1811 dX9_mends_1 rfl) (z_get _ _ _ _),
   zz_of (ok_istore G dX9_mends_4 rfl (by decide)) (z_ist _ _),
   zz_of (ok_aload_n G dX9_mends_6 rfl rfl) (z_ald _ _),
   zz_of (ok_iconst G (v := 0) dX9_mends_7 (by decide) rfl) (z_cn 8 0),
   zz_of (ok_puti G (nx := 11) (idx := 74) (ci := 8) (k := 6) (RX9, TX9, 32) rfl (by decide) rfl (mm_pw G (ci := 8) (k := 6) (RX9, TX9, 32) rfl (by decide) rfl q1811 dX9_mends_8) rfl) (z_puti _ _ _),
   zz_of (ok_aload_n G dX9_mends_11 rfl rfl) (z_ald _ _),
   zz_of (ok_aload_n G dX9_mends_12 rfl rfl) (z_ald _ _),
   zz_of (ok_iload G dX9_mends_13 rfl) (z_ild _ _),
   zz_of (ok_callv G hnh (zmX9_isLog _ G.hst) rfl rfl (RX9, TX9, 32) rfl q2183 q2185 qs76 q93 q2186 (by decide +kernel) ⟨by decide, by decide⟩ dX9_mends_15 rfl) (z_callv _ _ _ _),
   zz_of (ok_ifne G dX9_mends_18 rfl rfl) (z_zifne _ _),
   zz_of (ok_iconst G (v := 1) dX9_mends_21 (by decide) rfl) (z_cn 22 1),
   zz_of (ok_goto G dX9_mends_22 rfl) (z_goto _),
   zz_of (ok_iconst G (v := 0) dX9_mends_25 (by decide) rfl) (z_cn 26 0),
   zz_of (ok_puti G (nx := 29) (idx := 67) (ci := 8) (k := 0) (RX9, TX9, 32) rfl (by decide) rfl (mm_pw G (ci := 8) (k := 0) (RX9, TX9, 32) rfl (by decide) rfl q1805 dX9_mends_26) rfl) (z_puti _ _ _),
   zz_of (ok_aload_n G dX9_mends_29 rfl rfl) (z_ald _ _),
   zz_of (ok_get G (nx := 33) (ci := 8) (kd := 0) (k := 0) (RX9, TX9, 32) rfl (by decide) rfl q1805 dX9_mends_30 rfl) (z_get _ _ _ _),
   zz_of (ok_ifle G dX9_mends_33 rfl rfl) (z_ifle _ _ _),
   zz_of (ok_lconst G (v := 0) dX9_mends_36 (by decide) rfl) (z_cl 37 0),
   zz_of (ok_lret G dX9_mends_37) (z_lret),
   zz_of (ok_aload_n G dX9_mends_38 rfl rfl) (z_ald _ _),
   zz_of (ok_callv G hnh (zmX9_takes _ G.hst) rfl rfl (RX9, TX9, 32) rfl q2034 q2036 qs55 q93 q2037 (by decide +kernel) ⟨by decide, by decide⟩ dX9_mends_39 rfl) (z_callv _ _ _ _),
   zz_of (ok_aload_n G dX9_mends_42 rfl rfl) (z_ald _ _),
   zz_of (ok_get G (nx := 46) (ci := 8) (kd := 2) (k := 26) (RX9, TX9, 32) rfl (by decide) rfl q1831 dX9_mends_43 rfl) (z_get _ _ _ _),
   zz_of (ok_iconst G (v := 0) dX9_mends_46 (by decide) rfl) (z_cn 47 0),
   zz_of (ok_aload_n G dX9_mends_47 rfl rfl) (z_ald _ _),
   zz_of (ok_callv G hnh (zmX9_whole _ G.hst) rfl rfl (RX9, TX9, 32) rfl q2195 q2197 qs78 q93 q2198 (by decide +kernel) ⟨by decide, by decide⟩ dX9_mends_48 rfl) (z_callv _ _ _ _),
   zz_of (ok_iast G dX9_mends_51 rfl) (z_iasc _ _),
   zz_of (ok_aload_n G dX9_mends_52 rfl rfl) (z_ald _ _),
   zz_of (ok_iconst G (v := 1) dX9_mends_53 (by decide) rfl) (z_cn 54 1),
   zz_of (ok_puti G (nx := 57) (idx := 296) (ci := 8) (k := 30) (RX9, TX9, 32) rfl (by decide) rfl (mm_pw G (ci := 8) (k := 30) (RX9, TX9, 32) rfl (by decide) rfl q1835 dX9_mends_54) rfl) (z_puti _ _ _),
   zz_of (ok_iconst G (v := 0) dX9_mends_57 (by decide) rfl) (z_cn 58 0),
   zz_of (ok_istore G dX9_mends_58 rfl (by decide)) (z_ist _ _),
   zz_of (ok_iload G dX9_mends_60 rfl) (z_ild _ _),
   zz_of (ok_bipush G (v := 31) dX9_mends_62 (by decide) rfl) (z_cn 64 31),
   zz_of (ok_cge G dX9_mends_64 rfl rfl) (z_cge _ _ _ _),
   zz_of (ok_aload_n G dX9_mends_67 rfl rfl) (z_ald _ _),
   zz_of (ok_get G (nx := 71) (ci := 8) (kd := 2) (k := 28) (RX9, TX9, 32) rfl (by decide) rfl q1833 dX9_mends_68 rfl) (z_get _ _ _ _),
   zz_of (ok_iload G dX9_mends_71 rfl) (z_ild _ _),
   zz_of (ok_iload G dX9_mends_73 rfl) (z_ild _ _),
   zz_of (ok_ifne G dX9_mends_75 rfl rfl) (z_ifne _ _ _),
   zz_of (ok_lconst G (v := 1) dX9_mends_78 (by decide) rfl) (z_cl 79 1),
   zz_of (ok_goto G dX9_mends_79 rfl) (z_goto _),
   zz_of (ok_lconst G (v := 0) dX9_mends_82 (by decide) rfl) (z_cl 83 0),
   zz_of (ok_last G dX9_mends_83 rfl) (z_lasd _),
   zz_of (ok_iinc G (v := 1) dX9_mends_84 (by decide) rfl (by decide)) (z_incn 87 7 1),
   zz_of (ok_goto G dX9_mends_87 rfl) (z_goto _),
   zz_of (ok_iconst G (v := 0) dX9_mends_90 (by decide) rfl) (z_cn 91 0),
   zz_of (ok_istore G dX9_mends_91 rfl (by decide)) (z_ist _ _),
   zz_of (ok_iload G dX9_mends_93 rfl) (z_ild _ _),
   zz_of (ok_iload G dX9_mends_95 rfl) (z_ild _ _),
   zz_of (ok_cge G dX9_mends_97 rfl rfl) (z_cge _ _ _ _),
   zz_of (ok_aload_n G dX9_mends_100 rfl rfl) (z_ald _ _),
   zz_of (ok_iload G dX9_mends_101 rfl) (z_ild _ _),
   zz_of (ok_callv G hnh (zmX9_howOf _ G.hst) rfl rfl (RX9, TX9, 32) rfl q2187 q2189 qs77 q93 q2190 (by decide +kernel) ⟨by decide, by decide⟩ dX9_mends_103 rfl) (z_callv _ _ _ _),
   zz_of (ok_istore G dX9_mends_106 rfl (by decide)) (z_ist _ _),
   zz_of (ok_aload_n G dX9_mends_108 rfl rfl) (z_ald _ _),
   zz_of (ok_iconst G (v := 0) dX9_mends_109 (by decide) rfl) (z_cn 110 0),
   zz_of (ok_puti G (nx := 113) (idx := 293) (ci := 8) (k := 31) (RX9, TX9, 32) rfl (by decide) rfl (mm_pw G (ci := 8) (k := 31) (RX9, TX9, 32) rfl (by decide) rfl q1836 dX9_mends_110) rfl) (z_puti _ _ _),
   zz_of (ok_iconst G (v := 0) dX9_mends_113 (by decide) rfl) (z_cn 114 0),
   zz_of (ok_istore G dX9_mends_114 rfl (by decide)) (z_ist _ _),
   zz_of (ok_iload G dX9_mends_116 rfl) (z_ild _ _),
   zz_of (ok_aload_n G dX9_mends_118 rfl rfl) (z_ald _ _),
   zz_of (ok_get G (nx := 122) (ci := 8) (kd := 0) (k := 30) (RX9, TX9, 32) rfl (by decide) rfl q1835 dX9_mends_119 rfl) (z_get _ _ _ _),
   zz_of (ok_cge G dX9_mends_122 rfl rfl) (z_cge _ _ _ _),
   zz_of (ok_aload_n G dX9_mends_125 rfl rfl) (z_ald _ _),
   zz_of (ok_aload_n G dX9_mends_126 rfl rfl) (z_ald _ _),
   zz_of (ok_get G (nx := 130) (ci := 8) (kd := 2) (k := 26) (RX9, TX9, 32) rfl (by decide) rfl q1831 dX9_mends_127 rfl) (z_get _ _ _ _),
   zz_of (ok_iload G dX9_mends_130 rfl) (z_ild _ _),
   zz_of (ok_iald G dX9_mends_132 rfl) (z_iald _),
   zz_of (ok_callv G hnh (zmX9_unwhole _ G.hst) rfl rfl (RX9, TX9, 32) rfl q2199 q2201 qs79 q93 q2202 (by decide +kernel) ⟨by decide, by decide⟩ dX9_mends_133 rfl) (z_callv _ _ _ _),
   zz_of (ok_aload_n G dX9_mends_136 rfl rfl) (z_ald _ _),
   zz_of (ok_callv G hnh (zmX9_isOver _ G.hst) rfl rfl (RX9, TX9, 32) rfl q2070 q2072 qs59 q93 q2073 (by decide +kernel) ⟨by decide, by decide⟩ dX9_mends_137 rfl) (z_callv _ _ _ _),
   zz_of (ok_ifeq G dX9_mends_140 rfl rfl) (z_zifeq _ _),
   zz_of (ok_goto G dX9_mends_143 rfl) (z_goto _),
   zz_of (ok_iload G dX9_mends_146 rfl) (z_ild _ _),
   zz_of (ok_iconst G (v := 2) dX9_mends_148 (by decide) rfl) (z_cn 149 2),
   zz_of (ok_clt G dX9_mends_149 rfl rfl) (z_clt _ _ _ _),
   zz_of (ok_aload_n G dX9_mends_152 rfl rfl) (z_ald _ _),
   zz_of (ok_get G (nx := 156) (ci := 8) (kd := 2) (k := 16) (RX9, TX9, 32) rfl (by decide) rfl q1821 dX9_mends_153 rfl) (z_get _ _ _ _),
   zz_of (ok_bipush G (v := 6) dX9_mends_156 (by decide) rfl) (z_cn 158 6),
   zz_of (ok_iald G dX9_mends_158 rfl) (z_ialc _ _),
   zz_of (ok_iconst G (v := 1) dX9_mends_159 (by decide) rfl) (z_cn 160 1),
   zz_of (ok_cne G dX9_mends_160 rfl rfl) (z_cne _ _ _ _),
   zz_of (ok_iconst G (v := 1) dX9_mends_163 (by decide) rfl) (z_cn 164 1),
   zz_of (ok_goto G dX9_mends_164 rfl) (z_goto _),
   zz_of (ok_iconst G (v := 0) dX9_mends_167 (by decide) rfl) (z_cn 168 0),
   zz_of (ok_istore G dX9_mends_168 rfl (by decide)) (z_ist _ _),
   zz_of (ok_iload G dX9_mends_170 rfl) (z_ild _ _),
   zz_of (ok_iconst G (v := 2) dX9_mends_172 (by decide) rfl) (z_cn 173 2),
   zz_of (ok_isub G dX9_mends_173 rfl) (z_isub _),
   zz_of (ok_aload_n G dX9_mends_174 rfl rfl) (z_ald _ _),
   zz_of (ok_get G (nx := 178) (ci := 8) (kd := 2) (k := 16) (RX9, TX9, 32) rfl (by decide) rfl q1821 dX9_mends_175 rfl) (z_get _ _ _ _),
   zz_of (ok_iconst G (v := 4) dX9_mends_178 (by decide) rfl) (z_cn 179 4),
   zz_of (ok_iald G dX9_mends_179 rfl) (z_ialc _ _),
   zz_of (ok_cge G dX9_mends_180 rfl rfl) (z_cge _ _ _ _),
   zz_of (ok_bipush G (v := 12) dX9_mends_183 (by decide) rfl) (z_cn 185 12),
   zz_of (ok_goto G dX9_mends_185 rfl) (z_goto _),
   zz_of (ok_iload G dX9_mends_188 rfl) (z_ild _ _),
   zz_of (ok_iconst G (v := 2) dX9_mends_190 (by decide) rfl) (z_cn 191 2),
   zz_of (ok_isub G dX9_mends_191 rfl) (z_isub _),
   zz_of (ok_aload_n G dX9_mends_192 rfl rfl) (z_ald _ _),
   zz_of (ok_get G (nx := 196) (ci := 8) (kd := 2) (k := 16) (RX9, TX9, 32) rfl (by decide) rfl q1821 dX9_mends_193 rfl) (z_get _ _ _ _),
   zz_of (ok_iconst G (v := 4) dX9_mends_196 (by decide) rfl) (z_cn 197 4),
   zz_of (ok_iald G dX9_mends_197 rfl) (z_ialc _ _),
   zz_of (ok_cle G dX9_mends_198 rfl rfl) (z_cle _ _ _ _),
   zz_of (ok_bipush G (v := 13) dX9_mends_201 (by decide) rfl) (z_cn 203 13),
   zz_of (ok_goto G dX9_mends_203 rfl) (z_goto _),
   zz_of (ok_bipush G (v := 14) dX9_mends_206 (by decide) rfl) (z_cn 208 14),
   zz_of (ok_istore G dX9_mends_208 rfl (by decide)) (z_ist _ _),
   zz_of (ok_aload_n G dX9_mends_210 rfl rfl) (z_ald _ _),
   zz_of (ok_iload G dX9_mends_211 rfl) (z_ild _ _),
   zz_of (ok_callv G hnh (zmX9_rallies _ G.hst) rfl rfl (RX9, TX9, 32) rfl q2074 q2076 qs60 q93 q2077 (by decide +kernel) ⟨by decide, by decide⟩ dX9_mends_213 rfl) (z_callv _ _ _ _),
   zz_of (ok_aload_n G dX9_mends_216 rfl rfl) (z_ald _ _),
   zz_of (ok_iload G dX9_mends_217 rfl) (z_ild _ _),
   zz_of (ok_iconst G (v := 0) dX9_mends_219 (by decide) rfl) (z_cn 220 0),
   zz_of (ok_callv G hnh (zmX9_joins _ G.hst) rfl rfl (RX9, TX9, 32) rfl q2203 q2205 qs80 q93 q2206 (by decide +kernel) ⟨by decide, by decide⟩ dX9_mends_220 rfl) (z_callv _ _ _ _),
   zz_of (ok_bipush G (v := 12) dX9_mends_223 (by decide) rfl) (z_cn 225 12),
   zz_of (ok_istore G dX9_mends_225 rfl (by decide)) (z_ist _ _),
   zz_of (ok_iload G dX9_mends_227 rfl) (z_ild _ _),
   zz_of (ok_bipush G (v := 15) dX9_mends_229 (by decide) rfl) (z_cn 231 15),
   zz_of (ok_cge G dX9_mends_231 rfl rfl) (z_cge _ _ _ _),
   zz_of (ok_iload G dX9_mends_234 rfl) (z_ild _ _),
   zz_of (ok_ifeq G dX9_mends_236 rfl rfl) (z_ifeq _ _ _),
   zz_of (ok_iload G dX9_mends_239 rfl) (z_ild _ _),
   zz_of (ok_iload G dX9_mends_241 rfl) (z_ild _ _),
   zz_of (ok_cne G dX9_mends_243 rfl rfl) (z_cne _ _ _ _),
   zz_of (ok_goto G dX9_mends_246 rfl) (z_goto _),
   zz_of (ok_aload_n G dX9_mends_249 rfl rfl) (z_ald _ _),
   zz_of (ok_aload_n G dX9_mends_250 rfl rfl) (z_ald _ _),
   zz_of (ok_get G (nx := 254) (ci := 8) (kd := 2) (k := 26) (RX9, TX9, 32) rfl (by decide) rfl q1831 dX9_mends_251 rfl) (z_get _ _ _ _),
   zz_of (ok_iload G dX9_mends_254 rfl) (z_ild _ _),
   zz_of (ok_iald G dX9_mends_256 rfl) (z_iald _),
   zz_of (ok_callv G hnh (zmX9_unwhole _ G.hst) rfl rfl (RX9, TX9, 32) rfl q2199 q2201 qs79 q93 q2202 (by decide +kernel) ⟨by decide, by decide⟩ dX9_mends_257 rfl) (z_callv _ _ _ _),
   zz_of (ok_aload_n G dX9_mends_260 rfl rfl) (z_ald _ _),
   zz_of (ok_iload G dX9_mends_261 rfl) (z_ild _ _),
   zz_of (ok_callv G hnh (zmX9_rallies _ G.hst) rfl rfl (RX9, TX9, 32) rfl q2074 q2076 qs60 q93 q2077 (by decide +kernel) ⟨by decide, by decide⟩ dX9_mends_263 rfl) (z_callv _ _ _ _),
   zz_of (ok_aload_n G dX9_mends_266 rfl rfl) (z_ald _ _),
   zz_of (ok_iload G dX9_mends_267 rfl) (z_ild _ _),
   zz_of (ok_iconst G (v := 1) dX9_mends_269 (by decide) rfl) (z_cn 270 1),
   zz_of (ok_callv G hnh (zmX9_joins _ G.hst) rfl rfl (RX9, TX9, 32) rfl q2203 q2205 qs80 q93 q2206 (by decide +kernel) ⟨by decide, by decide⟩ dX9_mends_270 rfl) (z_callv _ _ _ _),
   zz_of (ok_iinc G (v := 1) dX9_mends_273 (by decide) rfl (by decide)) (z_incn 276 12 1),
   zz_of (ok_goto G dX9_mends_276 rfl) (z_goto _),
   zz_of (ok_iinc G (v := 1) dX9_mends_279 (by decide) rfl (by decide)) (z_incn 282 9 1),
   zz_of (ok_goto G dX9_mends_282 rfl) (z_goto _),
   zz_of (ok_aload_n G dX9_mends_285 rfl rfl) (z_ald _ _),
   zz_of (ok_aload_n G dX9_mends_286 rfl rfl) (z_ald _ _),
   zz_of (ok_get G (nx := 290) (ci := 8) (kd := 0) (k := 31) (RX9, TX9, 32) rfl (by decide) rfl q1836 dX9_mends_287 rfl) (z_get _ _ _ _),
   zz_of (ok_puti G (nx := 293) (idx := 296) (ci := 8) (k := 30) (RX9, TX9, 32) rfl (by decide) rfl (mm_pw G (ci := 8) (k := 30) (RX9, TX9, 32) rfl (by decide) rfl q1835 dX9_mends_290) rfl) (z_puti _ _ _),
   zz_of (ok_iconst G (v := 0) dX9_mends_293 (by decide) rfl) (z_cn 294 0),
   zz_of (ok_istore G dX9_mends_294 rfl (by decide)) (z_ist _ _),
   zz_of (ok_iload G dX9_mends_296 rfl) (z_ild _ _),
   zz_of (ok_aload_n G dX9_mends_298 rfl rfl) (z_ald _ _),
   zz_of (ok_get G (nx := 302) (ci := 8) (kd := 0) (k := 30) (RX9, TX9, 32) rfl (by decide) rfl q1835 dX9_mends_299 rfl) (z_get _ _ _ _),
   zz_of (ok_cge G dX9_mends_302 rfl rfl) (z_cge _ _ _ _),
   zz_of (ok_aload_n G dX9_mends_305 rfl rfl) (z_ald _ _),
   zz_of (ok_get G (nx := 309) (ci := 8) (kd := 2) (k := 26) (RX9, TX9, 32) rfl (by decide) rfl q1831 dX9_mends_306 rfl) (z_get _ _ _ _),
   zz_of (ok_iload G dX9_mends_309 rfl) (z_ild _ _),
   zz_of (ok_aload_n G dX9_mends_311 rfl rfl) (z_ald _ _),
   zz_of (ok_get G (nx := 315) (ci := 8) (kd := 2) (k := 27) (RX9, TX9, 32) rfl (by decide) rfl q1832 dX9_mends_312 rfl) (z_get _ _ _ _),
   zz_of (ok_iload G dX9_mends_315 rfl) (z_ild _ _),
   zz_of (ok_iald G dX9_mends_317 rfl) (z_iald _),
   zz_of (ok_iast G dX9_mends_318 rfl) (z_iasd _),
   zz_of (ok_iconst G (v := 0) dX9_mends_319 (by decide) rfl) (z_cn 320 0),
   zz_of (ok_istore G dX9_mends_320 rfl (by decide)) (z_ist _ _),
   zz_of (ok_iload G dX9_mends_322 rfl) (z_ild _ _),
   zz_of (ok_bipush G (v := 31) dX9_mends_324 (by decide) rfl) (z_cn 326 31),
   zz_of (ok_cge G dX9_mends_326 rfl rfl) (z_cge _ _ _ _),
   zz_of (ok_aload_n G dX9_mends_329 rfl rfl) (z_ald _ _),
   zz_of (ok_get G (nx := 333) (ci := 8) (kd := 2) (k := 28) (RX9, TX9, 32) rfl (by decide) rfl q1833 dX9_mends_330 rfl) (z_get _ _ _ _),
   zz_of (ok_bipush G (v := 31) dX9_mends_333 (by decide) rfl) (z_cn 335 31),
   zz_of (ok_iload G dX9_mends_335 rfl) (z_ild _ _),
   zz_of (ok_imul G dX9_mends_337 rfl) (z_imul _),
   zz_of (ok_iload G dX9_mends_338 rfl) (z_ild _ _),
   zz_of (ok_iadd G dX9_mends_340 rfl) (z_iadd _),
   zz_of (ok_aload_n G dX9_mends_341 rfl rfl) (z_ald _ _),
   zz_of (ok_get G (nx := 345) (ci := 8) (kd := 2) (k := 29) (RX9, TX9, 32) rfl (by decide) rfl q1834 dX9_mends_342 rfl) (z_get _ _ _ _),
   zz_of (ok_bipush G (v := 31) dX9_mends_345 (by decide) rfl) (z_cn 347 31),
   zz_of (ok_iload G dX9_mends_347 rfl) (z_ild _ _),
   zz_of (ok_imul G dX9_mends_349 rfl) (z_imul _),
   zz_of (ok_iload G dX9_mends_350 rfl) (z_ild _ _),
   zz_of (ok_iadd G dX9_mends_352 rfl) (z_iadd _),
   zz_of (ok_lald G dX9_mends_353 rfl) (z_lald _),
   zz_of (ok_last G dX9_mends_354 rfl) (z_lasd _),
   zz_of (ok_iinc G (v := 1) dX9_mends_355 (by decide) rfl (by decide)) (z_incn 358 10 1),
   zz_of (ok_goto G dX9_mends_358 rfl) (z_goto _),
   zz_of (ok_iinc G (v := 1) dX9_mends_361 (by decide) rfl (by decide)) (z_incn 364 9 1),
   zz_of (ok_goto G dX9_mends_364 rfl) (z_goto _),
   zz_of (ok_iinc G (v := 2) dX9_mends_367 (by decide) rfl (by decide)) (z_incn 370 7 2),
   zz_of (ok_goto G dX9_mends_370 rfl) (z_goto _),
   zz_of (ok_iconst G (v := 0) dX9_mends_373 (by decide) rfl) (z_cn 374 0),
   zz_of (ok_istore G dX9_mends_374 rfl (by decide)) (z_ist _ _),
   zz_of (ok_iload G dX9_mends_376 rfl) (z_ild _ _),
   zz_of (ok_bipush G (v := 31) dX9_mends_378 (by decide) rfl) (z_cn 380 31),
   zz_of (ok_cge G dX9_mends_380 rfl rfl) (z_cge _ _ _ _),
   zz_of (ok_lconst G (v := 0) dX9_mends_383 (by decide) rfl) (z_cl 384 0),
   zz_of (ok_lstore G dX9_mends_384 rfl (by decide)) (z_lst _ _),
   zz_of (ok_iconst G (v := 0) dX9_mends_386 (by decide) rfl) (z_cn 387 0),
   zz_of (ok_istore G dX9_mends_387 rfl (by decide)) (z_ist _ _),
   zz_of (ok_iload G dX9_mends_389 rfl) (z_ild _ _),
   zz_of (ok_aload_n G dX9_mends_391 rfl rfl) (z_ald _ _),
   zz_of (ok_get G (nx := 395) (ci := 8) (kd := 0) (k := 30) (RX9, TX9, 32) rfl (by decide) rfl q1835 dX9_mends_392 rfl) (z_get _ _ _ _),
   zz_of (ok_cge G dX9_mends_395 rfl rfl) (z_cge _ _ _ _),
   zz_of (ok_aload_n G dX9_mends_398 rfl rfl) (z_ald _ _),
   zz_of (ok_aload_n G dX9_mends_399 rfl rfl) (z_ald _ _),
   zz_of (ok_get G (nx := 403) (ci := 8) (kd := 2) (k := 26) (RX9, TX9, 32) rfl (by decide) rfl q1831 dX9_mends_400 rfl) (z_get _ _ _ _),
   zz_of (ok_iload G dX9_mends_403 rfl) (z_ild _ _),
   zz_of (ok_iald G dX9_mends_405 rfl) (z_iald _),
   zz_of (ok_callv G hnh (zmX9_unwhole _ G.hst) rfl rfl (RX9, TX9, 32) rfl q2199 q2201 qs79 q93 q2202 (by decide +kernel) ⟨by decide, by decide⟩ dX9_mends_406 rfl) (z_callv _ _ _ _),
   zz_of (ok_aload_n G dX9_mends_409 rfl rfl) (z_ald _ _),
   zz_of (ok_get G (nx := 413) (ci := 8) (kd := 2) (k := 16) (RX9, TX9, 32) rfl (by decide) rfl q1821 dX9_mends_410 rfl) (z_get _ _ _ _),
   zz_of (ok_iconst G (v := 0) dX9_mends_413 (by decide) rfl) (z_cn 414 0),
   zz_of (ok_iald G dX9_mends_414 rfl) (z_ialc _ _),
   zz_of (ok_iload_n G dX9_mends_415 rfl rfl) (z_ild _ _),
   zz_of (ok_cne G dX9_mends_416 rfl rfl) (z_cne _ _ _ _),
   zz_of (ok_aload_n G dX9_mends_419 rfl rfl) (z_ald _ _),
   zz_of (ok_get G (nx := 423) (ci := 8) (kd := 2) (k := 16) (RX9, TX9, 32) rfl (by decide) rfl q1821 dX9_mends_420 rfl) (z_get _ _ _ _),
   zz_of (ok_iconst G (v := 1) dX9_mends_423 (by decide) rfl) (z_cn 424 1),
   zz_of (ok_iald G dX9_mends_424 rfl) (z_ialc _ _),
   zz_of (ok_iload_n G dX9_mends_425 rfl rfl) (z_ild _ _),
   zz_of (ok_cne G dX9_mends_426 rfl rfl) (z_cne _ _ _ _),
   zz_of (ok_aload_n G dX9_mends_429 rfl rfl) (z_ald _ _),
   zz_of (ok_get G (nx := 433) (ci := 8) (kd := 2) (k := 16) (RX9, TX9, 32) rfl (by decide) rfl q1821 dX9_mends_430 rfl) (z_get _ _ _ _),
   zz_of (ok_bipush G (v := 7) dX9_mends_433 (by decide) rfl) (z_cn 435 7),
   zz_of (ok_iald G dX9_mends_435 rfl) (z_ialc _ _),
   zz_of (ok_iload_n G dX9_mends_436 rfl rfl) (z_ild _ _),
   zz_of (ok_cne G dX9_mends_437 rfl rfl) (z_cne _ _ _ _),
   zz_of (ok_aload_n G dX9_mends_440 rfl rfl) (z_ald _ _),
   zz_of (ok_get G (nx := 444) (ci := 8) (kd := 2) (k := 16) (RX9, TX9, 32) rfl (by decide) rfl q1821 dX9_mends_441 rfl) (z_get _ _ _ _),
   zz_of (ok_bipush G (v := 8) dX9_mends_444 (by decide) rfl) (z_cn 446 8),
   zz_of (ok_iald G dX9_mends_446 rfl) (z_ialc _ _),
   zz_of (ok_iload G dX9_mends_447 rfl) (z_ild _ _),
   zz_of (ok_cne G dX9_mends_449 rfl rfl) (z_cne _ _ _ _),
   zz_of (ok_lload G dX9_mends_452 rfl) (z_lld _ _),
   zz_of (ok_aload_n G dX9_mends_454 rfl rfl) (z_ald _ _),
   zz_of (ok_get G (nx := 458) (ci := 8) (kd := 2) (k := 28) (RX9, TX9, 32) rfl (by decide) rfl q1833 dX9_mends_455 rfl) (z_get _ _ _ _),
   zz_of (ok_bipush G (v := 31) dX9_mends_458 (by decide) rfl) (z_cn 460 31),
   zz_of (ok_iload G dX9_mends_460 rfl) (z_ild _ _),
   zz_of (ok_imul G dX9_mends_462 rfl) (z_imul _),
   zz_of (ok_iload G dX9_mends_463 rfl) (z_ild _ _),
   zz_of (ok_iadd G dX9_mends_465 rfl) (z_iadd _),
   zz_of (ok_lald G dX9_mends_466 rfl) (z_lald _),
   zz_of (ok_ladd G dX9_mends_467 rfl) (z_ladd _),
   zz_of (ok_lstore G dX9_mends_468 rfl (by decide)) (z_lst _ _),
   zz_of (ok_iinc G (v := 1) dX9_mends_470 (by decide) rfl (by decide)) (z_incn 473 10 1),
   zz_of (ok_goto G dX9_mends_473 rfl) (z_goto _),
   zz_of (ok_lload G dX9_mends_476 rfl) (z_lld _ _),
   zz_of (ok_lconst G (v := 0) dX9_mends_478 (by decide) rfl) (z_cl 479 0),
   zz_of (ok_lcmp G dX9_mends_479 rfl) (z_lcmp _),
   zz_of (ok_ifle G dX9_mends_480 rfl rfl) (z_ifle _ _ _),
   zz_of (ok_iload G dX9_mends_483 rfl) (z_ild _ _),
   zz_of (ok_ifeq G dX9_mends_485 rfl rfl) (z_ifeq _ _ _),
   zz_of (ok_lload G dX9_mends_488 rfl) (z_lld _ _),
   zz_of (ok_goto G dX9_mends_490 rfl) (z_goto _),
   zz_of (ok_iload G dX9_mends_493 rfl) (z_ild _ _),
   zz_of (ok_i2l G dX9_mends_495 rfl) (z_i2l _),
   zz_of (ok_lret G dX9_mends_496) (z_lret),
   zz_of (ok_iinc G (v := 1) dX9_mends_497 (by decide) rfl (by decide)) (z_incn 500 7 1),
   zz_of (ok_goto G dX9_mends_500 rfl) (z_goto _),
   zz_of (ok_iload G dX9_mends_503 rfl) (z_ild _ _),
   zz_of (ok_ifeq G dX9_mends_505 rfl rfl) (z_ifeq _ _ _),
   zz_of (ok_lconst G (v := 0) dX9_mends_508 (by decide) rfl) (z_cl 509 0),
   zz_of (ok_goto G dX9_mends_509 rfl) (z_goto _),
   zz_of (ok_ldc2 G (v := (-1)) q2207 dX9_mends_512 rfl) (z_c (congrArg Value.long (by decide))),
   zz_of (ok_lret G dX9_mends_515) (z_lret), trivial⟩

theorem zwX9_mends_0 {Q : Option zv → zz_M → Prop} {X : Nat → zz_M → Prop} {S L : Nat → Nat → Int} {a : Int} {b : Int} {c : Int} {d : Int} {ways : Int} (h : (∃ m_1 : Nat, (S 0 6) = m_1 ∧ m_1 ≤ 400 ∧ tpG ((mm_up S 0 6 0) 4) ∧ (lgB ((mm_up S 0 6 0) 4) m_1 = true → (zz_J zpX9_mends (zz_ret Q X 0 0) 29 [some (vr 0), some (vi a), some (vi b), some (vi c), some (vi d), some (vi ways), some (vi (S 0 6)), none, none, none, none, none, none] [] (zm (mm_up (mm_up S 0 6 0) 0 0 0) L) (0, 0))) ∧ (lgB ((mm_up S 0 6 0) 4) m_1 = false → (zz_J zpX9_mends (zz_ret Q X 0 0) 29 [some (vr 0), some (vi a), some (vi b), some (vi c), some (vi d), some (vi ways), some (vi (S 0 6)), none, none, none, none, none, none] [] (zm (mm_up (mm_up S 0 6 0) 0 0 1) L) (0, 0))))) : zz_J zpX9_mends (zz_ret Q X 0 0) 0 [some (vr 0), some (vi a), some (vi b), some (vi c), some (vi d), some (vi ways), none, none, none, none, none, none, none] [] (zm S L) (0, 0) := zz_J.go [(29, [7, 8, 9, 10, 11, 12]), (60, [8, 9, 10, 11, 12]), (93, [8, 9, 10, 11, 12]), (116, [10, 11, 12]), (170, [11, 12]), (210, [12]), (227, []), (279, [10, 11, 12]), (296, [8, 10, 11, 12]), (322, [8, 11, 12]), (376, [6, 8, 9, 10, 11, 12]), (389, [6, 9, 11, 12]), (470, [6, 9, 11, 12]), (476, [6, 9, 10, 11, 12])] 400 h
theorem zwX9_mends_29 {Q : Option zv → zz_M → Prop} {X : Nat → zz_M → Prop} {S L : Nat → Nat → Int} {x1 : Int} {x2 : Int} {x3 : Int} {x4 : Int} {x5 : Int} {x6 : Int} (h : R32 (S 0 0) ∧ (((S 0 0) ≤ 0 → (((bx ((tkS S) 6) ∧ (zz_J zpX9_mends (zz_ret Q X 0 0) 60 [some (vr 0), some (vi x1), some (vi x2), some (vi x3), some (vi x4), some (vi x5), some (vi x6), some (vi 0), none, none, none, none, none] [] (zm (mm_up (mm_up (tkS S) 14 0 (whR ((tkS S) 6))) 0 30 1) L) (0, 0)))))) ∧ (¬ (S 0 0) ≤ 0 → Q (some (vl 0)) (zm S L)))) : zz_J zpX9_mends (zz_ret Q X 0 0) 29 [some (vr 0), some (vi x1), some (vi x2), some (vi x3), some (vi x4), some (vi x5), some (vi x6), none, none, none, none, none, none] [] (zm S L) (0, 0) := zz_J.go [(29, [7, 8, 9, 10, 11, 12]), (60, [8, 9, 10, 11, 12]), (93, [8, 9, 10, 11, 12]), (116, [10, 11, 12]), (170, [11, 12]), (210, [12]), (227, []), (279, [10, 11, 12]), (296, [8, 10, 11, 12]), (322, [8, 11, 12]), (376, [6, 8, 9, 10, 11, 12]), (389, [6, 9, 11, 12]), (470, [6, 9, 11, 12]), (476, [6, 9, 10, 11, 12])] 400 h
theorem zwX9_mends_60 {Q : Option zv → zz_M → Prop} {X : Nat → zz_M → Prop} {S L : Nat → Nat → Int} {x1 : Int} {x2 : Int} {x3 : Int} {x4 : Int} {x5 : Int} {x6 : Int} {x7 : Int} (h : R32 x7 ∧ ((31 ≤ x7 → zz_J zpX9_mends (zz_ret Q X 0 0) 93 [some (vr 0), some (vi x1), some (vi x2), some (vi x3), some (vi x4), some (vi x5), some (vi x6), some (vi 0), none, none, none, none, none] [] (zm S L) (0, 0)) ∧ (¬ 31 ≤ x7 → R32 x7 ∧ ((¬ x7 = 0 → (0 ≤ x7 ∧ x7 < 124000) ∧ (zz_J zpX9_mends (zz_ret Q X 0 0) 60 [some (vr 0), some (vi x1), some (vi x2), some (vi x3), some (vi x4), some (vi x5), some (vi x6), some (vi (x7 + 1)), none, none, none, none, none] [] (zm S (mm_up L 16 x7.toNat 0)) (0, 0))) ∧ (x7 = 0 → (0 ≤ x7 ∧ x7 < 124000) ∧ (zz_J zpX9_mends (zz_ret Q X 0 0) 60 [some (vr 0), some (vi x1), some (vi x2), some (vi x3), some (vi x4), some (vi x5), some (vi x6), some (vi (x7 + 1)), none, none, none, none, none] [] (zm S (mm_up L 16 x7.toNat 1)) (0, 0))))))) : zz_J zpX9_mends (zz_ret Q X 0 0) 60 [some (vr 0), some (vi x1), some (vi x2), some (vi x3), some (vi x4), some (vi x5), some (vi x6), some (vi x7), none, none, none, none, none] [] (zm S L) (0, 0) := zz_J.go [(29, [7, 8, 9, 10, 11, 12]), (60, [8, 9, 10, 11, 12]), (93, [8, 9, 10, 11, 12]), (116, [10, 11, 12]), (170, [11, 12]), (210, [12]), (227, []), (279, [10, 11, 12]), (296, [8, 10, 11, 12]), (322, [8, 11, 12]), (376, [6, 8, 9, 10, 11, 12]), (389, [6, 9, 11, 12]), (470, [6, 9, 11, 12]), (476, [6, 9, 10, 11, 12])] 400 h
theorem zwX9_mends_93 {Q : Option zv → zz_M → Prop} {X : Nat → zz_M → Prop} {S L : Nat → Nat → Int} {x1 : Int} {x2 : Int} {x3 : Int} {x4 : Int} {x5 : Int} {x6 : Int} {x7 : Int} (h : R32 x7 ∧ (R32 x6 ∧ ((x6 ≤ x7 → zz_J zpX9_mends (zz_ret Q X 0 0) 376 [some (vr 0), some (vi x1), some (vi x2), some (vi x3), some (vi x4), some (vi x5), none, some (vi 0), none, none, none, none, none] [] (zm S L) (0, 0)) ∧ (¬ x6 ≤ x7 → (∃ j_1 : Nat, x7 = (2 * j_1 : Nat) ∧ 2 * j_1 + 1 < 400 ∧ tpG (S 4) ∧ (zz_J zpX9_mends (zz_ret Q X 0 0) 116 [some (vr 0), some (vi x1), some (vi x2), some (vi x3), some (vi x4), some (vi x5), some (vi x6), some (vi x7), some (vi (hwO (S 4) j_1)), some (vi 0), none, none, none] [] (zm (mm_up S 0 31 0) L) (0, 0))))))) : zz_J zpX9_mends (zz_ret Q X 0 0) 93 [some (vr 0), some (vi x1), some (vi x2), some (vi x3), some (vi x4), some (vi x5), some (vi x6), some (vi x7), none, none, none, none, none] [] (zm S L) (0, 0) := zz_J.go [(29, [7, 8, 9, 10, 11, 12]), (60, [8, 9, 10, 11, 12]), (93, [8, 9, 10, 11, 12]), (116, [10, 11, 12]), (170, [11, 12]), (210, [12]), (227, []), (279, [10, 11, 12]), (296, [8, 10, 11, 12]), (322, [8, 11, 12]), (376, [6, 8, 9, 10, 11, 12]), (389, [6, 9, 11, 12]), (470, [6, 9, 11, 12]), (476, [6, 9, 10, 11, 12])] 400 h
theorem zwX9_mends_116 {Q : Option zv → zz_M → Prop} {X : Nat → zz_M → Prop} {S L : Nat → Nat → Int} {x1 : Int} {x2 : Int} {x3 : Int} {x4 : Int} {x5 : Int} {x6 : Int} {x7 : Int} {x8 : Int} {x9 : Int} (h : R32 x9 ∧ (R32 (S 0 30) ∧ (((S 0 30) ≤ x9 → zz_J zpX9_mends (zz_ret Q X 0 0) 296 [some (vr 0), some (vi x1), some (vi x2), some (vi x3), some (vi x4), some (vi x5), some (vi x6), some (vi x7), none, some (vi 0), none, none, none] [] (zm (mm_up S 0 30 (S 0 31)) L) (0, 0)) ∧ (¬ (S 0 30) ≤ x9 → (0 ≤ x9 ∧ x9 < 4000) ∧ (((0 ≤ (S 14 x9.toNat) ∧ (S 14 x9.toNat) < 100000000) ∧ ((bx ((sx S (uwR (S 1) (S 6) (S 14 x9.toNat)) (S 0 17) (S 0 18)) 6) ∧ (-100 ≤ (sx S (uwR (S 1) (S 6) (S 14 x9.toNat)) (S 0 17) (S 0 18)) 1 194 ∧ (sx S (uwR (S 1) (S 6) (S 14 x9.toNat)) (S 0 17) (S 0 18)) 1 194 ≤ 100) ∧ (ovR ((sx S (uwR (S 1) (S 6) (S 14 x9.toNat)) (S 0 17) (S 0 18)) 1 194) ((sx S (uwR (S 1) (S 6) (S 14 x9.toNat)) (S 0 17) (S 0 18)) 6) = true → (zz_J zpX9_mends (zz_ret Q X 0 0) 279 [some (vr 0), some (vi x1), some (vi x2), some (vi x3), some (vi x4), some (vi x5), some (vi x6), some (vi x7), some (vi x8), some (vi x9), none, none, none] [] (zm (sx S (uwR (S 1) (S 6) (S 14 x9.toNat)) (S 0 17) (S 0 18)) L) (0, 0))) ∧ (ovR ((sx S (uwR (S 1) (S 6) (S 14 x9.toNat)) (S 0 17) (S 0 18)) 1 194) ((sx S (uwR (S 1) (S 6) (S 14 x9.toNat)) (S 0 17) (S 0 18)) 6) = false → (R32 x8 ∧ ((x8 < 2 → zz_J zpX9_mends (zz_ret Q X 0 0) 170 [some (vr 0), some (vi x1), some (vi x2), some (vi x3), some (vi x4), some (vi x5), some (vi x6), some (vi x7), some (vi x8), some (vi x9), some (vi 0), none, none] [] (zm (sx S (uwR (S 1) (S 6) (S 14 x9.toNat)) (S 0 17) (S 0 18)) L) (0, 0)) ∧ (¬ x8 < 2 → R32 ((sx S (uwR (S 1) (S 6) (S 14 x9.toNat)) (S 0 17) (S 0 18)) 6 6) ∧ ((¬ ((sx S (uwR (S 1) (S 6) (S 14 x9.toNat)) (S 0 17) (S 0 18)) 6 6) = 1 → zz_J zpX9_mends (zz_ret Q X 0 0) 170 [some (vr 0), some (vi x1), some (vi x2), some (vi x3), some (vi x4), some (vi x5), some (vi x6), some (vi x7), some (vi x8), some (vi x9), some (vi 0), none, none] [] (zm (sx S (uwR (S 1) (S 6) (S 14 x9.toNat)) (S 0 17) (S 0 18)) L) (0, 0)) ∧ (((sx S (uwR (S 1) (S 6) (S 14 x9.toNat)) (S 0 17) (S 0 18)) 6 6) = 1 → zz_J zpX9_mends (zz_ret Q X 0 0) 170 [some (vr 0), some (vi x1), some (vi x2), some (vi x3), some (vi x4), some (vi x5), some (vi x6), some (vi x7), some (vi x8), some (vi x9), some (vi 1), none, none] [] (zm (sx S (uwR (S 1) (S 6) (S 14 x9.toNat)) (S 0 17) (S 0 18)) L) (0, 0))))))))))))))) : zz_J zpX9_mends (zz_ret Q X 0 0) 116 [some (vr 0), some (vi x1), some (vi x2), some (vi x3), some (vi x4), some (vi x5), some (vi x6), some (vi x7), some (vi x8), some (vi x9), none, none, none] [] (zm S L) (0, 0) := zz_J.go [(29, [7, 8, 9, 10, 11, 12]), (60, [8, 9, 10, 11, 12]), (93, [8, 9, 10, 11, 12]), (116, [10, 11, 12]), (170, [11, 12]), (210, [12]), (227, []), (279, [10, 11, 12]), (296, [8, 10, 11, 12]), (322, [8, 11, 12]), (376, [6, 8, 9, 10, 11, 12]), (389, [6, 9, 11, 12]), (470, [6, 9, 11, 12]), (476, [6, 9, 10, 11, 12])] 400 h
theorem zwX9_mends_170 {Q : Option zv → zz_M → Prop} {X : Nat → zz_M → Prop} {S L : Nat → Nat → Int} {x1 : Int} {x2 : Int} {x3 : Int} {x4 : Int} {x5 : Int} {x6 : Int} {x7 : Int} {x8 : Int} {x9 : Int} {x10 : Int} (h : R32 (x8 - 2) ∧ (R32 (S 6 4) ∧ (((S 6 4) ≤ (x8 - 2) → R32 (x8 - 2) ∧ (R32 (S 6 4) ∧ (((x8 - 2) ≤ (S 6 4) → zz_J zpX9_mends (zz_ret Q X 0 0) 210 [some (vr 0), some (vi x1), some (vi x2), some (vi x3), some (vi x4), some (vi x5), some (vi x6), some (vi x7), some (vi x8), some (vi x9), some (vi x10), some (vi 14), none] [] (zm S L) (0, 0)) ∧ (¬ (x8 - 2) ≤ (S 6 4) → zz_J zpX9_mends (zz_ret Q X 0 0) 210 [some (vr 0), some (vi x1), some (vi x2), some (vi x3), some (vi x4), some (vi x5), some (vi x6), some (vi x7), some (vi x8), some (vi x9), some (vi x10), some (vi 13), none] [] (zm S L) (0, 0))))) ∧ (¬ (S 6 4) ≤ (x8 - 2) → zz_J zpX9_mends (zz_ret Q X 0 0) 210 [some (vr 0), some (vi x1), some (vi x2), some (vi x3), some (vi x4), some (vi x5), some (vi x6), some (vi x7), some (vi x8), some (vi x9), some (vi x10), some (vi 12), none] [] (zm S L) (0, 0))))) : zz_J zpX9_mends (zz_ret Q X 0 0) 170 [some (vr 0), some (vi x1), some (vi x2), some (vi x3), some (vi x4), some (vi x5), some (vi x6), some (vi x7), some (vi x8), some (vi x9), some (vi x10), none, none] [] (zm S L) (0, 0) := zz_J.go [(29, [7, 8, 9, 10, 11, 12]), (60, [8, 9, 10, 11, 12]), (93, [8, 9, 10, 11, 12]), (116, [10, 11, 12]), (170, [11, 12]), (210, [12]), (227, []), (279, [10, 11, 12]), (296, [8, 10, 11, 12]), (322, [8, 11, 12]), (376, [6, 8, 9, 10, 11, 12]), (389, [6, 9, 11, 12]), (470, [6, 9, 11, 12]), (476, [6, 9, 10, 11, 12])] 400 h
theorem zwX9_mends_210 {Q : Option zv → zz_M → Prop} {X : Nat → zz_M → Prop} {S L : Nat → Nat → Int} {x1 : Int} {x2 : Int} {x3 : Int} {x4 : Int} {x5 : Int} {x6 : Int} {x7 : Int} {x8 : Int} {x9 : Int} {x10 : Int} {x11 : Int} (h : ((0 ≤ x8 ∧ x8 ≤ 14) ∧ by5 (S 6) ∧ bw (S 1) ∧ (S 6 2 = 0 ∨ S 6 2 = 1) ∧ ((∃ N_2 u_2 v_2 : Nat, bx ((sx S (rlR (S 1) (S 6) x8) (rlN (S 1) (S 6) x8) (rlW (S 1) (S 6) x8)) 6) ∧ R32 (whR ((sx S (rlR (S 1) (S 6) x8) (rlN (S 1) (S 6) x8) (rlW (S 1) (S 6) x8)) 6)) ∧ (sx S (rlR (S 1) (S 6) x8) (rlN (S 1) (S 6) x8) (rlW (S 1) (S 6) x8)) 0 31 = N_2 ∧ N_2 ≤ 4000 ∧ (∀ s_2, s_2 < N_2 → R32 ((sx S (rlR (S 1) (S 6) x8) (rlN (S 1) (S 6) x8) (rlW (S 1) (S 6) x8)) 15 s_2)) ∧ ((∀ s_2, s_2 < N_2 → (sx S (rlR (S 1) (S 6) x8) (rlN (S 1) (S 6) x8) (rlW (S 1) (S 6) x8)) 15 s_2 ≠ whR ((sx S (rlR (S 1) (S 6) x8) (rlN (S 1) (S 6) x8) (rlW (S 1) (S 6) x8)) 6)) → N_2 < 4000) ∧ x9 = u_2 ∧ u_2 < 4000 ∧ (0 : Int) = v_2 ∧ v_2 < 2 ∧ (∀ k_2, k_2 < N_2 → (sx S (rlR (S 1) (S 6) x8) (rlN (S 1) (S 6) x8) (rlW (S 1) (S 6) x8)) 15 k_2 = whR ((sx S (rlR (S 1) (S 6) x8) (rlN (S 1) (S 6) x8) (rlW (S 1) (S 6) x8)) 6) → (zz_J zpX9_mends (zz_ret Q X 0 0) 227 [some (vr 0), some (vi x1), some (vi x2), some (vi x3), some (vi x4), some (vi x5), some (vi x6), some (vi x7), some (vi x8), some (vi x9), some (vi x10), some (vi x11), some (vi 12)] [] (zm (sx S (rlR (S 1) (S 6) x8) (rlN (S 1) (S 6) x8) (rlW (S 1) (S 6) x8)) (jnL L k_2 u_2 v_2 (31 - v_2))) (0, 0))) ∧ ((∀ s_2, s_2 < N_2 → (sx S (rlR (S 1) (S 6) x8) (rlN (S 1) (S 6) x8) (rlW (S 1) (S 6) x8)) 15 s_2 ≠ whR ((sx S (rlR (S 1) (S 6) x8) (rlN (S 1) (S 6) x8) (rlW (S 1) (S 6) x8)) 6)) → (zz_J zpX9_mends (zz_ret Q X 0 0) 227 [some (vr 0), some (vi x1), some (vi x2), some (vi x3), some (vi x4), some (vi x5), some (vi x6), some (vi x7), some (vi x8), some (vi x9), some (vi x10), some (vi x11), some (vi 12)] [] (zm (mm_up (mm_up (sx S (rlR (S 1) (S 6) x8) (rlN (S 1) (S 6) x8) (rlW (S 1) (S 6) x8)) 15 N_2 (whR ((sx S (rlR (S 1) (S 6) x8) (rlN (S 1) (S 6) x8) (rlW (S 1) (S 6) x8)) 6))) 0 31 (N_2 + 1 : Nat)) (jnL (jnZ L N_2 31) N_2 u_2 v_2 (31 - v_2))) (0, 0))))))) : zz_J zpX9_mends (zz_ret Q X 0 0) 210 [some (vr 0), some (vi x1), some (vi x2), some (vi x3), some (vi x4), some (vi x5), some (vi x6), some (vi x7), some (vi x8), some (vi x9), some (vi x10), some (vi x11), none] [] (zm S L) (0, 0) := zz_J.go [(29, [7, 8, 9, 10, 11, 12]), (60, [8, 9, 10, 11, 12]), (93, [8, 9, 10, 11, 12]), (116, [10, 11, 12]), (170, [11, 12]), (210, [12]), (227, []), (279, [10, 11, 12]), (296, [8, 10, 11, 12]), (322, [8, 11, 12]), (376, [6, 8, 9, 10, 11, 12]), (389, [6, 9, 11, 12]), (470, [6, 9, 11, 12]), (476, [6, 9, 10, 11, 12])] 400 h
theorem zwX9_mends_227 {Q : Option zv → zz_M → Prop} {X : Nat → zz_M → Prop} {S L : Nat → Nat → Int} {x1 : Int} {x2 : Int} {x3 : Int} {x4 : Int} {x5 : Int} {x6 : Int} {x7 : Int} {x8 : Int} {x9 : Int} {x10 : Int} {x11 : Int} {x12 : Int} (h : R32 x12 ∧ ((15 ≤ x12 → zz_J zpX9_mends (zz_ret Q X 0 0) 279 [some (vr 0), some (vi x1), some (vi x2), some (vi x3), some (vi x4), some (vi x5), some (vi x6), some (vi x7), some (vi x8), some (vi x9), none, none, none] [] (zm S L) (0, 0)) ∧ (¬ 15 ≤ x12 → R32 x10 ∧ ((x10 = 0 → zz_J zpX9_mends (zz_ret Q X 0 0) 279 [some (vr 0), some (vi x1), some (vi x2), some (vi x3), some (vi x4), some (vi x5), some (vi x6), some (vi x7), some (vi x8), some (vi x9), none, none, none] [] (zm S L) (0, 0)) ∧ (¬ x10 = 0 → R32 x12 ∧ (R32 x11 ∧ ((¬ x12 = x11 → (0 ≤ x9 ∧ x9 < 4000) ∧ (((0 ≤ (S 14 x9.toNat) ∧ (S 14 x9.toNat) < 100000000) ∧ (((0 ≤ x12 ∧ x12 ≤ 14) ∧ by5 ((sx S (uwR (S 1) (S 6) (S 14 x9.toNat)) (S 0 17) (S 0 18)) 6) ∧ bw ((sx S (uwR (S 1) (S 6) (S 14 x9.toNat)) (S 0 17) (S 0 18)) 1) ∧ ((sx S (uwR (S 1) (S 6) (S 14 x9.toNat)) (S 0 17) (S 0 18)) 6 2 = 0 ∨ (sx S (uwR (S 1) (S 6) (S 14 x9.toNat)) (S 0 17) (S 0 18)) 6 2 = 1) ∧ ((∃ N_3 u_3 v_3 : Nat, bx ((sx (sx S (uwR (S 1) (S 6) (S 14 x9.toNat)) (S 0 17) (S 0 18)) (rlR ((sx S (uwR (S 1) (S 6) (S 14 x9.toNat)) (S 0 17) (S 0 18)) 1) ((sx S (uwR (S 1) (S 6) (S 14 x9.toNat)) (S 0 17) (S 0 18)) 6) x12) (rlN ((sx S (uwR (S 1) (S 6) (S 14 x9.toNat)) (S 0 17) (S 0 18)) 1) ((sx S (uwR (S 1) (S 6) (S 14 x9.toNat)) (S 0 17) (S 0 18)) 6) x12) (rlW ((sx S (uwR (S 1) (S 6) (S 14 x9.toNat)) (S 0 17) (S 0 18)) 1) ((sx S (uwR (S 1) (S 6) (S 14 x9.toNat)) (S 0 17) (S 0 18)) 6) x12)) 6) ∧ R32 (whR ((sx (sx S (uwR (S 1) (S 6) (S 14 x9.toNat)) (S 0 17) (S 0 18)) (rlR ((sx S (uwR (S 1) (S 6) (S 14 x9.toNat)) (S 0 17) (S 0 18)) 1) ((sx S (uwR (S 1) (S 6) (S 14 x9.toNat)) (S 0 17) (S 0 18)) 6) x12) (rlN ((sx S (uwR (S 1) (S 6) (S 14 x9.toNat)) (S 0 17) (S 0 18)) 1) ((sx S (uwR (S 1) (S 6) (S 14 x9.toNat)) (S 0 17) (S 0 18)) 6) x12) (rlW ((sx S (uwR (S 1) (S 6) (S 14 x9.toNat)) (S 0 17) (S 0 18)) 1) ((sx S (uwR (S 1) (S 6) (S 14 x9.toNat)) (S 0 17) (S 0 18)) 6) x12)) 6)) ∧ (sx (sx S (uwR (S 1) (S 6) (S 14 x9.toNat)) (S 0 17) (S 0 18)) (rlR ((sx S (uwR (S 1) (S 6) (S 14 x9.toNat)) (S 0 17) (S 0 18)) 1) ((sx S (uwR (S 1) (S 6) (S 14 x9.toNat)) (S 0 17) (S 0 18)) 6) x12) (rlN ((sx S (uwR (S 1) (S 6) (S 14 x9.toNat)) (S 0 17) (S 0 18)) 1) ((sx S (uwR (S 1) (S 6) (S 14 x9.toNat)) (S 0 17) (S 0 18)) 6) x12) (rlW ((sx S (uwR (S 1) (S 6) (S 14 x9.toNat)) (S 0 17) (S 0 18)) 1) ((sx S (uwR (S 1) (S 6) (S 14 x9.toNat)) (S 0 17) (S 0 18)) 6) x12)) 0 31 = N_3 ∧ N_3 ≤ 4000 ∧ (∀ s_3, s_3 < N_3 → R32 ((sx (sx S (uwR (S 1) (S 6) (S 14 x9.toNat)) (S 0 17) (S 0 18)) (rlR ((sx S (uwR (S 1) (S 6) (S 14 x9.toNat)) (S 0 17) (S 0 18)) 1) ((sx S (uwR (S 1) (S 6) (S 14 x9.toNat)) (S 0 17) (S 0 18)) 6) x12) (rlN ((sx S (uwR (S 1) (S 6) (S 14 x9.toNat)) (S 0 17) (S 0 18)) 1) ((sx S (uwR (S 1) (S 6) (S 14 x9.toNat)) (S 0 17) (S 0 18)) 6) x12) (rlW ((sx S (uwR (S 1) (S 6) (S 14 x9.toNat)) (S 0 17) (S 0 18)) 1) ((sx S (uwR (S 1) (S 6) (S 14 x9.toNat)) (S 0 17) (S 0 18)) 6) x12)) 15 s_3)) ∧ ((∀ s_3, s_3 < N_3 → (sx (sx S (uwR (S 1) (S 6) (S 14 x9.toNat)) (S 0 17) (S 0 18)) (rlR ((sx S (uwR (S 1) (S 6) (S 14 x9.toNat)) (S 0 17) (S 0 18)) 1) ((sx S (uwR (S 1) (S 6) (S 14 x9.toNat)) (S 0 17) (S 0 18)) 6) x12) (rlN ((sx S (uwR (S 1) (S 6) (S 14 x9.toNat)) (S 0 17) (S 0 18)) 1) ((sx S (uwR (S 1) (S 6) (S 14 x9.toNat)) (S 0 17) (S 0 18)) 6) x12) (rlW ((sx S (uwR (S 1) (S 6) (S 14 x9.toNat)) (S 0 17) (S 0 18)) 1) ((sx S (uwR (S 1) (S 6) (S 14 x9.toNat)) (S 0 17) (S 0 18)) 6) x12)) 15 s_3 ≠ whR ((sx (sx S (uwR (S 1) (S 6) (S 14 x9.toNat)) (S 0 17) (S 0 18)) (rlR ((sx S (uwR (S 1) (S 6) (S 14 x9.toNat)) (S 0 17) (S 0 18)) 1) ((sx S (uwR (S 1) (S 6) (S 14 x9.toNat)) (S 0 17) (S 0 18)) 6) x12) (rlN ((sx S (uwR (S 1) (S 6) (S 14 x9.toNat)) (S 0 17) (S 0 18)) 1) ((sx S (uwR (S 1) (S 6) (S 14 x9.toNat)) (S 0 17) (S 0 18)) 6) x12) (rlW ((sx S (uwR (S 1) (S 6) (S 14 x9.toNat)) (S 0 17) (S 0 18)) 1) ((sx S (uwR (S 1) (S 6) (S 14 x9.toNat)) (S 0 17) (S 0 18)) 6) x12)) 6)) → N_3 < 4000) ∧ x9 = u_3 ∧ u_3 < 4000 ∧ (1 : Int) = v_3 ∧ v_3 < 2 ∧ (∀ k_3, k_3 < N_3 → (sx (sx S (uwR (S 1) (S 6) (S 14 x9.toNat)) (S 0 17) (S 0 18)) (rlR ((sx S (uwR (S 1) (S 6) (S 14 x9.toNat)) (S 0 17) (S 0 18)) 1) ((sx S (uwR (S 1) (S 6) (S 14 x9.toNat)) (S 0 17) (S 0 18)) 6) x12) (rlN ((sx S (uwR (S 1) (S 6) (S 14 x9.toNat)) (S 0 17) (S 0 18)) 1) ((sx S (uwR (S 1) (S 6) (S 14 x9.toNat)) (S 0 17) (S 0 18)) 6) x12) (rlW ((sx S (uwR (S 1) (S 6) (S 14 x9.toNat)) (S 0 17) (S 0 18)) 1) ((sx S (uwR (S 1) (S 6) (S 14 x9.toNat)) (S 0 17) (S 0 18)) 6) x12)) 15 k_3 = whR ((sx (sx S (uwR (S 1) (S 6) (S 14 x9.toNat)) (S 0 17) (S 0 18)) (rlR ((sx S (uwR (S 1) (S 6) (S 14 x9.toNat)) (S 0 17) (S 0 18)) 1) ((sx S (uwR (S 1) (S 6) (S 14 x9.toNat)) (S 0 17) (S 0 18)) 6) x12) (rlN ((sx S (uwR (S 1) (S 6) (S 14 x9.toNat)) (S 0 17) (S 0 18)) 1) ((sx S (uwR (S 1) (S 6) (S 14 x9.toNat)) (S 0 17) (S 0 18)) 6) x12) (rlW ((sx S (uwR (S 1) (S 6) (S 14 x9.toNat)) (S 0 17) (S 0 18)) 1) ((sx S (uwR (S 1) (S 6) (S 14 x9.toNat)) (S 0 17) (S 0 18)) 6) x12)) 6) → (zz_J zpX9_mends (zz_ret Q X 0 0) 227 [some (vr 0), some (vi x1), some (vi x2), some (vi x3), some (vi x4), some (vi x5), some (vi x6), some (vi x7), some (vi x8), some (vi x9), some (vi x10), some (vi x11), some (vi (x12 + 1))] [] (zm (sx (sx S (uwR (S 1) (S 6) (S 14 x9.toNat)) (S 0 17) (S 0 18)) (rlR ((sx S (uwR (S 1) (S 6) (S 14 x9.toNat)) (S 0 17) (S 0 18)) 1) ((sx S (uwR (S 1) (S 6) (S 14 x9.toNat)) (S 0 17) (S 0 18)) 6) x12) (rlN ((sx S (uwR (S 1) (S 6) (S 14 x9.toNat)) (S 0 17) (S 0 18)) 1) ((sx S (uwR (S 1) (S 6) (S 14 x9.toNat)) (S 0 17) (S 0 18)) 6) x12) (rlW ((sx S (uwR (S 1) (S 6) (S 14 x9.toNat)) (S 0 17) (S 0 18)) 1) ((sx S (uwR (S 1) (S 6) (S 14 x9.toNat)) (S 0 17) (S 0 18)) 6) x12)) (jnL L k_3 u_3 v_3 (31 - v_3))) (0, 0))) ∧ ((∀ s_3, s_3 < N_3 → (sx (sx S (uwR (S 1) (S 6) (S 14 x9.toNat)) (S 0 17) (S 0 18)) (rlR ((sx S (uwR (S 1) (S 6) (S 14 x9.toNat)) (S 0 17) (S 0 18)) 1) ((sx S (uwR (S 1) (S 6) (S 14 x9.toNat)) (S 0 17) (S 0 18)) 6) x12) (rlN ((sx S (uwR (S 1) (S 6) (S 14 x9.toNat)) (S 0 17) (S 0 18)) 1) ((sx S (uwR (S 1) (S 6) (S 14 x9.toNat)) (S 0 17) (S 0 18)) 6) x12) (rlW ((sx S (uwR (S 1) (S 6) (S 14 x9.toNat)) (S 0 17) (S 0 18)) 1) ((sx S (uwR (S 1) (S 6) (S 14 x9.toNat)) (S 0 17) (S 0 18)) 6) x12)) 15 s_3 ≠ whR ((sx (sx S (uwR (S 1) (S 6) (S 14 x9.toNat)) (S 0 17) (S 0 18)) (rlR ((sx S (uwR (S 1) (S 6) (S 14 x9.toNat)) (S 0 17) (S 0 18)) 1) ((sx S (uwR (S 1) (S 6) (S 14 x9.toNat)) (S 0 17) (S 0 18)) 6) x12) (rlN ((sx S (uwR (S 1) (S 6) (S 14 x9.toNat)) (S 0 17) (S 0 18)) 1) ((sx S (uwR (S 1) (S 6) (S 14 x9.toNat)) (S 0 17) (S 0 18)) 6) x12) (rlW ((sx S (uwR (S 1) (S 6) (S 14 x9.toNat)) (S 0 17) (S 0 18)) 1) ((sx S (uwR (S 1) (S 6) (S 14 x9.toNat)) (S 0 17) (S 0 18)) 6) x12)) 6)) → (zz_J zpX9_mends (zz_ret Q X 0 0) 227 [some (vr 0), some (vi x1), some (vi x2), some (vi x3), some (vi x4), some (vi x5), some (vi x6), some (vi x7), some (vi x8), some (vi x9), some (vi x10), some (vi x11), some (vi (x12 + 1))] [] (zm (mm_up (mm_up (sx (sx S (uwR (S 1) (S 6) (S 14 x9.toNat)) (S 0 17) (S 0 18)) (rlR ((sx S (uwR (S 1) (S 6) (S 14 x9.toNat)) (S 0 17) (S 0 18)) 1) ((sx S (uwR (S 1) (S 6) (S 14 x9.toNat)) (S 0 17) (S 0 18)) 6) x12) (rlN ((sx S (uwR (S 1) (S 6) (S 14 x9.toNat)) (S 0 17) (S 0 18)) 1) ((sx S (uwR (S 1) (S 6) (S 14 x9.toNat)) (S 0 17) (S 0 18)) 6) x12) (rlW ((sx S (uwR (S 1) (S 6) (S 14 x9.toNat)) (S 0 17) (S 0 18)) 1) ((sx S (uwR (S 1) (S 6) (S 14 x9.toNat)) (S 0 17) (S 0 18)) 6) x12)) 15 N_3 (whR ((sx (sx S (uwR (S 1) (S 6) (S 14 x9.toNat)) (S 0 17) (S 0 18)) (rlR ((sx S (uwR (S 1) (S 6) (S 14 x9.toNat)) (S 0 17) (S 0 18)) 1) ((sx S (uwR (S 1) (S 6) (S 14 x9.toNat)) (S 0 17) (S 0 18)) 6) x12) (rlN ((sx S (uwR (S 1) (S 6) (S 14 x9.toNat)) (S 0 17) (S 0 18)) 1) ((sx S (uwR (S 1) (S 6) (S 14 x9.toNat)) (S 0 17) (S 0 18)) 6) x12) (rlW ((sx S (uwR (S 1) (S 6) (S 14 x9.toNat)) (S 0 17) (S 0 18)) 1) ((sx S (uwR (S 1) (S 6) (S 14 x9.toNat)) (S 0 17) (S 0 18)) 6) x12)) 6))) 0 31 (N_3 + 1 : Nat)) (jnL (jnZ L N_3 31) N_3 u_3 v_3 (31 - v_3))) (0, 0)))))))))) ∧ (x12 = x11 → zz_J zpX9_mends (zz_ret Q X 0 0) 227 [some (vr 0), some (vi x1), some (vi x2), some (vi x3), some (vi x4), some (vi x5), some (vi x6), some (vi x7), some (vi x8), some (vi x9), some (vi x10), some (vi x11), some (vi (x12 + 1))] [] (zm S L) (0, 0))))))))) : zz_J zpX9_mends (zz_ret Q X 0 0) 227 [some (vr 0), some (vi x1), some (vi x2), some (vi x3), some (vi x4), some (vi x5), some (vi x6), some (vi x7), some (vi x8), some (vi x9), some (vi x10), some (vi x11), some (vi x12)] [] (zm S L) (0, 0) := zz_J.go [(29, [7, 8, 9, 10, 11, 12]), (60, [8, 9, 10, 11, 12]), (93, [8, 9, 10, 11, 12]), (116, [10, 11, 12]), (170, [11, 12]), (210, [12]), (227, []), (279, [10, 11, 12]), (296, [8, 10, 11, 12]), (322, [8, 11, 12]), (376, [6, 8, 9, 10, 11, 12]), (389, [6, 9, 11, 12]), (470, [6, 9, 11, 12]), (476, [6, 9, 10, 11, 12])] 400 h
theorem zwX9_mends_279 {Q : Option zv → zz_M → Prop} {X : Nat → zz_M → Prop} {S L : Nat → Nat → Int} {x1 : Int} {x2 : Int} {x3 : Int} {x4 : Int} {x5 : Int} {x6 : Int} {x7 : Int} {x8 : Int} {x9 : Int} (h : zz_J zpX9_mends (zz_ret Q X 0 0) 116 [some (vr 0), some (vi x1), some (vi x2), some (vi x3), some (vi x4), some (vi x5), some (vi x6), some (vi x7), some (vi x8), some (vi (x9 + 1)), none, none, none] [] (zm S L) (0, 0)) : zz_J zpX9_mends (zz_ret Q X 0 0) 279 [some (vr 0), some (vi x1), some (vi x2), some (vi x3), some (vi x4), some (vi x5), some (vi x6), some (vi x7), some (vi x8), some (vi x9), none, none, none] [] (zm S L) (0, 0) := zz_J.go [(29, [7, 8, 9, 10, 11, 12]), (60, [8, 9, 10, 11, 12]), (93, [8, 9, 10, 11, 12]), (116, [10, 11, 12]), (170, [11, 12]), (210, [12]), (227, []), (279, [10, 11, 12]), (296, [8, 10, 11, 12]), (322, [8, 11, 12]), (376, [6, 8, 9, 10, 11, 12]), (389, [6, 9, 11, 12]), (470, [6, 9, 11, 12]), (476, [6, 9, 10, 11, 12])] 400 h
theorem zwX9_mends_296 {Q : Option zv → zz_M → Prop} {X : Nat → zz_M → Prop} {S L : Nat → Nat → Int} {x1 : Int} {x2 : Int} {x3 : Int} {x4 : Int} {x5 : Int} {x6 : Int} {x7 : Int} {x9 : Int} (h : R32 x9 ∧ (R32 (S 0 30) ∧ (((S 0 30) ≤ x9 → zz_J zpX9_mends (zz_ret Q X 0 0) 93 [some (vr 0), some (vi x1), some (vi x2), some (vi x3), some (vi x4), some (vi x5), some (vi x6), some (vi (x7 + 2)), none, none, none, none, none] [] (zm S L) (0, 0)) ∧ (¬ (S 0 30) ≤ x9 → (0 ≤ x9 ∧ x9 < 4000) ∧ ((0 ≤ x9 ∧ x9 < 4000) ∧ (zz_J zpX9_mends (zz_ret Q X 0 0) 322 [some (vr 0), some (vi x1), some (vi x2), some (vi x3), some (vi x4), some (vi x5), some (vi x6), some (vi x7), none, some (vi x9), some (vi 0), none, none] [] (zm (mm_up S 14 x9.toNat (S 15 x9.toNat)) L) (0, 0))))))) : zz_J zpX9_mends (zz_ret Q X 0 0) 296 [some (vr 0), some (vi x1), some (vi x2), some (vi x3), some (vi x4), some (vi x5), some (vi x6), some (vi x7), none, some (vi x9), none, none, none] [] (zm S L) (0, 0) := zz_J.go [(29, [7, 8, 9, 10, 11, 12]), (60, [8, 9, 10, 11, 12]), (93, [8, 9, 10, 11, 12]), (116, [10, 11, 12]), (170, [11, 12]), (210, [12]), (227, []), (279, [10, 11, 12]), (296, [8, 10, 11, 12]), (322, [8, 11, 12]), (376, [6, 8, 9, 10, 11, 12]), (389, [6, 9, 11, 12]), (470, [6, 9, 11, 12]), (476, [6, 9, 10, 11, 12])] 400 h
theorem zwX9_mends_322 {Q : Option zv → zz_M → Prop} {X : Nat → zz_M → Prop} {S L : Nat → Nat → Int} {x1 : Int} {x2 : Int} {x3 : Int} {x4 : Int} {x5 : Int} {x6 : Int} {x7 : Int} {x9 : Int} {x10 : Int} (h : R32 x10 ∧ ((31 ≤ x10 → zz_J zpX9_mends (zz_ret Q X 0 0) 296 [some (vr 0), some (vi x1), some (vi x2), some (vi x3), some (vi x4), some (vi x5), some (vi x6), some (vi x7), none, some (vi (x9 + 1)), none, none, none] [] (zm S L) (0, 0)) ∧ (¬ 31 ≤ x10 → (0 ≤ ((31 * x9) + x10) ∧ ((31 * x9) + x10) < 124000) ∧ ((0 ≤ ((31 * x9) + x10) ∧ ((31 * x9) + x10) < 124000) ∧ (zz_J zpX9_mends (zz_ret Q X 0 0) 322 [some (vr 0), some (vi x1), some (vi x2), some (vi x3), some (vi x4), some (vi x5), some (vi x6), some (vi x7), none, some (vi x9), some (vi (x10 + 1)), none, none] [] (zm S (mm_up L 16 (((31 * x9) + x10).toNat) (L 17 (((31 * x9) + x10).toNat)))) (0, 0)))))) : zz_J zpX9_mends (zz_ret Q X 0 0) 322 [some (vr 0), some (vi x1), some (vi x2), some (vi x3), some (vi x4), some (vi x5), some (vi x6), some (vi x7), none, some (vi x9), some (vi x10), none, none] [] (zm S L) (0, 0) := zz_J.go [(29, [7, 8, 9, 10, 11, 12]), (60, [8, 9, 10, 11, 12]), (93, [8, 9, 10, 11, 12]), (116, [10, 11, 12]), (170, [11, 12]), (210, [12]), (227, []), (279, [10, 11, 12]), (296, [8, 10, 11, 12]), (322, [8, 11, 12]), (376, [6, 8, 9, 10, 11, 12]), (389, [6, 9, 11, 12]), (470, [6, 9, 11, 12]), (476, [6, 9, 10, 11, 12])] 400 h
theorem zwX9_mends_376 {Q : Option zv → zz_M → Prop} {X : Nat → zz_M → Prop} {S L : Nat → Nat → Int} {x1 : Int} {x2 : Int} {x3 : Int} {x4 : Int} {x5 : Int} {x7 : Int} (h : R32 x7 ∧ ((31 ≤ x7 → R32 x5 ∧ ((x5 = 0 → Q (some (vl (-1))) (zm S L)) ∧ (¬ x5 = 0 → Q (some (vl 0)) (zm S L)))) ∧ (¬ 31 ≤ x7 → zz_J zpX9_mends (zz_ret Q X 0 0) 389 [some (vr 0), some (vi x1), some (vi x2), some (vi x3), some (vi x4), some (vi x5), none, some (vi x7), some (vl 0), none, some (vi 0), none, none] [] (zm S L) (0, 0)))) : zz_J zpX9_mends (zz_ret Q X 0 0) 376 [some (vr 0), some (vi x1), some (vi x2), some (vi x3), some (vi x4), some (vi x5), none, some (vi x7), none, none, none, none, none] [] (zm S L) (0, 0) := zz_J.go [(29, [7, 8, 9, 10, 11, 12]), (60, [8, 9, 10, 11, 12]), (93, [8, 9, 10, 11, 12]), (116, [10, 11, 12]), (170, [11, 12]), (210, [12]), (227, []), (279, [10, 11, 12]), (296, [8, 10, 11, 12]), (322, [8, 11, 12]), (376, [6, 8, 9, 10, 11, 12]), (389, [6, 9, 11, 12]), (470, [6, 9, 11, 12]), (476, [6, 9, 10, 11, 12])] 400 h
theorem zwX9_mends_389 {Q : Option zv → zz_M → Prop} {X : Nat → zz_M → Prop} {S L : Nat → Nat → Int} {x1 : Int} {x2 : Int} {x3 : Int} {x4 : Int} {x5 : Int} {x7 : Int} {x8 : Int} {x10 : Int} (h : R32 x10 ∧ (R32 (S 0 30) ∧ (((S 0 30) ≤ x10 → zz_J zpX9_mends (zz_ret Q X 0 0) 476 [some (vr 0), some (vi x1), some (vi x2), some (vi x3), some (vi x4), some (vi x5), none, some (vi x7), some (vl x8), none, none, none, none] [] (zm S L) (0, 0)) ∧ (¬ (S 0 30) ≤ x10 → (0 ≤ x10 ∧ x10 < 4000) ∧ (((0 ≤ (S 14 x10.toNat) ∧ (S 14 x10.toNat) < 100000000) ∧ (R32 ((sx S (uwR (S 1) (S 6) (S 14 x10.toNat)) (S 0 17) (S 0 18)) 6 0) ∧ (R32 x1 ∧ ((¬ ((sx S (uwR (S 1) (S 6) (S 14 x10.toNat)) (S 0 17) (S 0 18)) 6 0) = x1 → zz_J zpX9_mends (zz_ret Q X 0 0) 470 [some (vr 0), some (vi x1), some (vi x2), some (vi x3), some (vi x4), some (vi x5), none, some (vi x7), some (vl x8), none, some (vi x10), none, none] [] (zm (sx S (uwR (S 1) (S 6) (S 14 x10.toNat)) (S 0 17) (S 0 18)) L) (0, 0)) ∧ (((sx S (uwR (S 1) (S 6) (S 14 x10.toNat)) (S 0 17) (S 0 18)) 6 0) = x1 → R32 ((sx S (uwR (S 1) (S 6) (S 14 x10.toNat)) (S 0 17) (S 0 18)) 6 1) ∧ (R32 x2 ∧ ((¬ ((sx S (uwR (S 1) (S 6) (S 14 x10.toNat)) (S 0 17) (S 0 18)) 6 1) = x2 → zz_J zpX9_mends (zz_ret Q X 0 0) 470 [some (vr 0), some (vi x1), some (vi x2), some (vi x3), some (vi x4), some (vi x5), none, some (vi x7), some (vl x8), none, some (vi x10), none, none] [] (zm (sx S (uwR (S 1) (S 6) (S 14 x10.toNat)) (S 0 17) (S 0 18)) L) (0, 0)) ∧ (((sx S (uwR (S 1) (S 6) (S 14 x10.toNat)) (S 0 17) (S 0 18)) 6 1) = x2 → R32 ((sx S (uwR (S 1) (S 6) (S 14 x10.toNat)) (S 0 17) (S 0 18)) 6 7) ∧ (R32 x3 ∧ ((¬ ((sx S (uwR (S 1) (S 6) (S 14 x10.toNat)) (S 0 17) (S 0 18)) 6 7) = x3 → zz_J zpX9_mends (zz_ret Q X 0 0) 470 [some (vr 0), some (vi x1), some (vi x2), some (vi x3), some (vi x4), some (vi x5), none, some (vi x7), some (vl x8), none, some (vi x10), none, none] [] (zm (sx S (uwR (S 1) (S 6) (S 14 x10.toNat)) (S 0 17) (S 0 18)) L) (0, 0)) ∧ (((sx S (uwR (S 1) (S 6) (S 14 x10.toNat)) (S 0 17) (S 0 18)) 6 7) = x3 → R32 ((sx S (uwR (S 1) (S 6) (S 14 x10.toNat)) (S 0 17) (S 0 18)) 6 8) ∧ (R32 x4 ∧ ((¬ ((sx S (uwR (S 1) (S 6) (S 14 x10.toNat)) (S 0 17) (S 0 18)) 6 8) = x4 → zz_J zpX9_mends (zz_ret Q X 0 0) 470 [some (vr 0), some (vi x1), some (vi x2), some (vi x3), some (vi x4), some (vi x5), none, some (vi x7), some (vl x8), none, some (vi x10), none, none] [] (zm (sx S (uwR (S 1) (S 6) (S 14 x10.toNat)) (S 0 17) (S 0 18)) L) (0, 0)) ∧ (((sx S (uwR (S 1) (S 6) (S 14 x10.toNat)) (S 0 17) (S 0 18)) 6 8) = x4 → (0 ≤ ((31 * x10) + x7) ∧ ((31 * x10) + x7) < 124000) ∧ (zz_J zpX9_mends (zz_ret Q X 0 0) 470 [some (vr 0), some (vi x1), some (vi x2), some (vi x3), some (vi x4), some (vi x5), none, some (vi x7), some (vl (x8 + (L 16 (((31 * x10) + x7).toNat)))), none, some (vi x10), none, none] [] (zm (sx S (uwR (S 1) (S 6) (S 14 x10.toNat)) (S 0 17) (S 0 18)) L) (0, 0))))))))))))))))))))) : zz_J zpX9_mends (zz_ret Q X 0 0) 389 [some (vr 0), some (vi x1), some (vi x2), some (vi x3), some (vi x4), some (vi x5), none, some (vi x7), some (vl x8), none, some (vi x10), none, none] [] (zm S L) (0, 0) := zz_J.go [(29, [7, 8, 9, 10, 11, 12]), (60, [8, 9, 10, 11, 12]), (93, [8, 9, 10, 11, 12]), (116, [10, 11, 12]), (170, [11, 12]), (210, [12]), (227, []), (279, [10, 11, 12]), (296, [8, 10, 11, 12]), (322, [8, 11, 12]), (376, [6, 8, 9, 10, 11, 12]), (389, [6, 9, 11, 12]), (470, [6, 9, 11, 12]), (476, [6, 9, 10, 11, 12])] 400 h
theorem zwX9_mends_470 {Q : Option zv → zz_M → Prop} {X : Nat → zz_M → Prop} {S L : Nat → Nat → Int} {x1 : Int} {x2 : Int} {x3 : Int} {x4 : Int} {x5 : Int} {x7 : Int} {x8 : Int} {x10 : Int} (h : zz_J zpX9_mends (zz_ret Q X 0 0) 389 [some (vr 0), some (vi x1), some (vi x2), some (vi x3), some (vi x4), some (vi x5), none, some (vi x7), some (vl x8), none, some (vi (x10 + 1)), none, none] [] (zm S L) (0, 0)) : zz_J zpX9_mends (zz_ret Q X 0 0) 470 [some (vr 0), some (vi x1), some (vi x2), some (vi x3), some (vi x4), some (vi x5), none, some (vi x7), some (vl x8), none, some (vi x10), none, none] [] (zm S L) (0, 0) := zz_J.go [(29, [7, 8, 9, 10, 11, 12]), (60, [8, 9, 10, 11, 12]), (93, [8, 9, 10, 11, 12]), (116, [10, 11, 12]), (170, [11, 12]), (210, [12]), (227, []), (279, [10, 11, 12]), (296, [8, 10, 11, 12]), (322, [8, 11, 12]), (376, [6, 8, 9, 10, 11, 12]), (389, [6, 9, 11, 12]), (470, [6, 9, 11, 12]), (476, [6, 9, 10, 11, 12])] 400 h
theorem zwX9_mends_476 {Q : Option zv → zz_M → Prop} {X : Nat → zz_M → Prop} {S L : Nat → Nat → Int} {x1 : Int} {x2 : Int} {x3 : Int} {x4 : Int} {x5 : Int} {x7 : Int} {x8 : Int} (h : R64 x8 ∧ R64 0 ∧ (R32 (zcmp x8 0) ∧ (((zcmp x8 0) ≤ 0 → zz_J zpX9_mends (zz_ret Q X 0 0) 376 [some (vr 0), some (vi x1), some (vi x2), some (vi x3), some (vi x4), some (vi x5), none, some (vi (x7 + 1)), none, none, none, none, none] [] (zm S L) (0, 0)) ∧ (¬ (zcmp x8 0) ≤ 0 → R32 x5 ∧ ((x5 = 0 → R32 x7 ∧ (Q (some (vl x7)) (zm S L))) ∧ (¬ x5 = 0 → Q (some (vl x8)) (zm S L))))))) : zz_J zpX9_mends (zz_ret Q X 0 0) 476 [some (vr 0), some (vi x1), some (vi x2), some (vi x3), some (vi x4), some (vi x5), none, some (vi x7), some (vl x8), none, none, none, none] [] (zm S L) (0, 0) := zz_J.go [(29, [7, 8, 9, 10, 11, 12]), (60, [8, 9, 10, 11, 12]), (93, [8, 9, 10, 11, 12]), (116, [10, 11, 12]), (170, [11, 12]), (210, [12]), (227, []), (279, [10, 11, 12]), (296, [8, 10, 11, 12]), (322, [8, 11, 12]), (376, [6, 8, 9, 10, 11, 12]), (389, [6, 9, 11, 12]), (470, [6, 9, 11, 12]), (476, [6, 9, 10, 11, 12])] 400 h

theorem zmX9_mends (l : Launch) (hl : l.stackTraces = false) : mm_Spec l yX9_mends (ws_ yX9_mends cX9_mends 13 (some .long)) (mm_rm 4 0 0) (zE zX9_mends) := by
  refine zz_Met.J hl (by decide) (fun C G hnh => ztX9_mends G hnh) ?_
  rintro as ⟨⟨t_, f⟩, S, L, P⟩ Q X h
  unfold zX9_mends at h
  split at h
  rotate_left
  · exact h.elim
  rename_i h_ a b c d ways
  obtain ⟨e1_, e2_, h⟩ := mm_and2 h (fun q => q)
  cases mm_beq e1_
  cases mm_beq e2_
  try dsimp only at h
  refine ⟨rfl, ?_⟩
  refine zz_Jev (M' := zm S L) rfl rfl rfl ?_
  obtain ⟨n, h6, hn, htp, ⟨hra, hrb, hrc, hrd, hrw⟩, hI, hB, hq1, hq2⟩ := h
  have hw := hI.1.2.1
  generalize hS0 : mm_up S 0 6 0 = S0 at hq1 hq2
  obtain ⟨hI0, eX, e1⟩ : mI S0 ∧ nwX S0 = nwX S ∧ S0 1 = S 1 := by rw [← hS0]; exact hI.tape 0
  have e4 : S0 4 = S 4 := by rw [← hS0]; funext k; simp [up_eq]
  have c4 : ∀ T, coS S0 T → T 4 = S 4 := by
    intro T hT
    rw [← e4]
    funext k
    exact hT.1 4 k (by simp [core]) (by omega)
  have c1 : ∀ T, coS S0 T → T 1 = S 1 := fun T hT => by rw [hT.r1, e1]
  have t29 : ∀ t : Int, (t = 1 ∧ lgB (S 4) n = false ∨ t = 0 ∧ lgB (S 4) n = true) → zz_J zpX9_mends (zz_ret Q X 0 0) 29 [some (vr 0), some (vi a), some (vi b), some (vi c), some (vi d), some (vi ways), some (vi n), none, none, none, none, none, none] [] (zm (mm_up S0 0 0 t) L) (0, 0) := by
    intro t hc
    have cT := (coS.rf hI0).up0 t
    have h0 : mm_up S0 0 0 t 0 0 = t := by simp [up_eq]
    refine zwX9_mends_29 ?_
    rw [h0]
    refine ⟨by omega, fun c0 => ?_, fun c0 => ?_⟩
    · rcases hc with ⟨h, -⟩ | ⟨h, hlg⟩
      · omega
      subst h
      have eT := cT.tk hI0.2.2.2.2.2.1
      have cU := cT.take hI0
      have hn2 : n % 2 = 0 ∧ n ≤ 60 ∧ lgA (S 4) (n / 2) = true := by
        unfold lgB at hlg
        simp only [Bool.and_eq_true, decide_eq_true_eq] at hlg
        exact ⟨hlg.1.1, hlg.1.2, hlg.2⟩
      have hq2 := fun S' L' => hq2 S' L' hlg
      have hB := hB hlg
      generalize hx0 : nwX S = x0 at hB hq2 eX
      have hv0 : scV x0 := by rw [← hx0]; exact hI.2.2.2.2.2.2.1
      have hb0 : xB 6 x0 := by rw [← hx0]; exact hI.2.2.2.2.2.2.2
      generalize hwe : S 1 = w at hw c1 hB hq2 
      generalize hte : S 4 = t at htp c4 hn2 hB hq2
      generalize hH : n / 2 = H at hn2 hB hq2
      have eT6 : tkS (mm_up S0 0 0 0) 6 = x0 := by rw [eT]; exact eX
      -- the answer
      have t476 : ∀ (r i : Nat) (T L1 : Nat → Nat → Int), i + (r + 1) = 31 → coS S0 T → T 0 0 = 0 → mnF (mnS w t x0 H a b c d) ways 31 0 = mnF (mnS w t x0 H a b c d) ways (r + 1) i → (mnF (mnS w t x0 H a b c d) ways 31 0 = mnF (mnS w t x0 H a b c d) ways r (i + 1) → zz_J zpX9_mends (zz_ret Q X 0 0) 376 [some (vr 0), some (vi a), some (vi b), some (vi c), some (vi d), some (vi ways), none, some (vi ((i : Int) + 1)), none, none, none, none, none] [] (zm T L1) (0, 0)) → zz_J zpX9_mends (zz_ret Q X 0 0) 476 [some (vr 0), some (vi a), some (vi b), some (vi c), some (vi d), some (vi ways), none, some (vi i), some (vl (mnS w t x0 H a b c d i)), none, none, none, none] [] (zm T L1) (0, 0) := by
        intro r i T L1 hi cT t0 e hk
        have hs := mnS_in w t x0 H (by omega) a b c d i
        have e2 : mnF (mnS w t x0 H a b c d) ways (r + 1) i = if 0 < mnS w t x0 H a b c d i then (if ways = 0 then (i : Int) else mnS w t x0 H a b c d i) else mnF (mnS w t x0 H a b c d) ways r (i + 1) := rfl
        rw [e2] at e
        have hq := hq2 T L1 (cT.Q t0)
        generalize mnS w t x0 H a b c d i = v at hs e
        refine zwX9_mends_476 ?_
        by_cases hp : 0 < v
        · have ez : zcmp v 0 = 1 := by unfold zcmp; rw [if_pos hp]
          rw [if_pos hp] at e
          rw [ez]
          refine ⟨by omega, by omega, by omega, fun h => absurd h (by decide), fun _ => ⟨hrw, fun h => ⟨by omega, ?_⟩, fun h => ?_⟩⟩
          · rw [if_pos h] at e
            rw [e] at hq
            exact hq
          · rw [if_neg h] at e
            rw [e] at hq
            exact hq
        · have ez : zcmp v 0 = 0 := by unfold zcmp; rw [if_neg hp, if_pos (by omega)]
          rw [if_neg hp] at e
          rw [ez]
          exact ⟨by omega, by omega, by omega, fun _ => hk e, fun h => absurd (Int.le_refl 0) h⟩
      have t376 : ∀ (r i : Nat) (T L1 : Nat → Nat → Int) (m : Nat) (rr : Nat → Int), i + r = 31 → coS S0 T → T 0 0 = 0 → T 0 30 = m → T 14 = rr → jnI (mnV w t x0 H) rr (L1 16) m (mnK w t x0 H) → mnF (mnS w t x0 H a b c d) ways 31 0 = mnF (mnS w t x0 H a b c d) ways r i → zz_J zpX9_mends (zz_ret Q X 0 0) 376 [some (vr 0), some (vi a), some (vi b), some (vi c), some (vi d), some (vi ways), none, some (vi i), none, none, none, none, none] [] (zm T L1) (0, 0) := by
        intro r
        induction r with
        | zero =>
          intro i T L1 m rr hi cT t0 t30 t14 hj e
          have hq := hq2 T L1 (cT.Q t0)
          rw [e] at hq
          have e2 : mnF (mnS w t x0 H a b c d) ways 0 i = if ways = 0 then -1 else 0 := rfl
          rw [e2] at hq
          refine zwX9_mends_376 ⟨by omega, fun _ => ⟨hrw, fun h => ?_, fun h => ?_⟩, fun h => by omega⟩
          · rw [if_pos h] at hq
            exact hq
          · rw [if_neg h] at hq
            exact hq
        | succ r ih =>
          intro i T L1 m rr hi cT t0 t30 t14 hj e
          refine zwX9_mends_376 ⟨by omega, fun h => by omega, fun _ => ?_⟩
          have t389 : ∀ (q s : Nat) (T : Nat → Nat → Int), s + q = m → coS S0 T → T 0 0 = 0 → T 0 30 = m → T 14 = rr → zz_J zpX9_mends (zz_ret Q X 0 0) 389 [some (vr 0), some (vi a), some (vi b), some (vi c), some (vi d), some (vi ways), none, some (vi i), some (vl (sumN s (fun z => if mnM w a b c d (rr z) = true then mnK w t x0 H (rr z) i else 0))), none, some (vi s), none, none] [] (zm T L1) (0, 0) := by
            intro q
            induction q with
            | zero =>
              intro s T hs cT t0 t30 t14
              have es : s = m := by omega
              subst es
              have hm := hj.1
              refine zwX9_mends_389 ⟨by omega, by rw [t30]; omega, fun _ => ?_, fun h => by rw [t30] at h; omega⟩
              have ee : sumN s (fun z => if mnM w a b c d (rr z) = true then mnK w t x0 H (rr z) i else 0) = mnS w t x0 H a b c d i := (hj.sum (fun z => if mnM w a b c d z = true then mnK w t x0 H z i else 0) (fun z hz => by
                show (if mnM w a b c d z = true then mnK w t x0 H z i else 0) = 0
                rw [hj.2.2.2.2 z i hz]
                split <;> rfl)).symm
              rw [ee]
              refine t476 r i T L1 hi cT t0 e (fun e' => ?_)
              exact ih (i + 1) T L1 s rr (by omega) cT t0 t30 t14 hj e'
            | succ q ih2 =>
              intro s T hs cT t0 t30 t14
              have hm := hj.1
              have hcv := (hj.2.2.1 s (by omega)).2
              have hcv1 := hcv.1
              obtain ⟨hxv, hxb⟩ := wcX_V (w := w) hcv
              have hxg := hxv.xG hxb (by decide)
              have t1 := c1 T cT
              refine zwX9_mends_389 ⟨by omega, by rw [t30]; omega, fun h => by rw [t30] at h; omega, fun _ => ⟨by omega, ?_⟩⟩
              rw [Int.toNat_natCast, t14, t1, wcX_eq cT.2.2, sx_6]
              have hgo : ∀ v : Int, v = sumN (s + 1) (fun z => if mnM w a b c d (rr z) = true then mnK w t x0 H (rr z) i else 0) → zz_J zpX9_mends (zz_ret Q X 0 0) 470 [some (vr 0), some (vi a), some (vi b), some (vi c), some (vi d), some (vi ways), none, some (vi i), some (vl v), none, some (vi s), none, none] [] (zm (sx T (wcX w (rr s)) (T 0 17) (T 0 18)) L1) (0, 0) := by
                intro v hv
                refine zwX9_mends_470 ?_
                rw [hv]
                exact ih2 (s + 1) _ (by omega) (cT.sxx hxg _ _) t0 t30 (by rw [sx_t _ _ _ _ (t := 14) (by decide) (by decide)]; exact t14)
              have hno : mnM w a b c d (rr s) = false → sumN s (fun z => if mnM w a b c d (rr z) = true then mnK w t x0 H (rr z) i else 0) = sumN (s + 1) (fun z => if mnM w a b c d (rr z) = true then mnK w t x0 H (rr z) i else 0) := by
                intro hf
                show _ = sumN s _ + (if mnM w a b c d (rr s) = true then _ else 0)
                rw [if_neg (by rw [hf]; decide), Int.add_zero]
              have hnm : (¬ (((wcX w (rr s) 0 = a ∧ wcX w (rr s) 1 = b) ∧ wcX w (rr s) 7 = c) ∧ wcX w (rr s) 8 = d)) → mnM w a b c d (rr s) = false := by
                intro hne
                cases hmm : mnM w a b c d (rr s) with
                | false => rfl
                | true => exact absurd (mnM_t.mp hmm) hne
              have g0 := hxg.1 0
              have g1 := hxg.1 1
              have g7 := hxg.1 7
              have g8 := hxg.1 8
              refine ⟨by omega, by omega, hra, fun h => hgo _ (hno (hnm (fun z => h z.1.1.1))), fun ha => ⟨by omega, hrb, fun h => hgo _ (hno (hnm (fun z => h z.1.1.2))), fun hb' => ⟨by omega, hrc, fun h => hgo _ (hno (hnm (fun z => h z.1.2))), fun hc' => ⟨by omega, hrd, fun h => hgo _ (hno (hnm (fun z => h z.2))), fun hd' => ⟨by omega, hgo _ ?_⟩⟩⟩⟩⟩
              rw [show ((31 * (s : Int)) + (i : Int)).toNat = 31 * s + i by omega, hj.2.2.2.1 s i (by omega) (by omega)]
              show _ = sumN s _ + (if mnM w a b c d (rr s) = true then _ else 0)
              rw [if_pos (mnM_t.mpr ⟨⟨⟨ha, hb'⟩, hc'⟩, hd'⟩)]
          exact t389 m 0 T (by omega) cT t0 t30 t14
      -- the rallies
      have t93 : ∀ (r k : Nat) (T L1 : Nat → Nat → Int) (m : Nat) (rr : Nat → Int), k + r = H → coS S0 T → T 0 0 = 0 → T 0 30 = m → T 14 = rr → jnI (mnV w t x0 k) rr (L1 16) m (mnK w t x0 k) → zz_J zpX9_mends (zz_ret Q X 0 0) 93 [some (vr 0), some (vi a), some (vi b), some (vi c), some (vi d), some (vi ways), some (vi n), some (vi (2 * k : Nat)), none, none, none, none, none] [] (zm T L1) (0, 0) := by
        intro r
        induction r with
        | zero =>
          intro k T L1 m rr hk cT t0 t30 t14 hj
          have ek : k = H := by omega
          subst ek
          exact zwX9_mends_93 ⟨by omega, by omega, fun _ => t376 31 0 T L1 m rr (by decide) cT t0 t30 t14 hj rfl, fun h => by omega⟩
        | succ r ih =>
          intro k T L1 m rr hk cT t0 t30 t14 hj
          have hlo : lgO t k = true := lgA_t.mp hn2.2.2 k (by omega)
          have hh := hwO_in hlo
          have hBk := hB (k + 1) (by omega)
          refine zwX9_mends_93 ⟨by omega, by omega, fun h => by omega, fun _ => ⟨k, rfl, by omega, by rw [c4 T cT]; exact htp, ?_⟩⟩
          rw [c4 T cT]
          have hstep : ∀ c' j, mnK w t x0 (k + 1) c' j = sumN mnN (fun s => mnC w (hwO t k) (s : Int) (mnK w t x0 k (s : Int)) c' j) := fun _ _ => rfl
          have hVs : ∀ s c', mnV w t x0 k s → ovR (w 194) (wcX w s) = false → (c' = whR (rlR w (wcX w s) (hwO t k)) ∨ (2 ≤ hwO t k ∧ wcX w s 6 = 1 ∧ ∃ o, (o = 12 ∨ o = 13 ∨ o = 14) ∧ c' = whR (rlR w (wcX w s) o))) → mnV w t x0 (k + 1) c' := fun s c' h1 h2 h3 => ⟨s, h1, h2, h3⟩
          generalize hwO t k = how at hh hstep hVs
          -- the new states become the states
          have t296 : ∀ (N : Nat) (r15 l17 : Nat → Int), jnI (mnV w t x0 (k + 1)) r15 l17 N (mnK w t x0 (k + 1)) → ∀ (q s : Nat) (T L1 : Nat → Nat → Int), s + q = N → coS S0 T → T 0 0 = 0 → T 0 30 = N → T 15 = r15 → L1 17 = l17 → (∀ i, i < s → T 14 i = r15 i) → (∀ i j, i < s → j < 31 → L1 16 (31 * i + j) = l17 (31 * i + j)) → zz_J zpX9_mends (zz_ret Q X 0 0) 296 [some (vr 0), some (vi a), some (vi b), some (vi c), some (vi d), some (vi ways), some (vi n), some (vi (2 * k : Nat)), none, some (vi s), none, none, none] [] (zm T L1) (0, 0) := by
            intro N r15 l17 hj2 q
            have hN := hj2.1
            induction q with
            | zero =>
              intro s T L1 hs cT t0 t30 t15 l17e hr hl
              have es : s = N := by omega
              subst es
              refine zwX9_mends_296 ⟨by omega, by rw [t30]; omega, fun _ => ?_, fun h => by rw [t30] at h; omega⟩
              have := ih (k + 1) T L1 s (T 14) (by omega) cT t0 t30 rfl (hj2.cp hr hl)
              rw [show (((2 * k : Nat) : Int) + 2) = ((2 * (k + 1) : Nat) : Int) by omega]
              exact this
            | succ q ih2 =>
              intro s T L1 hs cT t0 t30 t15 l17e hr hl
              refine zwX9_mends_296 ⟨by omega, by rw [t30]; omega, fun h => by rw [t30] at h; omega, fun _ => ⟨by omega, by omega, ?_⟩⟩
              rw [Int.toNat_natCast, t15]
              have t322 : ∀ (p j : Nat) (T L1 : Nat → Nat → Int), j + p = 31 → coS S0 T → T 0 0 = 0 → T 0 30 = N → T 15 = r15 → L1 17 = l17 → (∀ i, i < s + 1 → T 14 i = r15 i) → (∀ i j, i < s → j < 31 → L1 16 (31 * i + j) = l17 (31 * i + j)) → (∀ i, i < j → L1 16 (31 * s + i) = l17 (31 * s + i)) → zz_J zpX9_mends (zz_ret Q X 0 0) 322 [some (vr 0), some (vi a), some (vi b), some (vi c), some (vi d), some (vi ways), some (vi n), some (vi (2 * k : Nat)), none, some (vi s), some (vi j), none, none] [] (zm T L1) (0, 0) := by
                intro p
                induction p with
                | zero =>
                  intro j T L1 hj' cT t0 t30 t15 l17e hr hl hl2
                  have ej : j = 31 := by omega
                  subst ej
                  refine zwX9_mends_322 ⟨by omega, fun _ => ?_, fun h => absurd h (by decide)⟩
                  refine ih2 (s + 1) T L1 (by omega) cT t0 t30 t15 l17e hr (fun i j hi hj => ?_)
                  by_cases e : i = s
                  · rw [e]; exact hl2 j hj
                  · exact hl i j (by omega) hj
                | succ p ih3 =>
                  intro j T L1 hj' cT t0 t30 t15 l17e hr hl hl2
                  refine zwX9_mends_322 ⟨by omega, fun h => by omega, fun _ => ⟨by omega, by omega, ?_⟩⟩
                  rw [show ((31 * (s : Int)) + (j : Int)).toNat = 31 * s + j by omega]
                  refine ih3 (j + 1) T _ (by omega) cT t0 t30 t15 ?_ hr (fun i j' hi hj => ?_) (fun i hi => ?_)
                  · rw [← l17e]; funext z; rw [up_eq, if_neg (by omega)]
                  · rw [up_eq, if_neg (by omega)]; exact hl i j' hi hj
                  · rw [up_eq]
                    by_cases e : i = j
                    · rw [e, if_pos ⟨rfl, rfl⟩, l17e]
                    · rw [if_neg (by omega)]; exact hl2 i (by omega)
              refine t322 31 0 _ L1 (by decide) (cT.up _ (by simp [core]) (by decide) (by decide) (by omega)) ?_ ?_ ?_ l17e (fun i hi => ?_) hl (fun i hi => absurd hi (Nat.not_lt_zero _))
              · rw [up_eq, if_neg (by omega)]; exact t0
              · rw [up_eq, if_neg (by omega)]; exact t30
              · rw [← t15]; funext z; rw [up_eq, if_neg (by omega)]
              · rw [up_eq]
                by_cases e : i = s
                · rw [e, if_pos ⟨rfl, rfl⟩]
                · rw [if_neg (by omega)]; exact hr i (by omega)
          have hmm := hj.1
          have t116 : ∀ (q s : Nat) (T L1 : Nat → Nat → Int) (N : Nat), s + q = m → mnI S0 w t x0 k m rr T L1 N (fun c' j => sumN s (fun i => mnC w how (rr i) (mnK w t x0 k (rr i)) c' j)) → zz_J zpX9_mends (zz_ret Q X 0 0) 116 [some (vr 0), some (vi a), some (vi b), some (vi c), some (vi d), some (vi ways), some (vi n), some (vi (2 * k : Nat)), some (vi how), some (vi s), none, none, none] [] (zm T L1) (0, 0) := by
            intro q
            induction q with
            | zero =>
              intro s T L1 N hs hi
              have es : s = m := by omega
              subst es
              obtain ⟨i1, i2, i3, i4, i5, i6, i7⟩ := hi
              have hN := i7.1
              have hj2 : jnI (mnV w t x0 (k + 1)) (T 15) (L1 17) N (mnK w t x0 (k + 1)) := i7.c (fun c' j => by
                rw [hstep]
                exact (i5.sum (fun z => mnC w how z (mnK w t x0 k z) c' j) (fun z hz => mnC_0 (fun i _ => i5.2.2.2.2 z i hz))).symm)
              refine zwX9_mends_116 ⟨by omega, by rw [i3]; omega, fun _ => ?_, fun h => by rw [i3] at h; omega⟩
              rw [i6]
              refine t296 N (T 15) (L1 17) hj2 N 0 _ L1 (by omega) (i1.up _ (by simp [core]) (by decide) (by decide) (by omega)) ?_ ?_ ?_ rfl (fun i hi => absurd hi (Nat.not_lt_zero _)) (fun i j hi => absurd hi (Nat.not_lt_zero _))
              · rw [up_eq, if_neg (by omega)]; exact i2
              · rw [up_eq, if_pos ⟨rfl, rfl⟩]
              · funext z; rw [up_eq, if_neg (by omega)]
            | succ q ih2 =>
              intro s T L1 N hs hi
              have hrs := hj.2.2.1 s (by omega)
              have hcv1 := hrs.2.1
              obtain ⟨hxv, hxb⟩ := wcX_V (w := w) hrs.2
              have hxg := hxv.xG hxb (by decide)
              have t1 := c1 T hi.1
              -- on to the next state
              have t279 : ∀ (T L1 : Nat → Nat → Int) (N : Nat) (A : Int → Nat → Int), mnI S0 w t x0 k m rr T L1 N A → (∀ c' j, A c' j = sumN s (fun i => mnC w how (rr i) (mnK w t x0 k (rr i)) c' j) + mnC w how (rr s) (mnK w t x0 k (rr s)) c' j) → zz_J zpX9_mends (zz_ret Q X 0 0) 279 [some (vr 0), some (vi a), some (vi b), some (vi c), some (vi d), some (vi ways), some (vi n), some (vi (2 * k : Nat)), some (vi how), some (vi s), none, none, none] [] (zm T L1) (0, 0) := by
                intro T L1 N A hi e
                exact zwX9_mends_279 (ih2 (s + 1) T L1 N (by omega) (hi.c e))
              refine zwX9_mends_116 ⟨by omega, by rw [hi.2.2.1]; omega, fun h => by rw [hi.2.2.1] at h; omega, fun _ => ⟨by omega, ?_⟩⟩
              rw [Int.toNat_natCast, hi.2.2.2.1, t1, wcX_eq hi.1.2.2, sx_6, sx_1, t1]
              have hVv : ∀ c', ovR (w 194) (wcX w (rr s)) = false → (c' = whR (rlR w (wcX w (rr s)) how) ∨ (2 ≤ how ∧ wcX w (rr s) 6 = 1 ∧ ∃ o, (o = 12 ∨ o = 13 ∨ o = 14) ∧ c' = whR (rlR w (wcX w (rr s)) o))) → mnV w t x0 (k + 1) c' := fun c' => hVs (rr s) c' hrs.1
              have hmC : ∀ c' j, mnC w how (rr s) (mnK w t x0 k (rr s)) c' j = if ovR (w 194) (wcX w (rr s)) = true then 0 else mnT c' (mnK w t x0 k (rr s)) (rlR w (wcX w (rr s)) how) 0 j + (if 2 ≤ how ∧ wcX w (rr s) 6 = 1 then mnE w (wcX w (rr s)) how 12 (mnK w t x0 k (rr s)) c' j + mnE w (wcX w (rr s)) how 13 (mnK w t x0 k (rr s)) c' j + mnE w (wcX w (rr s)) how 14 (mnK w t x0 k (rr s)) c' j else 0) := fun _ _ => rfl
              have hi' := hi.sxx hxg (T 0 17) (T 0 18)
              have u6 := sx_6 T (wcX w (rr s)) (T 0 17) (T 0 18)
              generalize sx T (wcX w (rr s)) (T 0 17) (T 0 18) = U at hi' u6
              generalize hxe : wcX w (rr s) = x at hxv hxb hxg u6 hVv hmC
              generalize hKe : mnK w t x0 k (rr s) = K at hmC t279
              refine ⟨by omega, hxg.1.bx, by unfold wV at hw; omega, fun ov => ?_, fun ov => ?_⟩
              · refine t279 U L1 N _ hi' (fun c' j => ?_)
                rw [hmC, if_pos ov, Int.add_zero]
              · have hov : ¬ ovR (w 194) x = true := by rw [ov]; decide
                have hb5 := xB5 hw hxb ov
                -- one more way of calling
                have tst : ∀ (o : Nat), (o = 12 ∨ o = 13 ∨ o = 14) → (2 ≤ how ∧ x 6 = 1) → ∀ (T L1 : Nat → Nat → Int) (N : Nat) (A : Int → Nat → Int), mnI S0 w t x0 k m rr T L1 N A → (∀ (T' L' : Nat → Nat → Int) (N' : Nat), mnI S0 w t x0 k m rr T' L' N' (fun c' j => A c' j + mnE w x how o K c' j) → zz_J zpX9_mends (zz_ret Q X 0 0) 227 [some (vr 0), some (vi a), some (vi b), some (vi c), some (vi d), some (vi ways), some (vi n), some (vi (2 * k : Nat)), some (vi how), some (vi s), some (vi 1), some (vi (mnAs x how)), some (vi ((o : Int) + 1))] [] (zm T' L') (0, 0)) → zz_J zpX9_mends (zz_ret Q X 0 0) 227 [some (vr 0), some (vi a), some (vi b), some (vi c), some (vi d), some (vi ways), some (vi n), some (vi (2 * k : Nat)), some (vi how), some (vi s), some (vi 1), some (vi (mnAs x how)), some (vi o)] [] (zm T L1) (0, 0) := by
                  intro o ho hfl T L1 N A hi hgo
                  have has : 12 ≤ mnAs x how ∧ mnAs x how ≤ 14 := by
                    unfold mnAs
                    split
                    · omega
                    · split <;> omega
                  have t1 := c1 T hi.1
                  have hRV := rlR_V hw hxv (how := (o : Int)) (by omega) (by omega) (fun h => by omega)
                  have hRB := rlR_B (w := w) hxv hb5 (how := (o : Int)) (by omega) (by omega)
                  have hRG : xG (rlR w x o) := hRV.xG hRB (by decide)
                  refine zwX9_mends_227 ⟨by omega, fun h => by omega, fun _ => ⟨by decide, fun h => absurd h (by decide), fun _ => ⟨by omega, by omega, fun hne => ⟨by omega, ?_⟩, fun heq => ?_⟩⟩⟩
                  · rw [Int.toNat_natCast, hi.2.2.2.1, t1, wcX_eq hi.1.2.2, hxe, sx_6, sx_1, t1, sx_sx]
                    refine ⟨by omega, by omega, hxg.1, hw.bw, hxv.2.1, ?_⟩
                    refine (hi.sxx hRG _ _).jn (sx_6 _ _ _ _) hRV hRB (hVv _ ov (Or.inr ⟨hfl.1, hfl.2, (o : Int), by omega, rfl⟩)) hBk (s := s) (by omega) (mo := 1) (by decide) rfl (fun T' L' => zz_J zpX9_mends (zz_ret Q X 0 0) 227 [some (vr 0), some (vi a), some (vi b), some (vi c), some (vi d), some (vi ways), some (vi n), some (vi (2 * k : Nat)), some (vi how), some (vi s), some (vi 1), some (vi (mnAs x how)), some (vi ((o : Int) + 1))] [] (zm T' L') (0, 0)) (fun T' L' N' h' => hgo T' L' N' (h'.c (fun c' j => ?_)))
                    show A c' j + mnT c' (mnK w t x0 k (rr s)) (rlR w x o) 1 j = A c' j + mnE w x how o K c' j
                    unfold mnE
                    rw [if_neg hne, hKe]
                  · refine hgo T L1 N (hi.c (fun c' j => ?_))
                    unfold mnE
                    rw [if_pos heq, Int.add_zero]
                have t227 : ∀ (fl : Int) (T L1 : Nat → Nat → Int) (N : Nat), (fl = 1 ∧ (2 ≤ how ∧ x 6 = 1) ∨ fl = 0 ∧ ¬ (2 ≤ how ∧ x 6 = 1)) → mnI S0 w t x0 k m rr T L1 N (fun c' j => sumN s (fun i => mnC w how (rr i) (mnK w t x0 k (rr i)) c' j) + mnT c' K (rlR w x how) 0 j) → zz_J zpX9_mends (zz_ret Q X 0 0) 227 [some (vr 0), some (vi a), some (vi b), some (vi c), some (vi d), some (vi ways), some (vi n), some (vi (2 * k : Nat)), some (vi how), some (vi s), some (vi fl), some (vi (mnAs x how)), some (vi 12)] [] (zm T L1) (0, 0) := by
                  intro fl T L1 N hfl hi
                  rcases hfl with ⟨rfl, hfl⟩ | ⟨rfl, hfl⟩
                  · refine tst 12 (Or.inl rfl) hfl T L1 N _ hi (fun T L1 N hi => ?_)
                    refine tst 13 (Or.inr (Or.inl rfl)) hfl T L1 N _ hi (fun T L1 N hi => ?_)
                    refine tst 14 (Or.inr (Or.inr rfl)) hfl T L1 N _ hi (fun T L1 N hi => ?_)
                    refine zwX9_mends_227 ⟨by decide, fun _ => t279 T L1 N _ hi (fun c' j => ?_), fun h => absurd h (by decide)⟩
                    rw [hmC, if_neg hov, if_pos hfl]
                    simp only [Int.add_assoc]
                    rfl
                  · refine zwX9_mends_227 ⟨by decide, fun h => absurd h (by decide), fun _ => ⟨by decide, fun _ => t279 T L1 N _ hi (fun c' j => ?_), fun h => absurd rfl h⟩⟩
                    rw [hmC, if_neg hov, if_neg hfl, Int.add_zero]
                have t170 : ∀ (fl : Int), (fl = 1 ∧ (2 ≤ how ∧ x 6 = 1) ∨ fl = 0 ∧ ¬ (2 ≤ how ∧ x 6 = 1)) → zz_J zpX9_mends (zz_ret Q X 0 0) 170 [some (vr 0), some (vi a), some (vi b), some (vi c), some (vi d), some (vi ways), some (vi n), some (vi (2 * k : Nat)), some (vi how), some (vi s), some (vi fl), none, none] [] (zm U L1) (0, 0) := by
                  intro fl hfl
                  have u1 := c1 U hi'.1
                  have hRV := rlR_V hw hxv hh.1 (by omega) (fun _ => hh.2)
                  have hRB := rlR_B (w := w) hxv hb5 hh.1 (by omega)
                  have hRG : xG (rlR w x how) := hRV.xG hRB (by decide)
                  have t210 : zz_J zpX9_mends (zz_ret Q X 0 0) 210 [some (vr 0), some (vi a), some (vi b), some (vi c), some (vi d), some (vi ways), some (vi n), some (vi (2 * k : Nat)), some (vi how), some (vi s), some (vi fl), some (vi (mnAs x how)), none] [] (zm U L1) (0, 0) := by
                    refine zwX9_mends_210 ?_
                    rw [u6, u1]
                    refine ⟨by omega, hxg.1, hw.bw, hxv.2.1, ?_⟩
                    refine (hi'.sxx hRG _ _).jn (sx_6 _ _ _ _) hRV hRB (hVv _ ov (Or.inl rfl)) hBk (s := s) (by omega) (mo := 0) (by decide) rfl (fun T' L' => zz_J zpX9_mends (zz_ret Q X 0 0) 227 [some (vr 0), some (vi a), some (vi b), some (vi c), some (vi d), some (vi ways), some (vi n), some (vi (2 * k : Nat)), some (vi how), some (vi s), some (vi fl), some (vi (mnAs x how)), some (vi 12)] [] (zm T' L') (0, 0)) (fun T' L' N' h' => t227 fl T' L' N' hfl (h'.c (fun c' j => ?_)))
                    rw [hKe]
                  have g4 := hxg.1 4
                  refine zwX9_mends_170 ?_
                  rw [u6]
                  refine ⟨by omega, by omega, fun h1 => ⟨by omega, by omega, fun h2 => ?_, fun h2 => ?_⟩, fun h1 => ?_⟩
                  · have : mnAs x how = 14 := by unfold mnAs; rw [if_neg (by omega), if_neg (by omega)]
                    rw [this] at t210
                    exact t210
                  · have : mnAs x how = 13 := by unfold mnAs; rw [if_neg (by omega), if_pos (by omega)]
                    rw [this] at t210
                    exact t210
                  · have : mnAs x how = 12 := by unfold mnAs; rw [if_pos (by omega)]
                    rw [this] at t210
                    exact t210
                have g6 := hxg.1 6
                exact ⟨by omega, fun h => t170 0 (Or.inr ⟨rfl, fun z => by omega⟩), fun h => ⟨by omega, fun h2 => t170 0 (Or.inr ⟨rfl, fun z => h2 z.2⟩), fun h2 => t170 1 (Or.inl ⟨rfl, by omega, h2⟩)⟩⟩
          refine t116 m 0 _ L1 0 (by omega) ⟨cT.up _ (by simp [core]) (by decide) (by decide) (by omega), ?_, ?_, ?_, hj, ?_, ?_⟩
          · rw [up_eq, if_neg (by omega)]; exact t0
          · rw [up_eq, if_neg (by omega)]; exact t30
          · rw [← t14]; funext z; rw [up_eq, if_neg (by omega)]
          · rw [up_eq, if_pos ⟨rfl, rfl⟩]; rfl
          · exact ⟨by decide, fun i j hi => absurd hi (Nat.not_lt_zero _), fun i hi => absurd hi (Nat.not_lt_zero _), fun i j hi => absurd hi (Nat.not_lt_zero _), fun _ _ _ => rfl⟩
      -- the first state
      have t60 : ∀ (r i : Nat) (T L1 : Nat → Nat → Int), i + r = 31 → coS S0 T → T 0 0 = 0 → T 0 30 = 1 → T 14 0 = whR x0 → (∀ j, j < i → L1 16 j = if j = 0 then 1 else 0) → zz_J zpX9_mends (zz_ret Q X 0 0) 60 [some (vr 0), some (vi a), some (vi b), some (vi c), some (vi d), some (vi ways), some (vi n), some (vi i), none, none, none, none, none] [] (zm T L1) (0, 0) := by
        intro r
        induction r with
        | zero =>
          intro i T L1 hi cT t0 t30 t14 hl
          have ei : i = 31 := by omega
          subst ei
          refine zwX9_mends_60 ⟨by omega, fun _ => ?_, fun h => absurd h (by decide)⟩
          refine t93 H 0 T L1 1 (T 14) (by omega) cT t0 t30 rfl ⟨by decide, fun i j h1 h2 _ => by omega, fun i h1 => ?_, fun i j h1 h2 => ?_, fun c' j h1 => ?_⟩
          · have ei : i = 0 := by omega
            rw [ei, t14]
            exact ⟨rfl, whR_V hv0 hb0⟩
          · have ei : i = 0 := by omega
            rw [ei, t14, show 31 * 0 + j = j by omega, hl j h2]
            show _ = if whR x0 = whR x0 ∧ j = 0 then 1 else 0
            simp
          · have h2 := h1 0 (by decide)
            rw [t14] at h2
            show (if c' = whR x0 ∧ j = 0 then 1 else 0) = 0
            exact if_neg (fun z => h2 z.1.symm)
        | succ r ih =>
          intro i T L1 hi cT t0 t30 t14 hl
          refine zwX9_mends_60 ⟨by omega, fun h => by omega, fun _ => ⟨by omega, fun h => ⟨by omega, ?_⟩, fun h => ⟨by omega, ?_⟩⟩⟩
          · rw [Int.toNat_natCast]
            refine ih (i + 1) T _ (by omega) cT t0 t30 t14 (fun j hj => ?_)
            rw [up_eq]
            by_cases e : j = i
            · rw [e, if_pos ⟨rfl, rfl⟩, if_neg (by omega)]
            · rw [if_neg (by omega)]; exact hl j (by omega)
          · rw [Int.toNat_natCast]
            refine ih (i + 1) T _ (by omega) cT t0 t30 t14 (fun j hj => ?_)
            rw [up_eq]
            by_cases e : j = i
            · rw [e, if_pos ⟨rfl, rfl⟩, if_pos (by omega)]
            · rw [if_neg (by omega)]; exact hl j (by omega)
      refine ⟨by rw [eT6]; exact (hv0.xG hb0 (by decide)).1.bx, ?_⟩
      rw [eT6]
      refine t60 31 0 _ L (by decide) ((cU.up _ (by simp [core]) (by decide) (by decide) (by omega)).up _ (by simp [core]) (by decide) (by decide) (by omega)) ?_ ?_ ?_ (fun j hj => absurd hj (Nat.not_lt_zero _))
      · rw [up_eq, if_neg (by omega), up_eq, if_neg (by omega)]; exact h0
      · rw [up_eq, if_pos ⟨rfl, rfl⟩]
      · rw [up_eq, if_neg (by omega), up_eq, if_pos ⟨rfl, rfl⟩]
    · rcases hc with ⟨h, hlg⟩ | ⟨h, -⟩
      · subst h
        exact hq1 _ hlg (cT.Q h0)
      · omega
  refine zwX9_mends_0 ?_
  rw [hS0, h6]
  refine ⟨n, rfl, hn, by rw [e4]; exact htp, ?_⟩
  rw [e4]
  exact ⟨fun c => t29 0 (Or.inr ⟨rfl, c⟩), fun c => t29 1 (Or.inl ⟨rfl, c⟩)⟩
