/-! ===== what comes behind the scores: plain laws ===== -/
set_option maxRecDepth 100000
theorem pnt_z {w w' x z : Nat → Int} {p : Nat} (hp : p < 2) (e7 : w 197 = w' 197) (e8 : w 198 = w' 198) (h : ∀ j, j < 7 → x j = z j) : ptw x p = ptw z p ∧ ∀ j, j < 7 → pnt w x p j = pnt w' z p j := by
  have h0 := h 0 (by decide)
  have h1 := h 1 (by decide)
  have e := ptw_cr (x := z) (y := x) h0 h1 hp
  refine ⟨e, fun j hj => ?_⟩
  have hj' := h j hj
  have ep : p = 0 ∨ p = 1 := by omega
  unfold pnt
  rw [e]
  unfold ptC ptB ptA ru
  rcases ep with e | e <;> subst e <;> split <;> grind
theorem chR_z {w w' x z : Nat → Int} (e5 : w 195 = w' 195) (h : ∀ j, j < 7 → x j = z j) : ∀ j, j < 7 → chR w x j = chR w' z j := by
  have h0 := h 0 (by decide)
  have h1 := h 1 (by decide)
  have h2 := h 2 (by decide)
  have h3 := h 3 (by decide)
  have e : chD w x = chD w' z := by
    unfold chD wW
    rw [h0, h1, h3, e5]
  intro j hj
  have hj' := h j hj
  unfold chR
  rw [e, h2, hj']
theorem gnR_z {x z : Nat → Int} (h : ∀ j, j < 7 → x j = z j) : ∀ j, j < 7 → gnR x j = gnR z j := by
  have h3 := h 3 (by decide)
  have h5 := h 5 (by decide)
  have h6 := h 6 (by decide)
  intro j hj
  have hj' := h j hj
  unfold gnR
  rw [h3, h5, h6, hj']
/-- a rally looks at the first seven cells alone -/
theorem rl_z {w w' x z : Nat → Int} {how : Int} (hz : z 2 = 0 ∨ z 2 = 1) (e5 : w 195 = w' 195) (e6 : w 196 = w' 196) (e7 : w 197 = w' 197) (e8 : w 198 = w' 198) (h : ∀ j, j < 7 → x j = z j) : rlW w x how = rlW w' z how ∧ rlN w x how = rlN w' z how ∧ ∀ j, j < 7 → rlR w x how j = rlR w' z how j := by
  have h2 := h 2 (by decide)
  have h3 := h 3 (by decide)
  have h4 := h 4 (by decide)
  have h6 := h 6 (by decide)
  have eW : rlW w x how = rlW w' z how := by
    unfold rlW
    rw [h2, h4, h6, e6]
  have hin := rlW_in' w' z how hz
  have eN : rlN w x how = rlN w' z how := by
    unfold rlN
    rw [eW]
    rcases hin with e | e
    · rw [e]; rfl
    · rw [(pnt_z (w := w) (w' := w') e.1 e7 e8 h).1]
  have eY : ∀ j, j < 7 → rlY w x how j = rlY w' z how j := by
    intro j hj
    unfold rlY
    rw [eW, h6]
    rcases hin with e | e
    · rw [e]
      have hj' := h j hj
      unfold rlC
      rw [h3, hj']
      rfl
    · rw [(pnt_z (w := w) (w' := w') e.1 e7 e8 h).2 j hj, if_neg (by omega), if_neg (by omega)]
  refine ⟨eW, eN, fun j hj => ?_⟩
  unfold rlR
  rw [h6]
  split
  · exact chR_z e5 eY j hj
  · exact gnR_z eY j hj
theorem bq_z {w w' x z : Nat → Int} {p : Nat} (hp : p < 2) (e5 : w 195 = w' 195) (e7 : w 197 = w' 197) (e8 : w 198 = w' 198) (h : ∀ j, j < 7 → x j = z j) : ptw x p = ptw z p ∧ ∀ j, j < 7 → bqR w x p j = bqR w' z p j := by
  obtain ⟨a, b⟩ := pnt_z (w := w) (w' := w') hp e7 e8 h
  refine ⟨a, fun j hj => ?_⟩
  unfold bqR
  rw [h 6 (by decide)]
  split
  · exact b j hj
  · exact chR_z e5 b j hj
theorem nuR_z {x z : Nat → Int} (h : ∀ j, j < 7 → x j = z j) : nuR x = nuR z := by
  unfold nuR nuC
  rw [h 0 (by decide), h 1 (by decide), h 2 (by decide), h 3 (by decide), h 4 (by decide), h 5 (by decide), h 6 (by decide)]
theorem nuR_xE {x z : Nat → Int} (hz : scV z) (h : xE x z) : nuR x = nuR z := by
  obtain ⟨h0, h1, h2, h3, h4, h5, h6, -, -⟩ := h
  unfold nuR nuC
  rw [h0, h1, h2, h3, h6]
  rcases hz.2.2 with ⟨a, b⟩ | ⟨a, b, -⟩ | ⟨a, b, -⟩
  · rw [a]; rfl
  · rw [a, h4 (by omega)]; rfl
  · rw [a, h4 (by omega), h5 (by omega)]
/-- games behind a rally -/
theorem rl_g {w x : Nat → Int} {how : Int} (hx : x 2 = 0 ∨ x 2 = 1) : (rlN w x how = -1 ∧ rlR w x how 7 = x 7 ∧ rlR w x how 8 = x 8) ∨ (rlN w x how = 0 ∧ rlR w x how 7 = x 7 + 1 ∧ rlR w x how 8 = x 8) ∨ (rlN w x how = 1 ∧ rlR w x how 7 = x 7 ∧ rlR w x how 8 = x 8 + 1) := by
  have hin := rlW_in' w x how hx
  have e7 : rlR w x how 7 = rlY w x how 7 := by
    unfold rlR chR gnR
    split <;> split <;> rfl
  have e8 : rlR w x how 8 = rlY w x how 8 := by
    unfold rlR chR gnR
    split <;> split <;> rfl
  rw [e7, e8]
  rcases hin with e | e
  · left
    refine ⟨rlN_n e, ?_, ?_⟩
    all_goals
      unfold rlY rlC
      rw [e, if_pos (by decide)]
      split
      · grind
      · rfl
  · obtain ⟨p, hp⟩ : ∃ p : Nat, rlW w x how = p := ⟨(rlW w x how).toNat, by omega⟩
    have hp2 : p < 2 := by omega
    rw [rlN_p hp, rlY_p hp]
    obtain ⟨q1, q2⟩ := cpt_at w x hp2
    cases ht : ptw x p with
    | true =>
      obtain ⟨-, -, -, -, -, -, -, b7, b8⟩ := q1 ht
      have ep : p = 0 ∨ p = 1 := by omega
      rcases ep with e | e <;> subst e
      · right; left
        exact ⟨rfl, b7, b8⟩
      · right; right
        exact ⟨rfl, b8, b7⟩
    | false =>
      left
      refine ⟨rfl, ?_, ?_⟩
      all_goals
        unfold pnt ptB ptA ru
        rw [ht]
        have ep : p = 0 ∨ p = 1 := by omega
        rcases ep with e | e <;> subst e <;> grind
theorem bq_g {w x : Nat → Int} {p : Nat} (hp2 : p < 2) : (ptw x p = false ∧ bqR w x p 7 = x 7 ∧ bqR w x p 8 = x 8) ∨ (ptw x p = true ∧ p = 0 ∧ bqR w x p 7 = x 7 + 1 ∧ bqR w x p 8 = x 8) ∨ (ptw x p = true ∧ p = 1 ∧ bqR w x p 7 = x 7 ∧ bqR w x p 8 = x 8 + 1) := by
  have e7 : bqR w x p 7 = pnt w x p 7 := by
    unfold bqR chR
    split
    · rfl
    · split <;> rfl
  have e8 : bqR w x p 8 = pnt w x p 8 := by
    unfold bqR chR
    split
    · rfl
    · split <;> rfl
  rw [e7, e8]
  obtain ⟨q1, q2⟩ := cpt_at w x hp2
  cases ht : ptw x p with
  | true =>
    obtain ⟨-, -, -, -, -, -, -, b7, b8⟩ := q1 ht
    have ep : p = 0 ∨ p = 1 := by omega
    rcases ep with e | e <;> subst e
    · right; left
      exact ⟨rfl, rfl, b7, b8⟩
    · right; right
      exact ⟨rfl, rfl, b8, b7⟩
  | false =>
    left
    refine ⟨rfl, ?_, ?_⟩
    all_goals
      unfold pnt ptB ptA ru
      rw [ht]
      have ep : p = 0 ∨ p = 1 := by omega
      rcases ep with e | e <;> subst e <;> grind
/-- the component's bisque is the model's -/
theorem cbq_eq {w x : Nat → Int} {p : Nat} (hp : p < 2) (h6 : x 6 = 0 ∨ x 6 = 1) : cchR w (pnt w x p) = bqR w x p := by
  obtain ⟨q1, q2⟩ := cpt_at w x hp
  funext j
  cases ht : ptw x p with
  | true =>
    obtain ⟨b3, b6, -⟩ := q1 ht
    have hd : chD w (pnt w x p) = false := chD_0 b3
    have e := cch_at w (pnt w x p) hd
    unfold cchR bqR
    rw [e]
    split <;> split <;> rfl
  | false =>
    have b6 : pnt w x p 6 = x 6 := by
      unfold pnt ptB ptA ru
      rw [ht]
      have ep : p = 0 ∨ p = 1 := by omega
      rcases ep with e | e <;> subst e <;> grind
    unfold cchR bqR
    rw [b6]
    rcases h6 with e | e <;> rw [e] <;> rfl
/-- what comes behind, as a number: below 0 the game is won -/
def enV (y : Nat → Int) : Int := if y 7 + y 8 = 0 then nuR y else -1 - (2 * (if 0 < y 8 then 1 else 0) + y 2)
def bhV (w : Nat → Int) (c o : Int) : Int := enV (rlR w (isX (fun _ => 0) c) o)
def tkV (w : Nat → Int) (c : Int) (p : Nat) : Int := enV (bqR w (isX (fun _ => 0) c) p)
theorem enV_xE {x z : Nat → Int} (hz : scV z) (h : xE x z) : enV x = enV z := by
  have e := nuR_xE hz h
  obtain ⟨h0, h1, h2, h3, h4, h5, h6, h7, h8⟩ := h
  unfold enV
  rw [e, h7, h8, h2]
theorem isX_z (w x : Nat → Int) (c : Int) : ∀ j, j < 7 → isX x c j = scX w c j := by
  intro j hj
  unfold isX scX unR
  rw [if_neg (by omega), if_neg (by omega)]
  have e : j = 0 ∨ j = 1 ∨ j = 2 ∨ j = 3 ∨ j = 4 ∨ j = 5 ∨ j = 6 := by omega
  rcases e with e | e | e | e | e | e | e <;> subst e <;> rfl
theorem scX_2 (w : Nat → Int) {c : Int} (h : 0 ≤ c) : scX w c 2 = 0 ∨ scX w c 2 = 1 := by
  have e : scX w c 2 = c / 121 % 2 := rfl
  rw [e]
  omega
theorem bhV_at {w : Nat → Int} {c : Int} (o : Int) (h0 : 0 ≤ c) : bhV w c o = if rlN w (scX w c) o = -1 then nuR (rlR w (scX w c) o) else -1 - (2 * rlN w (scX w c) o + rlR w (scX w c) o 2) := by
  have h2 := scX_2 w h0
  have hz := isX_z w (fun _ => 0) c
  obtain ⟨-, e2, e3⟩ := rl_z (w := w) (w' := w) (how := o) h2 rfl rfl rfl rfl hz
  have hi2 : isX (fun _ => 0) c 2 = 0 ∨ isX (fun _ => 0) c 2 = 1 := by rw [hz 2 (by decide)]; exact h2
  unfold bhV enV
  rw [nuR_z e3, e3 2 (by decide)]
  have g := rl_g (w := w) (how := o) hi2
  rw [e2] at g
  have i7 : isX (fun _ => 0) c 7 = 0 := rfl
  have i8 : isX (fun _ => 0) c 8 = 0 := rfl
  rw [i7, i8] at g
  rcases g with ⟨a, b, d⟩ | ⟨a, b, d⟩ | ⟨a, b, d⟩
  · rw [a, b, d]; rfl
  · rw [a, b, d]; rfl
  · rw [a, b, d]; rfl
theorem tkV_at {w : Nat → Int} {c : Int} {p : Nat} (hp : p < 2) (h0 : 0 ≤ c) : tkV w c p = if ptw (scX w c) p = true then -1 - (2 * (p : Int) + bqR w (scX w c) p 2) else nuR (bqR w (scX w c) p) := by
  have hz := isX_z w (fun _ => 0) c
  obtain ⟨e2, e3⟩ := bq_z (w := w) (w' := w) hp rfl rfl rfl hz
  unfold tkV enV
  rw [nuR_z e3, e3 2 (by decide)]
  have g := bq_g (w := w) (x := isX (fun _ => 0) c) hp
  rw [e2] at g
  have i7 : isX (fun _ => 0) c 7 = 0 := rfl
  have i8 : isX (fun _ => 0) c 8 = 0 := rfl
  rw [i7, i8] at g
  rcases g with ⟨a, b, d⟩ | ⟨a, a2, b, d⟩ | ⟨a, a2, b, d⟩
  · rw [a, b, d]; rfl
  · rw [a, b, d, a2]; rfl
  · rw [a, b, d, a2]; rfl
/-- what is owed and given does not show in what comes behind -/
theorem pnt_w {w w' x : Nat → Int} {p : Nat} : (ptw x p = false → pnt w x p = pnt w' x p) ∧ pnt w x p 2 = pnt w' x p 2 := by
  refine ⟨fun h => ?_, ?_⟩
  · funext j
    unfold pnt
    rw [h]
    rfl
  · unfold pnt ptC ru
    split <;> rfl
theorem chR_w {w w' y : Nat → Int} (e5 : w 195 = w' 195) : chR w y = chR w' y := by
  have e : chD w y = chD w' y := by
    unfold chD
    rw [e5]
  funext j
  unfold chR
  rw [e]
theorem ch_won {w w' x : Nat → Int} {p : Nat} (hp : p < 2) (h : ptw x p = true) : chR w (pnt w' x p) = pnt w' x p := cch_at _ _ (chD_0 ((cpt_at w' x hp).1 h).1)
theorem gnR_2 (x : Nat → Int) : gnR x 2 = x 2 := by
  unfold gnR
  split <;> rfl
theorem rl_w {w w' x : Nat → Int} {how : Int} (hx : x 2 = 0 ∨ x 2 = 1) (e5 : w 195 = w' 195) (e6 : w 196 = w' 196) : rlN w x how = rlN w' x how ∧ rlR w x how 2 = rlR w' x how 2 ∧ (rlN w' x how = -1 → rlR w x how = rlR w' x how) := by
  have eW : rlW w x how = rlW w' x how := by
    unfold rlW
    rw [e6]
  have eN : rlN w x how = rlN w' x how := by
    unfold rlN
    rw [eW]
  have hin := rlW_in' w' x how hx
  have same : rlY w x how = rlY w' x how → rlR w x how = rlR w' x how := by
    intro e
    funext j
    unfold rlR
    rw [e, chR_w e5]
  rcases hin with e | e
  · have hY : rlY w x how = rlY w' x how := by
      funext j
      unfold rlY
      rw [eW, e]
      rfl
    have := same hY
    exact ⟨eN, congrFun this 2, fun _ => this⟩
  · obtain ⟨p, hp⟩ : ∃ p : Nat, rlW w' x how = p := ⟨(rlW w' x how).toNat, by omega⟩
    have hp2 : p < 2 := by omega
    have y1 := rlY_p (eW.trans hp)
    have y2 := rlY_p hp
    cases ht : ptw x p with
    | false =>
      have := same (by rw [y1, y2]; exact (pnt_w (w := w) (w' := w')).1 ht)
      exact ⟨eN, congrFun this 2, fun _ => this⟩
    | true =>
      refine ⟨eN, ?_, fun c => ?_⟩
      · unfold rlR
        rw [y1, y2, ch_won hp2 ht, ch_won hp2 ht]
        have e2 := (pnt_w (w := w) (w' := w') (x := x) (p := p)).2
        rw [gnR_2, gnR_2, e2]
      · rw [rlN_p hp, if_pos ht] at c
        omega
theorem bq_w {w w' x : Nat → Int} {p : Nat} (hp : p < 2) (e5 : w 195 = w' 195) : bqR w x p 2 = bqR w' x p 2 ∧ (ptw x p = false → bqR w x p = bqR w' x p) := by
  cases ht : ptw x p with
  | false =>
    have e : bqR w x p = bqR w' x p := by
      funext j
      unfold bqR
      rw [(pnt_w (w := w) (w' := w')).1 ht, chR_w e5]
    exact ⟨congrFun e 2, fun _ => e⟩
  | true =>
    refine ⟨?_, fun c => by cases c⟩
    unfold bqR
    rw [ch_won hp ht, ch_won hp ht, (pnt_w (w := w) (w' := w') (x := x) (p := p)).2]
theorem bhV_w {w w' : Nat → Int} {c : Int} (o : Int) (h0 : 0 ≤ c) (e5 : w 195 = w' 195) (e6 : w 196 = w' 196) : bhV w c o = bhV w' c o := by
  have hi2 : isX (fun _ => 0) c 2 = 0 ∨ isX (fun _ => 0) c 2 = 1 := by rw [isX_z w _ c 2 (by decide)]; exact scX_2 w h0
  obtain ⟨a, b, d⟩ := rl_w (how := o) hi2 e5 e6
  have g := rl_g (w := w) (how := o) hi2
  have g' := rl_g (w := w') (how := o) hi2
  have i7 : isX (fun _ => 0) c 7 = 0 := rfl
  have i8 : isX (fun _ => 0) c 8 = 0 := rfl
  rw [i7, i8] at g g'
  unfold bhV enV
  rw [b]
  by_cases hN : rlN w' (isX (fun _ => 0) c) o = -1
  · rw [d hN]
  · rw [a] at g
    have e7 : rlR w (isX (fun _ => 0) c) o 7 = rlR w' (isX (fun _ => 0) c) o 7 := by omega
    have e8 : rlR w (isX (fun _ => 0) c) o 8 = rlR w' (isX (fun _ => 0) c) o 8 := by omega
    have n0 : ¬ rlR w' (isX (fun _ => 0) c) o 7 + rlR w' (isX (fun _ => 0) c) o 8 = 0 := by omega
    rw [e7, e8, if_neg n0, if_neg n0]
theorem tkV_w {w w' : Nat → Int} {c : Int} {p : Nat} (hp : p < 2) (e5 : w 195 = w' 195) : tkV w c p = tkV w' c p := by
  obtain ⟨a, b⟩ := bq_w (w := w) (w' := w') (x := isX (fun _ => 0) c) hp e5
  have g := bq_g (w := w) (x := isX (fun _ => 0) c) hp
  have g' := bq_g (w := w') (x := isX (fun _ => 0) c) hp
  unfold tkV enV
  rw [a]
  cases ht : ptw (isX (fun _ => 0) c) p with
  | false => rw [b ht]
  | true =>
    rw [ht] at g g'
    have i7 : isX (fun _ => 0) c 7 = 0 := rfl
    have i8 : isX (fun _ => 0) c 8 = 0 := rfl
    rw [i7, i8] at g g'
    have e7 : bqR w (isX (fun _ => 0) c) p 7 = bqR w' (isX (fun _ => 0) c) p 7 := by
      rcases g with ⟨c', -⟩ | ⟨-, c1, c2, c3⟩ | ⟨-, c1, c2, c3⟩ <;> rcases g' with ⟨d', -⟩ | ⟨-, d1, d2, d3⟩ | ⟨-, d1, d2, d3⟩ <;> first | cases c' | cases d' | omega
    have e8 : bqR w (isX (fun _ => 0) c) p 8 = bqR w' (isX (fun _ => 0) c) p 8 := by
      rcases g with ⟨c', -⟩ | ⟨-, c1, c2, c3⟩ | ⟨-, c1, c2, c3⟩ <;> rcases g' with ⟨d', -⟩ | ⟨-, d1, d2, d3⟩ | ⟨-, d1, d2, d3⟩ <;> first | cases c' | cases d' | omega
    have n0 : ¬ bqR w' (isX (fun _ => 0) c) p 7 + bqR w' (isX (fun _ => 0) c) p 8 = 0 := by
      rcases g' with ⟨d', -⟩ | ⟨-, d1, d2, d3⟩ | ⟨-, d1, d2, d3⟩ <;> first | cases d' | omega
    rw [e7, e8, if_neg n0, if_neg n0]
/-- the tables of what comes behind are as the club has it -/
def lT (S : Nat → Nat → Int) (w : Nat → Int) : Prop := ∀ c : Nat, c < 15488 → S 106 c = (if cbR (c : Int) = true then 1 else 0) ∧ (cbR (c : Int) = true → (∀ o : Nat, o < 12 → S 104 (12 * c + o) = bhV w (c : Int) (o : Int)) ∧ ∀ p : Nat, p < 2 → S 105 (2 * c + p) = tkV w (c : Int) p)
theorem lT.w {S S' : Nat → Nat → Int} {w w' : Nat → Int} (h : lT S w) (e5 : w 195 = w' 195) (e6 : w 196 = w' 196) (e : ∀ h, h = 104 ∨ h = 105 ∨ h = 106 → ∀ k, S' h k = S h k) : lT S' w' := by
  intro c hc
  obtain ⟨a, b⟩ := h c hc
  refine ⟨by rw [e 106 (by decide)]; exact a, fun hk => ⟨fun o ho => ?_, fun p hp => ?_⟩⟩
  · rw [e 104 (by decide), ← bhV_w (o : Int) (by omega) e5 e6]
    exact (b hk).1 o ho
  · rw [e 105 (by decide), ← tkV_w hp e5]
    exact (b hk).2 p hp
