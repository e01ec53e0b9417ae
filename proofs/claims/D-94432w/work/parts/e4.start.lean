/-! ===== the law's begin ===== -/
set_option maxRecDepth 100000
/-- the memory at the law's begin: the script alone, and the constants -/
def lM0 (n : Nat) : zz_M := ((0, fun h => if h = 1500 then (32, n) else if 1000 ≤ h then mm_cS h else (0, 0)), (fun _ _ => 0), (fun _ _ => 0), fun _ _ => none)
def lx0 : aS := (mw0, (fun _ => 0), 0, (fun _ => 0), 0, -1)
theorem zfs_r {h : Nat} (e : zfs 2 h = true) : (100 ≤ h ∧ h ≤ 140) ∨ (200 ≤ h ∧ h ≤ 207) ∨ (210 ≤ h ∧ h ≤ 225) ∨ (1000 ≤ h ∧ h ≤ 1399) := by
  have e : ((Nat.ble 100 h && Nat.ble h 140) || (Nat.ble 200 h && Nat.ble h 207) || (Nat.ble 210 h && Nat.ble h 225) || (Nat.ble 1000 h && Nat.ble h 1399)) = true := e
  rw [Bool.or_eq_true, Bool.or_eq_true, Bool.or_eq_true, Bool.and_eq_true, Bool.and_eq_true, Bool.and_eq_true, Bool.and_eq_true] at e
  rcases e with ((e | e) | e) | e
  · exact Or.inl ⟨Nat.le_of_ble_eq_true e.1, Nat.le_of_ble_eq_true e.2⟩
  · exact Or.inr (Or.inl ⟨Nat.le_of_ble_eq_true e.1, Nat.le_of_ble_eq_true e.2⟩)
  · exact Or.inr (Or.inr (Or.inl ⟨Nat.le_of_ble_eq_true e.1, Nat.le_of_ble_eq_true e.2⟩))
  · exact Or.inr (Or.inr (Or.inr ⟨Nat.le_of_ble_eq_true e.1, Nat.le_of_ble_eq_true e.2⟩))
theorem zfx_n {h k : Nat} (e : zfs 2 h = true) (q : zfx 2 h k = false) : (h = 100 ∧ k = 1) ∨ (h = 103 ∧ k = 0) ∨ ((h = 116 ∨ h = 120 ∨ h = 124) ∧ k ≤ 1) ∨ (h = 202 ∧ k = 1) := by
  have e : ((Nat.ble 100 h && Nat.ble h 140) || (Nat.ble 200 h && Nat.ble h 207) || (Nat.ble 210 h && Nat.ble h 225) || (Nat.ble 1000 h && Nat.ble h 1399)) = true := e
  have q : (((Nat.ble 100 h && Nat.ble h 140) || (Nat.ble 200 h && Nat.ble h 207) || (Nat.ble 210 h && Nat.ble h 225) || (Nat.ble 1000 h && Nat.ble h 1399)) && !((Nat.beq h 100 && (Nat.beq k 1 || (false && Nat.beq k 0))) || (Nat.beq h 103 && Nat.beq k 0) || ((Nat.beq h 116 || Nat.beq h 120 || Nat.beq h 124) && Nat.ble k 1) || (Nat.beq h 202 && Nat.beq k 1))) = false := q
  rw [e, Bool.true_and, Bool.not_eq_false', Bool.false_and, Bool.or_false, Bool.or_eq_true, Bool.or_eq_true, Bool.or_eq_true, Bool.and_eq_true, Bool.and_eq_true, Bool.and_eq_true, Bool.and_eq_true, Bool.or_eq_true, Bool.or_eq_true] at q
  rcases q with ((q | q) | q) | q
  · exact Or.inl ⟨Nat.eq_of_beq_eq_true q.1, Nat.eq_of_beq_eq_true q.2⟩
  · exact Or.inr (Or.inl ⟨Nat.eq_of_beq_eq_true q.1, Nat.eq_of_beq_eq_true q.2⟩)
  · refine Or.inr (Or.inr (Or.inl ⟨?_, Nat.le_of_ble_eq_true q.2⟩))
    rcases q.1 with (z | z) | z
    · exact Or.inl (Nat.eq_of_beq_eq_true z)
    · exact Or.inr (Or.inl (Nat.eq_of_beq_eq_true z))
    · exact Or.inr (Or.inr (Nat.eq_of_beq_eq_true z))
  · exact Or.inr (Or.inr (Or.inr ⟨Nat.eq_of_beq_eq_true q.1, Nat.eq_of_beq_eq_true q.2⟩))
theorem mw0_nw : nwW mw0 = fun _ => 0 := by
  funext k
  unfold nwW mw0
  split
  · rw [if_neg (by omega), if_neg (by omega), if_neg (by omega)]
  · rfl
theorem lWI : WI mw0 := by
  have hm : ∀ k, mw0 k = if k < 192 ∧ k % 12 < 2 then 50 else if k = 194 then 1 else if k = 199 ∨ k = 200 then -1 else 0 := fun k => rfl
  refine ⟨⟨⟨⟨fun k hk => ?_, by decide, by decide, by decide⟩, by unfold wV; decide, by decide, by decide⟩, by decide +kernel⟩, ⟨?_, ?_⟩, by decide, ⟨0, rfl, by decide, fun i hi => absurd hi (Nat.not_lt_zero _), fun u hu => Or.inl ?_⟩, fun k hk => ?_⟩
  · rw [hm]
    split
    · omega
    · rw [if_neg (by omega), if_neg (by omega)]
      omega
  · rw [mw0_nw]
    unfold scV pV hV
    decide
  · rw [mw0_nw]
    unfold xB
    exact ⟨by decide, by decide, by decide, by decide, fun _ _ => rfl⟩
  · rw [hm, if_neg (by omega), if_neg (by omega), if_pos (by omega)]
  · rw [hm, if_neg (by omega), if_neg (by omega), if_neg (by omega)]
theorem lAI : AI lx0 := ⟨lWI, ⟨Or.inl rfl, fun _ _ => rfl⟩, ⟨by decide, fun k _ => by show 0 ≤ (0 : Int) ∧ (0 : Int) ≤ 255; decide⟩, by show R32 (-1); decide⟩
/-- the memory behind the makings, as it is seen from then on -/
def lF (n : Nat) (h : Nat) : Nat × Nat := if h < 18 then mS h else if h = 1500 then (32, n) else if h = 51 then (3, 1) else if zfs 2 h = true then cS h else (0, 0)
def lP (P : Nat → Nat → Option Nat) (h k : Nat) : Option Nat := if h < 18 then mP h k else if zfx 2 h k = true then cP h k else if zfs 2 h = true then P h k else none
theorem lF_x {n h : Nat} (e : zfs 2 h = true) : lF n h = cS h := by
  have := zfs_r e
  unfold lF
  rw [if_neg (by omega), if_neg (by omega), if_neg (by omega), if_pos e]
theorem lF_o {n h : Nat} (h1 : 18 ≤ h) (h2 : h ≠ 1500) (h3 : h ≠ 51) (e : zfs 2 h = false) : lF n h = (0, 0) := by
  unfold lF
  rw [if_neg (by omega), if_neg h2, if_neg h3, if_neg (by rw [e]; decide)]
theorem lP_x {P : Nat → Nat → Option Nat} {h k : Nat} (e : zfx 2 h k = true) : lP P h k = cP h k := by
  have := zfs_r (zfx_s (Or.inl rfl) e)
  unfold lP
  rw [if_neg (by omega), if_pos e]
theorem lP_s {P : Nat → Nat → Option Nat} {h k : Nat} (e : zfs 2 h = true) (q : zfx 2 h k = false) : lP P h k = P h k := by
  have := zfs_r e
  unfold lP
  rw [if_neg (by omega), if_neg (by rw [q]; decide), if_pos e]
theorem lP_m {P : Nat → Nat → Option Nat} {h k : Nat} (e : h < 18) : lP P h k = mP h k := if_pos e
theorem lP_n {P : Nat → Nat → Option Nat} {h k : Nat} (h1 : 18 ≤ h) (e : zfs 2 h = false) : lP P h k = none := by
  unfold lP
  rw [if_neg (by omega), if_neg (by rw [zfx_of e]; decide), if_neg (by rw [e]; decide)]
/-- references of the component at its begin that are no fixed ones -/
theorem lP_c {P : Nat → Nat → Option Nat} (hc : cmR P) (h1 : P 100 1 = none) (h2 : P 202 1 = some 1300) {h k b : Nat} (hh : 18 ≤ h) (e : lP P h k = some b) : ((100 ≤ b ∧ b ≤ 140) ∨ (200 ≤ b ∧ b ≤ 207) ∨ (210 ≤ b ∧ b ≤ 225)) ∨ b = 1300 := by
  cases z : zfs 2 h with
  | false => rw [lP_n hh z] at e; cases e
  | true =>
    cases q : zfx 2 h k with
    | true =>
      rw [lP_x q] at e
      exact Or.inl (cP_r e)
    | false =>
      rw [lP_s z q] at e
      obtain ⟨-, -, -, -, -, -, -, -, -, -, -, -, -, -, -, -, -, -, c103, -, -, -, -, -, -, -, -, -, a1, a2, -, -, b1, b2, -, -, d1, d2, -⟩ := hc
      rcases zfx_n z q with ⟨c1, c2⟩ | ⟨c1, c2⟩ | ⟨c1, c2⟩ | ⟨c1, c2⟩
      · subst c1 c2
        rw [h1] at e
        cases e
      · subst c1 c2
        rw [c103] at e
        cases e
      · rcases (show k = 0 ∨ k = 1 by omega) with y | y <;> subst y <;> rcases c1 with y | y | y <;> subst y
        · rw [a1] at e; cases e; omega
        · rw [b1] at e; cases e; omega
        · rw [d1] at e; cases e; omega
        · rw [a2] at e; cases e; omega
        · rw [b2] at e; cases e; omega
        · rw [d2] at e; cases e; omega
      · subst c1 c2
        rw [h2] at e
        cases e
        exact Or.inr rfl
theorem lF_l {n b : Nat} (h : ((100 ≤ b ∧ b ≤ 140) ∨ (200 ≤ b ∧ b ≤ 207) ∨ (210 ≤ b ∧ b ≤ 225)) ∨ b = 1300) : (lF n b).1 ≠ 0 := by
  rcases h with h | h
  · obtain ⟨z1, z2⟩ := cs_f h
    rw [lF_x z1]
    exact z2
  · subst h
    rw [lF_x rfl]
    decide
theorem lwK0 {n : Nat} {P : Nat → Nat → Option Nat} (hc : cmR P) (h1 : P 100 1 = none) (h2 : P 202 1 = some 1300) : lwK 2 n (lF n) (lP P) := by
  refine ⟨fun h hh => ⟨if_pos hh, funext fun k => lP_m hh⟩, ⟨rfl, rfl⟩, fun h a b d => ?_, fun h e => lF_x e, fun h k e => lP_x e, fun h hh => ?_, fun h k b a1 a2 a3 e => ?_⟩
  · rw [lF_o a (by omega) d (zfs_lo b)]
  · by_cases c : h < 18
    · rw [show lF n h = mS h from if_pos c] at hh
      exact absurd (mS_c.1 h c).2 hh
    · by_cases c5 : h = 1500
      · exact Or.inl c5
      · by_cases c6 : h = 51
        · subst c6
          exact absurd (show (3 : Nat) < 16 by decide) hh
        · cases z : zfs 2 h with
          | false =>
            rw [lF_o (by omega) c5 c6 z] at hh
            exact absurd (show (0 : Nat) < 16 by decide) hh
          | true =>
            rw [lF_x z] at hh
            rcases zfs_r z with y | y | y | y
            · have := (by decide +kernel : ∀ i : Fin 226, i.val ≤ 225 → 100 ≤ i.val → (cS i.val).1 < 16) ⟨h, by omega⟩ (by show h ≤ 225; omega) (by show 100 ≤ h; omega)
              exact absurd this hh
            · have := (by decide +kernel : ∀ i : Fin 226, i.val ≤ 225 → 100 ≤ i.val → (cS i.val).1 < 16) ⟨h, by omega⟩ (by show h ≤ 225; omega) (by show 100 ≤ h; omega)
              exact absurd this hh
            · have := (by decide +kernel : ∀ i : Fin 226, i.val ≤ 225 → 100 ≤ i.val → (cS i.val).1 < 16) ⟨h, by omega⟩ (by show h ≤ 225; omega) (by show 100 ≤ h; omega)
              exact absurd this hh
            · exact Or.inr ⟨y.1, by omega⟩
  · have hb := lP_c hc h1 h2 (by omega) e
    exact ⟨by omega, lF_l hb⟩
/-- relevant fixed references at the component's begin -/
theorem lrel {f : Nat → Nat × Nat} {P : Nat → Nat → Option Nat} (hc : cmR P) (hw : wSh f P 200 100) {h k : Nat} (e : zfx 2 h k = true) (hk : mm_rel (cS h) k) (h16 : (cS h).1 < 16) : cP h k = P h k := by
  have hz := zfs_r (zfx_s (Or.inl rfl) e)
  obtain ⟨r1, r2, r3, r4, r5⟩ := rel_w
  obtain ⟨w1, ⟨w2, w3, w4, w5, w6⟩, w7, w8, w9, w10, w11⟩ := hw
  obtain ⟨p0, p2, p3, p4, p5, p6, p7, p9, p10, p11, p12, p13, p14, p15, p16, p17, p18, q1, q2, q3, s1, s2, s3, s4, t1, t2, t3, t4, u1, u2, u3, u4, v1, v2, v3, v4, x1, x2, x3, y1, y2, y3, z1, z2, z3, z4, z5, z6, z7⟩ := hc
  have nr : ∀ a b : Nat, a ≠ 1 → a ≠ 6 → a ≠ 7 → a ≠ 8 → ¬ mm_rel (a, b) k := fun a b h1 h6 h7 h8 q => by
    rcases q with ⟨c, -⟩ | ⟨c, -⟩
    · exact h1 c
    · rcases c with c | c | c
      · exact h6 c
      · exact h7 c
      · exact h8 c
  have cl : ∀ (ci nf : Nat) (r : vw_C), mm_cl[ci]? = some r → r.2.2 = nf → mm_rel (1, ci) k → k < nf ∧ mm_kd ci k = 2 := fun ci nf r h1 h2 q => by
    rcases q with ⟨-, c, hc, h3, h4⟩ | ⟨c, -⟩
    · have hc : mm_cl[ci]? = some c := hc
      rw [h1] at hc
      cases hc
      exact ⟨by rw [← h2]; exact h3, h4⟩
    · exact absurd (show (1 : Nat) = 6 ∨ (1 : Nat) = 7 ∨ (1 : Nat) = 8 from c) (by decide)
  have ar : ∀ m : Nat, mm_rel (6, m) k → k < m := fun m q => by
    rcases q with ⟨c, -⟩ | ⟨-, c⟩
    · exact absurd (show (6 : Nat) = 1 from c) (by decide)
    · exact c
  rcases hz with c | c | c | c
  · by_cases o : h = 100 ∨ h = 101 ∨ h = 103 ∨ h = 108 ∨ h = 112 ∨ h = 116 ∨ h = 120 ∨ h = 124 ∨ h = 127 ∨ h = 134
    · rcases o with o | o | o | o | o | o | o | o | o | o <;> subst o
      · obtain ⟨k1, k2⟩ := cl 0 19 _ rfl rfl hk
        rcases (show k = 0 ∨ k = 1 ∨ k = 2 ∨ k = 3 ∨ k = 4 ∨ k = 5 ∨ k = 6 ∨ k = 7 ∨ k = 8 ∨ k = 9 ∨ k = 10 ∨ k = 11 ∨ k = 12 ∨ k = 13 ∨ k = 14 ∨ k = 15 ∨ k = 16 ∨ k = 17 ∨ k = 18 by omega) with j | j | j | j | j | j | j | j | j | j | j | j | j | j | j | j | j | j | j <;> subst j
        · exact p0.symm
        · exact absurd e (by decide)
        · exact p2.symm
        · exact p3.symm
        · exact p4.symm
        · exact p5.symm
        · exact p6.symm
        · exact p7.symm
        · exact absurd k2 (by decide)
        · exact p9.symm
        · exact p10.symm
        · exact p11.symm
        · exact p12.symm
        · exact p13.symm
        · exact p14.symm
        · exact p15.symm
        · exact p16.symm
        · exact p17.symm
        · exact p18.symm
      · obtain ⟨k1, k2⟩ := cl 3 7 _ rfl rfl hk
        rcases (show k = 0 ∨ k = 1 ∨ k = 2 ∨ k = 3 ∨ k = 4 ∨ k = 5 ∨ k = 6 by omega) with j | j | j | j | j | j | j <;> subst j <;> first | exact q1.symm | exact absurd k2 (by decide)
      · obtain ⟨k1, k2⟩ := cl 4 3 _ rfl rfl hk
        rcases (show k = 0 ∨ k = 1 ∨ k = 2 by omega) with j | j | j <;> subst j <;> first | exact q3.symm | exact absurd k2 (by decide) | exact absurd e (by decide)
      · obtain ⟨k1, k2⟩ := cl 2 7 _ rfl rfl hk
        rcases (show k = 0 ∨ k = 1 ∨ k = 2 ∨ k = 3 ∨ k = 4 ∨ k = 5 ∨ k = 6 by omega) with j | j | j | j | j | j | j <;> subst j <;> first | exact s1.symm | exact s2.symm | exact s3.symm | exact s4.symm | exact absurd k2 (by decide)
      · obtain ⟨k1, k2⟩ := cl 2 7 _ rfl rfl hk
        rcases (show k = 0 ∨ k = 1 ∨ k = 2 ∨ k = 3 ∨ k = 4 ∨ k = 5 ∨ k = 6 by omega) with j | j | j | j | j | j | j <;> subst j <;> first | exact t1.symm | exact t2.symm | exact t3.symm | exact t4.symm | exact absurd k2 (by decide)
      · obtain ⟨k1, k2⟩ := cl 5 5 _ rfl rfl hk
        rcases (show k = 0 ∨ k = 1 ∨ k = 2 ∨ k = 3 ∨ k = 4 by omega) with j | j | j | j | j <;> subst j <;> first | exact u3.symm | exact u4.symm | exact absurd k2 (by decide) | exact absurd e (by decide)
      · obtain ⟨k1, k2⟩ := cl 5 5 _ rfl rfl hk
        rcases (show k = 0 ∨ k = 1 ∨ k = 2 ∨ k = 3 ∨ k = 4 by omega) with j | j | j | j | j <;> subst j <;> first | exact v3.symm | exact v4.symm | exact absurd k2 (by decide) | exact absurd e (by decide)
      · obtain ⟨k1, k2⟩ := cl 6 4 _ rfl rfl hk
        rcases (show k = 0 ∨ k = 1 ∨ k = 2 ∨ k = 3 by omega) with j | j | j | j <;> subst j <;> first | exact x3.symm | exact absurd k2 (by decide) | exact absurd e (by decide)
      · have k1 := ar 3 hk
        rcases (show k = 0 ∨ k = 1 ∨ k = 2 by omega) with j | j | j <;> subst j
        · exact y1.symm
        · exact y2.symm
        · exact y3.symm
      · obtain ⟨k1, k2⟩ := cl 7 9 _ rfl rfl hk
        rcases (show k = 0 ∨ k = 1 ∨ k = 2 ∨ k = 3 ∨ k = 4 ∨ k = 5 ∨ k = 6 ∨ k = 7 ∨ k = 8 by omega) with j | j | j | j | j | j | j | j | j <;> subst j <;> first | exact z1.symm | exact z2.symm | exact z3.symm | exact z4.symm | exact z5.symm | exact z6.symm | exact z7.symm | exact absurd k2 (by decide)
    · have hn := (by decide +kernel : ∀ i : Fin 141, 100 ≤ i.val → ¬ (i.val = 100 ∨ i.val = 101 ∨ i.val = 103 ∨ i.val = 108 ∨ i.val = 112 ∨ i.val = 116 ∨ i.val = 120 ∨ i.val = 124 ∨ i.val = 127 ∨ i.val = 134) → (cS i.val).1 ≠ 1 ∧ (cS i.val).1 ≠ 6 ∧ (cS i.val).1 ≠ 7 ∧ (cS i.val).1 ≠ 8) ⟨h, by omega⟩ c.1 o
      exact absurd hk (nr (cS h).1 (cS h).2 hn.1 hn.2.1 hn.2.2.1 hn.2.2.2)
  · rcases (show h = 200 ∨ h = 201 ∨ h = 202 ∨ h = 203 ∨ h = 204 ∨ h = 205 ∨ h = 206 ∨ h = 207 by omega) with j | j | j | j | j | j | j | j <;> subst j
    · rcases r1 k hk with j | j | j | j | j <;> subst j
      · exact w2.symm
      · exact w3.symm
      · exact w4.symm
      · exact w5.symm
      · exact w6.symm
    · have k16 := r4 k hk
      have ec : cP 201 k = some (210 + k) := (by decide +kernel : ∀ j : Fin 16, cP 201 j.val = some (210 + j.val)) ⟨k, k16⟩
      rw [ec]
      exact (w7 k k16).symm
    · have := r3 k hk
      subst this
      exact absurd e (by decide)
    · exact absurd hk (r5 2 k)
    · rcases r2 k hk with j | j | j | j <;> subst j
      · exact w8.symm
      · exact w9.symm
      · exact w10.symm
      · exact w11.symm
    · exact absurd hk (r5 2 k)
    · exact absurd hk (r5 2 k)
    · exact absurd hk (r5 2 k)
  · have : cS h = (2, 12) := by
      have := (by decide +kernel : ∀ j : Fin 226, 210 ≤ j.val → cS j.val = (2, 12)) ⟨h, by omega⟩ c.1
      exact this
    rw [this] at hk
    exact absurd hk (r5 12 k)
  · rw [cS_c c.1] at h16
    by_cases l : (mm_cS h).1 = 0
    · have hk : mm_rel (cS h) k := hk
      rw [cS_c c.1] at hk
      exact absurd hk (nr (mm_cS h).1 (mm_cS h).2 (by omega) (by omega) (by omega) (by omega))
    · exact absurd h16 (cS_16 l c.1)
theorem law_start {Q : Option zv → zz_M → Prop} {X : Nat → zz_M → Prop} {Mi : mm_M} {n : Nat} {sc : Nat → Int} (hMi : ∀ h, (Mi.1 h).1 ≠ 0 → h = 1500 ∨ (1000 ≤ h ∧ h < 1400)) (hn : n ≤ 384) (hsc : ∀ k, R32 (sc k)) (hQ : ∀ M y, LI n y y M → Q (some (vi 1)) M) : zz_Jv Mi (zpL_law n sc) (zz_retP Q X 1076108 5861636) 0 [some (vr 1500), none, none, none, none, none, none, none] [] (lM0 n) (0, 0) := by
  have m0 : ∀ h, h < 1000 → (lM0 n).1.2 h = (0, 0) := fun h h1 => by
    show (if h = 1500 then (32, n) else if 1000 ≤ h then mm_cS h else (0, 0)) = _
    rw [if_neg (by omega), if_neg (by omega)]
  have z0 : ∀ h, zfs (lM0 n).1.1 h = false := fun h => rfl
  have fr0 : ∀ h, h < 1000 → zfree (lM0 n) h := fun h h1 => ⟨rfl, by rw [m0 h h1]⟩
  refine zz_Jv.go [(23, [5, 6, 7])] 400 ?_
  refine ⟨100, fr0 100 (by decide), ⟨by decide, by decide⟩, ⟨by decide, by decide⟩, ⟨rfl, fun k => rfl⟩, fun i a b => ⟨rfl, ?_⟩, fun S2 L2 P2 f2 c1 c2 c3 c4 c5 c6 c7 c8 c9 c10 c200 c11 c12 => ?_⟩
  · show (zrw (lM0 n).1.2 100 (1, 0) i).1 = 0
    rw [zrw_n _ _ (by omega), m0 i (by omega)]
  have f2o : ∀ j, (j < 100 ∨ 226 ≤ j ∨ j = 208 ∨ j = 209) → f2 j = (lM0 n).1.2 j := fun j hj => (c1 j (by omega)).trans (zrw_n _ _ (by omega))
  have f20 : ∀ j, j < 100 → f2 j = (0, 0) := fun j a => (f2o j (by omega)).trans (m0 j (by omega))
  refine ⟨0, ⟨rfl, by show (f2 0).1 = 0; rw [f20 0 (by decide)]⟩, ⟨by decide, by decide⟩, ⟨by decide, by decide⟩, ⟨rfl, fun k => rfl⟩, fun i a b => ⟨rfl, ?_⟩, fun S4 L4 P4 f4 d1 d2 d3 d4 d5 d6 d7 => ?_⟩
  · show (zrw f2 0 (1, 8) i).1 = 0
    rw [zrw_n _ _ (by omega), f20 i (by omega)]
  have f4o : ∀ j, 18 ≤ j → f4 j = f2 j := fun j hj => (d1 j (by omega)).trans (zrw_n _ _ (by omega))
  have S4o : ∀ j, 18 ≤ j → S4 j = S2 j := fun j hj => (d2 j hj).1.trans (zrw_n _ _ (by omega))
  have P4o : ∀ j, 18 ≤ j → P4 j = P2 j := fun j hj => (d2 j hj).2.2.trans (zrw_n _ _ (by omega))
  refine ⟨51, ⟨rfl, by show (f4 51).1 = 0; rw [f4o 51 (by decide), f20 51 (by decide)]⟩, by decide, ⟨by decide, by decide⟩, ?_⟩
  -- seen anew
  have hp100 : P4 100 1 = none := by rw [P4o 100 (by decide), c8]; rfl
  have cm4 : cmR P4 := by
    unfold cmR
    rw [P4o 100 (by decide), P4o 101 (by decide), P4o 103 (by decide), P4o 108 (by decide), P4o 112 (by decide), P4o 116 (by decide), P4o 120 (by decide), P4o 124 (by decide), P4o 127 (by decide), P4o 134 (by decide)]
    exact c9
  have w4 : wSh f4 P4 200 100 := wSh_o c10 (fun j a b => f4o j (by omega)) (fun j a b => P4o j (by omega))
  obtain ⟨n1, ⟨n2, n3⟩, ⟨n4, n5⟩, n6⟩ := c12
  have hp202 : P4 202 1 = some 1300 := by rw [P4o 202 (by decide)]; exact n3
  obtain ⟨S5, hS5⟩ : ∃ S5, zrw S4 51 (fun _ => 0) = S5 := ⟨_, rfl⟩
  obtain ⟨P5, hP5⟩ : ∃ P5, zrw P4 51 (fun _ => none) = P5 := ⟨_, rfl⟩
  obtain ⟨f5, hf5⟩ : ∃ f5, zrw f4 51 (3, (1 : Int).toNat) = f5 := ⟨_, rfl⟩
  have f5o : ∀ j, j ≠ 51 → f5 j = f4 j := fun j hj => by rw [← hf5]; exact zrw_n _ _ hj
  have S5o : ∀ j, j ≠ 51 → S5 j = S4 j := fun j hj => by rw [← hS5]; exact zrw_n _ _ hj
  have P5o : ∀ j, j ≠ 51 → P5 j = P4 j := fun j hj => by rw [← hP5]; exact zrw_n _ _ hj
  have S5h : ∀ j, 52 ≤ j → S5 j = S2 j := fun j hj => (S5o j (by omega)).trans (S4o j (by omega))
  have P5h : ∀ j, 52 ≤ j → P5 j = P2 j := fun j hj => (P5o j (by omega)).trans (P4o j (by omega))
  have cm5 : cmR P5 := by
    unfold cmR
    rw [P5o 100 (by decide), P5o 101 (by decide), P5o 103 (by decide), P5o 108 (by decide), P5o 112 (by decide), P5o 116 (by decide), P5o 120 (by decide), P5o 124 (by decide), P5o 127 (by decide), P5o 134 (by decide)]
    exact cm4
  have w5 : wSh f5 P5 200 100 := wSh_o w4 (fun j a b => f5o j (by omega)) (fun j a b => P5o j (by omega))
  have p5100 : P5 100 1 = none := by rw [P5o 100 (by decide)]; exact hp100
  have p5202 : P5 202 1 = some 1300 := by rw [P5o 202 (by decide)]; exact hp202
  have kk := lwK0 (n := n) cm5 p5100 p5202
  have f200 : f5 200 = (1, 1) := by rw [f5o 200 (by decide), f4o 200 (by decide)]; exact c200
  -- what lives is as it was made
  have hf : ∀ h, (lF n h).1 ≠ 0 → lF n h = f5 h := by
    intro h hl
    by_cases a1 : h < 18
    · rw [show lF n h = mS h from if_pos a1, f5o h (by omega)]
      by_cases a0 : h = 0
      · subst a0
        exact ((d1 0 (Or.inl rfl)).trans (rfl : _ = ((1, 8) : Nat × Nat))).symm
      · exact (d3 h (by omega) (by omega)).symm
    · by_cases a2 : h = 1500
      · subst a2
        rw [f5o 1500 (by decide), f4o 1500 (by decide), f2o 1500 (by decide)]
        rfl
      · by_cases a3 : h = 51
        · subst a3
          rw [← hf5]
          rfl
        · cases z : zfs 2 h with
          | false => rw [lF_o (by omega) a2 a3 z] at hl; exact absurd rfl hl
          | true =>
            rw [lF_x z]
            rcases zfs_r z with y | y | y | y
            · rw [f5o h (by omega), f4o h (by omega)]
              by_cases y0 : h = 100
              · subst y0
                exact ((c1 100 (by omega)).trans (rfl : _ = ((1, 0) : Nat × Nat))).symm
              · exact (c4 h (by omega) (by omega)).1.symm
            · have := w5.cS f200 (h - 200) (by omega) (by omega) (by omega)
              rw [show 200 + (h - 200) = h by omega] at this
              exact this.symm
            · have := w5.cS f200 (h - 200) (by omega) (by omega) (by omega)
              rw [show 200 + (h - 200) = h by omega] at this
              exact this.symm
            · rw [f5o h (by omega), f4o h (by omega), f2o h (by omega), cS_c y.1]
              show mm_cS h = if h = 1500 then (32, n) else if 1000 ≤ h then mm_cS h else (0, 0)
              rw [if_neg (by omega), if_pos y.1]
  have hI : LI n lx0 lx0 ((0, lF n), S5, (zrw L4 51 (fun _ => 0)), lP P5) := by
    have s200 : ∀ k, S5 200 k = if k = 1 then 1 else 0 := fun k => by rw [S5h 200 (by decide)]; exact c11 k
    have s202 : S5 202 2 = 0 := by rw [S5h 202 (by decide)]; exact n2
    have s203 : S5 203 0 = -1 ∧ S5 203 1 = -1 := by rw [S5h 203 (by decide)]; exact ⟨n4, n5⟩
    have srow : ∀ i k, i < 16 → S5 (210 + i) k = if k < 2 then 50 else 0 := fun i k hi => by rw [S5h (210 + i) (by omega)]; exact n1 i k hi
    have s204 : ∀ i k, 4 ≤ i → i ≤ 7 → S5 (200 + i) k = 0 := fun i k a b => by rw [S5h (200 + i) (by omega)]; exact n6 i k a b
    have s101 : ∀ k, S5 101 k = if k = 5 then -1 else 0 := fun k => by rw [S5h 101 (by decide)]; exact c5 k
    have s100 : S5 100 8 = 0 := by rw [S5h 100 (by decide), c3 8]; rfl
    have hm : ∀ k, mw0 k = if k < 192 ∧ k % 12 < 2 then 50 else if k = 194 then 1 else if k = 199 ∨ k = 200 then -1 else 0 := fun k => rfl
    have q4 : ∀ k, S5 204 k = 0 := fun k => s204 4 k (by decide) (by decide)
    have q5 : ∀ k, S5 205 k = 0 := fun k => s204 5 k (by decide) (by decide)
    have q6 : ∀ k, S5 206 k = 0 := fun k => s204 6 k (by decide) (by decide)
    have q7 : ∀ k, S5 207 k = 0 := fun k => s204 7 k (by decide) (by decide)
    have ecx : cx S5 204 = fun _ => 0 := by
      funext k
      show (if k = 0 then S5 205 0 else if k = 1 then S5 205 1 else if k = 2 then S5 204 3 else if k = 3 then S5 204 4 else if k = 4 then S5 207 0 else if k = 5 then S5 207 1 else if k = 6 then S5 204 5 else if k = 7 then S5 206 0 else if k = 8 then S5 206 1 else 0) = 0
      rw [q4, q4, q4, q5, q5, q6, q6, q7, q7]
      simp
    obtain ⟨-, -, -, -, -, -, -, -, -, -, -, -, -, -, -, -, -, -, c103, -, -, -, -, -, -, -, -, -, g1, g2, -, -, g3, g4, -, -, g5, g6, -⟩ := id cm5
    have G : rlG 202 1300 0 2000 (fC (lF n)) S5 (lP P5) [] := ⟨Nat.le_refl _, s202, by decide, by rw [lP_s rfl rfl]; exact p5202, Nat.le_refl _, Or.inl rfl, by decide, Or.inl ⟨rfl, rfl⟩, [], rfl, fun i y r hi => by rw [List.getElem?_nil] at hi; cases hi⟩
    have lo0 : ∀ h, h < 100 → h ≠ 51 → (fC (lF n) h).1 = 0 := fun h a b => by
      by_cases c : h < 51
      · show ((if h < 51 then ((0, 0) : Nat × Nat) else lF n h)).1 = 0
        rw [if_pos c]
      · rw [fC_hi (by omega), lF_o (by omega) (by omega) b (zfs_lo a)]
    refine ⟨lF n, S5, _, lP P5, 2000, rfl, kk, ⟨[], 1300, 0, ⟨?_, lWI.1, Or.inl s100, ⟨G.I, (fun i r hi => by rw [List.getElem?_nil] at hi; cases hi), fun p hp => Or.inl ?_⟩, ?_, ⟨117, Or.inl rfl, by rw [lP_s rfl rfl]; exact g1, by rw [lP_s rfl rfl]; exact g2⟩, ⟨121, Or.inl rfl, by rw [lP_s rfl rfl]; exact g3, by rw [lP_s rfl rfl]; exact g4⟩, ⟨125, Or.inl rfl, by rw [lP_s rfl rfl]; exact g5, by rw [lP_s rfl rfl]; exact g6⟩⟩, G, ⟨⟨Nat.le_refl _, fun h hh => ?_⟩, lo0, rfl⟩, ⟨by rw [s101]; rfl, fun k hk => absurd hk (Nat.not_lt_zero _)⟩, by rw [s101]; rfl, Or.inl ⟨rfl, by rw [lP_s rfl rfl]; exact p5100⟩⟩, ?_⟩
    · refine ⟨⟨?_, ?_, ?_, ?_, ?_⟩, ?_, ?_, ?_, ?_, fun i k hi hk => ?_⟩
      · rw [s200]; rfl
      · rw [s200]; rfl
      · rw [s200]; rfl
      · rw [s200]; rfl
      · rw [s200]; rfl
      · rw [s200]; rfl
      · exact s202
      · exact s203.1
      · exact s203.2
      · show S5 (210 + i) k = mw0 (12 * i + k)
        rw [srow i k hi, hm]
        by_cases c : k < 2
        · rw [if_pos c, if_pos (by omega)]
        · rw [if_neg c, if_neg (by omega), if_neg (by omega), if_neg (by omega)]
    · rcases (show p = 0 ∨ p = 1 by omega) with z | z <;> subst z
      · exact s203.1
      · exact s203.2
    · rw [ecx, show nwW lx0.1 = fun _ => 0 from mw0_nw]
      refine ⟨⟨rfl, rfl, rfl, rfl, fun _ => rfl, fun _ => rfl, rfl, rfl, rfl⟩, ?_, fun _ => (by decide : (-50 : Int) ≤ 0 ∧ (0 : Int) ≤ 50)⟩
      unfold scV pV hV
      decide
    · rw [fC_hi (by omega), lF_o (by omega) (by omega) (by omega) (zfs_hi hh)]
    · have z1 : S5 1 = mw0 := funext fun k => by rw [S5o 1 (by decide)]; exact d4 k
      have zi : ∀ i, 2 ≤ i → i ≤ 17 → S5 i = fun _ => 0 := fun i a b => funext fun k => by rw [S5o i (by omega)]; exact (d5 i k a b).1
      have zz0 : ∀ k, S5 0 k = if k = 10 then -1 else 0 := fun k => by rw [S5o 0 (by decide), d6 k]; rfl
      refine ⟨⟨z1, zi 2 (by decide) (by decide), zi 4 (by decide) (by decide)⟩, ⟨by rw [zz0]; rfl, by rw [zz0]; rfl, by rw [zz0]; rfl⟩, ⟨fun k => ?_, by rw [zz0]; exact Or.inl rfl, by rw [zz0]; exact Or.inl rfl⟩, by rw [zi 6 (by decide) (by decide)]; exact ⟨fun _ => (by decide : (-50 : Int) ≤ 0 ∧ (0 : Int) ≤ 50), fun _ _ => rfl⟩⟩
      unfold fcS
      rw [zi 5 (by decide) (by decide), zz0, zz0]
      show -100 ≤ (if k < 5 then (0 : Int) else if k = 5 then 0 else if k = 6 then 0 else 0) ∧ (if k < 5 then (0 : Int) else if k = 5 then 0 else if k = 6 then 0 else 0) ≤ 100
      simp
  have goal9 : zz_Jv Mi (zpL_law n sc) (zz_retP Q X 1076108 5861636) 23 [some (vr 1500), some (vr 100), some (vr 0), some (vr 51), some (vi 0), none, none, none] [] ((0, f5), S5, (zrw L4 51 (fun _ => 0)), P5) (220, 754838 + (1 : Int).toNat) := by
    refine zz_Jv.view (M := ((0, f5), S5, (zrw L4 51 (fun _ => 0)), P5)) (M' := ((0, lF n), S5, (zrw L4 51 (fun _ => 0)), lP P5)) (fun h => h) (fun h hl => ?_) (fun _ _ => rfl) (fun h hl h16 => ⟨rfl, rfl, fun k hk => ?_⟩) (fun hcl => ?_) (fun _ _ _ _ _ => rfl) (fun _ _ e => e) (fun h hh => ?_) (fun v hv => ?_) (fun v hv => ?_) (law_loop hMi hn hsc hQ 64 0 lx0 _ 220 (754838 + (1 : Int).toNat) (by omega) (Nat.zero_le _) hI lAI (by decide) (by decide))
    · exact hf h hl
    · have hk : mm_rel (lF n h) k := hk
      have hl : (lF n h).1 ≠ 0 := hl
      have h16 : (lF n h).1 < 16 := h16
      show (lP P5 h k).map (fun h => h) = P5 h k
      rw [Option.map_id']
      by_cases a1 : h < 18
      · rw [lP_m a1]
        rw [show lF n h = mS h from if_pos a1] at hk
        by_cases a0 : h = 0
        · subst a0
          rcases hk with ⟨-, c, hc, k1, k2⟩ | ⟨c, -⟩
          · cases hc
            rw [P5o 0 (by decide)]
            exact (d7 k k1 k2).symm
          · exact absurd c (by decide)
        · have := (by decide +kernel : ∀ i : Fin 18, i.val ≠ 0 → (mS i.val).1 = 2 ∨ (mS i.val).1 = 3) ⟨h, a1⟩ a0
          rcases hk with ⟨c, -⟩ | ⟨c, -⟩
          · have this : (mS h).1 = 2 ∨ (mS h).1 = 3 := this
            omega
          · have this : (mS h).1 = 2 ∨ (mS h).1 = 3 := this
            omega
      · by_cases a2 : h = 1500
        · subst a2
          exact absurd (show (32 : Nat) < 16 from h16) (by decide)
        · by_cases a3 : h = 51
          · subst a3
            rcases hk with ⟨c, -⟩ | ⟨c, -⟩
            · exact absurd (show (3 : Nat) = 1 from c) (by decide)
            · exact absurd (show (3 : Nat) = 6 ∨ (3 : Nat) = 7 ∨ (3 : Nat) = 8 from c) (by decide)
          · cases z : zfs 2 h with
            | false => rw [lF_o (by omega) a2 a3 z] at hl; exact absurd rfl hl
            | true =>
              rw [lF_x z] at hk h16
              cases q : zfx 2 h k with
              | true => rw [lP_x q]; exact lrel cm5 w5 q hk h16
              | false => exact lP_s z q
    · intro h k b hl hb
      have hl : (lF n h).1 ≠ 0 := hl
      have hb : (mm_me (eM ((0, lF n), S5, (zrw L4 51 (fun _ => 0)), lP P5)) (lF n h).1).2.2.2 h k = some b := hb
      show (lF n b).1 ≠ 0
      by_cases c16 : (lF n h).1 < 16
      · rw [mm_me_lo c16] at hb
        have hb : lP P5 h k = some b := hb
        by_cases a1 : h < 18
        · rw [lP_m a1] at hb
          have := mP_r hb
          rw [show lF n b = mS b from if_pos this]
          exact (mS_c.1 b this).1
        · exact lF_l (lP_c cm5 p5100 p5202 (by omega) hb)
      · rw [mm_me_hi c16] at hb
        have hb : mm_kP h k = some b := hb
        by_cases c15 : h = 1500
        · subst c15
          have hb : (none : Option Nat) = some b := hb
          cases hb
        obtain ⟨z1, z2⟩ := (kk.2.2.2.2.2.1 h c16).resolve_left c15
        have e := (kk.2.2.2.1 h (zfs_c z1 z2).1).trans (cS_c z1)
        rw [e] at hl
        obtain ⟨y1, y2, y3⟩ := kP_b hl z1 hb
        rw [kk.2.2.2.1 b (zfs_c y1 y2).1, cS_c y1]
        exact y3
    · have e : lF n h = f5 h := by
        rcases hMi h hh with z | ⟨z1, z2⟩
        · subst z
          exact hf 1500 (by show (32 : Nat) ≠ 0; decide)
        · by_cases l : (lF n h).1 = 0
          · have e1 := (kk.2.2.2.1 h (zfs_c z1 z2).1).trans (cS_c z1)
            rw [e1, f5o h (by omega), f4o h (by omega), f2o h (by omega)]
            show mm_cS h = if h = 1500 then (32, n) else if 1000 ≤ h then mm_cS h else (0, 0)
            rw [if_neg (by omega), if_pos z1]
          · exact hf h l
      exact ⟨e, rfl⟩
    · exact absurd hv List.not_mem_nil
    · have ex : ∀ w : Nat, (w = 1500 ∨ w = 100 ∨ w = 0 ∨ w = 51) → mm_vk (eM ((0, lF n), S5, (zrw L4 51 (fun _ => 0)), lP P5)) (ev (vr w)) ∧ mm_v (fun h => h) (ev (vr w)) = ev (vr w) := fun w hw => by
        refine ⟨fun b e => ?_, rfl⟩
        have e : Value.ref w = Value.ref b := e
        cases e
        show (lF n w).1 ≠ 0
        rcases hw with z | z | z | z <;> subst z
        · show (32 : Nat) ≠ 0; decide
        · rw [lF_x rfl]; decide
        · show (mS 0).1 ≠ 0; decide
        · show (3 : Nat) ≠ 0; decide
      simp only [List.mem_cons, List.not_mem_nil, or_false, Option.some.injEq, reduceCtorEq] at hv
      rcases hv with z | z | z | z | z <;> subst z
      · exact ex 1500 (by omega)
      · exact ex 100 (by omega)
      · exact ex 0 (by omega)
      · exact ex 51 (by omega)
      · exact ⟨vk_i _ 0, rfl⟩
  rw [← hf5, ← hS5, ← hP5] at goal9
  exact goal9
