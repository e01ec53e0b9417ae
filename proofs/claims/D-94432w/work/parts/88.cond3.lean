/-! ===== the trees of rules: conditions, by their depth ===== -/
set_option maxRecDepth 100000
/-- what a leaf says -/
def leT (lo hi : Nat) (f : Nat → Nat × Nat) (S : Nat → Nat → Int) (P : Nat → Nat → Option Nat) (h : Nat) (c : Fc → Bool) : Prop := inR lo hi h ∧ ((f h = (1, 13) ∧ ((S h 0 = 1 ∧ c = fun F => decide (F 5 = 1)) ∨ (S h 0 = 0 ∧ c = fun F => decide (F 6 = 1)))) ∨ (f h = (1, 16) ∧ ∃ (a b : Nat) (g k : Fc → Int), P h 0 = some a ∧ P h 1 = some b ∧ SuT lo hi f S P a g ∧ SuT lo hi f S P b k ∧ (∀ F, bF F → R32 (g F) ∧ R32 (k F)) ∧ c = fun F => decide (g F < k F)))
/-- a Not over C -/
def noT (C : Nat → (Fc → Bool) → Prop) (lo hi : Nat) (f : Nat → Nat × Nat) (P : Nat → Nat → Option Nat) (h : Nat) (c : Fc → Bool) : Prop := inR lo hi h ∧ f h = (1, 12) ∧ ∃ (a : Nat) (g : Fc → Bool), P h 0 = some a ∧ C a g ∧ c = fun F => !g F
def alB (all : Bool) (cs : List (Fc → Bool)) (F : Fc) : Bool := bif all then cs.all (fun c => c F) else cs.any (fun c => c F)
/-- a Row over C -/
def roT (C : Nat → (Fc → Bool) → Prop) (lo hi : Nat) (f : Nat → Nat × Nat) (S : Nat → Nat → Int) (P : Nat → Nat → Option Nat) (h : Nat) (c : Fc → Bool) : Prop := inR lo hi h ∧ f h = (1, 11) ∧ ∃ (all : Bool) (a : Nat) (l : List Nat) (cs : List (Fc → Bool)), S h 0 = (bif all then 1 else 0) ∧ P h 1 = some a ∧ ALT lo hi f S P a l ∧ l.length = cs.length ∧ (∀ (i x : Nat) (g : Fc → Bool), l[i]? = some x → cs[i]? = some g → C x g) ∧ c = alB all cs
/-- a condition, so deep at most -/
def coT (lo hi : Nat) (f : Nat → Nat × Nat) (S : Nat → Nat → Int) (P : Nat → Nat → Option Nat) : Nat → Nat → (Fc → Bool) → Prop
  | 0, h, c => leT lo hi f S P h c
  | n + 1, h, c => leT lo hi f S P h c ∨ noT (coT lo hi f S P n) lo hi f P h c ∨ roT (coT lo hi f S P n) lo hi f S P h c
theorem leT.mo {lo hi lo' hi' : Nat} {f : Nat → Nat × Nat} {S : Nat → Nat → Int} {P : Nat → Nat → Option Nat} {h : Nat} {c : Fc → Bool} (q : leT lo hi f S P h c) (a : 2000 ≤ lo') (b : lo' ≤ lo) (d : hi ≤ hi') : leT lo' hi' f S P h c := by
  obtain ⟨q1, q2⟩ := q
  refine ⟨q1.mo a b d, q2.imp id ?_⟩
  rintro ⟨q3, x, y, g, k, q4, q5, q6, q7, q8⟩
  exact ⟨q3, x, y, g, k, q4, q5, q6.mo a b d, q7.mo a b d, q8⟩
theorem leT.fr {lo hi : Nat} {f f' : Nat → Nat × Nat} {S S' : Nat → Nat → Int} {P P' : Nat → Nat → Option Nat} {h : Nat} {c : Fc → Bool} (q : leT lo hi f S P h c) (a : agR lo hi f S P f' S' P') : leT lo hi f' S' P' h c := by
  obtain ⟨q1, q2⟩ := q
  obtain ⟨a1, a2, a3⟩ := a h q1.2.1 q1.2.2
  refine ⟨q1, ?_⟩
  rw [a1, a2, a3]
  refine q2.imp id ?_
  rintro ⟨q3, x, y, g, k, q4, q5, q6, q7, q8⟩
  exact ⟨q3, x, y, g, k, q4, q5, q6.fr a, q7.fr a, q8⟩
theorem coT.mo {lo hi lo' hi' : Nat} {f : Nat → Nat × Nat} {S : Nat → Nat → Int} {P : Nat → Nat → Option Nat} (a : 2000 ≤ lo') (b : lo' ≤ lo) (d : hi ≤ hi') : ∀ {n h : Nat} {c : Fc → Bool}, coT lo hi f S P n h c → coT lo' hi' f S P n h c
  | 0, _, _, q => leT.mo q a b d
  | n + 1, h, c, q => by
    rcases q with q | ⟨q1, q2, x, g, q3, q4, q5⟩ | ⟨q1, q2, al, x, l, cs, q3, q4, q5, q6, q7, q8⟩
    · exact Or.inl (leT.mo q a b d)
    · exact Or.inr (Or.inl ⟨q1.mo a b d, q2, x, g, q3, coT.mo a b d q4, q5⟩)
    · exact Or.inr (Or.inr ⟨q1.mo a b d, q2, al, x, l, cs, q3, q4, q5.mo a b d, q6, fun i x g h1 h2 => coT.mo a b d (q7 i x g h1 h2), q8⟩)
theorem coT.fr {lo hi : Nat} {f f' : Nat → Nat × Nat} {S S' : Nat → Nat → Int} {P P' : Nat → Nat → Option Nat} (a : agR lo hi f S P f' S' P') : ∀ {n h : Nat} {c : Fc → Bool}, coT lo hi f S P n h c → coT lo hi f' S' P' n h c
  | 0, _, _, q => leT.fr q a
  | n + 1, h, c, q => by
    rcases q with q | ⟨q1, q2, x, g, q3, q4, q5⟩ | ⟨q1, q2, al, x, l, cs, q3, q4, q5, q6, q7, q8⟩
    · exact Or.inl (leT.fr q a)
    · obtain ⟨a1, a2, a3⟩ := a h q1.2.1 q1.2.2
      exact Or.inr (Or.inl ⟨q1, by rw [a1]; exact q2, x, g, by rw [a3]; exact q3, coT.fr a q4, q5⟩)
    · obtain ⟨a1, a2, a3⟩ := a h q1.2.1 q1.2.2
      exact Or.inr (Or.inr ⟨q1, by rw [a1]; exact q2, al, x, l, cs, by rw [a2]; exact q3, by rw [a3]; exact q4, q5.fr a, q6, fun i x g h1 h2 => coT.fr a (q7 i x g h1 h2), q8⟩)
theorem coT.up {lo hi : Nat} {f : Nat → Nat × Nat} {S : Nat → Nat → Int} {P : Nat → Nat → Option Nat} : ∀ {n h : Nat} {c : Fc → Bool}, coT lo hi f S P n h c → coT lo hi f S P (n + 1) h c
  | 0, _, _, q => Or.inl q
  | n + 1, h, c, q => by
    rcases q with q | ⟨q1, q2, x, g, q3, q4, q5⟩ | ⟨q1, q2, al, x, l, cs, q3, q4, q5, q6, q7, q8⟩
    · exact Or.inl q
    · exact Or.inr (Or.inl ⟨q1, q2, x, g, q3, coT.up q4, q5⟩)
    · exact Or.inr (Or.inr ⟨q1, q2, al, x, l, cs, q3, q4, q5, q6, fun i x g h1 h2 => coT.up (q7 i x g h1 h2), q8⟩)
theorem coT.le {lo hi : Nat} {f : Nat → Nat × Nat} {S : Nat → Nat → Int} {P : Nat → Nat → Option Nat} {n m h : Nat} {c : Fc → Bool} (q : coT lo hi f S P n h c) (e : n ≤ m) : coT lo hi f S P m h c := by
  obtain ⟨d, rfl⟩ : ∃ d, m = n + d := ⟨m - n, by omega⟩
  clear e
  induction d with
  | zero => exact q
  | succ d ih => exact ih.up
theorem bF_fcX {x : Nat → Int} {p : Nat} (hV : scV x) (hg : (-100 ≤ x 7 ∧ x 7 ≤ 100) ∧ (-100 ≤ x 8 ∧ x 8 ≤ 100)) (hp : p < 2) : bF (fcX x p) := by
  obtain ⟨h1, h2, h3⟩ := hV
  unfold pV at h1
  unfold hV at h3
  intro k
  unfold fcX
  have p2 : p = 0 ∨ p = 1 := by omega
  rcases p2 with e | e <;> subst e <;> grind
/-- the scene is a player's at a score, whose games are small -/
def sciB (S : Nat → Nat → Int) (P : Nat → Nat → Option Nat) (q p : Nat) : Prop := scnI S P q p ∧ (-100 ≤ cx S q 7 ∧ cx S q 7 ≤ 100) ∧ (-100 ≤ cx S q 8 ∧ cx S q 8 ≤ 100)
theorem le_or {lo hi : Nat} {f : Nat → Nat × Nat} {S L : Nat → Nat → Int} {P : Nat → Nat → Option Nat} {h q p : Nat} {c : Fc → Bool} {A B : Prop} (hc : leT lo hi f S P h c) (hs : sciB S P q p) (ha : c (fcX (cx S q) p) = true → A) (hb : c (fcX (cx S q) p) = false → B) :
    ((zsh ((2, f), S, L, P) h = (1, 13) ∨ zsh ((2, f), S, L, P) h = (17, 13)) ∧ (0 + 0 ≤ 0 ∧ 0 + 0 ≤ 0) ∧ (∃ q_ p_ : Nat, (2000 ≤ h ∧ f h = (1, 13) ∧ (S h 0 = 0 ∨ S h 0 = 1)) ∧ scnI S P q_ p_ ∧ ((if S h 0 = 1 then cx S q_ 2 = (p_ : Int) else cx S q_ 6 = 1) → A) ∧ (¬ (if S h 0 = 1 then cx S q_ 2 = (p_ : Int) else cx S q_ 6 = 1) → B))) ∨
    ((zsh ((2, f), S, L, P) h = (1, 16) ∨ zsh ((2, f), S, L, P) h = (17, 16)) ∧ (0 + 0 ≤ 0 ∧ 0 + 0 ≤ 0) ∧ (∃ (g_ k_ : Fc → Int) (q_ p_ a_ b_ lo_ hi_ : Nat), (2000 ≤ h ∧ f h = (1, 16) ∧ P h 0 = some a_ ∧ P h 1 = some b_) ∧ SuT lo_ hi_ f S P a_ g_ ∧ SuT lo_ hi_ f S P b_ k_ ∧ scnI S P q_ p_ ∧ R32 (g_ (fcX (cx S q_) p_)) ∧ R32 (k_ (fcX (cx S q_) p_)) ∧ (g_ (fcX (cx S q_) p_) < k_ (fcX (cx S q_) p_) → A) ∧ (¬ g_ (fcX (cx S q_) p_) < k_ (fcX (cx S q_) p_) → B))) := by
  obtain ⟨q1, q2⟩ := hc
  have h2 := q1.le
  rcases q2 with ⟨q3, q4⟩ | ⟨q3, a, b, g, k, q4, q5, q6, q7, q8, rfl⟩
  · refine Or.inl ⟨Or.inl ((zsh_hi h2).trans q3), ⟨Nat.le_refl _, Nat.le_refl _⟩, q, p, ⟨h2, q3, by omega⟩, hs.1, ?_⟩
    rcases q4 with ⟨e, rfl⟩ | ⟨e, rfl⟩
    · have e5 : fcX (cx S q) p 5 = if cx S q 2 = (p : Int) then 1 else 0 := rfl
      rw [if_pos e]
      refine ⟨fun c => ha (decide_eq_true ?_), fun c => hb (decide_eq_false ?_)⟩
      · rw [e5, if_pos c]
      · rw [e5, if_neg c]; decide
    · have e6 : fcX (cx S q) p 6 = if cx S q 6 = 1 then 1 else 0 := rfl
      rw [if_neg (by omega)]
      refine ⟨fun c => ha (decide_eq_true ?_), fun c => hb (decide_eq_false ?_)⟩
      · rw [e6, if_pos c]
      · rw [e6, if_neg c]; decide
  · obtain ⟨r1, r2⟩ := q8 _ (bF_fcX hs.1.2.2.2.2 hs.2 hs.1.2.2.2.1)
    exact Or.inr ⟨Or.inl ((zsh_hi h2).trans q3), ⟨Nat.le_refl _, Nat.le_refl _⟩, g, k, q, p, a, b, lo, hi, ⟨h2, q3, q4, q5⟩, q6, q7, hs.1, r1, r2, fun c => ha (decide_eq_true c), fun c => hb (decide_eq_false c)⟩
theorem alB_t {all : Bool} {cs : List (Fc → Bool)} {F : Fc} {i : Nat} {g : Fc → Bool} (hg : cs[i]? = some g) (hn : g F ≠ all) : alB all cs F = !all := by
  have hm := List.mem_of_getElem? hg
  unfold alB
  cases all with
  | true =>
    have e : g F = false := by cases q : g F <;> simp_all
    show (cs.all fun c => c F) = false
    rw [List.all_eq_false]
    exact ⟨g, hm, by rw [e]; decide⟩
  | false =>
    have e : g F = true := by cases q : g F <;> simp_all
    show (cs.any fun c => c F) = true
    rw [List.any_eq_true]
    exact ⟨g, hm, e⟩
theorem alB_a {all : Bool} {cs : List (Fc → Bool)} {F : Fc} (h : ∀ (i : Nat) (g : Fc → Bool), cs[i]? = some g → g F = all) : alB all cs F = all := by
  have h2 : ∀ g ∈ cs, g F = all := fun g hg => by
    obtain ⟨i, hi⟩ := List.getElem?_of_mem hg
    exact h i g hi
  unfold alB
  cases all with
  | true =>
    show (cs.all fun c => c F) = true
    rw [List.all_eq_true]
    exact h2
  | false =>
    show (cs.any fun c => c F) = false
    rw [List.any_eq_false]
    intro g hg
    rw [h2 g hg]
    decide
theorem coT_sh {lo hi : Nat} {f : Nat → Nat × Nat} {S L : Nat → Nat → Int} {P : Nat → Nat → Option Nat} {n h : Nat} {c : Fc → Bool} (q : coT lo hi f S P n h c) : ∃ ci : Nat, (zsh ((2, f), S, L, P) h = (1, ci) ∨ zsh ((2, f), S, L, P) h = (17, ci)) ∧ mm_mem [11, 12, 13, 16] ci = true := by
  have le : leT lo hi f S P h c → ∃ ci : Nat, (zsh ((2, f), S, L, P) h = (1, ci) ∨ zsh ((2, f), S, L, P) h = (17, ci)) ∧ mm_mem [11, 12, 13, 16] ci = true := by
    rintro ⟨q1, q2⟩
    rcases q2 with ⟨q3, -⟩ | ⟨q3, -⟩
    · exact ⟨13, Or.inl ((zsh_hi q1.le).trans q3), rfl⟩
    · exact ⟨16, Or.inl ((zsh_hi q1.le).trans q3), rfl⟩
  cases n with
  | zero => exact le q
  | succ n =>
    rcases q with q | ⟨q1, q2, -⟩ | ⟨q1, q2, -⟩
    · exact le q
    · exact ⟨12, Or.inl ((zsh_hi q1.le).trans q2), rfl⟩
    · exact ⟨11, Or.inl ((zsh_hi q1.le).trans q2), rfl⟩
theorem co_or {n lo hi : Nat} {f : Nat → Nat × Nat} {S L : Nat → Nat → Int} {P : Nat → Nat → Option Nat} {h q p : Nat} {c : Fc → Bool} {A B : Prop} (hc : coT lo hi f S P (n + 1) h c) (hs : sciB S P q p) (ha : c (fcX (cx S q) p) = true → A) (hb : c (fcX (cx S q) p) = false → B) :
    ((zsh ((2, f), S, L, P) h = (1, 11) ∨ zsh ((2, f), S, L, P) h = (17, 11)) ∧ (0 + 0 ≤ 0 ∧ 0 + 0 ≤ 0) ∧ (∃ (c_ : Fc → Bool) (q_ p_ lo_ hi_ : Nat), roT (coT lo_ hi_ f S P n) lo_ hi_ f S P h c_ ∧ sciB S P q_ p_ ∧ (c_ (fcX (cx S q_) p_) = true → A) ∧ (c_ (fcX (cx S q_) p_) = false → B))) ∨
    ((zsh ((2, f), S, L, P) h = (1, 12) ∨ zsh ((2, f), S, L, P) h = (17, 12)) ∧ (0 + 0 ≤ 0 ∧ 0 + 0 ≤ 0) ∧ (∃ (c_ : Fc → Bool) (q_ p_ lo_ hi_ : Nat), noT (coT lo_ hi_ f S P n) lo_ hi_ f P h c_ ∧ sciB S P q_ p_ ∧ (c_ (fcX (cx S q_) p_) = true → A) ∧ (c_ (fcX (cx S q_) p_) = false → B))) ∨
    ((zsh ((2, f), S, L, P) h = (1, 13) ∨ zsh ((2, f), S, L, P) h = (17, 13)) ∧ (0 + 0 ≤ 0 ∧ 0 + 0 ≤ 0) ∧ (∃ q_ p_ : Nat, (2000 ≤ h ∧ f h = (1, 13) ∧ (S h 0 = 0 ∨ S h 0 = 1)) ∧ scnI S P q_ p_ ∧ ((if S h 0 = 1 then cx S q_ 2 = (p_ : Int) else cx S q_ 6 = 1) → A) ∧ (¬ (if S h 0 = 1 then cx S q_ 2 = (p_ : Int) else cx S q_ 6 = 1) → B))) ∨
    ((zsh ((2, f), S, L, P) h = (1, 16) ∨ zsh ((2, f), S, L, P) h = (17, 16)) ∧ (0 + 0 ≤ 0 ∧ 0 + 0 ≤ 0) ∧ (∃ (g_ k_ : Fc → Int) (q_ p_ a_ b_ lo_ hi_ : Nat), (2000 ≤ h ∧ f h = (1, 16) ∧ P h 0 = some a_ ∧ P h 1 = some b_) ∧ SuT lo_ hi_ f S P a_ g_ ∧ SuT lo_ hi_ f S P b_ k_ ∧ scnI S P q_ p_ ∧ R32 (g_ (fcX (cx S q_) p_)) ∧ R32 (k_ (fcX (cx S q_) p_)) ∧ (g_ (fcX (cx S q_) p_) < k_ (fcX (cx S q_) p_) → A) ∧ (¬ g_ (fcX (cx S q_) p_) < k_ (fcX (cx S q_) p_) → B))) := by
  rcases hc with hc | hc | hc
  · exact Or.inr (Or.inr (le_or hc hs ha hb))
  · exact Or.inr (Or.inl ⟨Or.inl ((zsh_hi hc.1.le).trans hc.2.1), ⟨Nat.le_refl _, Nat.le_refl _⟩, c, q, p, lo, hi, hc, hs, ha, hb⟩)
  · exact Or.inl ⟨Or.inl ((zsh_hi hc.1.le).trans hc.2.1), ⟨Nat.le_refl _, Nat.le_refl _⟩, c, q, p, lo, hi, hc, hs, ha, hb⟩
def zX14_holds_1 : zz_Sp := fun as M Q X => match as with
  | [.inr (.inr (some h_)), .inr (.inr (some s))] => bif Nat.beq M.1.1 2 && Nat.beq s 103 then (∃ (c_ : Fc → Bool) (q_ p_ lo_ hi_ : Nat), noT (coT lo_ hi_ M.1.2 M.2.1 M.2.2.2 0) lo_ hi_ M.1.2 M.2.2.2 h_ c_ ∧ sciB M.2.1 M.2.2.2 q_ p_ ∧ (c_ (fcX (cx M.2.1 q_) p_) = true → Q (some (vi 1)) ((2, M.1.2), M.2.1, M.2.2.1, M.2.2.2)) ∧ (c_ (fcX (cx M.2.1 q_) p_) = false → Q (some (vi 0)) ((2, M.1.2), M.2.1, M.2.2.1, M.2.2.2))) else False
  | _ => False

def zpX14_holds_1 : zz_P := [(0, zo_ald 1 0), (1, zo_getq 4 12 0), (4, zo_ald 5 1), (5, zo_or (zo_cfF (mm_rm 6 0 0) 10 2 13 0 0 zX15_holds) (zo_cfF (mm_rm 6 0 0) 10 2 16 0 0 zX19_holds)), (10, zo_zifne 13 17), (13, zo_c 14 (vi 1)), (14, zo_goto 18), (17, zo_c 18 (vi 0)), (18, zo_zret true)]
theorem ztX14_holds_1 {C : mm_C} (G : mm_G C RX14 cX14_holds (some .boolean) 2 (mm_rm 6 0 0)) (hnh : mm_nh C) : zz_OKs C zpX14_holds_1 :=
  ⟨zz_of (ok_aload_n G dX14_holds_0 rfl rfl) (z_ald _ _),
   zz_of (ok_get G (nx := 4) (ci := 12) (kd := 2) (k := 0) (RX14, TX14, 1) rfl (by decide) rfl q1187 dX14_holds_1 rfl) (z_getq _ _ _),
   zz_of (ok_aload_n G dX14_holds_4 rfl rfl) (z_ald _ _),
   zz_or (zz_of (ok_calfF G (hnh.q 5) (zmX15_holds _ G.hst) (RX15, TX15, 1) rfl q1452 q1411 q1409 q116 q1413 (List.Mem.tail _ (List.Mem.tail _ (List.Mem.head _))) (by decide +kernel) ⟨Nat.le_of_ble_eq_true rfl, Nat.le_of_ble_eq_true rfl⟩ dX14_holds_5 rfl) (z_cfF _ _ _ _ _ _ _)) (zz_of (ok_calfF G (hnh.q 5) (zmX19_holds _ G.hst) (RX19, TX19, 2) rfl q1452 q1421 q1419 q121 q1423 (List.Mem.tail _ (List.Mem.tail _ (List.Mem.tail _ (List.Mem.head _)))) (by decide +kernel) ⟨Nat.le_of_ble_eq_true rfl, Nat.le_of_ble_eq_true rfl⟩ dX14_holds_5 rfl) (z_cfF _ _ _ _ _ _ _)),
   zz_of (ok_ifne G dX14_holds_10 rfl rfl) (z_zifne _ _),
   zz_of (ok_iconst G (v := 1) dX14_holds_13 (by decide) rfl) (z_cn 14 1),
   zz_of (ok_goto G dX14_holds_14 rfl) (z_goto _),
   zz_of (ok_iconst G (v := 0) dX14_holds_17 (by decide) rfl) (z_cn 18 0),
   zz_of (ok_zret G dX14_holds_18) (z_zret _), trivial⟩

theorem zwX14_holds_1_0 {Q : Option zv → zz_M → Prop} {X : Nat → zz_M → Prop} {f : Nat → Nat × Nat} {S L : Nat → Nat → Int} {P : Nat → Nat → Option Nat} {h_ : Nat} (h : zsh ((2, f), S, L, P) h_ = (1, 12) ∧ (∀ b1 : Nat, zpt ((2, f), S, L, P) h_ 0 = some b1 → ((zsh ((2, f), S, L, P) b1 = (1, 13) ∨ zsh ((2, f), S, L, P) b1 = (17, 13)) ∧ (0 + 0 ≤ 0 ∧ 0 + 0 ≤ 0) ∧ (∃ q_2 p_2 : Nat, (2000 ≤ b1 ∧ f b1 = (1, 13) ∧ (S b1 0 = 0 ∨ S b1 0 = 1)) ∧ scnI S P q_2 p_2 ∧ ((if S b1 0 = 1 then cx S q_2 2 = (p_2 : Int) else cx S q_2 6 = 1) → (Q (some (vi 0)) ((2, f), S, L, P))) ∧ (¬ (if S b1 0 = 1 then cx S q_2 2 = (p_2 : Int) else cx S q_2 6 = 1) → (Q (some (vi 1)) ((2, f), S, L, P))))) ∨ ((zsh ((2, f), S, L, P) b1 = (1, 16) ∨ zsh ((2, f), S, L, P) b1 = (17, 16)) ∧ (0 + 0 ≤ 0 ∧ 0 + 0 ≤ 0) ∧ (∃ (g_3 k_3 : Fc → Int) (q_3 p_3 a_3 b_3 lo_3 hi_3 : Nat), (2000 ≤ b1 ∧ f b1 = (1, 16) ∧ P b1 0 = some a_3 ∧ P b1 1 = some b_3) ∧ SuT lo_3 hi_3 f S P a_3 g_3 ∧ SuT lo_3 hi_3 f S P b_3 k_3 ∧ scnI S P q_3 p_3 ∧ R32 (g_3 (fcX (cx S q_3) p_3)) ∧ R32 (k_3 (fcX (cx S q_3) p_3)) ∧ (g_3 (fcX (cx S q_3) p_3) < k_3 (fcX (cx S q_3) p_3) → (Q (some (vi 0)) ((2, f), S, L, P))) ∧ (¬ g_3 (fcX (cx S q_3) p_3) < k_3 (fcX (cx S q_3) p_3) → (Q (some (vi 1)) ((2, f), S, L, P)))))) ∧ (zpt ((2, f), S, L, P) h_ 0 = none → (False ∧ (0 + 0 ≤ 0 ∧ 0 + 0 ≤ 0) ∧ False) ∨ (False ∧ (0 + 0 ≤ 0 ∧ 0 + 0 ≤ 0) ∧ False))) : zz_J zpX14_holds_1 (zz_ret Q X 0 0) 0 [some (vr h_), some (vr 103)] [] ((2, f), S, L, P) (0, 0) := zz_J.go [] 400 h

def zX13_holds_1 : zz_Sp := fun as M Q X => match as with
  | [.inr (.inr (some h_)), .inr (.inr (some s))] => bif Nat.beq M.1.1 2 && Nat.beq s 103 then (∃ (c_ : Fc → Bool) (q_ p_ lo_ hi_ : Nat), roT (coT lo_ hi_ M.1.2 M.2.1 M.2.2.2 0) lo_ hi_ M.1.2 M.2.1 M.2.2.2 h_ c_ ∧ sciB M.2.1 M.2.2.2 q_ p_ ∧ (c_ (fcX (cx M.2.1 q_) p_) = true → Q (some (vi 1)) ((2, M.1.2), M.2.1, M.2.2.1, M.2.2.2)) ∧ (c_ (fcX (cx M.2.1 q_) p_) = false → Q (some (vi 0)) ((2, M.1.2), M.2.1, M.2.2.1, M.2.2.2))) else False
  | _ => False

def zpX13_holds_1 : zz_P := [(0, zo_c 1 (vi 0)), (1, zo_ist 2 2), (2, zo_ild 3 2), (3, zo_ald 4 0), (4, zo_getq 7 11 1), (7, zo_callvp 10 1 17 zJ2_sizeh), (10, zo_cge false false 13 56), (13, zo_ald 14 0), (14, zo_getq 17 11 1), (17, zo_ild 18 2), (18, zo_callvp 21 2 17 zJ2_get), (21, zo_cast 24 [11, 12, 13, 16]), (24, zo_ald 25 1), (25, zo_or (zo_cfF (mm_rm 6 0 0) 30 2 13 0 0 zX15_holds) (zo_cfF (mm_rm 6 0 0) 30 2 16 0 0 zX19_holds)), (30, zo_ald 31 0), (31, zo_getp 34 11 0 0), (34, zo_ceq true false 37 50), (37, zo_ald 38 0), (38, zo_getp 41 11 0 0), (41, zo_ifne false 44 48), (44, zo_c 45 (vi 1)), (45, zo_goto 49), (48, zo_c 49 (vi 0)), (49, zo_zret true), (50, zo_inc 53 2 1), (53, zo_goto 2), (56, zo_ald 57 0), (57, zo_getp 60 11 0 0), (60, zo_zret false)]
theorem ztX13_holds_1 {C : mm_C} (G : mm_G C RX13 cX13_holds (some .boolean) 3 (mm_rm 6 0 0)) (hnh : mm_nh C) : zz_OKs C zpX13_holds_1 :=
  ⟨zz_of (ok_iconst G (v := 0) dX13_holds_0 (by decide) rfl) (z_cn 1 0),
   zz_of (ok_istore_n G dX13_holds_1 rfl rfl (by decide)) (z_ist _ _),
   zz_of (ok_iload_n G dX13_holds_2 rfl rfl) (z_ild _ _),
   zz_of (ok_aload_n G dX13_holds_3 rfl rfl) (z_ald _ _),
   zz_of (ok_get G (nx := 7) (ci := 11) (kd := 2) (k := 1) (RX13, TX13, 2) rfl (by decide) rfl q1157 dX13_holds_4 rfl) (z_getq _ _ _),
   zz_of (ok_callv G hnh (zmJ2_sizeh _ G.hst) rfl rfl (RJ2, TJ2, 3) rfl q1459 q592 q593 q86 q594 (by decide +kernel) ⟨by decide, by decide⟩ dX13_holds_7 rfl) (z_callvp _ _ _ _),
   zz_of (ok_cge G dX13_holds_10 rfl rfl) (z_cge _ _ _ _),
   zz_of (ok_aload_n G dX13_holds_13 rfl rfl) (z_ald _ _),
   zz_of (ok_get G (nx := 17) (ci := 11) (kd := 2) (k := 1) (RX13, TX13, 2) rfl (by decide) rfl q1157 dX13_holds_14 rfl) (z_getq _ _ _),
   zz_of (ok_iload_n G dX13_holds_17 rfl rfl) (z_ild _ _),
   zz_of (ok_callv G hnh (zmJ2_get _ G.hst) rfl rfl (RJ2, TJ2, 3) rfl q1460 q1382 q1383 q86 q1384 (by decide +kernel) ⟨by decide, by decide⟩ dX13_holds_18 rfl) (z_callvp _ _ _ _),
   zz_of (ok_cast G (l := [11, 12, 13, 16]) (fun ci h r e => by
      simp only [List.mem_cons, List.not_mem_nil, or_false] at h
      rcases h with rfl | rfl | rfl | rfl <;> cases e <;> first | exact Or.inl rfl | exact Or.inr q1453 | exact Or.inr q1445 | exact Or.inr q1408 | exact Or.inr q1418) q1461 dX13_holds_21 rfl) (z_cast _ _),
   zz_of (ok_aload_n G dX13_holds_24 rfl rfl) (z_ald _ _),
   zz_or (zz_of (ok_calfF G (hnh.q 25) (zmX15_holds _ G.hst) (RX15, TX15, 1) rfl q1463 q1411 q1409 q116 q1413 (List.Mem.tail _ (List.Mem.tail _ (List.Mem.head _))) (by decide +kernel) ⟨Nat.le_of_ble_eq_true rfl, Nat.le_of_ble_eq_true rfl⟩ dX13_holds_25 rfl) (z_cfF _ _ _ _ _ _ _)) (zz_of (ok_calfF G (hnh.q 25) (zmX19_holds _ G.hst) (RX19, TX19, 2) rfl q1463 q1421 q1419 q121 q1423 (List.Mem.tail _ (List.Mem.tail _ (List.Mem.tail _ (List.Mem.head _)))) (by decide +kernel) ⟨Nat.le_of_ble_eq_true rfl, Nat.le_of_ble_eq_true rfl⟩ dX13_holds_25 rfl) (z_cfF _ _ _ _ _ _ _)),
   zz_of (ok_aload_n G dX13_holds_30 rfl rfl) (z_ald _ _),
   zz_of (ok_get G (nx := 34) (ci := 11) (kd := 0) (k := 0) (RX13, TX13, 2) rfl (by decide) rfl q1156 dX13_holds_31 rfl) (z_getp _ _ _ _),
   zz_of (ok_ceq G dX13_holds_34 rfl rfl) (z_ceq _ _ _ _),
   zz_of (ok_aload_n G dX13_holds_37 rfl rfl) (z_ald _ _),
   zz_of (ok_get G (nx := 41) (ci := 11) (kd := 0) (k := 0) (RX13, TX13, 2) rfl (by decide) rfl q1156 dX13_holds_38 rfl) (z_getp _ _ _ _),
   zz_of (ok_ifne G dX13_holds_41 rfl rfl) (z_ifne _ _ _),
   zz_of (ok_iconst G (v := 1) dX13_holds_44 (by decide) rfl) (z_cn 45 1),
   zz_of (ok_goto G dX13_holds_45 rfl) (z_goto _),
   zz_of (ok_iconst G (v := 0) dX13_holds_48 (by decide) rfl) (z_cn 49 0),
   zz_of (ok_zret G dX13_holds_49) (z_zret _),
   zz_of (ok_iinc G (v := 1) dX13_holds_50 (by decide) rfl (by decide)) (z_incn 53 2 1),
   zz_of (ok_goto G dX13_holds_53 rfl) (z_goto _),
   zz_of (ok_aload_n G dX13_holds_56 rfl rfl) (z_ald _ _),
   zz_of (ok_get G (nx := 60) (ci := 11) (kd := 0) (k := 0) (RX13, TX13, 2) rfl (by decide) rfl q1156 dX13_holds_57 rfl) (z_getp _ _ _ _),
   zz_of (ok_zret G dX13_holds_60) (z_zret _), trivial⟩

theorem zwX13_holds_1_0 {Q : Option zv → zz_M → Prop} {X : Nat → zz_M → Prop} {f : Nat → Nat × Nat} {S L : Nat → Nat → Int} {P : Nat → Nat → Option Nat} {h_ : Nat} (h : zz_J zpX13_holds_1 (zz_ret Q X 0 0) 2 [some (vr h_), some (vr 103), some (vi 0)] [] ((2, f), S, L, P) (0, 0)) : zz_J zpX13_holds_1 (zz_ret Q X 0 0) 0 [some (vr h_), some (vr 103), none] [] ((2, f), S, L, P) (0, 0) := zz_J.go [(2, [])] 400 h
theorem zwX13_holds_1_2 {Q : Option zv → zz_M → Prop} {X : Nat → zz_M → Prop} {f : Nat → Nat × Nat} {S L : Nat → Nat → Int} {P : Nat → Nat → Option Nat} {h0 : Nat} {x2 : Int} (h : zsh ((2, f), S, L, P) h0 = (1, 11) ∧ (∀ b1 : Nat, zpt ((2, f), S, L, P) h0 1 = some b1 → (zsh ((2, f), S, L, P) b1 = (1, 17) ∨ zsh ((2, f), S, L, P) b1 = (17, 17)) ∧ (zsh ((2, f), S, L, P) b1 = (1, 17) ∧ (R32 x2 ∧ (R32 (((2, f), S, L, P).2.1 b1 2) ∧ (((((2, f), S, L, P).2.1 b1 2) ≤ x2 → zsh ((2, f), S, L, P) h0 = (1, 11) ∧ (((S h0 0) = 0 ∨ (S h0 0) = 1) ∧ (Q (some (vi (S h0 0))) ((2, f), S, L, P)))) ∧ (¬ (((2, f), S, L, P).2.1 b1 2) ≤ x2 → zsh ((2, f), S, L, P) h0 = (1, 11) ∧ (∀ b3 : Nat, zpt ((2, f), S, L, P) h0 1 = some b3 → (zsh ((2, f), S, L, P) b3 = (1, 17) ∨ zsh ((2, f), S, L, P) b3 = (17, 17)) ∧ (zsh ((2, f), S, L, P) b3 = (1, 17) ∧ ∃ (e_4 n_4 x_4 : Nat), zpt ((2, f), S, L, P) b3 1 = some e_4 ∧ zsh ((2, f), S, L, P) e_4 = (7, n_4) ∧ n_4 ≤ 2147483647 ∧ (0 ≤ x2 ∧ x2 < (n_4 : Int)) ∧ (x2 < ((2, f), S, L, P).2.1 b3 2 ∧ ((2, f), S, L, P).2.1 b3 2 < 2147483647) ∧ zpt ((2, f), S, L, P) e_4 x2.toNat = some x_4 ∧ ((∃ ci : Nat, (zsh ((2, f), S, L, P) x_4 = (1, ci) ∨ zsh ((2, f), S, L, P) x_4 = (17, ci)) ∧ mm_mem [11, 12, 13, 16] ci = true) ∧ (((zsh ((2, f), S, L, P) x_4 = (1, 13) ∨ zsh ((2, f), S, L, P) x_4 = (17, 13)) ∧ (0 + 0 ≤ 0 ∧ 0 + 0 ≤ 0) ∧ (∃ q_5 p_5 : Nat, (2000 ≤ x_4 ∧ f x_4 = (1, 13) ∧ (S x_4 0 = 0 ∨ S x_4 0 = 1)) ∧ scnI S P q_5 p_5 ∧ ((if S x_4 0 = 1 then cx S q_5 2 = (p_5 : Int) else cx S q_5 6 = 1) → (zsh ((2, f), S, L, P) h0 = (1, 11) ∧ (R32 (S h0 0) ∧ (((1 : Int) = (S h0 0) → zz_J zpX13_holds_1 (zz_ret Q X 0 0) 2 [some (vr h0), some (vr 103), some (vi (x2 + 1))] [] ((2, f), S, L, P) (0, 0)) ∧ (¬ (1 : Int) = (S h0 0) → zsh ((2, f), S, L, P) h0 = (1, 11) ∧ (R32 (S h0 0) ∧ ((¬ (S h0 0) = 0 → Q (some (vi 0)) ((2, f), S, L, P)) ∧ ((S h0 0) = 0 → Q (some (vi 1)) ((2, f), S, L, P))))))))) ∧ (¬ (if S x_4 0 = 1 then cx S q_5 2 = (p_5 : Int) else cx S q_5 6 = 1) → (zsh ((2, f), S, L, P) h0 = (1, 11) ∧ (R32 (S h0 0) ∧ (((0 : Int) = (S h0 0) → zz_J zpX13_holds_1 (zz_ret Q X 0 0) 2 [some (vr h0), some (vr 103), some (vi (x2 + 1))] [] ((2, f), S, L, P) (0, 0)) ∧ (¬ (0 : Int) = (S h0 0) → zsh ((2, f), S, L, P) h0 = (1, 11) ∧ (R32 (S h0 0) ∧ ((¬ (S h0 0) = 0 → Q (some (vi 0)) ((2, f), S, L, P)) ∧ ((S h0 0) = 0 → Q (some (vi 1)) ((2, f), S, L, P))))))))))) ∨ ((zsh ((2, f), S, L, P) x_4 = (1, 16) ∨ zsh ((2, f), S, L, P) x_4 = (17, 16)) ∧ (0 + 0 ≤ 0 ∧ 0 + 0 ≤ 0) ∧ (∃ (g_6 k_6 : Fc → Int) (q_6 p_6 a_6 b_6 lo_6 hi_6 : Nat), (2000 ≤ x_4 ∧ f x_4 = (1, 16) ∧ P x_4 0 = some a_6 ∧ P x_4 1 = some b_6) ∧ SuT lo_6 hi_6 f S P a_6 g_6 ∧ SuT lo_6 hi_6 f S P b_6 k_6 ∧ scnI S P q_6 p_6 ∧ R32 (g_6 (fcX (cx S q_6) p_6)) ∧ R32 (k_6 (fcX (cx S q_6) p_6)) ∧ (g_6 (fcX (cx S q_6) p_6) < k_6 (fcX (cx S q_6) p_6) → (zsh ((2, f), S, L, P) h0 = (1, 11) ∧ (R32 (S h0 0) ∧ (((1 : Int) = (S h0 0) → zz_J zpX13_holds_1 (zz_ret Q X 0 0) 2 [some (vr h0), some (vr 103), some (vi (x2 + 1))] [] ((2, f), S, L, P) (0, 0)) ∧ (¬ (1 : Int) = (S h0 0) → zsh ((2, f), S, L, P) h0 = (1, 11) ∧ (R32 (S h0 0) ∧ ((¬ (S h0 0) = 0 → Q (some (vi 0)) ((2, f), S, L, P)) ∧ ((S h0 0) = 0 → Q (some (vi 1)) ((2, f), S, L, P))))))))) ∧ (¬ g_6 (fcX (cx S q_6) p_6) < k_6 (fcX (cx S q_6) p_6) → (zsh ((2, f), S, L, P) h0 = (1, 11) ∧ (R32 (S h0 0) ∧ (((0 : Int) = (S h0 0) → zz_J zpX13_holds_1 (zz_ret Q X 0 0) 2 [some (vr h0), some (vr 103), some (vi (x2 + 1))] [] ((2, f), S, L, P) (0, 0)) ∧ (¬ (0 : Int) = (S h0 0) → zsh ((2, f), S, L, P) h0 = (1, 11) ∧ (R32 (S h0 0) ∧ ((¬ (S h0 0) = 0 → Q (some (vi 0)) ((2, f), S, L, P)) ∧ ((S h0 0) = 0 → Q (some (vi 1)) ((2, f), S, L, P))))))))))))))) ∧ (zpt ((2, f), S, L, P) h0 1 = none → False ∧ False))))))) ∧ (zpt ((2, f), S, L, P) h0 1 = none → False ∧ False)) : zz_J zpX13_holds_1 (zz_ret Q X 0 0) 2 [some (vr h0), some (vr 103), some (vi x2)] [] ((2, f), S, L, P) (0, 0) := zz_J.go [(2, [])] 400 h

theorem zmX14_holds_1 (l : Launch) (hl : l.stackTraces = false) : mm_Spec l yX14_holds (ws_ yX14_holds cX14_holds 2 (some .boolean)) (mm_rm 6 0 0) (zE zX14_holds_1) := by
  refine zz_Met.J hl (by decide) (fun C G hnh => ztX14_holds_1 G hnh) ?_
  rintro as ⟨⟨t_, f⟩, S, L, P⟩ Q X h
  unfold zX14_holds_1 at h
  split at h
  rotate_left
  · exact h.elim
  rename_i h_ s
  obtain ⟨e1_, e2_, h⟩ := mm_and2 h (fun q => q)
  cases mm_beq e1_
  cases mm_beq e2_
  try dsimp only at h
  refine ⟨rfl, ?_⟩
  obtain ⟨c, q, p, lo, hi, ⟨q1, q2, a, g, q3, q4, rfl⟩, hs, ha, hb⟩ := h
  have hz : zsh ((2, f), S, L, P) h_ = (1, 12) := (zsh_hi q1.le).trans q2
  have hx : zpt ((2, f), S, L, P) h_ 0 = some a := (zpt_hi q1.le).trans q3
  have ha' : g (fcX (cx S q) p) = true → Q (some (vi 0)) ((2, f), S, L, P) := fun e => hb (by show (!g _) = false; rw [e]; rfl)
  have hb' : g (fcX (cx S q) p) = false → Q (some (vi 1)) ((2, f), S, L, P) := fun e => ha (by show (!g _) = true; rw [e]; rfl)
  refine zwX14_holds_1_0 (q_go hz hx ?_)
  first | exact le_or q4 hs ha' hb' | exact co_or q4 hs ha' hb'
theorem zmX13_holds_1 (l : Launch) (hl : l.stackTraces = false) : mm_Spec l yX13_holds (ws_ yX13_holds cX13_holds 3 (some .boolean)) (mm_rm 6 0 0) (zE zX13_holds_1) := by
  refine zz_Met.J hl (by decide) (fun C G hnh => ztX13_holds_1 G hnh) ?_
  rintro as ⟨⟨t_, f⟩, S, L, P⟩ Q X h
  unfold zX13_holds_1 at h
  split at h
  rotate_left
  · exact h.elim
  rename_i h_ s
  obtain ⟨e1_, e2_, h⟩ := mm_and2 h (fun q => q)
  cases mm_beq e1_
  cases mm_beq e2_
  try dsimp only at h
  refine ⟨rfl, ?_⟩
  obtain ⟨c, q, p, lo, hi0, ⟨q1, q2, all, a, l, cs, q3, q4, ⟨ha2, hfa, hsz, hlen, hel⟩, q6, q7, rfl⟩, hs, ha, hb⟩ := h
  have hz : zsh ((2, f), S, L, P) h_ = (1, 11) := (zsh_hi q1.le).trans q2
  have hx : zpt ((2, f), S, L, P) h_ 1 = some a := (zpt_hi q1.le).trans q4
  replace ha2 := ha2.le
  have hza : zsh ((2, f), S, L, P) a = (1, 17) := (zsh_hi ha2).trans hfa
  have s01 : S h_ 0 = 0 ∨ S h_ 0 = 1 := by rw [q3]; cases all <;> simp
  have sR : R32 (S h_ 0) := by rcases s01 with e | e <;> rw [e] <;> decide
  have ret : alB all cs (fcX (cx S q) p) = all → Q (some (vi (S h_ 0))) ((2, f), S, L, P) := by
    rw [q3]
    cases all with
    | true => exact fun e => ha e
    | false => exact fun e => hb e
  have t2 : ∀ (m i : Nat), i + m = l.length → (∀ (j : Nat) (g : Fc → Bool), j < i → cs[j]? = some g → g (fcX (cx S q) p) = all) → zz_J zpX13_holds_1 (zz_ret Q X 0 0) 2 [some (vr h_), some (vr 103), some (vi (i : Int))] [] ((2, f), S, L, P) (0, 0) := by
    intro m
    induction m with
    | zero =>
      intro i hi hal
      refine zwX13_holds_1_2 (q_go hz hx ⟨Or.inl hza, hza, by omega, by show R32 (S a 2); rw [hsz]; omega, fun _ => ⟨hz, s01, ret (alB_a fun j g hg => hal j g ?_ hg)⟩, fun c => absurd (show S a 2 ≤ (i : Int) by rw [hsz]; omega) c⟩)
      have : j < cs.length := by
        apply Decidable.byContradiction
        intro hc
        rw [List.getElem?_eq_none (by omega)] at hg
        cases hg
      omega
    | succ m ih =>
      intro i hi hal
      have il : i < l.length := by omega
      have ig : i < cs.length := by omega
      obtain ⟨e, n, he2, hPe, hfe, hn, hln, hPi⟩ := hel (fun c => by rw [c] at il; exact absurd il (by simp))
      replace he2 := he2.le
      have hlx : l[i]? = some l[i] := List.getElem?_eq_getElem il
      have hgx : cs[i]? = some cs[i] := List.getElem?_eq_getElem ig
      have hcx := q7 i _ _ hlx hgx
      have AB : ∀ v : Int, (v = bif cs[i] (fcX (cx S q) p) then 1 else 0) → (zsh ((2, f), S, L, P) h_ = (1, 11) ∧ (R32 (S h_ 0) ∧ ((v = (S h_ 0) → zz_J zpX13_holds_1 (zz_ret Q X 0 0) 2 [some (vr h_), some (vr 103), some (vi ((i : Int) + 1))] [] ((2, f), S, L, P) (0, 0)) ∧ (¬ v = (S h_ 0) → zsh ((2, f), S, L, P) h_ = (1, 11) ∧ (R32 (S h_ 0) ∧ ((¬ (S h_ 0) = 0 → Q (some (vi 0)) ((2, f), S, L, P)) ∧ ((S h_ 0) = 0 → Q (some (vi 1)) ((2, f), S, L, P)))))))) := by
        intro v hv
        refine ⟨hz, sR, fun c => ?_, fun c => ⟨hz, sR, ?_⟩⟩
        · refine ih (i + 1) (by omega) (fun j g hj hg => ?_)
          by_cases ej : j = i
          · rw [ej, hgx] at hg
            cases hg
            rw [hv, q3] at c
            revert c
            cases cs[i] (fcX (cx S q) p) <;> cases all <;> simp
          · exact hal j g (by omega) hg
        · have hne : cs[i] (fcX (cx S q) p) ≠ all := by
            rw [hv, q3] at c
            intro e2
            rw [e2] at c
            exact c rfl
          have e2 := alB_t hgx hne
          rw [q3]
          revert e2 ha hb
          cases all with
          | true => exact fun ha hb e2 => ⟨fun _ => hb e2, fun c => absurd c (by decide)⟩
          | false => exact fun ha hb e2 => ⟨fun c => absurd rfl c, fun _ => ha e2⟩
      refine zwX13_holds_1_2 (q_go hz hx ⟨Or.inl hza, hza, by omega, by show R32 (S a 2); rw [hsz]; omega, fun c => absurd (show S a 2 ≤ (i : Int) from c) (by rw [hsz]; omega), fun _ => ⟨hz, ?_⟩⟩)
      refine (q_go hz hx ⟨Or.inl hza, hza, e, n, l[i], (zpt_hi ha2).trans hPe, (zsh_hi he2).trans hfe, hn, by omega, ⟨by show (i : Int) < S a 2; rw [hsz]; omega, by show S a 2 < 2147483647; rw [hsz]; omega⟩, ?_, coT_sh hcx, ?_⟩ : _ ∧ _ ∧ _).2
      · rw [Int.toNat_natCast]
        exact (zpt_hi he2).trans (hPi i _ hlx)
      · have A1 := fun e : cs[i] (fcX (cx S q) p) = true => AB 1 (by rw [e]; rfl)
        have A0 := fun e : cs[i] (fcX (cx S q) p) = false => AB 0 (by rw [e]; rfl)
        first | exact le_or hcx hs A1 A0 | exact co_or hcx hs A1 A0
  exact zwX13_holds_1_0 (t2 l.length 0 (by omega) (fun j g hj => absurd hj (Nat.not_lt_zero _)))
def zX14_holds_2 : zz_Sp := fun as M Q X => match as with
  | [.inr (.inr (some h_)), .inr (.inr (some s))] => bif Nat.beq M.1.1 2 && Nat.beq s 103 then (∃ (c_ : Fc → Bool) (q_ p_ lo_ hi_ : Nat), noT (coT lo_ hi_ M.1.2 M.2.1 M.2.2.2 1) lo_ hi_ M.1.2 M.2.2.2 h_ c_ ∧ sciB M.2.1 M.2.2.2 q_ p_ ∧ (c_ (fcX (cx M.2.1 q_) p_) = true → Q (some (vi 1)) ((2, M.1.2), M.2.1, M.2.2.1, M.2.2.2)) ∧ (c_ (fcX (cx M.2.1 q_) p_) = false → Q (some (vi 0)) ((2, M.1.2), M.2.1, M.2.2.1, M.2.2.2))) else False
  | _ => False

def zpX14_holds_2 : zz_P := [(0, zo_ald 1 0), (1, zo_getq 4 12 0), (4, zo_ald 5 1), (5, zo_or (zo_cfF (mm_rm 7 0 0) 10 2 11 0 0 zX13_holds_1) (zo_or (zo_cfF (mm_rm 7 0 0) 10 2 12 0 0 zX14_holds_1) (zo_or (zo_cfF (mm_rm 7 0 0) 10 2 13 0 0 zX15_holds) (zo_cfF (mm_rm 7 0 0) 10 2 16 0 0 zX19_holds)))), (10, zo_zifne 13 17), (13, zo_c 14 (vi 1)), (14, zo_goto 18), (17, zo_c 18 (vi 0)), (18, zo_zret true)]
theorem ztX14_holds_2 {C : mm_C} (G : mm_G C RX14 cX14_holds (some .boolean) 2 (mm_rm 7 0 0)) (hnh : mm_nh C) : zz_OKs C zpX14_holds_2 :=
  ⟨zz_of (ok_aload_n G dX14_holds_0 rfl rfl) (z_ald _ _),
   zz_of (ok_get G (nx := 4) (ci := 12) (kd := 2) (k := 0) (RX14, TX14, 1) rfl (by decide) rfl q1187 dX14_holds_1 rfl) (z_getq _ _ _),
   zz_of (ok_aload_n G dX14_holds_4 rfl rfl) (z_ald _ _),
   zz_or (zz_of (ok_calfF G (hnh.q 5) (zmX13_holds_1 _ G.hst) (RX13, TX13, 2) rfl q1452 q1456 q1454 q114 q1458 (List.Mem.head _) (by decide +kernel) ⟨Nat.le_of_ble_eq_true rfl, Nat.le_of_ble_eq_true rfl⟩ dX14_holds_5 rfl) (z_cfF _ _ _ _ _ _ _)) (zz_or (zz_of (ok_calfF G (hnh.q 5) (zmX14_holds_1 _ G.hst) (RX14, TX14, 1) rfl q1452 q1448 q1446 q115 q1450 (List.Mem.tail _ (List.Mem.head _)) (by decide +kernel) ⟨Nat.le_of_ble_eq_true rfl, Nat.le_of_ble_eq_true rfl⟩ dX14_holds_5 rfl) (z_cfF _ _ _ _ _ _ _)) (zz_or (zz_of (ok_calfF G (hnh.q 5) (zmX15_holds _ G.hst) (RX15, TX15, 1) rfl q1452 q1411 q1409 q116 q1413 (List.Mem.tail _ (List.Mem.tail _ (List.Mem.head _))) (by decide +kernel) ⟨Nat.le_of_ble_eq_true rfl, Nat.le_of_ble_eq_true rfl⟩ dX14_holds_5 rfl) (z_cfF _ _ _ _ _ _ _)) (zz_of (ok_calfF G (hnh.q 5) (zmX19_holds _ G.hst) (RX19, TX19, 2) rfl q1452 q1421 q1419 q121 q1423 (List.Mem.tail _ (List.Mem.tail _ (List.Mem.tail _ (List.Mem.head _)))) (by decide +kernel) ⟨Nat.le_of_ble_eq_true rfl, Nat.le_of_ble_eq_true rfl⟩ dX14_holds_5 rfl) (z_cfF _ _ _ _ _ _ _)))),
   zz_of (ok_ifne G dX14_holds_10 rfl rfl) (z_zifne _ _),
   zz_of (ok_iconst G (v := 1) dX14_holds_13 (by decide) rfl) (z_cn 14 1),
   zz_of (ok_goto G dX14_holds_14 rfl) (z_goto _),
   zz_of (ok_iconst G (v := 0) dX14_holds_17 (by decide) rfl) (z_cn 18 0),
   zz_of (ok_zret G dX14_holds_18) (z_zret _), trivial⟩

theorem zwX14_holds_2_0 {Q : Option zv → zz_M → Prop} {X : Nat → zz_M → Prop} {f : Nat → Nat × Nat} {S L : Nat → Nat → Int} {P : Nat → Nat → Option Nat} {h_ : Nat} (h : zsh ((2, f), S, L, P) h_ = (1, 12) ∧ (∀ b1 : Nat, zpt ((2, f), S, L, P) h_ 0 = some b1 → ((zsh ((2, f), S, L, P) b1 = (1, 11) ∨ zsh ((2, f), S, L, P) b1 = (17, 11)) ∧ (0 + 0 ≤ 0 ∧ 0 + 0 ≤ 0) ∧ (∃ (c_2 : Fc → Bool) (q_2 p_2 lo_2 hi_2 : Nat), roT (coT lo_2 hi_2 f S P 0) lo_2 hi_2 f S P b1 c_2 ∧ sciB S P q_2 p_2 ∧ (c_2 (fcX (cx S q_2) p_2) = true → (Q (some (vi 0)) ((2, f), S, L, P))) ∧ (c_2 (fcX (cx S q_2) p_2) = false → (Q (some (vi 1)) ((2, f), S, L, P))))) ∨ ((zsh ((2, f), S, L, P) b1 = (1, 12) ∨ zsh ((2, f), S, L, P) b1 = (17, 12)) ∧ (0 + 0 ≤ 0 ∧ 0 + 0 ≤ 0) ∧ (∃ (c_3 : Fc → Bool) (q_3 p_3 lo_3 hi_3 : Nat), noT (coT lo_3 hi_3 f S P 0) lo_3 hi_3 f P b1 c_3 ∧ sciB S P q_3 p_3 ∧ (c_3 (fcX (cx S q_3) p_3) = true → (Q (some (vi 0)) ((2, f), S, L, P))) ∧ (c_3 (fcX (cx S q_3) p_3) = false → (Q (some (vi 1)) ((2, f), S, L, P))))) ∨ ((zsh ((2, f), S, L, P) b1 = (1, 13) ∨ zsh ((2, f), S, L, P) b1 = (17, 13)) ∧ (0 + 0 ≤ 0 ∧ 0 + 0 ≤ 0) ∧ (∃ q_4 p_4 : Nat, (2000 ≤ b1 ∧ f b1 = (1, 13) ∧ (S b1 0 = 0 ∨ S b1 0 = 1)) ∧ scnI S P q_4 p_4 ∧ ((if S b1 0 = 1 then cx S q_4 2 = (p_4 : Int) else cx S q_4 6 = 1) → (Q (some (vi 0)) ((2, f), S, L, P))) ∧ (¬ (if S b1 0 = 1 then cx S q_4 2 = (p_4 : Int) else cx S q_4 6 = 1) → (Q (some (vi 1)) ((2, f), S, L, P))))) ∨ ((zsh ((2, f), S, L, P) b1 = (1, 16) ∨ zsh ((2, f), S, L, P) b1 = (17, 16)) ∧ (0 + 0 ≤ 0 ∧ 0 + 0 ≤ 0) ∧ (∃ (g_5 k_5 : Fc → Int) (q_5 p_5 a_5 b_5 lo_5 hi_5 : Nat), (2000 ≤ b1 ∧ f b1 = (1, 16) ∧ P b1 0 = some a_5 ∧ P b1 1 = some b_5) ∧ SuT lo_5 hi_5 f S P a_5 g_5 ∧ SuT lo_5 hi_5 f S P b_5 k_5 ∧ scnI S P q_5 p_5 ∧ R32 (g_5 (fcX (cx S q_5) p_5)) ∧ R32 (k_5 (fcX (cx S q_5) p_5)) ∧ (g_5 (fcX (cx S q_5) p_5) < k_5 (fcX (cx S q_5) p_5) → (Q (some (vi 0)) ((2, f), S, L, P))) ∧ (¬ g_5 (fcX (cx S q_5) p_5) < k_5 (fcX (cx S q_5) p_5) → (Q (some (vi 1)) ((2, f), S, L, P)))))) ∧ (zpt ((2, f), S, L, P) h_ 0 = none → (False ∧ (0 + 0 ≤ 0 ∧ 0 + 0 ≤ 0) ∧ False) ∨ (False ∧ (0 + 0 ≤ 0 ∧ 0 + 0 ≤ 0) ∧ False) ∨ (False ∧ (0 + 0 ≤ 0 ∧ 0 + 0 ≤ 0) ∧ False) ∨ (False ∧ (0 + 0 ≤ 0 ∧ 0 + 0 ≤ 0) ∧ False))) : zz_J zpX14_holds_2 (zz_ret Q X 0 0) 0 [some (vr h_), some (vr 103)] [] ((2, f), S, L, P) (0, 0) := zz_J.go [] 400 h

def zX13_holds_2 : zz_Sp := fun as M Q X => match as with
  | [.inr (.inr (some h_)), .inr (.inr (some s))] => bif Nat.beq M.1.1 2 && Nat.beq s 103 then (∃ (c_ : Fc → Bool) (q_ p_ lo_ hi_ : Nat), roT (coT lo_ hi_ M.1.2 M.2.1 M.2.2.2 1) lo_ hi_ M.1.2 M.2.1 M.2.2.2 h_ c_ ∧ sciB M.2.1 M.2.2.2 q_ p_ ∧ (c_ (fcX (cx M.2.1 q_) p_) = true → Q (some (vi 1)) ((2, M.1.2), M.2.1, M.2.2.1, M.2.2.2)) ∧ (c_ (fcX (cx M.2.1 q_) p_) = false → Q (some (vi 0)) ((2, M.1.2), M.2.1, M.2.2.1, M.2.2.2))) else False
  | _ => False

def zpX13_holds_2 : zz_P := [(0, zo_c 1 (vi 0)), (1, zo_ist 2 2), (2, zo_ild 3 2), (3, zo_ald 4 0), (4, zo_getq 7 11 1), (7, zo_callvp 10 1 17 zJ2_sizeh), (10, zo_cge false false 13 56), (13, zo_ald 14 0), (14, zo_getq 17 11 1), (17, zo_ild 18 2), (18, zo_callvp 21 2 17 zJ2_get), (21, zo_cast 24 [11, 12, 13, 16]), (24, zo_ald 25 1), (25, zo_or (zo_cfF (mm_rm 7 0 0) 30 2 11 0 0 zX13_holds_1) (zo_or (zo_cfF (mm_rm 7 0 0) 30 2 12 0 0 zX14_holds_1) (zo_or (zo_cfF (mm_rm 7 0 0) 30 2 13 0 0 zX15_holds) (zo_cfF (mm_rm 7 0 0) 30 2 16 0 0 zX19_holds)))), (30, zo_ald 31 0), (31, zo_getp 34 11 0 0), (34, zo_ceq true false 37 50), (37, zo_ald 38 0), (38, zo_getp 41 11 0 0), (41, zo_ifne false 44 48), (44, zo_c 45 (vi 1)), (45, zo_goto 49), (48, zo_c 49 (vi 0)), (49, zo_zret true), (50, zo_inc 53 2 1), (53, zo_goto 2), (56, zo_ald 57 0), (57, zo_getp 60 11 0 0), (60, zo_zret false)]
theorem ztX13_holds_2 {C : mm_C} (G : mm_G C RX13 cX13_holds (some .boolean) 3 (mm_rm 7 0 0)) (hnh : mm_nh C) : zz_OKs C zpX13_holds_2 :=
  ⟨zz_of (ok_iconst G (v := 0) dX13_holds_0 (by decide) rfl) (z_cn 1 0),
   zz_of (ok_istore_n G dX13_holds_1 rfl rfl (by decide)) (z_ist _ _),
   zz_of (ok_iload_n G dX13_holds_2 rfl rfl) (z_ild _ _),
   zz_of (ok_aload_n G dX13_holds_3 rfl rfl) (z_ald _ _),
   zz_of (ok_get G (nx := 7) (ci := 11) (kd := 2) (k := 1) (RX13, TX13, 2) rfl (by decide) rfl q1157 dX13_holds_4 rfl) (z_getq _ _ _),
   zz_of (ok_callv G hnh (zmJ2_sizeh _ G.hst) rfl rfl (RJ2, TJ2, 3) rfl q1459 q592 q593 q86 q594 (by decide +kernel) ⟨by decide, by decide⟩ dX13_holds_7 rfl) (z_callvp _ _ _ _),
   zz_of (ok_cge G dX13_holds_10 rfl rfl) (z_cge _ _ _ _),
   zz_of (ok_aload_n G dX13_holds_13 rfl rfl) (z_ald _ _),
   zz_of (ok_get G (nx := 17) (ci := 11) (kd := 2) (k := 1) (RX13, TX13, 2) rfl (by decide) rfl q1157 dX13_holds_14 rfl) (z_getq _ _ _),
   zz_of (ok_iload_n G dX13_holds_17 rfl rfl) (z_ild _ _),
   zz_of (ok_callv G hnh (zmJ2_get _ G.hst) rfl rfl (RJ2, TJ2, 3) rfl q1460 q1382 q1383 q86 q1384 (by decide +kernel) ⟨by decide, by decide⟩ dX13_holds_18 rfl) (z_callvp _ _ _ _),
   zz_of (ok_cast G (l := [11, 12, 13, 16]) (fun ci h r e => by
      simp only [List.mem_cons, List.not_mem_nil, or_false] at h
      rcases h with rfl | rfl | rfl | rfl <;> cases e <;> first | exact Or.inl rfl | exact Or.inr q1453 | exact Or.inr q1445 | exact Or.inr q1408 | exact Or.inr q1418) q1461 dX13_holds_21 rfl) (z_cast _ _),
   zz_of (ok_aload_n G dX13_holds_24 rfl rfl) (z_ald _ _),
   zz_or (zz_of (ok_calfF G (hnh.q 25) (zmX13_holds_1 _ G.hst) (RX13, TX13, 2) rfl q1463 q1456 q1454 q114 q1458 (List.Mem.head _) (by decide +kernel) ⟨Nat.le_of_ble_eq_true rfl, Nat.le_of_ble_eq_true rfl⟩ dX13_holds_25 rfl) (z_cfF _ _ _ _ _ _ _)) (zz_or (zz_of (ok_calfF G (hnh.q 25) (zmX14_holds_1 _ G.hst) (RX14, TX14, 1) rfl q1463 q1448 q1446 q115 q1450 (List.Mem.tail _ (List.Mem.head _)) (by decide +kernel) ⟨Nat.le_of_ble_eq_true rfl, Nat.le_of_ble_eq_true rfl⟩ dX13_holds_25 rfl) (z_cfF _ _ _ _ _ _ _)) (zz_or (zz_of (ok_calfF G (hnh.q 25) (zmX15_holds _ G.hst) (RX15, TX15, 1) rfl q1463 q1411 q1409 q116 q1413 (List.Mem.tail _ (List.Mem.tail _ (List.Mem.head _))) (by decide +kernel) ⟨Nat.le_of_ble_eq_true rfl, Nat.le_of_ble_eq_true rfl⟩ dX13_holds_25 rfl) (z_cfF _ _ _ _ _ _ _)) (zz_of (ok_calfF G (hnh.q 25) (zmX19_holds _ G.hst) (RX19, TX19, 2) rfl q1463 q1421 q1419 q121 q1423 (List.Mem.tail _ (List.Mem.tail _ (List.Mem.tail _ (List.Mem.head _)))) (by decide +kernel) ⟨Nat.le_of_ble_eq_true rfl, Nat.le_of_ble_eq_true rfl⟩ dX13_holds_25 rfl) (z_cfF _ _ _ _ _ _ _)))),
   zz_of (ok_aload_n G dX13_holds_30 rfl rfl) (z_ald _ _),
   zz_of (ok_get G (nx := 34) (ci := 11) (kd := 0) (k := 0) (RX13, TX13, 2) rfl (by decide) rfl q1156 dX13_holds_31 rfl) (z_getp _ _ _ _),
   zz_of (ok_ceq G dX13_holds_34 rfl rfl) (z_ceq _ _ _ _),
   zz_of (ok_aload_n G dX13_holds_37 rfl rfl) (z_ald _ _),
   zz_of (ok_get G (nx := 41) (ci := 11) (kd := 0) (k := 0) (RX13, TX13, 2) rfl (by decide) rfl q1156 dX13_holds_38 rfl) (z_getp _ _ _ _),
   zz_of (ok_ifne G dX13_holds_41 rfl rfl) (z_ifne _ _ _),
   zz_of (ok_iconst G (v := 1) dX13_holds_44 (by decide) rfl) (z_cn 45 1),
   zz_of (ok_goto G dX13_holds_45 rfl) (z_goto _),
   zz_of (ok_iconst G (v := 0) dX13_holds_48 (by decide) rfl) (z_cn 49 0),
   zz_of (ok_zret G dX13_holds_49) (z_zret _),
   zz_of (ok_iinc G (v := 1) dX13_holds_50 (by decide) rfl (by decide)) (z_incn 53 2 1),
   zz_of (ok_goto G dX13_holds_53 rfl) (z_goto _),
   zz_of (ok_aload_n G dX13_holds_56 rfl rfl) (z_ald _ _),
   zz_of (ok_get G (nx := 60) (ci := 11) (kd := 0) (k := 0) (RX13, TX13, 2) rfl (by decide) rfl q1156 dX13_holds_57 rfl) (z_getp _ _ _ _),
   zz_of (ok_zret G dX13_holds_60) (z_zret _), trivial⟩

theorem zwX13_holds_2_0 {Q : Option zv → zz_M → Prop} {X : Nat → zz_M → Prop} {f : Nat → Nat × Nat} {S L : Nat → Nat → Int} {P : Nat → Nat → Option Nat} {h_ : Nat} (h : zz_J zpX13_holds_2 (zz_ret Q X 0 0) 2 [some (vr h_), some (vr 103), some (vi 0)] [] ((2, f), S, L, P) (0, 0)) : zz_J zpX13_holds_2 (zz_ret Q X 0 0) 0 [some (vr h_), some (vr 103), none] [] ((2, f), S, L, P) (0, 0) := zz_J.go [(2, [])] 400 h
theorem zwX13_holds_2_2 {Q : Option zv → zz_M → Prop} {X : Nat → zz_M → Prop} {f : Nat → Nat × Nat} {S L : Nat → Nat → Int} {P : Nat → Nat → Option Nat} {h0 : Nat} {x2 : Int} (h : zsh ((2, f), S, L, P) h0 = (1, 11) ∧ (∀ b1 : Nat, zpt ((2, f), S, L, P) h0 1 = some b1 → (zsh ((2, f), S, L, P) b1 = (1, 17) ∨ zsh ((2, f), S, L, P) b1 = (17, 17)) ∧ (zsh ((2, f), S, L, P) b1 = (1, 17) ∧ (R32 x2 ∧ (R32 (((2, f), S, L, P).2.1 b1 2) ∧ (((((2, f), S, L, P).2.1 b1 2) ≤ x2 → zsh ((2, f), S, L, P) h0 = (1, 11) ∧ (((S h0 0) = 0 ∨ (S h0 0) = 1) ∧ (Q (some (vi (S h0 0))) ((2, f), S, L, P)))) ∧ (¬ (((2, f), S, L, P).2.1 b1 2) ≤ x2 → zsh ((2, f), S, L, P) h0 = (1, 11) ∧ (∀ b3 : Nat, zpt ((2, f), S, L, P) h0 1 = some b3 → (zsh ((2, f), S, L, P) b3 = (1, 17) ∨ zsh ((2, f), S, L, P) b3 = (17, 17)) ∧ (zsh ((2, f), S, L, P) b3 = (1, 17) ∧ ∃ (e_4 n_4 x_4 : Nat), zpt ((2, f), S, L, P) b3 1 = some e_4 ∧ zsh ((2, f), S, L, P) e_4 = (7, n_4) ∧ n_4 ≤ 2147483647 ∧ (0 ≤ x2 ∧ x2 < (n_4 : Int)) ∧ (x2 < ((2, f), S, L, P).2.1 b3 2 ∧ ((2, f), S, L, P).2.1 b3 2 < 2147483647) ∧ zpt ((2, f), S, L, P) e_4 x2.toNat = some x_4 ∧ ((∃ ci : Nat, (zsh ((2, f), S, L, P) x_4 = (1, ci) ∨ zsh ((2, f), S, L, P) x_4 = (17, ci)) ∧ mm_mem [11, 12, 13, 16] ci = true) ∧ (((zsh ((2, f), S, L, P) x_4 = (1, 11) ∨ zsh ((2, f), S, L, P) x_4 = (17, 11)) ∧ (0 + 0 ≤ 0 ∧ 0 + 0 ≤ 0) ∧ (∃ (c_5 : Fc → Bool) (q_5 p_5 lo_5 hi_5 : Nat), roT (coT lo_5 hi_5 f S P 0) lo_5 hi_5 f S P x_4 c_5 ∧ sciB S P q_5 p_5 ∧ (c_5 (fcX (cx S q_5) p_5) = true → (zsh ((2, f), S, L, P) h0 = (1, 11) ∧ (R32 (S h0 0) ∧ (((1 : Int) = (S h0 0) → zz_J zpX13_holds_2 (zz_ret Q X 0 0) 2 [some (vr h0), some (vr 103), some (vi (x2 + 1))] [] ((2, f), S, L, P) (0, 0)) ∧ (¬ (1 : Int) = (S h0 0) → zsh ((2, f), S, L, P) h0 = (1, 11) ∧ (R32 (S h0 0) ∧ ((¬ (S h0 0) = 0 → Q (some (vi 0)) ((2, f), S, L, P)) ∧ ((S h0 0) = 0 → Q (some (vi 1)) ((2, f), S, L, P))))))))) ∧ (c_5 (fcX (cx S q_5) p_5) = false → (zsh ((2, f), S, L, P) h0 = (1, 11) ∧ (R32 (S h0 0) ∧ (((0 : Int) = (S h0 0) → zz_J zpX13_holds_2 (zz_ret Q X 0 0) 2 [some (vr h0), some (vr 103), some (vi (x2 + 1))] [] ((2, f), S, L, P) (0, 0)) ∧ (¬ (0 : Int) = (S h0 0) → zsh ((2, f), S, L, P) h0 = (1, 11) ∧ (R32 (S h0 0) ∧ ((¬ (S h0 0) = 0 → Q (some (vi 0)) ((2, f), S, L, P)) ∧ ((S h0 0) = 0 → Q (some (vi 1)) ((2, f), S, L, P))))))))))) ∨ ((zsh ((2, f), S, L, P) x_4 = (1, 12) ∨ zsh ((2, f), S, L, P) x_4 = (17, 12)) ∧ (0 + 0 ≤ 0 ∧ 0 + 0 ≤ 0) ∧ (∃ (c_6 : Fc → Bool) (q_6 p_6 lo_6 hi_6 : Nat), noT (coT lo_6 hi_6 f S P 0) lo_6 hi_6 f P x_4 c_6 ∧ sciB S P q_6 p_6 ∧ (c_6 (fcX (cx S q_6) p_6) = true → (zsh ((2, f), S, L, P) h0 = (1, 11) ∧ (R32 (S h0 0) ∧ (((1 : Int) = (S h0 0) → zz_J zpX13_holds_2 (zz_ret Q X 0 0) 2 [some (vr h0), some (vr 103), some (vi (x2 + 1))] [] ((2, f), S, L, P) (0, 0)) ∧ (¬ (1 : Int) = (S h0 0) → zsh ((2, f), S, L, P) h0 = (1, 11) ∧ (R32 (S h0 0) ∧ ((¬ (S h0 0) = 0 → Q (some (vi 0)) ((2, f), S, L, P)) ∧ ((S h0 0) = 0 → Q (some (vi 1)) ((2, f), S, L, P))))))))) ∧ (c_6 (fcX (cx S q_6) p_6) = false → (zsh ((2, f), S, L, P) h0 = (1, 11) ∧ (R32 (S h0 0) ∧ (((0 : Int) = (S h0 0) → zz_J zpX13_holds_2 (zz_ret Q X 0 0) 2 [some (vr h0), some (vr 103), some (vi (x2 + 1))] [] ((2, f), S, L, P) (0, 0)) ∧ (¬ (0 : Int) = (S h0 0) → zsh ((2, f), S, L, P) h0 = (1, 11) ∧ (R32 (S h0 0) ∧ ((¬ (S h0 0) = 0 → Q (some (vi 0)) ((2, f), S, L, P)) ∧ ((S h0 0) = 0 → Q (some (vi 1)) ((2, f), S, L, P))))))))))) ∨ ((zsh ((2, f), S, L, P) x_4 = (1, 13) ∨ zsh ((2, f), S, L, P) x_4 = (17, 13)) ∧ (0 + 0 ≤ 0 ∧ 0 + 0 ≤ 0) ∧ (∃ q_7 p_7 : Nat, (2000 ≤ x_4 ∧ f x_4 = (1, 13) ∧ (S x_4 0 = 0 ∨ S x_4 0 = 1)) ∧ scnI S P q_7 p_7 ∧ ((if S x_4 0 = 1 then cx S q_7 2 = (p_7 : Int) else cx S q_7 6 = 1) → (zsh ((2, f), S, L, P) h0 = (1, 11) ∧ (R32 (S h0 0) ∧ (((1 : Int) = (S h0 0) → zz_J zpX13_holds_2 (zz_ret Q X 0 0) 2 [some (vr h0), some (vr 103), some (vi (x2 + 1))] [] ((2, f), S, L, P) (0, 0)) ∧ (¬ (1 : Int) = (S h0 0) → zsh ((2, f), S, L, P) h0 = (1, 11) ∧ (R32 (S h0 0) ∧ ((¬ (S h0 0) = 0 → Q (some (vi 0)) ((2, f), S, L, P)) ∧ ((S h0 0) = 0 → Q (some (vi 1)) ((2, f), S, L, P))))))))) ∧ (¬ (if S x_4 0 = 1 then cx S q_7 2 = (p_7 : Int) else cx S q_7 6 = 1) → (zsh ((2, f), S, L, P) h0 = (1, 11) ∧ (R32 (S h0 0) ∧ (((0 : Int) = (S h0 0) → zz_J zpX13_holds_2 (zz_ret Q X 0 0) 2 [some (vr h0), some (vr 103), some (vi (x2 + 1))] [] ((2, f), S, L, P) (0, 0)) ∧ (¬ (0 : Int) = (S h0 0) → zsh ((2, f), S, L, P) h0 = (1, 11) ∧ (R32 (S h0 0) ∧ ((¬ (S h0 0) = 0 → Q (some (vi 0)) ((2, f), S, L, P)) ∧ ((S h0 0) = 0 → Q (some (vi 1)) ((2, f), S, L, P))))))))))) ∨ ((zsh ((2, f), S, L, P) x_4 = (1, 16) ∨ zsh ((2, f), S, L, P) x_4 = (17, 16)) ∧ (0 + 0 ≤ 0 ∧ 0 + 0 ≤ 0) ∧ (∃ (g_8 k_8 : Fc → Int) (q_8 p_8 a_8 b_8 lo_8 hi_8 : Nat), (2000 ≤ x_4 ∧ f x_4 = (1, 16) ∧ P x_4 0 = some a_8 ∧ P x_4 1 = some b_8) ∧ SuT lo_8 hi_8 f S P a_8 g_8 ∧ SuT lo_8 hi_8 f S P b_8 k_8 ∧ scnI S P q_8 p_8 ∧ R32 (g_8 (fcX (cx S q_8) p_8)) ∧ R32 (k_8 (fcX (cx S q_8) p_8)) ∧ (g_8 (fcX (cx S q_8) p_8) < k_8 (fcX (cx S q_8) p_8) → (zsh ((2, f), S, L, P) h0 = (1, 11) ∧ (R32 (S h0 0) ∧ (((1 : Int) = (S h0 0) → zz_J zpX13_holds_2 (zz_ret Q X 0 0) 2 [some (vr h0), some (vr 103), some (vi (x2 + 1))] [] ((2, f), S, L, P) (0, 0)) ∧ (¬ (1 : Int) = (S h0 0) → zsh ((2, f), S, L, P) h0 = (1, 11) ∧ (R32 (S h0 0) ∧ ((¬ (S h0 0) = 0 → Q (some (vi 0)) ((2, f), S, L, P)) ∧ ((S h0 0) = 0 → Q (some (vi 1)) ((2, f), S, L, P))))))))) ∧ (¬ g_8 (fcX (cx S q_8) p_8) < k_8 (fcX (cx S q_8) p_8) → (zsh ((2, f), S, L, P) h0 = (1, 11) ∧ (R32 (S h0 0) ∧ (((0 : Int) = (S h0 0) → zz_J zpX13_holds_2 (zz_ret Q X 0 0) 2 [some (vr h0), some (vr 103), some (vi (x2 + 1))] [] ((2, f), S, L, P) (0, 0)) ∧ (¬ (0 : Int) = (S h0 0) → zsh ((2, f), S, L, P) h0 = (1, 11) ∧ (R32 (S h0 0) ∧ ((¬ (S h0 0) = 0 → Q (some (vi 0)) ((2, f), S, L, P)) ∧ ((S h0 0) = 0 → Q (some (vi 1)) ((2, f), S, L, P))))))))))))))) ∧ (zpt ((2, f), S, L, P) h0 1 = none → False ∧ False))))))) ∧ (zpt ((2, f), S, L, P) h0 1 = none → False ∧ False)) : zz_J zpX13_holds_2 (zz_ret Q X 0 0) 2 [some (vr h0), some (vr 103), some (vi x2)] [] ((2, f), S, L, P) (0, 0) := zz_J.go [(2, [])] 400 h

theorem zmX14_holds_2 (l : Launch) (hl : l.stackTraces = false) : mm_Spec l yX14_holds (ws_ yX14_holds cX14_holds 2 (some .boolean)) (mm_rm 7 0 0) (zE zX14_holds_2) := by
  refine zz_Met.J hl (by decide) (fun C G hnh => ztX14_holds_2 G hnh) ?_
  rintro as ⟨⟨t_, f⟩, S, L, P⟩ Q X h
  unfold zX14_holds_2 at h
  split at h
  rotate_left
  · exact h.elim
  rename_i h_ s
  obtain ⟨e1_, e2_, h⟩ := mm_and2 h (fun q => q)
  cases mm_beq e1_
  cases mm_beq e2_
  try dsimp only at h
  refine ⟨rfl, ?_⟩
  obtain ⟨c, q, p, lo, hi, ⟨q1, q2, a, g, q3, q4, rfl⟩, hs, ha, hb⟩ := h
  have hz : zsh ((2, f), S, L, P) h_ = (1, 12) := (zsh_hi q1.le).trans q2
  have hx : zpt ((2, f), S, L, P) h_ 0 = some a := (zpt_hi q1.le).trans q3
  have ha' : g (fcX (cx S q) p) = true → Q (some (vi 0)) ((2, f), S, L, P) := fun e => hb (by show (!g _) = false; rw [e]; rfl)
  have hb' : g (fcX (cx S q) p) = false → Q (some (vi 1)) ((2, f), S, L, P) := fun e => ha (by show (!g _) = true; rw [e]; rfl)
  refine zwX14_holds_2_0 (q_go hz hx ?_)
  first | exact le_or q4 hs ha' hb' | exact co_or q4 hs ha' hb'
theorem zmX13_holds_2 (l : Launch) (hl : l.stackTraces = false) : mm_Spec l yX13_holds (ws_ yX13_holds cX13_holds 3 (some .boolean)) (mm_rm 7 0 0) (zE zX13_holds_2) := by
  refine zz_Met.J hl (by decide) (fun C G hnh => ztX13_holds_2 G hnh) ?_
  rintro as ⟨⟨t_, f⟩, S, L, P⟩ Q X h
  unfold zX13_holds_2 at h
  split at h
  rotate_left
  · exact h.elim
  rename_i h_ s
  obtain ⟨e1_, e2_, h⟩ := mm_and2 h (fun q => q)
  cases mm_beq e1_
  cases mm_beq e2_
  try dsimp only at h
  refine ⟨rfl, ?_⟩
  obtain ⟨c, q, p, lo, hi0, ⟨q1, q2, all, a, l, cs, q3, q4, ⟨ha2, hfa, hsz, hlen, hel⟩, q6, q7, rfl⟩, hs, ha, hb⟩ := h
  have hz : zsh ((2, f), S, L, P) h_ = (1, 11) := (zsh_hi q1.le).trans q2
  have hx : zpt ((2, f), S, L, P) h_ 1 = some a := (zpt_hi q1.le).trans q4
  replace ha2 := ha2.le
  have hza : zsh ((2, f), S, L, P) a = (1, 17) := (zsh_hi ha2).trans hfa
  have s01 : S h_ 0 = 0 ∨ S h_ 0 = 1 := by rw [q3]; cases all <;> simp
  have sR : R32 (S h_ 0) := by rcases s01 with e | e <;> rw [e] <;> decide
  have ret : alB all cs (fcX (cx S q) p) = all → Q (some (vi (S h_ 0))) ((2, f), S, L, P) := by
    rw [q3]
    cases all with
    | true => exact fun e => ha e
    | false => exact fun e => hb e
  have t2 : ∀ (m i : Nat), i + m = l.length → (∀ (j : Nat) (g : Fc → Bool), j < i → cs[j]? = some g → g (fcX (cx S q) p) = all) → zz_J zpX13_holds_2 (zz_ret Q X 0 0) 2 [some (vr h_), some (vr 103), some (vi (i : Int))] [] ((2, f), S, L, P) (0, 0) := by
    intro m
    induction m with
    | zero =>
      intro i hi hal
      refine zwX13_holds_2_2 (q_go hz hx ⟨Or.inl hza, hza, by omega, by show R32 (S a 2); rw [hsz]; omega, fun _ => ⟨hz, s01, ret (alB_a fun j g hg => hal j g ?_ hg)⟩, fun c => absurd (show S a 2 ≤ (i : Int) by rw [hsz]; omega) c⟩)
      have : j < cs.length := by
        apply Decidable.byContradiction
        intro hc
        rw [List.getElem?_eq_none (by omega)] at hg
        cases hg
      omega
    | succ m ih =>
      intro i hi hal
      have il : i < l.length := by omega
      have ig : i < cs.length := by omega
      obtain ⟨e, n, he2, hPe, hfe, hn, hln, hPi⟩ := hel (fun c => by rw [c] at il; exact absurd il (by simp))
      replace he2 := he2.le
      have hlx : l[i]? = some l[i] := List.getElem?_eq_getElem il
      have hgx : cs[i]? = some cs[i] := List.getElem?_eq_getElem ig
      have hcx := q7 i _ _ hlx hgx
      have AB : ∀ v : Int, (v = bif cs[i] (fcX (cx S q) p) then 1 else 0) → (zsh ((2, f), S, L, P) h_ = (1, 11) ∧ (R32 (S h_ 0) ∧ ((v = (S h_ 0) → zz_J zpX13_holds_2 (zz_ret Q X 0 0) 2 [some (vr h_), some (vr 103), some (vi ((i : Int) + 1))] [] ((2, f), S, L, P) (0, 0)) ∧ (¬ v = (S h_ 0) → zsh ((2, f), S, L, P) h_ = (1, 11) ∧ (R32 (S h_ 0) ∧ ((¬ (S h_ 0) = 0 → Q (some (vi 0)) ((2, f), S, L, P)) ∧ ((S h_ 0) = 0 → Q (some (vi 1)) ((2, f), S, L, P)))))))) := by
        intro v hv
        refine ⟨hz, sR, fun c => ?_, fun c => ⟨hz, sR, ?_⟩⟩
        · refine ih (i + 1) (by omega) (fun j g hj hg => ?_)
          by_cases ej : j = i
          · rw [ej, hgx] at hg
            cases hg
            rw [hv, q3] at c
            revert c
            cases cs[i] (fcX (cx S q) p) <;> cases all <;> simp
          · exact hal j g (by omega) hg
        · have hne : cs[i] (fcX (cx S q) p) ≠ all := by
            rw [hv, q3] at c
            intro e2
            rw [e2] at c
            exact c rfl
          have e2 := alB_t hgx hne
          rw [q3]
          revert e2 ha hb
          cases all with
          | true => exact fun ha hb e2 => ⟨fun _ => hb e2, fun c => absurd c (by decide)⟩
          | false => exact fun ha hb e2 => ⟨fun c => absurd rfl c, fun _ => ha e2⟩
      refine zwX13_holds_2_2 (q_go hz hx ⟨Or.inl hza, hza, by omega, by show R32 (S a 2); rw [hsz]; omega, fun c => absurd (show S a 2 ≤ (i : Int) from c) (by rw [hsz]; omega), fun _ => ⟨hz, ?_⟩⟩)
      refine (q_go hz hx ⟨Or.inl hza, hza, e, n, l[i], (zpt_hi ha2).trans hPe, (zsh_hi he2).trans hfe, hn, by omega, ⟨by show (i : Int) < S a 2; rw [hsz]; omega, by show S a 2 < 2147483647; rw [hsz]; omega⟩, ?_, coT_sh hcx, ?_⟩ : _ ∧ _ ∧ _).2
      · rw [Int.toNat_natCast]
        exact (zpt_hi he2).trans (hPi i _ hlx)
      · have A1 := fun e : cs[i] (fcX (cx S q) p) = true => AB 1 (by rw [e]; rfl)
        have A0 := fun e : cs[i] (fcX (cx S q) p) = false => AB 0 (by rw [e]; rfl)
        first | exact le_or hcx hs A1 A0 | exact co_or hcx hs A1 A0
  exact zwX13_holds_2_0 (t2 l.length 0 (by omega) (fun j g hj => absurd hj (Nat.not_lt_zero _)))
def zX14_holds_3 : zz_Sp := fun as M Q X => match as with
  | [.inr (.inr (some h_)), .inr (.inr (some s))] => bif Nat.beq M.1.1 2 && Nat.beq s 103 then (∃ (c_ : Fc → Bool) (q_ p_ lo_ hi_ : Nat), noT (coT lo_ hi_ M.1.2 M.2.1 M.2.2.2 2) lo_ hi_ M.1.2 M.2.2.2 h_ c_ ∧ sciB M.2.1 M.2.2.2 q_ p_ ∧ (c_ (fcX (cx M.2.1 q_) p_) = true → Q (some (vi 1)) ((2, M.1.2), M.2.1, M.2.2.1, M.2.2.2)) ∧ (c_ (fcX (cx M.2.1 q_) p_) = false → Q (some (vi 0)) ((2, M.1.2), M.2.1, M.2.2.1, M.2.2.2))) else False
  | _ => False

def zpX14_holds_3 : zz_P := [(0, zo_ald 1 0), (1, zo_getq 4 12 0), (4, zo_ald 5 1), (5, zo_or (zo_cfF (mm_rm 8 0 0) 10 2 11 0 0 zX13_holds_2) (zo_or (zo_cfF (mm_rm 8 0 0) 10 2 12 0 0 zX14_holds_2) (zo_or (zo_cfF (mm_rm 8 0 0) 10 2 13 0 0 zX15_holds) (zo_cfF (mm_rm 8 0 0) 10 2 16 0 0 zX19_holds)))), (10, zo_zifne 13 17), (13, zo_c 14 (vi 1)), (14, zo_goto 18), (17, zo_c 18 (vi 0)), (18, zo_zret true)]
theorem ztX14_holds_3 {C : mm_C} (G : mm_G C RX14 cX14_holds (some .boolean) 2 (mm_rm 8 0 0)) (hnh : mm_nh C) : zz_OKs C zpX14_holds_3 :=
  ⟨zz_of (ok_aload_n G dX14_holds_0 rfl rfl) (z_ald _ _),
   zz_of (ok_get G (nx := 4) (ci := 12) (kd := 2) (k := 0) (RX14, TX14, 1) rfl (by decide) rfl q1187 dX14_holds_1 rfl) (z_getq _ _ _),
   zz_of (ok_aload_n G dX14_holds_4 rfl rfl) (z_ald _ _),
   zz_or (zz_of (ok_calfF G (hnh.q 5) (zmX13_holds_2 _ G.hst) (RX13, TX13, 2) rfl q1452 q1456 q1454 q114 q1458 (List.Mem.head _) (by decide +kernel) ⟨Nat.le_of_ble_eq_true rfl, Nat.le_of_ble_eq_true rfl⟩ dX14_holds_5 rfl) (z_cfF _ _ _ _ _ _ _)) (zz_or (zz_of (ok_calfF G (hnh.q 5) (zmX14_holds_2 _ G.hst) (RX14, TX14, 1) rfl q1452 q1448 q1446 q115 q1450 (List.Mem.tail _ (List.Mem.head _)) (by decide +kernel) ⟨Nat.le_of_ble_eq_true rfl, Nat.le_of_ble_eq_true rfl⟩ dX14_holds_5 rfl) (z_cfF _ _ _ _ _ _ _)) (zz_or (zz_of (ok_calfF G (hnh.q 5) (zmX15_holds _ G.hst) (RX15, TX15, 1) rfl q1452 q1411 q1409 q116 q1413 (List.Mem.tail _ (List.Mem.tail _ (List.Mem.head _))) (by decide +kernel) ⟨Nat.le_of_ble_eq_true rfl, Nat.le_of_ble_eq_true rfl⟩ dX14_holds_5 rfl) (z_cfF _ _ _ _ _ _ _)) (zz_of (ok_calfF G (hnh.q 5) (zmX19_holds _ G.hst) (RX19, TX19, 2) rfl q1452 q1421 q1419 q121 q1423 (List.Mem.tail _ (List.Mem.tail _ (List.Mem.tail _ (List.Mem.head _)))) (by decide +kernel) ⟨Nat.le_of_ble_eq_true rfl, Nat.le_of_ble_eq_true rfl⟩ dX14_holds_5 rfl) (z_cfF _ _ _ _ _ _ _)))),
   zz_of (ok_ifne G dX14_holds_10 rfl rfl) (z_zifne _ _),
   zz_of (ok_iconst G (v := 1) dX14_holds_13 (by decide) rfl) (z_cn 14 1),
   zz_of (ok_goto G dX14_holds_14 rfl) (z_goto _),
   zz_of (ok_iconst G (v := 0) dX14_holds_17 (by decide) rfl) (z_cn 18 0),
   zz_of (ok_zret G dX14_holds_18) (z_zret _), trivial⟩

theorem zwX14_holds_3_0 {Q : Option zv → zz_M → Prop} {X : Nat → zz_M → Prop} {f : Nat → Nat × Nat} {S L : Nat → Nat → Int} {P : Nat → Nat → Option Nat} {h_ : Nat} (h : zsh ((2, f), S, L, P) h_ = (1, 12) ∧ (∀ b1 : Nat, zpt ((2, f), S, L, P) h_ 0 = some b1 → ((zsh ((2, f), S, L, P) b1 = (1, 11) ∨ zsh ((2, f), S, L, P) b1 = (17, 11)) ∧ (0 + 0 ≤ 0 ∧ 0 + 0 ≤ 0) ∧ (∃ (c_2 : Fc → Bool) (q_2 p_2 lo_2 hi_2 : Nat), roT (coT lo_2 hi_2 f S P 1) lo_2 hi_2 f S P b1 c_2 ∧ sciB S P q_2 p_2 ∧ (c_2 (fcX (cx S q_2) p_2) = true → (Q (some (vi 0)) ((2, f), S, L, P))) ∧ (c_2 (fcX (cx S q_2) p_2) = false → (Q (some (vi 1)) ((2, f), S, L, P))))) ∨ ((zsh ((2, f), S, L, P) b1 = (1, 12) ∨ zsh ((2, f), S, L, P) b1 = (17, 12)) ∧ (0 + 0 ≤ 0 ∧ 0 + 0 ≤ 0) ∧ (∃ (c_3 : Fc → Bool) (q_3 p_3 lo_3 hi_3 : Nat), noT (coT lo_3 hi_3 f S P 1) lo_3 hi_3 f P b1 c_3 ∧ sciB S P q_3 p_3 ∧ (c_3 (fcX (cx S q_3) p_3) = true → (Q (some (vi 0)) ((2, f), S, L, P))) ∧ (c_3 (fcX (cx S q_3) p_3) = false → (Q (some (vi 1)) ((2, f), S, L, P))))) ∨ ((zsh ((2, f), S, L, P) b1 = (1, 13) ∨ zsh ((2, f), S, L, P) b1 = (17, 13)) ∧ (0 + 0 ≤ 0 ∧ 0 + 0 ≤ 0) ∧ (∃ q_4 p_4 : Nat, (2000 ≤ b1 ∧ f b1 = (1, 13) ∧ (S b1 0 = 0 ∨ S b1 0 = 1)) ∧ scnI S P q_4 p_4 ∧ ((if S b1 0 = 1 then cx S q_4 2 = (p_4 : Int) else cx S q_4 6 = 1) → (Q (some (vi 0)) ((2, f), S, L, P))) ∧ (¬ (if S b1 0 = 1 then cx S q_4 2 = (p_4 : Int) else cx S q_4 6 = 1) → (Q (some (vi 1)) ((2, f), S, L, P))))) ∨ ((zsh ((2, f), S, L, P) b1 = (1, 16) ∨ zsh ((2, f), S, L, P) b1 = (17, 16)) ∧ (0 + 0 ≤ 0 ∧ 0 + 0 ≤ 0) ∧ (∃ (g_5 k_5 : Fc → Int) (q_5 p_5 a_5 b_5 lo_5 hi_5 : Nat), (2000 ≤ b1 ∧ f b1 = (1, 16) ∧ P b1 0 = some a_5 ∧ P b1 1 = some b_5) ∧ SuT lo_5 hi_5 f S P a_5 g_5 ∧ SuT lo_5 hi_5 f S P b_5 k_5 ∧ scnI S P q_5 p_5 ∧ R32 (g_5 (fcX (cx S q_5) p_5)) ∧ R32 (k_5 (fcX (cx S q_5) p_5)) ∧ (g_5 (fcX (cx S q_5) p_5) < k_5 (fcX (cx S q_5) p_5) → (Q (some (vi 0)) ((2, f), S, L, P))) ∧ (¬ g_5 (fcX (cx S q_5) p_5) < k_5 (fcX (cx S q_5) p_5) → (Q (some (vi 1)) ((2, f), S, L, P)))))) ∧ (zpt ((2, f), S, L, P) h_ 0 = none → (False ∧ (0 + 0 ≤ 0 ∧ 0 + 0 ≤ 0) ∧ False) ∨ (False ∧ (0 + 0 ≤ 0 ∧ 0 + 0 ≤ 0) ∧ False) ∨ (False ∧ (0 + 0 ≤ 0 ∧ 0 + 0 ≤ 0) ∧ False) ∨ (False ∧ (0 + 0 ≤ 0 ∧ 0 + 0 ≤ 0) ∧ False))) : zz_J zpX14_holds_3 (zz_ret Q X 0 0) 0 [some (vr h_), some (vr 103)] [] ((2, f), S, L, P) (0, 0) := zz_J.go [] 400 h

def zX13_holds_3 : zz_Sp := fun as M Q X => match as with
  | [.inr (.inr (some h_)), .inr (.inr (some s))] => bif Nat.beq M.1.1 2 && Nat.beq s 103 then (∃ (c_ : Fc → Bool) (q_ p_ lo_ hi_ : Nat), roT (coT lo_ hi_ M.1.2 M.2.1 M.2.2.2 2) lo_ hi_ M.1.2 M.2.1 M.2.2.2 h_ c_ ∧ sciB M.2.1 M.2.2.2 q_ p_ ∧ (c_ (fcX (cx M.2.1 q_) p_) = true → Q (some (vi 1)) ((2, M.1.2), M.2.1, M.2.2.1, M.2.2.2)) ∧ (c_ (fcX (cx M.2.1 q_) p_) = false → Q (some (vi 0)) ((2, M.1.2), M.2.1, M.2.2.1, M.2.2.2))) else False
  | _ => False

def zpX13_holds_3 : zz_P := [(0, zo_c 1 (vi 0)), (1, zo_ist 2 2), (2, zo_ild 3 2), (3, zo_ald 4 0), (4, zo_getq 7 11 1), (7, zo_callvp 10 1 17 zJ2_sizeh), (10, zo_cge false false 13 56), (13, zo_ald 14 0), (14, zo_getq 17 11 1), (17, zo_ild 18 2), (18, zo_callvp 21 2 17 zJ2_get), (21, zo_cast 24 [11, 12, 13, 16]), (24, zo_ald 25 1), (25, zo_or (zo_cfF (mm_rm 8 0 0) 30 2 11 0 0 zX13_holds_2) (zo_or (zo_cfF (mm_rm 8 0 0) 30 2 12 0 0 zX14_holds_2) (zo_or (zo_cfF (mm_rm 8 0 0) 30 2 13 0 0 zX15_holds) (zo_cfF (mm_rm 8 0 0) 30 2 16 0 0 zX19_holds)))), (30, zo_ald 31 0), (31, zo_getp 34 11 0 0), (34, zo_ceq true false 37 50), (37, zo_ald 38 0), (38, zo_getp 41 11 0 0), (41, zo_ifne false 44 48), (44, zo_c 45 (vi 1)), (45, zo_goto 49), (48, zo_c 49 (vi 0)), (49, zo_zret true), (50, zo_inc 53 2 1), (53, zo_goto 2), (56, zo_ald 57 0), (57, zo_getp 60 11 0 0), (60, zo_zret false)]
theorem ztX13_holds_3 {C : mm_C} (G : mm_G C RX13 cX13_holds (some .boolean) 3 (mm_rm 8 0 0)) (hnh : mm_nh C) : zz_OKs C zpX13_holds_3 :=
  ⟨zz_of (ok_iconst G (v := 0) dX13_holds_0 (by decide) rfl) (z_cn 1 0),
   zz_of (ok_istore_n G dX13_holds_1 rfl rfl (by decide)) (z_ist _ _),
   zz_of (ok_iload_n G dX13_holds_2 rfl rfl) (z_ild _ _),
   zz_of (ok_aload_n G dX13_holds_3 rfl rfl) (z_ald _ _),
   zz_of (ok_get G (nx := 7) (ci := 11) (kd := 2) (k := 1) (RX13, TX13, 2) rfl (by decide) rfl q1157 dX13_holds_4 rfl) (z_getq _ _ _),
   zz_of (ok_callv G hnh (zmJ2_sizeh _ G.hst) rfl rfl (RJ2, TJ2, 3) rfl q1459 q592 q593 q86 q594 (by decide +kernel) ⟨by decide, by decide⟩ dX13_holds_7 rfl) (z_callvp _ _ _ _),
   zz_of (ok_cge G dX13_holds_10 rfl rfl) (z_cge _ _ _ _),
   zz_of (ok_aload_n G dX13_holds_13 rfl rfl) (z_ald _ _),
   zz_of (ok_get G (nx := 17) (ci := 11) (kd := 2) (k := 1) (RX13, TX13, 2) rfl (by decide) rfl q1157 dX13_holds_14 rfl) (z_getq _ _ _),
   zz_of (ok_iload_n G dX13_holds_17 rfl rfl) (z_ild _ _),
   zz_of (ok_callv G hnh (zmJ2_get _ G.hst) rfl rfl (RJ2, TJ2, 3) rfl q1460 q1382 q1383 q86 q1384 (by decide +kernel) ⟨by decide, by decide⟩ dX13_holds_18 rfl) (z_callvp _ _ _ _),
   zz_of (ok_cast G (l := [11, 12, 13, 16]) (fun ci h r e => by
      simp only [List.mem_cons, List.not_mem_nil, or_false] at h
      rcases h with rfl | rfl | rfl | rfl <;> cases e <;> first | exact Or.inl rfl | exact Or.inr q1453 | exact Or.inr q1445 | exact Or.inr q1408 | exact Or.inr q1418) q1461 dX13_holds_21 rfl) (z_cast _ _),
   zz_of (ok_aload_n G dX13_holds_24 rfl rfl) (z_ald _ _),
   zz_or (zz_of (ok_calfF G (hnh.q 25) (zmX13_holds_2 _ G.hst) (RX13, TX13, 2) rfl q1463 q1456 q1454 q114 q1458 (List.Mem.head _) (by decide +kernel) ⟨Nat.le_of_ble_eq_true rfl, Nat.le_of_ble_eq_true rfl⟩ dX13_holds_25 rfl) (z_cfF _ _ _ _ _ _ _)) (zz_or (zz_of (ok_calfF G (hnh.q 25) (zmX14_holds_2 _ G.hst) (RX14, TX14, 1) rfl q1463 q1448 q1446 q115 q1450 (List.Mem.tail _ (List.Mem.head _)) (by decide +kernel) ⟨Nat.le_of_ble_eq_true rfl, Nat.le_of_ble_eq_true rfl⟩ dX13_holds_25 rfl) (z_cfF _ _ _ _ _ _ _)) (zz_or (zz_of (ok_calfF G (hnh.q 25) (zmX15_holds _ G.hst) (RX15, TX15, 1) rfl q1463 q1411 q1409 q116 q1413 (List.Mem.tail _ (List.Mem.tail _ (List.Mem.head _))) (by decide +kernel) ⟨Nat.le_of_ble_eq_true rfl, Nat.le_of_ble_eq_true rfl⟩ dX13_holds_25 rfl) (z_cfF _ _ _ _ _ _ _)) (zz_of (ok_calfF G (hnh.q 25) (zmX19_holds _ G.hst) (RX19, TX19, 2) rfl q1463 q1421 q1419 q121 q1423 (List.Mem.tail _ (List.Mem.tail _ (List.Mem.tail _ (List.Mem.head _)))) (by decide +kernel) ⟨Nat.le_of_ble_eq_true rfl, Nat.le_of_ble_eq_true rfl⟩ dX13_holds_25 rfl) (z_cfF _ _ _ _ _ _ _)))),
   zz_of (ok_aload_n G dX13_holds_30 rfl rfl) (z_ald _ _),
   zz_of (ok_get G (nx := 34) (ci := 11) (kd := 0) (k := 0) (RX13, TX13, 2) rfl (by decide) rfl q1156 dX13_holds_31 rfl) (z_getp _ _ _ _),
   zz_of (ok_ceq G dX13_holds_34 rfl rfl) (z_ceq _ _ _ _),
   zz_of (ok_aload_n G dX13_holds_37 rfl rfl) (z_ald _ _),
   zz_of (ok_get G (nx := 41) (ci := 11) (kd := 0) (k := 0) (RX13, TX13, 2) rfl (by decide) rfl q1156 dX13_holds_38 rfl) (z_getp _ _ _ _),
   zz_of (ok_ifne G dX13_holds_41 rfl rfl) (z_ifne _ _ _),
   zz_of (ok_iconst G (v := 1) dX13_holds_44 (by decide) rfl) (z_cn 45 1),
   zz_of (ok_goto G dX13_holds_45 rfl) (z_goto _),
   zz_of (ok_iconst G (v := 0) dX13_holds_48 (by decide) rfl) (z_cn 49 0),
   zz_of (ok_zret G dX13_holds_49) (z_zret _),
   zz_of (ok_iinc G (v := 1) dX13_holds_50 (by decide) rfl (by decide)) (z_incn 53 2 1),
   zz_of (ok_goto G dX13_holds_53 rfl) (z_goto _),
   zz_of (ok_aload_n G dX13_holds_56 rfl rfl) (z_ald _ _),
   zz_of (ok_get G (nx := 60) (ci := 11) (kd := 0) (k := 0) (RX13, TX13, 2) rfl (by decide) rfl q1156 dX13_holds_57 rfl) (z_getp _ _ _ _),
   zz_of (ok_zret G dX13_holds_60) (z_zret _), trivial⟩

theorem zwX13_holds_3_0 {Q : Option zv → zz_M → Prop} {X : Nat → zz_M → Prop} {f : Nat → Nat × Nat} {S L : Nat → Nat → Int} {P : Nat → Nat → Option Nat} {h_ : Nat} (h : zz_J zpX13_holds_3 (zz_ret Q X 0 0) 2 [some (vr h_), some (vr 103), some (vi 0)] [] ((2, f), S, L, P) (0, 0)) : zz_J zpX13_holds_3 (zz_ret Q X 0 0) 0 [some (vr h_), some (vr 103), none] [] ((2, f), S, L, P) (0, 0) := zz_J.go [(2, [])] 400 h
theorem zwX13_holds_3_2 {Q : Option zv → zz_M → Prop} {X : Nat → zz_M → Prop} {f : Nat → Nat × Nat} {S L : Nat → Nat → Int} {P : Nat → Nat → Option Nat} {h0 : Nat} {x2 : Int} (h : zsh ((2, f), S, L, P) h0 = (1, 11) ∧ (∀ b1 : Nat, zpt ((2, f), S, L, P) h0 1 = some b1 → (zsh ((2, f), S, L, P) b1 = (1, 17) ∨ zsh ((2, f), S, L, P) b1 = (17, 17)) ∧ (zsh ((2, f), S, L, P) b1 = (1, 17) ∧ (R32 x2 ∧ (R32 (((2, f), S, L, P).2.1 b1 2) ∧ (((((2, f), S, L, P).2.1 b1 2) ≤ x2 → zsh ((2, f), S, L, P) h0 = (1, 11) ∧ (((S h0 0) = 0 ∨ (S h0 0) = 1) ∧ (Q (some (vi (S h0 0))) ((2, f), S, L, P)))) ∧ (¬ (((2, f), S, L, P).2.1 b1 2) ≤ x2 → zsh ((2, f), S, L, P) h0 = (1, 11) ∧ (∀ b3 : Nat, zpt ((2, f), S, L, P) h0 1 = some b3 → (zsh ((2, f), S, L, P) b3 = (1, 17) ∨ zsh ((2, f), S, L, P) b3 = (17, 17)) ∧ (zsh ((2, f), S, L, P) b3 = (1, 17) ∧ ∃ (e_4 n_4 x_4 : Nat), zpt ((2, f), S, L, P) b3 1 = some e_4 ∧ zsh ((2, f), S, L, P) e_4 = (7, n_4) ∧ n_4 ≤ 2147483647 ∧ (0 ≤ x2 ∧ x2 < (n_4 : Int)) ∧ (x2 < ((2, f), S, L, P).2.1 b3 2 ∧ ((2, f), S, L, P).2.1 b3 2 < 2147483647) ∧ zpt ((2, f), S, L, P) e_4 x2.toNat = some x_4 ∧ ((∃ ci : Nat, (zsh ((2, f), S, L, P) x_4 = (1, ci) ∨ zsh ((2, f), S, L, P) x_4 = (17, ci)) ∧ mm_mem [11, 12, 13, 16] ci = true) ∧ (((zsh ((2, f), S, L, P) x_4 = (1, 11) ∨ zsh ((2, f), S, L, P) x_4 = (17, 11)) ∧ (0 + 0 ≤ 0 ∧ 0 + 0 ≤ 0) ∧ (∃ (c_5 : Fc → Bool) (q_5 p_5 lo_5 hi_5 : Nat), roT (coT lo_5 hi_5 f S P 1) lo_5 hi_5 f S P x_4 c_5 ∧ sciB S P q_5 p_5 ∧ (c_5 (fcX (cx S q_5) p_5) = true → (zsh ((2, f), S, L, P) h0 = (1, 11) ∧ (R32 (S h0 0) ∧ (((1 : Int) = (S h0 0) → zz_J zpX13_holds_3 (zz_ret Q X 0 0) 2 [some (vr h0), some (vr 103), some (vi (x2 + 1))] [] ((2, f), S, L, P) (0, 0)) ∧ (¬ (1 : Int) = (S h0 0) → zsh ((2, f), S, L, P) h0 = (1, 11) ∧ (R32 (S h0 0) ∧ ((¬ (S h0 0) = 0 → Q (some (vi 0)) ((2, f), S, L, P)) ∧ ((S h0 0) = 0 → Q (some (vi 1)) ((2, f), S, L, P))))))))) ∧ (c_5 (fcX (cx S q_5) p_5) = false → (zsh ((2, f), S, L, P) h0 = (1, 11) ∧ (R32 (S h0 0) ∧ (((0 : Int) = (S h0 0) → zz_J zpX13_holds_3 (zz_ret Q X 0 0) 2 [some (vr h0), some (vr 103), some (vi (x2 + 1))] [] ((2, f), S, L, P) (0, 0)) ∧ (¬ (0 : Int) = (S h0 0) → zsh ((2, f), S, L, P) h0 = (1, 11) ∧ (R32 (S h0 0) ∧ ((¬ (S h0 0) = 0 → Q (some (vi 0)) ((2, f), S, L, P)) ∧ ((S h0 0) = 0 → Q (some (vi 1)) ((2, f), S, L, P))))))))))) ∨ ((zsh ((2, f), S, L, P) x_4 = (1, 12) ∨ zsh ((2, f), S, L, P) x_4 = (17, 12)) ∧ (0 + 0 ≤ 0 ∧ 0 + 0 ≤ 0) ∧ (∃ (c_6 : Fc → Bool) (q_6 p_6 lo_6 hi_6 : Nat), noT (coT lo_6 hi_6 f S P 1) lo_6 hi_6 f P x_4 c_6 ∧ sciB S P q_6 p_6 ∧ (c_6 (fcX (cx S q_6) p_6) = true → (zsh ((2, f), S, L, P) h0 = (1, 11) ∧ (R32 (S h0 0) ∧ (((1 : Int) = (S h0 0) → zz_J zpX13_holds_3 (zz_ret Q X 0 0) 2 [some (vr h0), some (vr 103), some (vi (x2 + 1))] [] ((2, f), S, L, P) (0, 0)) ∧ (¬ (1 : Int) = (S h0 0) → zsh ((2, f), S, L, P) h0 = (1, 11) ∧ (R32 (S h0 0) ∧ ((¬ (S h0 0) = 0 → Q (some (vi 0)) ((2, f), S, L, P)) ∧ ((S h0 0) = 0 → Q (some (vi 1)) ((2, f), S, L, P))))))))) ∧ (c_6 (fcX (cx S q_6) p_6) = false → (zsh ((2, f), S, L, P) h0 = (1, 11) ∧ (R32 (S h0 0) ∧ (((0 : Int) = (S h0 0) → zz_J zpX13_holds_3 (zz_ret Q X 0 0) 2 [some (vr h0), some (vr 103), some (vi (x2 + 1))] [] ((2, f), S, L, P) (0, 0)) ∧ (¬ (0 : Int) = (S h0 0) → zsh ((2, f), S, L, P) h0 = (1, 11) ∧ (R32 (S h0 0) ∧ ((¬ (S h0 0) = 0 → Q (some (vi 0)) ((2, f), S, L, P)) ∧ ((S h0 0) = 0 → Q (some (vi 1)) ((2, f), S, L, P))))))))))) ∨ ((zsh ((2, f), S, L, P) x_4 = (1, 13) ∨ zsh ((2, f), S, L, P) x_4 = (17, 13)) ∧ (0 + 0 ≤ 0 ∧ 0 + 0 ≤ 0) ∧ (∃ q_7 p_7 : Nat, (2000 ≤ x_4 ∧ f x_4 = (1, 13) ∧ (S x_4 0 = 0 ∨ S x_4 0 = 1)) ∧ scnI S P q_7 p_7 ∧ ((if S x_4 0 = 1 then cx S q_7 2 = (p_7 : Int) else cx S q_7 6 = 1) → (zsh ((2, f), S, L, P) h0 = (1, 11) ∧ (R32 (S h0 0) ∧ (((1 : Int) = (S h0 0) → zz_J zpX13_holds_3 (zz_ret Q X 0 0) 2 [some (vr h0), some (vr 103), some (vi (x2 + 1))] [] ((2, f), S, L, P) (0, 0)) ∧ (¬ (1 : Int) = (S h0 0) → zsh ((2, f), S, L, P) h0 = (1, 11) ∧ (R32 (S h0 0) ∧ ((¬ (S h0 0) = 0 → Q (some (vi 0)) ((2, f), S, L, P)) ∧ ((S h0 0) = 0 → Q (some (vi 1)) ((2, f), S, L, P))))))))) ∧ (¬ (if S x_4 0 = 1 then cx S q_7 2 = (p_7 : Int) else cx S q_7 6 = 1) → (zsh ((2, f), S, L, P) h0 = (1, 11) ∧ (R32 (S h0 0) ∧ (((0 : Int) = (S h0 0) → zz_J zpX13_holds_3 (zz_ret Q X 0 0) 2 [some (vr h0), some (vr 103), some (vi (x2 + 1))] [] ((2, f), S, L, P) (0, 0)) ∧ (¬ (0 : Int) = (S h0 0) → zsh ((2, f), S, L, P) h0 = (1, 11) ∧ (R32 (S h0 0) ∧ ((¬ (S h0 0) = 0 → Q (some (vi 0)) ((2, f), S, L, P)) ∧ ((S h0 0) = 0 → Q (some (vi 1)) ((2, f), S, L, P))))))))))) ∨ ((zsh ((2, f), S, L, P) x_4 = (1, 16) ∨ zsh ((2, f), S, L, P) x_4 = (17, 16)) ∧ (0 + 0 ≤ 0 ∧ 0 + 0 ≤ 0) ∧ (∃ (g_8 k_8 : Fc → Int) (q_8 p_8 a_8 b_8 lo_8 hi_8 : Nat), (2000 ≤ x_4 ∧ f x_4 = (1, 16) ∧ P x_4 0 = some a_8 ∧ P x_4 1 = some b_8) ∧ SuT lo_8 hi_8 f S P a_8 g_8 ∧ SuT lo_8 hi_8 f S P b_8 k_8 ∧ scnI S P q_8 p_8 ∧ R32 (g_8 (fcX (cx S q_8) p_8)) ∧ R32 (k_8 (fcX (cx S q_8) p_8)) ∧ (g_8 (fcX (cx S q_8) p_8) < k_8 (fcX (cx S q_8) p_8) → (zsh ((2, f), S, L, P) h0 = (1, 11) ∧ (R32 (S h0 0) ∧ (((1 : Int) = (S h0 0) → zz_J zpX13_holds_3 (zz_ret Q X 0 0) 2 [some (vr h0), some (vr 103), some (vi (x2 + 1))] [] ((2, f), S, L, P) (0, 0)) ∧ (¬ (1 : Int) = (S h0 0) → zsh ((2, f), S, L, P) h0 = (1, 11) ∧ (R32 (S h0 0) ∧ ((¬ (S h0 0) = 0 → Q (some (vi 0)) ((2, f), S, L, P)) ∧ ((S h0 0) = 0 → Q (some (vi 1)) ((2, f), S, L, P))))))))) ∧ (¬ g_8 (fcX (cx S q_8) p_8) < k_8 (fcX (cx S q_8) p_8) → (zsh ((2, f), S, L, P) h0 = (1, 11) ∧ (R32 (S h0 0) ∧ (((0 : Int) = (S h0 0) → zz_J zpX13_holds_3 (zz_ret Q X 0 0) 2 [some (vr h0), some (vr 103), some (vi (x2 + 1))] [] ((2, f), S, L, P) (0, 0)) ∧ (¬ (0 : Int) = (S h0 0) → zsh ((2, f), S, L, P) h0 = (1, 11) ∧ (R32 (S h0 0) ∧ ((¬ (S h0 0) = 0 → Q (some (vi 0)) ((2, f), S, L, P)) ∧ ((S h0 0) = 0 → Q (some (vi 1)) ((2, f), S, L, P))))))))))))))) ∧ (zpt ((2, f), S, L, P) h0 1 = none → False ∧ False))))))) ∧ (zpt ((2, f), S, L, P) h0 1 = none → False ∧ False)) : zz_J zpX13_holds_3 (zz_ret Q X 0 0) 2 [some (vr h0), some (vr 103), some (vi x2)] [] ((2, f), S, L, P) (0, 0) := zz_J.go [(2, [])] 400 h

theorem zmX14_holds_3 (l : Launch) (hl : l.stackTraces = false) : mm_Spec l yX14_holds (ws_ yX14_holds cX14_holds 2 (some .boolean)) (mm_rm 8 0 0) (zE zX14_holds_3) := by
  refine zz_Met.J hl (by decide) (fun C G hnh => ztX14_holds_3 G hnh) ?_
  rintro as ⟨⟨t_, f⟩, S, L, P⟩ Q X h
  unfold zX14_holds_3 at h
  split at h
  rotate_left
  · exact h.elim
  rename_i h_ s
  obtain ⟨e1_, e2_, h⟩ := mm_and2 h (fun q => q)
  cases mm_beq e1_
  cases mm_beq e2_
  try dsimp only at h
  refine ⟨rfl, ?_⟩
  obtain ⟨c, q, p, lo, hi, ⟨q1, q2, a, g, q3, q4, rfl⟩, hs, ha, hb⟩ := h
  have hz : zsh ((2, f), S, L, P) h_ = (1, 12) := (zsh_hi q1.le).trans q2
  have hx : zpt ((2, f), S, L, P) h_ 0 = some a := (zpt_hi q1.le).trans q3
  have ha' : g (fcX (cx S q) p) = true → Q (some (vi 0)) ((2, f), S, L, P) := fun e => hb (by show (!g _) = false; rw [e]; rfl)
  have hb' : g (fcX (cx S q) p) = false → Q (some (vi 1)) ((2, f), S, L, P) := fun e => ha (by show (!g _) = true; rw [e]; rfl)
  refine zwX14_holds_3_0 (q_go hz hx ?_)
  first | exact le_or q4 hs ha' hb' | exact co_or q4 hs ha' hb'
theorem zmX13_holds_3 (l : Launch) (hl : l.stackTraces = false) : mm_Spec l yX13_holds (ws_ yX13_holds cX13_holds 3 (some .boolean)) (mm_rm 8 0 0) (zE zX13_holds_3) := by
  refine zz_Met.J hl (by decide) (fun C G hnh => ztX13_holds_3 G hnh) ?_
  rintro as ⟨⟨t_, f⟩, S, L, P⟩ Q X h
  unfold zX13_holds_3 at h
  split at h
  rotate_left
  · exact h.elim
  rename_i h_ s
  obtain ⟨e1_, e2_, h⟩ := mm_and2 h (fun q => q)
  cases mm_beq e1_
  cases mm_beq e2_
  try dsimp only at h
  refine ⟨rfl, ?_⟩
  obtain ⟨c, q, p, lo, hi0, ⟨q1, q2, all, a, l, cs, q3, q4, ⟨ha2, hfa, hsz, hlen, hel⟩, q6, q7, rfl⟩, hs, ha, hb⟩ := h
  have hz : zsh ((2, f), S, L, P) h_ = (1, 11) := (zsh_hi q1.le).trans q2
  have hx : zpt ((2, f), S, L, P) h_ 1 = some a := (zpt_hi q1.le).trans q4
  replace ha2 := ha2.le
  have hza : zsh ((2, f), S, L, P) a = (1, 17) := (zsh_hi ha2).trans hfa
  have s01 : S h_ 0 = 0 ∨ S h_ 0 = 1 := by rw [q3]; cases all <;> simp
  have sR : R32 (S h_ 0) := by rcases s01 with e | e <;> rw [e] <;> decide
  have ret : alB all cs (fcX (cx S q) p) = all → Q (some (vi (S h_ 0))) ((2, f), S, L, P) := by
    rw [q3]
    cases all with
    | true => exact fun e => ha e
    | false => exact fun e => hb e
  have t2 : ∀ (m i : Nat), i + m = l.length → (∀ (j : Nat) (g : Fc → Bool), j < i → cs[j]? = some g → g (fcX (cx S q) p) = all) → zz_J zpX13_holds_3 (zz_ret Q X 0 0) 2 [some (vr h_), some (vr 103), some (vi (i : Int))] [] ((2, f), S, L, P) (0, 0) := by
    intro m
    induction m with
    | zero =>
      intro i hi hal
      refine zwX13_holds_3_2 (q_go hz hx ⟨Or.inl hza, hza, by omega, by show R32 (S a 2); rw [hsz]; omega, fun _ => ⟨hz, s01, ret (alB_a fun j g hg => hal j g ?_ hg)⟩, fun c => absurd (show S a 2 ≤ (i : Int) by rw [hsz]; omega) c⟩)
      have : j < cs.length := by
        apply Decidable.byContradiction
        intro hc
        rw [List.getElem?_eq_none (by omega)] at hg
        cases hg
      omega
    | succ m ih =>
      intro i hi hal
      have il : i < l.length := by omega
      have ig : i < cs.length := by omega
      obtain ⟨e, n, he2, hPe, hfe, hn, hln, hPi⟩ := hel (fun c => by rw [c] at il; exact absurd il (by simp))
      replace he2 := he2.le
      have hlx : l[i]? = some l[i] := List.getElem?_eq_getElem il
      have hgx : cs[i]? = some cs[i] := List.getElem?_eq_getElem ig
      have hcx := q7 i _ _ hlx hgx
      have AB : ∀ v : Int, (v = bif cs[i] (fcX (cx S q) p) then 1 else 0) → (zsh ((2, f), S, L, P) h_ = (1, 11) ∧ (R32 (S h_ 0) ∧ ((v = (S h_ 0) → zz_J zpX13_holds_3 (zz_ret Q X 0 0) 2 [some (vr h_), some (vr 103), some (vi ((i : Int) + 1))] [] ((2, f), S, L, P) (0, 0)) ∧ (¬ v = (S h_ 0) → zsh ((2, f), S, L, P) h_ = (1, 11) ∧ (R32 (S h_ 0) ∧ ((¬ (S h_ 0) = 0 → Q (some (vi 0)) ((2, f), S, L, P)) ∧ ((S h_ 0) = 0 → Q (some (vi 1)) ((2, f), S, L, P)))))))) := by
        intro v hv
        refine ⟨hz, sR, fun c => ?_, fun c => ⟨hz, sR, ?_⟩⟩
        · refine ih (i + 1) (by omega) (fun j g hj hg => ?_)
          by_cases ej : j = i
          · rw [ej, hgx] at hg
            cases hg
            rw [hv, q3] at c
            revert c
            cases cs[i] (fcX (cx S q) p) <;> cases all <;> simp
          · exact hal j g (by omega) hg
        · have hne : cs[i] (fcX (cx S q) p) ≠ all := by
            rw [hv, q3] at c
            intro e2
            rw [e2] at c
            exact c rfl
          have e2 := alB_t hgx hne
          rw [q3]
          revert e2 ha hb
          cases all with
          | true => exact fun ha hb e2 => ⟨fun _ => hb e2, fun c => absurd c (by decide)⟩
          | false => exact fun ha hb e2 => ⟨fun c => absurd rfl c, fun _ => ha e2⟩
      refine zwX13_holds_3_2 (q_go hz hx ⟨Or.inl hza, hza, by omega, by show R32 (S a 2); rw [hsz]; omega, fun c => absurd (show S a 2 ≤ (i : Int) from c) (by rw [hsz]; omega), fun _ => ⟨hz, ?_⟩⟩)
      refine (q_go hz hx ⟨Or.inl hza, hza, e, n, l[i], (zpt_hi ha2).trans hPe, (zsh_hi he2).trans hfe, hn, by omega, ⟨by show (i : Int) < S a 2; rw [hsz]; omega, by show S a 2 < 2147483647; rw [hsz]; omega⟩, ?_, coT_sh hcx, ?_⟩ : _ ∧ _ ∧ _).2
      · rw [Int.toNat_natCast]
        exact (zpt_hi he2).trans (hPi i _ hlx)
      · have A1 := fun e : cs[i] (fcX (cx S q) p) = true => AB 1 (by rw [e]; rfl)
        have A0 := fun e : cs[i] (fcX (cx S q) p) = false => AB 0 (by rw [e]; rfl)
        first | exact le_or hcx hs A1 A0 | exact co_or hcx hs A1 A0
  exact zwX13_holds_3_0 (t2 l.length 0 (by omega) (fun j g hj => absurd hj (Nat.not_lt_zero _)))
def zX14_holds_4 : zz_Sp := fun as M Q X => match as with
  | [.inr (.inr (some h_)), .inr (.inr (some s))] => bif Nat.beq M.1.1 2 && Nat.beq s 103 then (∃ (c_ : Fc → Bool) (q_ p_ lo_ hi_ : Nat), noT (coT lo_ hi_ M.1.2 M.2.1 M.2.2.2 3) lo_ hi_ M.1.2 M.2.2.2 h_ c_ ∧ sciB M.2.1 M.2.2.2 q_ p_ ∧ (c_ (fcX (cx M.2.1 q_) p_) = true → Q (some (vi 1)) ((2, M.1.2), M.2.1, M.2.2.1, M.2.2.2)) ∧ (c_ (fcX (cx M.2.1 q_) p_) = false → Q (some (vi 0)) ((2, M.1.2), M.2.1, M.2.2.1, M.2.2.2))) else False
  | _ => False

def zpX14_holds_4 : zz_P := [(0, zo_ald 1 0), (1, zo_getq 4 12 0), (4, zo_ald 5 1), (5, zo_or (zo_cfF (mm_rm 9 0 0) 10 2 11 0 0 zX13_holds_3) (zo_or (zo_cfF (mm_rm 9 0 0) 10 2 12 0 0 zX14_holds_3) (zo_or (zo_cfF (mm_rm 9 0 0) 10 2 13 0 0 zX15_holds) (zo_cfF (mm_rm 9 0 0) 10 2 16 0 0 zX19_holds)))), (10, zo_zifne 13 17), (13, zo_c 14 (vi 1)), (14, zo_goto 18), (17, zo_c 18 (vi 0)), (18, zo_zret true)]
theorem ztX14_holds_4 {C : mm_C} (G : mm_G C RX14 cX14_holds (some .boolean) 2 (mm_rm 9 0 0)) (hnh : mm_nh C) : zz_OKs C zpX14_holds_4 :=
  ⟨zz_of (ok_aload_n G dX14_holds_0 rfl rfl) (z_ald _ _),
   zz_of (ok_get G (nx := 4) (ci := 12) (kd := 2) (k := 0) (RX14, TX14, 1) rfl (by decide) rfl q1187 dX14_holds_1 rfl) (z_getq _ _ _),
   zz_of (ok_aload_n G dX14_holds_4 rfl rfl) (z_ald _ _),
   zz_or (zz_of (ok_calfF G (hnh.q 5) (zmX13_holds_3 _ G.hst) (RX13, TX13, 2) rfl q1452 q1456 q1454 q114 q1458 (List.Mem.head _) (by decide +kernel) ⟨Nat.le_of_ble_eq_true rfl, Nat.le_of_ble_eq_true rfl⟩ dX14_holds_5 rfl) (z_cfF _ _ _ _ _ _ _)) (zz_or (zz_of (ok_calfF G (hnh.q 5) (zmX14_holds_3 _ G.hst) (RX14, TX14, 1) rfl q1452 q1448 q1446 q115 q1450 (List.Mem.tail _ (List.Mem.head _)) (by decide +kernel) ⟨Nat.le_of_ble_eq_true rfl, Nat.le_of_ble_eq_true rfl⟩ dX14_holds_5 rfl) (z_cfF _ _ _ _ _ _ _)) (zz_or (zz_of (ok_calfF G (hnh.q 5) (zmX15_holds _ G.hst) (RX15, TX15, 1) rfl q1452 q1411 q1409 q116 q1413 (List.Mem.tail _ (List.Mem.tail _ (List.Mem.head _))) (by decide +kernel) ⟨Nat.le_of_ble_eq_true rfl, Nat.le_of_ble_eq_true rfl⟩ dX14_holds_5 rfl) (z_cfF _ _ _ _ _ _ _)) (zz_of (ok_calfF G (hnh.q 5) (zmX19_holds _ G.hst) (RX19, TX19, 2) rfl q1452 q1421 q1419 q121 q1423 (List.Mem.tail _ (List.Mem.tail _ (List.Mem.tail _ (List.Mem.head _)))) (by decide +kernel) ⟨Nat.le_of_ble_eq_true rfl, Nat.le_of_ble_eq_true rfl⟩ dX14_holds_5 rfl) (z_cfF _ _ _ _ _ _ _)))),
   zz_of (ok_ifne G dX14_holds_10 rfl rfl) (z_zifne _ _),
   zz_of (ok_iconst G (v := 1) dX14_holds_13 (by decide) rfl) (z_cn 14 1),
   zz_of (ok_goto G dX14_holds_14 rfl) (z_goto _),
   zz_of (ok_iconst G (v := 0) dX14_holds_17 (by decide) rfl) (z_cn 18 0),
   zz_of (ok_zret G dX14_holds_18) (z_zret _), trivial⟩

theorem zwX14_holds_4_0 {Q : Option zv → zz_M → Prop} {X : Nat → zz_M → Prop} {f : Nat → Nat × Nat} {S L : Nat → Nat → Int} {P : Nat → Nat → Option Nat} {h_ : Nat} (h : zsh ((2, f), S, L, P) h_ = (1, 12) ∧ (∀ b1 : Nat, zpt ((2, f), S, L, P) h_ 0 = some b1 → ((zsh ((2, f), S, L, P) b1 = (1, 11) ∨ zsh ((2, f), S, L, P) b1 = (17, 11)) ∧ (0 + 0 ≤ 0 ∧ 0 + 0 ≤ 0) ∧ (∃ (c_2 : Fc → Bool) (q_2 p_2 lo_2 hi_2 : Nat), roT (coT lo_2 hi_2 f S P 2) lo_2 hi_2 f S P b1 c_2 ∧ sciB S P q_2 p_2 ∧ (c_2 (fcX (cx S q_2) p_2) = true → (Q (some (vi 0)) ((2, f), S, L, P))) ∧ (c_2 (fcX (cx S q_2) p_2) = false → (Q (some (vi 1)) ((2, f), S, L, P))))) ∨ ((zsh ((2, f), S, L, P) b1 = (1, 12) ∨ zsh ((2, f), S, L, P) b1 = (17, 12)) ∧ (0 + 0 ≤ 0 ∧ 0 + 0 ≤ 0) ∧ (∃ (c_3 : Fc → Bool) (q_3 p_3 lo_3 hi_3 : Nat), noT (coT lo_3 hi_3 f S P 2) lo_3 hi_3 f P b1 c_3 ∧ sciB S P q_3 p_3 ∧ (c_3 (fcX (cx S q_3) p_3) = true → (Q (some (vi 0)) ((2, f), S, L, P))) ∧ (c_3 (fcX (cx S q_3) p_3) = false → (Q (some (vi 1)) ((2, f), S, L, P))))) ∨ ((zsh ((2, f), S, L, P) b1 = (1, 13) ∨ zsh ((2, f), S, L, P) b1 = (17, 13)) ∧ (0 + 0 ≤ 0 ∧ 0 + 0 ≤ 0) ∧ (∃ q_4 p_4 : Nat, (2000 ≤ b1 ∧ f b1 = (1, 13) ∧ (S b1 0 = 0 ∨ S b1 0 = 1)) ∧ scnI S P q_4 p_4 ∧ ((if S b1 0 = 1 then cx S q_4 2 = (p_4 : Int) else cx S q_4 6 = 1) → (Q (some (vi 0)) ((2, f), S, L, P))) ∧ (¬ (if S b1 0 = 1 then cx S q_4 2 = (p_4 : Int) else cx S q_4 6 = 1) → (Q (some (vi 1)) ((2, f), S, L, P))))) ∨ ((zsh ((2, f), S, L, P) b1 = (1, 16) ∨ zsh ((2, f), S, L, P) b1 = (17, 16)) ∧ (0 + 0 ≤ 0 ∧ 0 + 0 ≤ 0) ∧ (∃ (g_5 k_5 : Fc → Int) (q_5 p_5 a_5 b_5 lo_5 hi_5 : Nat), (2000 ≤ b1 ∧ f b1 = (1, 16) ∧ P b1 0 = some a_5 ∧ P b1 1 = some b_5) ∧ SuT lo_5 hi_5 f S P a_5 g_5 ∧ SuT lo_5 hi_5 f S P b_5 k_5 ∧ scnI S P q_5 p_5 ∧ R32 (g_5 (fcX (cx S q_5) p_5)) ∧ R32 (k_5 (fcX (cx S q_5) p_5)) ∧ (g_5 (fcX (cx S q_5) p_5) < k_5 (fcX (cx S q_5) p_5) → (Q (some (vi 0)) ((2, f), S, L, P))) ∧ (¬ g_5 (fcX (cx S q_5) p_5) < k_5 (fcX (cx S q_5) p_5) → (Q (some (vi 1)) ((2, f), S, L, P)))))) ∧ (zpt ((2, f), S, L, P) h_ 0 = none → (False ∧ (0 + 0 ≤ 0 ∧ 0 + 0 ≤ 0) ∧ False) ∨ (False ∧ (0 + 0 ≤ 0 ∧ 0 + 0 ≤ 0) ∧ False) ∨ (False ∧ (0 + 0 ≤ 0 ∧ 0 + 0 ≤ 0) ∧ False) ∨ (False ∧ (0 + 0 ≤ 0 ∧ 0 + 0 ≤ 0) ∧ False))) : zz_J zpX14_holds_4 (zz_ret Q X 0 0) 0 [some (vr h_), some (vr 103)] [] ((2, f), S, L, P) (0, 0) := zz_J.go [] 400 h

def zX13_holds_4 : zz_Sp := fun as M Q X => match as with
  | [.inr (.inr (some h_)), .inr (.inr (some s))] => bif Nat.beq M.1.1 2 && Nat.beq s 103 then (∃ (c_ : Fc → Bool) (q_ p_ lo_ hi_ : Nat), roT (coT lo_ hi_ M.1.2 M.2.1 M.2.2.2 3) lo_ hi_ M.1.2 M.2.1 M.2.2.2 h_ c_ ∧ sciB M.2.1 M.2.2.2 q_ p_ ∧ (c_ (fcX (cx M.2.1 q_) p_) = true → Q (some (vi 1)) ((2, M.1.2), M.2.1, M.2.2.1, M.2.2.2)) ∧ (c_ (fcX (cx M.2.1 q_) p_) = false → Q (some (vi 0)) ((2, M.1.2), M.2.1, M.2.2.1, M.2.2.2))) else False
  | _ => False

def zpX13_holds_4 : zz_P := [(0, zo_c 1 (vi 0)), (1, zo_ist 2 2), (2, zo_ild 3 2), (3, zo_ald 4 0), (4, zo_getq 7 11 1), (7, zo_callvp 10 1 17 zJ2_sizeh), (10, zo_cge false false 13 56), (13, zo_ald 14 0), (14, zo_getq 17 11 1), (17, zo_ild 18 2), (18, zo_callvp 21 2 17 zJ2_get), (21, zo_cast 24 [11, 12, 13, 16]), (24, zo_ald 25 1), (25, zo_or (zo_cfF (mm_rm 9 0 0) 30 2 11 0 0 zX13_holds_3) (zo_or (zo_cfF (mm_rm 9 0 0) 30 2 12 0 0 zX14_holds_3) (zo_or (zo_cfF (mm_rm 9 0 0) 30 2 13 0 0 zX15_holds) (zo_cfF (mm_rm 9 0 0) 30 2 16 0 0 zX19_holds)))), (30, zo_ald 31 0), (31, zo_getp 34 11 0 0), (34, zo_ceq true false 37 50), (37, zo_ald 38 0), (38, zo_getp 41 11 0 0), (41, zo_ifne false 44 48), (44, zo_c 45 (vi 1)), (45, zo_goto 49), (48, zo_c 49 (vi 0)), (49, zo_zret true), (50, zo_inc 53 2 1), (53, zo_goto 2), (56, zo_ald 57 0), (57, zo_getp 60 11 0 0), (60, zo_zret false)]
theorem ztX13_holds_4 {C : mm_C} (G : mm_G C RX13 cX13_holds (some .boolean) 3 (mm_rm 9 0 0)) (hnh : mm_nh C) : zz_OKs C zpX13_holds_4 :=
  ⟨zz_of (ok_iconst G (v := 0) dX13_holds_0 (by decide) rfl) (z_cn 1 0),
   zz_of (ok_istore_n G dX13_holds_1 rfl rfl (by decide)) (z_ist _ _),
   zz_of (ok_iload_n G dX13_holds_2 rfl rfl) (z_ild _ _),
   zz_of (ok_aload_n G dX13_holds_3 rfl rfl) (z_ald _ _),
   zz_of (ok_get G (nx := 7) (ci := 11) (kd := 2) (k := 1) (RX13, TX13, 2) rfl (by decide) rfl q1157 dX13_holds_4 rfl) (z_getq _ _ _),
   zz_of (ok_callv G hnh (zmJ2_sizeh _ G.hst) rfl rfl (RJ2, TJ2, 3) rfl q1459 q592 q593 q86 q594 (by decide +kernel) ⟨by decide, by decide⟩ dX13_holds_7 rfl) (z_callvp _ _ _ _),
   zz_of (ok_cge G dX13_holds_10 rfl rfl) (z_cge _ _ _ _),
   zz_of (ok_aload_n G dX13_holds_13 rfl rfl) (z_ald _ _),
   zz_of (ok_get G (nx := 17) (ci := 11) (kd := 2) (k := 1) (RX13, TX13, 2) rfl (by decide) rfl q1157 dX13_holds_14 rfl) (z_getq _ _ _),
   zz_of (ok_iload_n G dX13_holds_17 rfl rfl) (z_ild _ _),
   zz_of (ok_callv G hnh (zmJ2_get _ G.hst) rfl rfl (RJ2, TJ2, 3) rfl q1460 q1382 q1383 q86 q1384 (by decide +kernel) ⟨by decide, by decide⟩ dX13_holds_18 rfl) (z_callvp _ _ _ _),
   zz_of (ok_cast G (l := [11, 12, 13, 16]) (fun ci h r e => by
      simp only [List.mem_cons, List.not_mem_nil, or_false] at h
      rcases h with rfl | rfl | rfl | rfl <;> cases e <;> first | exact Or.inl rfl | exact Or.inr q1453 | exact Or.inr q1445 | exact Or.inr q1408 | exact Or.inr q1418) q1461 dX13_holds_21 rfl) (z_cast _ _),
   zz_of (ok_aload_n G dX13_holds_24 rfl rfl) (z_ald _ _),
   zz_or (zz_of (ok_calfF G (hnh.q 25) (zmX13_holds_3 _ G.hst) (RX13, TX13, 2) rfl q1463 q1456 q1454 q114 q1458 (List.Mem.head _) (by decide +kernel) ⟨Nat.le_of_ble_eq_true rfl, Nat.le_of_ble_eq_true rfl⟩ dX13_holds_25 rfl) (z_cfF _ _ _ _ _ _ _)) (zz_or (zz_of (ok_calfF G (hnh.q 25) (zmX14_holds_3 _ G.hst) (RX14, TX14, 1) rfl q1463 q1448 q1446 q115 q1450 (List.Mem.tail _ (List.Mem.head _)) (by decide +kernel) ⟨Nat.le_of_ble_eq_true rfl, Nat.le_of_ble_eq_true rfl⟩ dX13_holds_25 rfl) (z_cfF _ _ _ _ _ _ _)) (zz_or (zz_of (ok_calfF G (hnh.q 25) (zmX15_holds _ G.hst) (RX15, TX15, 1) rfl q1463 q1411 q1409 q116 q1413 (List.Mem.tail _ (List.Mem.tail _ (List.Mem.head _))) (by decide +kernel) ⟨Nat.le_of_ble_eq_true rfl, Nat.le_of_ble_eq_true rfl⟩ dX13_holds_25 rfl) (z_cfF _ _ _ _ _ _ _)) (zz_of (ok_calfF G (hnh.q 25) (zmX19_holds _ G.hst) (RX19, TX19, 2) rfl q1463 q1421 q1419 q121 q1423 (List.Mem.tail _ (List.Mem.tail _ (List.Mem.tail _ (List.Mem.head _)))) (by decide +kernel) ⟨Nat.le_of_ble_eq_true rfl, Nat.le_of_ble_eq_true rfl⟩ dX13_holds_25 rfl) (z_cfF _ _ _ _ _ _ _)))),
   zz_of (ok_aload_n G dX13_holds_30 rfl rfl) (z_ald _ _),
   zz_of (ok_get G (nx := 34) (ci := 11) (kd := 0) (k := 0) (RX13, TX13, 2) rfl (by decide) rfl q1156 dX13_holds_31 rfl) (z_getp _ _ _ _),
   zz_of (ok_ceq G dX13_holds_34 rfl rfl) (z_ceq _ _ _ _),
   zz_of (ok_aload_n G dX13_holds_37 rfl rfl) (z_ald _ _),
   zz_of (ok_get G (nx := 41) (ci := 11) (kd := 0) (k := 0) (RX13, TX13, 2) rfl (by decide) rfl q1156 dX13_holds_38 rfl) (z_getp _ _ _ _),
   zz_of (ok_ifne G dX13_holds_41 rfl rfl) (z_ifne _ _ _),
   zz_of (ok_iconst G (v := 1) dX13_holds_44 (by decide) rfl) (z_cn 45 1),
   zz_of (ok_goto G dX13_holds_45 rfl) (z_goto _),
   zz_of (ok_iconst G (v := 0) dX13_holds_48 (by decide) rfl) (z_cn 49 0),
   zz_of (ok_zret G dX13_holds_49) (z_zret _),
   zz_of (ok_iinc G (v := 1) dX13_holds_50 (by decide) rfl (by decide)) (z_incn 53 2 1),
   zz_of (ok_goto G dX13_holds_53 rfl) (z_goto _),
   zz_of (ok_aload_n G dX13_holds_56 rfl rfl) (z_ald _ _),
   zz_of (ok_get G (nx := 60) (ci := 11) (kd := 0) (k := 0) (RX13, TX13, 2) rfl (by decide) rfl q1156 dX13_holds_57 rfl) (z_getp _ _ _ _),
   zz_of (ok_zret G dX13_holds_60) (z_zret _), trivial⟩

theorem zwX13_holds_4_0 {Q : Option zv → zz_M → Prop} {X : Nat → zz_M → Prop} {f : Nat → Nat × Nat} {S L : Nat → Nat → Int} {P : Nat → Nat → Option Nat} {h_ : Nat} (h : zz_J zpX13_holds_4 (zz_ret Q X 0 0) 2 [some (vr h_), some (vr 103), some (vi 0)] [] ((2, f), S, L, P) (0, 0)) : zz_J zpX13_holds_4 (zz_ret Q X 0 0) 0 [some (vr h_), some (vr 103), none] [] ((2, f), S, L, P) (0, 0) := zz_J.go [(2, [])] 400 h
theorem zwX13_holds_4_2 {Q : Option zv → zz_M → Prop} {X : Nat → zz_M → Prop} {f : Nat → Nat × Nat} {S L : Nat → Nat → Int} {P : Nat → Nat → Option Nat} {h0 : Nat} {x2 : Int} (h : zsh ((2, f), S, L, P) h0 = (1, 11) ∧ (∀ b1 : Nat, zpt ((2, f), S, L, P) h0 1 = some b1 → (zsh ((2, f), S, L, P) b1 = (1, 17) ∨ zsh ((2, f), S, L, P) b1 = (17, 17)) ∧ (zsh ((2, f), S, L, P) b1 = (1, 17) ∧ (R32 x2 ∧ (R32 (((2, f), S, L, P).2.1 b1 2) ∧ (((((2, f), S, L, P).2.1 b1 2) ≤ x2 → zsh ((2, f), S, L, P) h0 = (1, 11) ∧ (((S h0 0) = 0 ∨ (S h0 0) = 1) ∧ (Q (some (vi (S h0 0))) ((2, f), S, L, P)))) ∧ (¬ (((2, f), S, L, P).2.1 b1 2) ≤ x2 → zsh ((2, f), S, L, P) h0 = (1, 11) ∧ (∀ b3 : Nat, zpt ((2, f), S, L, P) h0 1 = some b3 → (zsh ((2, f), S, L, P) b3 = (1, 17) ∨ zsh ((2, f), S, L, P) b3 = (17, 17)) ∧ (zsh ((2, f), S, L, P) b3 = (1, 17) ∧ ∃ (e_4 n_4 x_4 : Nat), zpt ((2, f), S, L, P) b3 1 = some e_4 ∧ zsh ((2, f), S, L, P) e_4 = (7, n_4) ∧ n_4 ≤ 2147483647 ∧ (0 ≤ x2 ∧ x2 < (n_4 : Int)) ∧ (x2 < ((2, f), S, L, P).2.1 b3 2 ∧ ((2, f), S, L, P).2.1 b3 2 < 2147483647) ∧ zpt ((2, f), S, L, P) e_4 x2.toNat = some x_4 ∧ ((∃ ci : Nat, (zsh ((2, f), S, L, P) x_4 = (1, ci) ∨ zsh ((2, f), S, L, P) x_4 = (17, ci)) ∧ mm_mem [11, 12, 13, 16] ci = true) ∧ (((zsh ((2, f), S, L, P) x_4 = (1, 11) ∨ zsh ((2, f), S, L, P) x_4 = (17, 11)) ∧ (0 + 0 ≤ 0 ∧ 0 + 0 ≤ 0) ∧ (∃ (c_5 : Fc → Bool) (q_5 p_5 lo_5 hi_5 : Nat), roT (coT lo_5 hi_5 f S P 2) lo_5 hi_5 f S P x_4 c_5 ∧ sciB S P q_5 p_5 ∧ (c_5 (fcX (cx S q_5) p_5) = true → (zsh ((2, f), S, L, P) h0 = (1, 11) ∧ (R32 (S h0 0) ∧ (((1 : Int) = (S h0 0) → zz_J zpX13_holds_4 (zz_ret Q X 0 0) 2 [some (vr h0), some (vr 103), some (vi (x2 + 1))] [] ((2, f), S, L, P) (0, 0)) ∧ (¬ (1 : Int) = (S h0 0) → zsh ((2, f), S, L, P) h0 = (1, 11) ∧ (R32 (S h0 0) ∧ ((¬ (S h0 0) = 0 → Q (some (vi 0)) ((2, f), S, L, P)) ∧ ((S h0 0) = 0 → Q (some (vi 1)) ((2, f), S, L, P))))))))) ∧ (c_5 (fcX (cx S q_5) p_5) = false → (zsh ((2, f), S, L, P) h0 = (1, 11) ∧ (R32 (S h0 0) ∧ (((0 : Int) = (S h0 0) → zz_J zpX13_holds_4 (zz_ret Q X 0 0) 2 [some (vr h0), some (vr 103), some (vi (x2 + 1))] [] ((2, f), S, L, P) (0, 0)) ∧ (¬ (0 : Int) = (S h0 0) → zsh ((2, f), S, L, P) h0 = (1, 11) ∧ (R32 (S h0 0) ∧ ((¬ (S h0 0) = 0 → Q (some (vi 0)) ((2, f), S, L, P)) ∧ ((S h0 0) = 0 → Q (some (vi 1)) ((2, f), S, L, P))))))))))) ∨ ((zsh ((2, f), S, L, P) x_4 = (1, 12) ∨ zsh ((2, f), S, L, P) x_4 = (17, 12)) ∧ (0 + 0 ≤ 0 ∧ 0 + 0 ≤ 0) ∧ (∃ (c_6 : Fc → Bool) (q_6 p_6 lo_6 hi_6 : Nat), noT (coT lo_6 hi_6 f S P 2) lo_6 hi_6 f P x_4 c_6 ∧ sciB S P q_6 p_6 ∧ (c_6 (fcX (cx S q_6) p_6) = true → (zsh ((2, f), S, L, P) h0 = (1, 11) ∧ (R32 (S h0 0) ∧ (((1 : Int) = (S h0 0) → zz_J zpX13_holds_4 (zz_ret Q X 0 0) 2 [some (vr h0), some (vr 103), some (vi (x2 + 1))] [] ((2, f), S, L, P) (0, 0)) ∧ (¬ (1 : Int) = (S h0 0) → zsh ((2, f), S, L, P) h0 = (1, 11) ∧ (R32 (S h0 0) ∧ ((¬ (S h0 0) = 0 → Q (some (vi 0)) ((2, f), S, L, P)) ∧ ((S h0 0) = 0 → Q (some (vi 1)) ((2, f), S, L, P))))))))) ∧ (c_6 (fcX (cx S q_6) p_6) = false → (zsh ((2, f), S, L, P) h0 = (1, 11) ∧ (R32 (S h0 0) ∧ (((0 : Int) = (S h0 0) → zz_J zpX13_holds_4 (zz_ret Q X 0 0) 2 [some (vr h0), some (vr 103), some (vi (x2 + 1))] [] ((2, f), S, L, P) (0, 0)) ∧ (¬ (0 : Int) = (S h0 0) → zsh ((2, f), S, L, P) h0 = (1, 11) ∧ (R32 (S h0 0) ∧ ((¬ (S h0 0) = 0 → Q (some (vi 0)) ((2, f), S, L, P)) ∧ ((S h0 0) = 0 → Q (some (vi 1)) ((2, f), S, L, P))))))))))) ∨ ((zsh ((2, f), S, L, P) x_4 = (1, 13) ∨ zsh ((2, f), S, L, P) x_4 = (17, 13)) ∧ (0 + 0 ≤ 0 ∧ 0 + 0 ≤ 0) ∧ (∃ q_7 p_7 : Nat, (2000 ≤ x_4 ∧ f x_4 = (1, 13) ∧ (S x_4 0 = 0 ∨ S x_4 0 = 1)) ∧ scnI S P q_7 p_7 ∧ ((if S x_4 0 = 1 then cx S q_7 2 = (p_7 : Int) else cx S q_7 6 = 1) → (zsh ((2, f), S, L, P) h0 = (1, 11) ∧ (R32 (S h0 0) ∧ (((1 : Int) = (S h0 0) → zz_J zpX13_holds_4 (zz_ret Q X 0 0) 2 [some (vr h0), some (vr 103), some (vi (x2 + 1))] [] ((2, f), S, L, P) (0, 0)) ∧ (¬ (1 : Int) = (S h0 0) → zsh ((2, f), S, L, P) h0 = (1, 11) ∧ (R32 (S h0 0) ∧ ((¬ (S h0 0) = 0 → Q (some (vi 0)) ((2, f), S, L, P)) ∧ ((S h0 0) = 0 → Q (some (vi 1)) ((2, f), S, L, P))))))))) ∧ (¬ (if S x_4 0 = 1 then cx S q_7 2 = (p_7 : Int) else cx S q_7 6 = 1) → (zsh ((2, f), S, L, P) h0 = (1, 11) ∧ (R32 (S h0 0) ∧ (((0 : Int) = (S h0 0) → zz_J zpX13_holds_4 (zz_ret Q X 0 0) 2 [some (vr h0), some (vr 103), some (vi (x2 + 1))] [] ((2, f), S, L, P) (0, 0)) ∧ (¬ (0 : Int) = (S h0 0) → zsh ((2, f), S, L, P) h0 = (1, 11) ∧ (R32 (S h0 0) ∧ ((¬ (S h0 0) = 0 → Q (some (vi 0)) ((2, f), S, L, P)) ∧ ((S h0 0) = 0 → Q (some (vi 1)) ((2, f), S, L, P))))))))))) ∨ ((zsh ((2, f), S, L, P) x_4 = (1, 16) ∨ zsh ((2, f), S, L, P) x_4 = (17, 16)) ∧ (0 + 0 ≤ 0 ∧ 0 + 0 ≤ 0) ∧ (∃ (g_8 k_8 : Fc → Int) (q_8 p_8 a_8 b_8 lo_8 hi_8 : Nat), (2000 ≤ x_4 ∧ f x_4 = (1, 16) ∧ P x_4 0 = some a_8 ∧ P x_4 1 = some b_8) ∧ SuT lo_8 hi_8 f S P a_8 g_8 ∧ SuT lo_8 hi_8 f S P b_8 k_8 ∧ scnI S P q_8 p_8 ∧ R32 (g_8 (fcX (cx S q_8) p_8)) ∧ R32 (k_8 (fcX (cx S q_8) p_8)) ∧ (g_8 (fcX (cx S q_8) p_8) < k_8 (fcX (cx S q_8) p_8) → (zsh ((2, f), S, L, P) h0 = (1, 11) ∧ (R32 (S h0 0) ∧ (((1 : Int) = (S h0 0) → zz_J zpX13_holds_4 (zz_ret Q X 0 0) 2 [some (vr h0), some (vr 103), some (vi (x2 + 1))] [] ((2, f), S, L, P) (0, 0)) ∧ (¬ (1 : Int) = (S h0 0) → zsh ((2, f), S, L, P) h0 = (1, 11) ∧ (R32 (S h0 0) ∧ ((¬ (S h0 0) = 0 → Q (some (vi 0)) ((2, f), S, L, P)) ∧ ((S h0 0) = 0 → Q (some (vi 1)) ((2, f), S, L, P))))))))) ∧ (¬ g_8 (fcX (cx S q_8) p_8) < k_8 (fcX (cx S q_8) p_8) → (zsh ((2, f), S, L, P) h0 = (1, 11) ∧ (R32 (S h0 0) ∧ (((0 : Int) = (S h0 0) → zz_J zpX13_holds_4 (zz_ret Q X 0 0) 2 [some (vr h0), some (vr 103), some (vi (x2 + 1))] [] ((2, f), S, L, P) (0, 0)) ∧ (¬ (0 : Int) = (S h0 0) → zsh ((2, f), S, L, P) h0 = (1, 11) ∧ (R32 (S h0 0) ∧ ((¬ (S h0 0) = 0 → Q (some (vi 0)) ((2, f), S, L, P)) ∧ ((S h0 0) = 0 → Q (some (vi 1)) ((2, f), S, L, P))))))))))))))) ∧ (zpt ((2, f), S, L, P) h0 1 = none → False ∧ False))))))) ∧ (zpt ((2, f), S, L, P) h0 1 = none → False ∧ False)) : zz_J zpX13_holds_4 (zz_ret Q X 0 0) 2 [some (vr h0), some (vr 103), some (vi x2)] [] ((2, f), S, L, P) (0, 0) := zz_J.go [(2, [])] 400 h

theorem zmX14_holds_4 (l : Launch) (hl : l.stackTraces = false) : mm_Spec l yX14_holds (ws_ yX14_holds cX14_holds 2 (some .boolean)) (mm_rm 9 0 0) (zE zX14_holds_4) := by
  refine zz_Met.J hl (by decide) (fun C G hnh => ztX14_holds_4 G hnh) ?_
  rintro as ⟨⟨t_, f⟩, S, L, P⟩ Q X h
  unfold zX14_holds_4 at h
  split at h
  rotate_left
  · exact h.elim
  rename_i h_ s
  obtain ⟨e1_, e2_, h⟩ := mm_and2 h (fun q => q)
  cases mm_beq e1_
  cases mm_beq e2_
  try dsimp only at h
  refine ⟨rfl, ?_⟩
  obtain ⟨c, q, p, lo, hi, ⟨q1, q2, a, g, q3, q4, rfl⟩, hs, ha, hb⟩ := h
  have hz : zsh ((2, f), S, L, P) h_ = (1, 12) := (zsh_hi q1.le).trans q2
  have hx : zpt ((2, f), S, L, P) h_ 0 = some a := (zpt_hi q1.le).trans q3
  have ha' : g (fcX (cx S q) p) = true → Q (some (vi 0)) ((2, f), S, L, P) := fun e => hb (by show (!g _) = false; rw [e]; rfl)
  have hb' : g (fcX (cx S q) p) = false → Q (some (vi 1)) ((2, f), S, L, P) := fun e => ha (by show (!g _) = true; rw [e]; rfl)
  refine zwX14_holds_4_0 (q_go hz hx ?_)
  first | exact le_or q4 hs ha' hb' | exact co_or q4 hs ha' hb'
theorem zmX13_holds_4 (l : Launch) (hl : l.stackTraces = false) : mm_Spec l yX13_holds (ws_ yX13_holds cX13_holds 3 (some .boolean)) (mm_rm 9 0 0) (zE zX13_holds_4) := by
  refine zz_Met.J hl (by decide) (fun C G hnh => ztX13_holds_4 G hnh) ?_
  rintro as ⟨⟨t_, f⟩, S, L, P⟩ Q X h
  unfold zX13_holds_4 at h
  split at h
  rotate_left
  · exact h.elim
  rename_i h_ s
  obtain ⟨e1_, e2_, h⟩ := mm_and2 h (fun q => q)
  cases mm_beq e1_
  cases mm_beq e2_
  try dsimp only at h
  refine ⟨rfl, ?_⟩
  obtain ⟨c, q, p, lo, hi0, ⟨q1, q2, all, a, l, cs, q3, q4, ⟨ha2, hfa, hsz, hlen, hel⟩, q6, q7, rfl⟩, hs, ha, hb⟩ := h
  have hz : zsh ((2, f), S, L, P) h_ = (1, 11) := (zsh_hi q1.le).trans q2
  have hx : zpt ((2, f), S, L, P) h_ 1 = some a := (zpt_hi q1.le).trans q4
  replace ha2 := ha2.le
  have hza : zsh ((2, f), S, L, P) a = (1, 17) := (zsh_hi ha2).trans hfa
  have s01 : S h_ 0 = 0 ∨ S h_ 0 = 1 := by rw [q3]; cases all <;> simp
  have sR : R32 (S h_ 0) := by rcases s01 with e | e <;> rw [e] <;> decide
  have ret : alB all cs (fcX (cx S q) p) = all → Q (some (vi (S h_ 0))) ((2, f), S, L, P) := by
    rw [q3]
    cases all with
    | true => exact fun e => ha e
    | false => exact fun e => hb e
  have t2 : ∀ (m i : Nat), i + m = l.length → (∀ (j : Nat) (g : Fc → Bool), j < i → cs[j]? = some g → g (fcX (cx S q) p) = all) → zz_J zpX13_holds_4 (zz_ret Q X 0 0) 2 [some (vr h_), some (vr 103), some (vi (i : Int))] [] ((2, f), S, L, P) (0, 0) := by
    intro m
    induction m with
    | zero =>
      intro i hi hal
      refine zwX13_holds_4_2 (q_go hz hx ⟨Or.inl hza, hza, by omega, by show R32 (S a 2); rw [hsz]; omega, fun _ => ⟨hz, s01, ret (alB_a fun j g hg => hal j g ?_ hg)⟩, fun c => absurd (show S a 2 ≤ (i : Int) by rw [hsz]; omega) c⟩)
      have : j < cs.length := by
        apply Decidable.byContradiction
        intro hc
        rw [List.getElem?_eq_none (by omega)] at hg
        cases hg
      omega
    | succ m ih =>
      intro i hi hal
      have il : i < l.length := by omega
      have ig : i < cs.length := by omega
      obtain ⟨e, n, he2, hPe, hfe, hn, hln, hPi⟩ := hel (fun c => by rw [c] at il; exact absurd il (by simp))
      replace he2 := he2.le
      have hlx : l[i]? = some l[i] := List.getElem?_eq_getElem il
      have hgx : cs[i]? = some cs[i] := List.getElem?_eq_getElem ig
      have hcx := q7 i _ _ hlx hgx
      have AB : ∀ v : Int, (v = bif cs[i] (fcX (cx S q) p) then 1 else 0) → (zsh ((2, f), S, L, P) h_ = (1, 11) ∧ (R32 (S h_ 0) ∧ ((v = (S h_ 0) → zz_J zpX13_holds_4 (zz_ret Q X 0 0) 2 [some (vr h_), some (vr 103), some (vi ((i : Int) + 1))] [] ((2, f), S, L, P) (0, 0)) ∧ (¬ v = (S h_ 0) → zsh ((2, f), S, L, P) h_ = (1, 11) ∧ (R32 (S h_ 0) ∧ ((¬ (S h_ 0) = 0 → Q (some (vi 0)) ((2, f), S, L, P)) ∧ ((S h_ 0) = 0 → Q (some (vi 1)) ((2, f), S, L, P)))))))) := by
        intro v hv
        refine ⟨hz, sR, fun c => ?_, fun c => ⟨hz, sR, ?_⟩⟩
        · refine ih (i + 1) (by omega) (fun j g hj hg => ?_)
          by_cases ej : j = i
          · rw [ej, hgx] at hg
            cases hg
            rw [hv, q3] at c
            revert c
            cases cs[i] (fcX (cx S q) p) <;> cases all <;> simp
          · exact hal j g (by omega) hg
        · have hne : cs[i] (fcX (cx S q) p) ≠ all := by
            rw [hv, q3] at c
            intro e2
            rw [e2] at c
            exact c rfl
          have e2 := alB_t hgx hne
          rw [q3]
          revert e2 ha hb
          cases all with
          | true => exact fun ha hb e2 => ⟨fun _ => hb e2, fun c => absurd c (by decide)⟩
          | false => exact fun ha hb e2 => ⟨fun c => absurd rfl c, fun _ => ha e2⟩
      refine zwX13_holds_4_2 (q_go hz hx ⟨Or.inl hza, hza, by omega, by show R32 (S a 2); rw [hsz]; omega, fun c => absurd (show S a 2 ≤ (i : Int) from c) (by rw [hsz]; omega), fun _ => ⟨hz, ?_⟩⟩)
      refine (q_go hz hx ⟨Or.inl hza, hza, e, n, l[i], (zpt_hi ha2).trans hPe, (zsh_hi he2).trans hfe, hn, by omega, ⟨by show (i : Int) < S a 2; rw [hsz]; omega, by show S a 2 < 2147483647; rw [hsz]; omega⟩, ?_, coT_sh hcx, ?_⟩ : _ ∧ _ ∧ _).2
      · rw [Int.toNat_natCast]
        exact (zpt_hi he2).trans (hPi i _ hlx)
      · have A1 := fun e : cs[i] (fcX (cx S q) p) = true => AB 1 (by rw [e]; rfl)
        have A0 := fun e : cs[i] (fcX (cx S q) p) = false => AB 0 (by rw [e]; rfl)
        first | exact le_or hcx hs A1 A0 | exact co_or hcx hs A1 A0
  exact zwX13_holds_4_0 (t2 l.length 0 (by omega) (fun j g hj => absurd hj (Nat.not_lt_zero _)))
def zX14_holds_5 : zz_Sp := fun as M Q X => match as with
  | [.inr (.inr (some h_)), .inr (.inr (some s))] => bif Nat.beq M.1.1 2 && Nat.beq s 103 then (∃ (c_ : Fc → Bool) (q_ p_ lo_ hi_ : Nat), noT (coT lo_ hi_ M.1.2 M.2.1 M.2.2.2 4) lo_ hi_ M.1.2 M.2.2.2 h_ c_ ∧ sciB M.2.1 M.2.2.2 q_ p_ ∧ (c_ (fcX (cx M.2.1 q_) p_) = true → Q (some (vi 1)) ((2, M.1.2), M.2.1, M.2.2.1, M.2.2.2)) ∧ (c_ (fcX (cx M.2.1 q_) p_) = false → Q (some (vi 0)) ((2, M.1.2), M.2.1, M.2.2.1, M.2.2.2))) else False
  | _ => False

def zpX14_holds_5 : zz_P := [(0, zo_ald 1 0), (1, zo_getq 4 12 0), (4, zo_ald 5 1), (5, zo_or (zo_cfF (mm_rm 10 0 0) 10 2 11 0 0 zX13_holds_4) (zo_or (zo_cfF (mm_rm 10 0 0) 10 2 12 0 0 zX14_holds_4) (zo_or (zo_cfF (mm_rm 10 0 0) 10 2 13 0 0 zX15_holds) (zo_cfF (mm_rm 10 0 0) 10 2 16 0 0 zX19_holds)))), (10, zo_zifne 13 17), (13, zo_c 14 (vi 1)), (14, zo_goto 18), (17, zo_c 18 (vi 0)), (18, zo_zret true)]
theorem ztX14_holds_5 {C : mm_C} (G : mm_G C RX14 cX14_holds (some .boolean) 2 (mm_rm 10 0 0)) (hnh : mm_nh C) : zz_OKs C zpX14_holds_5 :=
  ⟨zz_of (ok_aload_n G dX14_holds_0 rfl rfl) (z_ald _ _),
   zz_of (ok_get G (nx := 4) (ci := 12) (kd := 2) (k := 0) (RX14, TX14, 1) rfl (by decide) rfl q1187 dX14_holds_1 rfl) (z_getq _ _ _),
   zz_of (ok_aload_n G dX14_holds_4 rfl rfl) (z_ald _ _),
   zz_or (zz_of (ok_calfF G (hnh.q 5) (zmX13_holds_4 _ G.hst) (RX13, TX13, 2) rfl q1452 q1456 q1454 q114 q1458 (List.Mem.head _) (by decide +kernel) ⟨Nat.le_of_ble_eq_true rfl, Nat.le_of_ble_eq_true rfl⟩ dX14_holds_5 rfl) (z_cfF _ _ _ _ _ _ _)) (zz_or (zz_of (ok_calfF G (hnh.q 5) (zmX14_holds_4 _ G.hst) (RX14, TX14, 1) rfl q1452 q1448 q1446 q115 q1450 (List.Mem.tail _ (List.Mem.head _)) (by decide +kernel) ⟨Nat.le_of_ble_eq_true rfl, Nat.le_of_ble_eq_true rfl⟩ dX14_holds_5 rfl) (z_cfF _ _ _ _ _ _ _)) (zz_or (zz_of (ok_calfF G (hnh.q 5) (zmX15_holds _ G.hst) (RX15, TX15, 1) rfl q1452 q1411 q1409 q116 q1413 (List.Mem.tail _ (List.Mem.tail _ (List.Mem.head _))) (by decide +kernel) ⟨Nat.le_of_ble_eq_true rfl, Nat.le_of_ble_eq_true rfl⟩ dX14_holds_5 rfl) (z_cfF _ _ _ _ _ _ _)) (zz_of (ok_calfF G (hnh.q 5) (zmX19_holds _ G.hst) (RX19, TX19, 2) rfl q1452 q1421 q1419 q121 q1423 (List.Mem.tail _ (List.Mem.tail _ (List.Mem.tail _ (List.Mem.head _)))) (by decide +kernel) ⟨Nat.le_of_ble_eq_true rfl, Nat.le_of_ble_eq_true rfl⟩ dX14_holds_5 rfl) (z_cfF _ _ _ _ _ _ _)))),
   zz_of (ok_ifne G dX14_holds_10 rfl rfl) (z_zifne _ _),
   zz_of (ok_iconst G (v := 1) dX14_holds_13 (by decide) rfl) (z_cn 14 1),
   zz_of (ok_goto G dX14_holds_14 rfl) (z_goto _),
   zz_of (ok_iconst G (v := 0) dX14_holds_17 (by decide) rfl) (z_cn 18 0),
   zz_of (ok_zret G dX14_holds_18) (z_zret _), trivial⟩

theorem zwX14_holds_5_0 {Q : Option zv → zz_M → Prop} {X : Nat → zz_M → Prop} {f : Nat → Nat × Nat} {S L : Nat → Nat → Int} {P : Nat → Nat → Option Nat} {h_ : Nat} (h : zsh ((2, f), S, L, P) h_ = (1, 12) ∧ (∀ b1 : Nat, zpt ((2, f), S, L, P) h_ 0 = some b1 → ((zsh ((2, f), S, L, P) b1 = (1, 11) ∨ zsh ((2, f), S, L, P) b1 = (17, 11)) ∧ (0 + 0 ≤ 0 ∧ 0 + 0 ≤ 0) ∧ (∃ (c_2 : Fc → Bool) (q_2 p_2 lo_2 hi_2 : Nat), roT (coT lo_2 hi_2 f S P 3) lo_2 hi_2 f S P b1 c_2 ∧ sciB S P q_2 p_2 ∧ (c_2 (fcX (cx S q_2) p_2) = true → (Q (some (vi 0)) ((2, f), S, L, P))) ∧ (c_2 (fcX (cx S q_2) p_2) = false → (Q (some (vi 1)) ((2, f), S, L, P))))) ∨ ((zsh ((2, f), S, L, P) b1 = (1, 12) ∨ zsh ((2, f), S, L, P) b1 = (17, 12)) ∧ (0 + 0 ≤ 0 ∧ 0 + 0 ≤ 0) ∧ (∃ (c_3 : Fc → Bool) (q_3 p_3 lo_3 hi_3 : Nat), noT (coT lo_3 hi_3 f S P 3) lo_3 hi_3 f P b1 c_3 ∧ sciB S P q_3 p_3 ∧ (c_3 (fcX (cx S q_3) p_3) = true → (Q (some (vi 0)) ((2, f), S, L, P))) ∧ (c_3 (fcX (cx S q_3) p_3) = false → (Q (some (vi 1)) ((2, f), S, L, P))))) ∨ ((zsh ((2, f), S, L, P) b1 = (1, 13) ∨ zsh ((2, f), S, L, P) b1 = (17, 13)) ∧ (0 + 0 ≤ 0 ∧ 0 + 0 ≤ 0) ∧ (∃ q_4 p_4 : Nat, (2000 ≤ b1 ∧ f b1 = (1, 13) ∧ (S b1 0 = 0 ∨ S b1 0 = 1)) ∧ scnI S P q_4 p_4 ∧ ((if S b1 0 = 1 then cx S q_4 2 = (p_4 : Int) else cx S q_4 6 = 1) → (Q (some (vi 0)) ((2, f), S, L, P))) ∧ (¬ (if S b1 0 = 1 then cx S q_4 2 = (p_4 : Int) else cx S q_4 6 = 1) → (Q (some (vi 1)) ((2, f), S, L, P))))) ∨ ((zsh ((2, f), S, L, P) b1 = (1, 16) ∨ zsh ((2, f), S, L, P) b1 = (17, 16)) ∧ (0 + 0 ≤ 0 ∧ 0 + 0 ≤ 0) ∧ (∃ (g_5 k_5 : Fc → Int) (q_5 p_5 a_5 b_5 lo_5 hi_5 : Nat), (2000 ≤ b1 ∧ f b1 = (1, 16) ∧ P b1 0 = some a_5 ∧ P b1 1 = some b_5) ∧ SuT lo_5 hi_5 f S P a_5 g_5 ∧ SuT lo_5 hi_5 f S P b_5 k_5 ∧ scnI S P q_5 p_5 ∧ R32 (g_5 (fcX (cx S q_5) p_5)) ∧ R32 (k_5 (fcX (cx S q_5) p_5)) ∧ (g_5 (fcX (cx S q_5) p_5) < k_5 (fcX (cx S q_5) p_5) → (Q (some (vi 0)) ((2, f), S, L, P))) ∧ (¬ g_5 (fcX (cx S q_5) p_5) < k_5 (fcX (cx S q_5) p_5) → (Q (some (vi 1)) ((2, f), S, L, P)))))) ∧ (zpt ((2, f), S, L, P) h_ 0 = none → (False ∧ (0 + 0 ≤ 0 ∧ 0 + 0 ≤ 0) ∧ False) ∨ (False ∧ (0 + 0 ≤ 0 ∧ 0 + 0 ≤ 0) ∧ False) ∨ (False ∧ (0 + 0 ≤ 0 ∧ 0 + 0 ≤ 0) ∧ False) ∨ (False ∧ (0 + 0 ≤ 0 ∧ 0 + 0 ≤ 0) ∧ False))) : zz_J zpX14_holds_5 (zz_ret Q X 0 0) 0 [some (vr h_), some (vr 103)] [] ((2, f), S, L, P) (0, 0) := zz_J.go [] 400 h

def zX13_holds_5 : zz_Sp := fun as M Q X => match as with
  | [.inr (.inr (some h_)), .inr (.inr (some s))] => bif Nat.beq M.1.1 2 && Nat.beq s 103 then (∃ (c_ : Fc → Bool) (q_ p_ lo_ hi_ : Nat), roT (coT lo_ hi_ M.1.2 M.2.1 M.2.2.2 4) lo_ hi_ M.1.2 M.2.1 M.2.2.2 h_ c_ ∧ sciB M.2.1 M.2.2.2 q_ p_ ∧ (c_ (fcX (cx M.2.1 q_) p_) = true → Q (some (vi 1)) ((2, M.1.2), M.2.1, M.2.2.1, M.2.2.2)) ∧ (c_ (fcX (cx M.2.1 q_) p_) = false → Q (some (vi 0)) ((2, M.1.2), M.2.1, M.2.2.1, M.2.2.2))) else False
  | _ => False

def zpX13_holds_5 : zz_P := [(0, zo_c 1 (vi 0)), (1, zo_ist 2 2), (2, zo_ild 3 2), (3, zo_ald 4 0), (4, zo_getq 7 11 1), (7, zo_callvp 10 1 17 zJ2_sizeh), (10, zo_cge false false 13 56), (13, zo_ald 14 0), (14, zo_getq 17 11 1), (17, zo_ild 18 2), (18, zo_callvp 21 2 17 zJ2_get), (21, zo_cast 24 [11, 12, 13, 16]), (24, zo_ald 25 1), (25, zo_or (zo_cfF (mm_rm 10 0 0) 30 2 11 0 0 zX13_holds_4) (zo_or (zo_cfF (mm_rm 10 0 0) 30 2 12 0 0 zX14_holds_4) (zo_or (zo_cfF (mm_rm 10 0 0) 30 2 13 0 0 zX15_holds) (zo_cfF (mm_rm 10 0 0) 30 2 16 0 0 zX19_holds)))), (30, zo_ald 31 0), (31, zo_getp 34 11 0 0), (34, zo_ceq true false 37 50), (37, zo_ald 38 0), (38, zo_getp 41 11 0 0), (41, zo_ifne false 44 48), (44, zo_c 45 (vi 1)), (45, zo_goto 49), (48, zo_c 49 (vi 0)), (49, zo_zret true), (50, zo_inc 53 2 1), (53, zo_goto 2), (56, zo_ald 57 0), (57, zo_getp 60 11 0 0), (60, zo_zret false)]
theorem ztX13_holds_5 {C : mm_C} (G : mm_G C RX13 cX13_holds (some .boolean) 3 (mm_rm 10 0 0)) (hnh : mm_nh C) : zz_OKs C zpX13_holds_5 :=
  ⟨zz_of (ok_iconst G (v := 0) dX13_holds_0 (by decide) rfl) (z_cn 1 0),
   zz_of (ok_istore_n G dX13_holds_1 rfl rfl (by decide)) (z_ist _ _),
   zz_of (ok_iload_n G dX13_holds_2 rfl rfl) (z_ild _ _),
   zz_of (ok_aload_n G dX13_holds_3 rfl rfl) (z_ald _ _),
   zz_of (ok_get G (nx := 7) (ci := 11) (kd := 2) (k := 1) (RX13, TX13, 2) rfl (by decide) rfl q1157 dX13_holds_4 rfl) (z_getq _ _ _),
   zz_of (ok_callv G hnh (zmJ2_sizeh _ G.hst) rfl rfl (RJ2, TJ2, 3) rfl q1459 q592 q593 q86 q594 (by decide +kernel) ⟨by decide, by decide⟩ dX13_holds_7 rfl) (z_callvp _ _ _ _),
   zz_of (ok_cge G dX13_holds_10 rfl rfl) (z_cge _ _ _ _),
   zz_of (ok_aload_n G dX13_holds_13 rfl rfl) (z_ald _ _),
   zz_of (ok_get G (nx := 17) (ci := 11) (kd := 2) (k := 1) (RX13, TX13, 2) rfl (by decide) rfl q1157 dX13_holds_14 rfl) (z_getq _ _ _),
   zz_of (ok_iload_n G dX13_holds_17 rfl rfl) (z_ild _ _),
   zz_of (ok_callv G hnh (zmJ2_get _ G.hst) rfl rfl (RJ2, TJ2, 3) rfl q1460 q1382 q1383 q86 q1384 (by decide +kernel) ⟨by decide, by decide⟩ dX13_holds_18 rfl) (z_callvp _ _ _ _),
   zz_of (ok_cast G (l := [11, 12, 13, 16]) (fun ci h r e => by
      simp only [List.mem_cons, List.not_mem_nil, or_false] at h
      rcases h with rfl | rfl | rfl | rfl <;> cases e <;> first | exact Or.inl rfl | exact Or.inr q1453 | exact Or.inr q1445 | exact Or.inr q1408 | exact Or.inr q1418) q1461 dX13_holds_21 rfl) (z_cast _ _),
   zz_of (ok_aload_n G dX13_holds_24 rfl rfl) (z_ald _ _),
   zz_or (zz_of (ok_calfF G (hnh.q 25) (zmX13_holds_4 _ G.hst) (RX13, TX13, 2) rfl q1463 q1456 q1454 q114 q1458 (List.Mem.head _) (by decide +kernel) ⟨Nat.le_of_ble_eq_true rfl, Nat.le_of_ble_eq_true rfl⟩ dX13_holds_25 rfl) (z_cfF _ _ _ _ _ _ _)) (zz_or (zz_of (ok_calfF G (hnh.q 25) (zmX14_holds_4 _ G.hst) (RX14, TX14, 1) rfl q1463 q1448 q1446 q115 q1450 (List.Mem.tail _ (List.Mem.head _)) (by decide +kernel) ⟨Nat.le_of_ble_eq_true rfl, Nat.le_of_ble_eq_true rfl⟩ dX13_holds_25 rfl) (z_cfF _ _ _ _ _ _ _)) (zz_or (zz_of (ok_calfF G (hnh.q 25) (zmX15_holds _ G.hst) (RX15, TX15, 1) rfl q1463 q1411 q1409 q116 q1413 (List.Mem.tail _ (List.Mem.tail _ (List.Mem.head _))) (by decide +kernel) ⟨Nat.le_of_ble_eq_true rfl, Nat.le_of_ble_eq_true rfl⟩ dX13_holds_25 rfl) (z_cfF _ _ _ _ _ _ _)) (zz_of (ok_calfF G (hnh.q 25) (zmX19_holds _ G.hst) (RX19, TX19, 2) rfl q1463 q1421 q1419 q121 q1423 (List.Mem.tail _ (List.Mem.tail _ (List.Mem.tail _ (List.Mem.head _)))) (by decide +kernel) ⟨Nat.le_of_ble_eq_true rfl, Nat.le_of_ble_eq_true rfl⟩ dX13_holds_25 rfl) (z_cfF _ _ _ _ _ _ _)))),
   zz_of (ok_aload_n G dX13_holds_30 rfl rfl) (z_ald _ _),
   zz_of (ok_get G (nx := 34) (ci := 11) (kd := 0) (k := 0) (RX13, TX13, 2) rfl (by decide) rfl q1156 dX13_holds_31 rfl) (z_getp _ _ _ _),
   zz_of (ok_ceq G dX13_holds_34 rfl rfl) (z_ceq _ _ _ _),
   zz_of (ok_aload_n G dX13_holds_37 rfl rfl) (z_ald _ _),
   zz_of (ok_get G (nx := 41) (ci := 11) (kd := 0) (k := 0) (RX13, TX13, 2) rfl (by decide) rfl q1156 dX13_holds_38 rfl) (z_getp _ _ _ _),
   zz_of (ok_ifne G dX13_holds_41 rfl rfl) (z_ifne _ _ _),
   zz_of (ok_iconst G (v := 1) dX13_holds_44 (by decide) rfl) (z_cn 45 1),
   zz_of (ok_goto G dX13_holds_45 rfl) (z_goto _),
   zz_of (ok_iconst G (v := 0) dX13_holds_48 (by decide) rfl) (z_cn 49 0),
   zz_of (ok_zret G dX13_holds_49) (z_zret _),
   zz_of (ok_iinc G (v := 1) dX13_holds_50 (by decide) rfl (by decide)) (z_incn 53 2 1),
   zz_of (ok_goto G dX13_holds_53 rfl) (z_goto _),
   zz_of (ok_aload_n G dX13_holds_56 rfl rfl) (z_ald _ _),
   zz_of (ok_get G (nx := 60) (ci := 11) (kd := 0) (k := 0) (RX13, TX13, 2) rfl (by decide) rfl q1156 dX13_holds_57 rfl) (z_getp _ _ _ _),
   zz_of (ok_zret G dX13_holds_60) (z_zret _), trivial⟩

theorem zwX13_holds_5_0 {Q : Option zv → zz_M → Prop} {X : Nat → zz_M → Prop} {f : Nat → Nat × Nat} {S L : Nat → Nat → Int} {P : Nat → Nat → Option Nat} {h_ : Nat} (h : zz_J zpX13_holds_5 (zz_ret Q X 0 0) 2 [some (vr h_), some (vr 103), some (vi 0)] [] ((2, f), S, L, P) (0, 0)) : zz_J zpX13_holds_5 (zz_ret Q X 0 0) 0 [some (vr h_), some (vr 103), none] [] ((2, f), S, L, P) (0, 0) := zz_J.go [(2, [])] 400 h
theorem zwX13_holds_5_2 {Q : Option zv → zz_M → Prop} {X : Nat → zz_M → Prop} {f : Nat → Nat × Nat} {S L : Nat → Nat → Int} {P : Nat → Nat → Option Nat} {h0 : Nat} {x2 : Int} (h : zsh ((2, f), S, L, P) h0 = (1, 11) ∧ (∀ b1 : Nat, zpt ((2, f), S, L, P) h0 1 = some b1 → (zsh ((2, f), S, L, P) b1 = (1, 17) ∨ zsh ((2, f), S, L, P) b1 = (17, 17)) ∧ (zsh ((2, f), S, L, P) b1 = (1, 17) ∧ (R32 x2 ∧ (R32 (((2, f), S, L, P).2.1 b1 2) ∧ (((((2, f), S, L, P).2.1 b1 2) ≤ x2 → zsh ((2, f), S, L, P) h0 = (1, 11) ∧ (((S h0 0) = 0 ∨ (S h0 0) = 1) ∧ (Q (some (vi (S h0 0))) ((2, f), S, L, P)))) ∧ (¬ (((2, f), S, L, P).2.1 b1 2) ≤ x2 → zsh ((2, f), S, L, P) h0 = (1, 11) ∧ (∀ b3 : Nat, zpt ((2, f), S, L, P) h0 1 = some b3 → (zsh ((2, f), S, L, P) b3 = (1, 17) ∨ zsh ((2, f), S, L, P) b3 = (17, 17)) ∧ (zsh ((2, f), S, L, P) b3 = (1, 17) ∧ ∃ (e_4 n_4 x_4 : Nat), zpt ((2, f), S, L, P) b3 1 = some e_4 ∧ zsh ((2, f), S, L, P) e_4 = (7, n_4) ∧ n_4 ≤ 2147483647 ∧ (0 ≤ x2 ∧ x2 < (n_4 : Int)) ∧ (x2 < ((2, f), S, L, P).2.1 b3 2 ∧ ((2, f), S, L, P).2.1 b3 2 < 2147483647) ∧ zpt ((2, f), S, L, P) e_4 x2.toNat = some x_4 ∧ ((∃ ci : Nat, (zsh ((2, f), S, L, P) x_4 = (1, ci) ∨ zsh ((2, f), S, L, P) x_4 = (17, ci)) ∧ mm_mem [11, 12, 13, 16] ci = true) ∧ (((zsh ((2, f), S, L, P) x_4 = (1, 11) ∨ zsh ((2, f), S, L, P) x_4 = (17, 11)) ∧ (0 + 0 ≤ 0 ∧ 0 + 0 ≤ 0) ∧ (∃ (c_5 : Fc → Bool) (q_5 p_5 lo_5 hi_5 : Nat), roT (coT lo_5 hi_5 f S P 3) lo_5 hi_5 f S P x_4 c_5 ∧ sciB S P q_5 p_5 ∧ (c_5 (fcX (cx S q_5) p_5) = true → (zsh ((2, f), S, L, P) h0 = (1, 11) ∧ (R32 (S h0 0) ∧ (((1 : Int) = (S h0 0) → zz_J zpX13_holds_5 (zz_ret Q X 0 0) 2 [some (vr h0), some (vr 103), some (vi (x2 + 1))] [] ((2, f), S, L, P) (0, 0)) ∧ (¬ (1 : Int) = (S h0 0) → zsh ((2, f), S, L, P) h0 = (1, 11) ∧ (R32 (S h0 0) ∧ ((¬ (S h0 0) = 0 → Q (some (vi 0)) ((2, f), S, L, P)) ∧ ((S h0 0) = 0 → Q (some (vi 1)) ((2, f), S, L, P))))))))) ∧ (c_5 (fcX (cx S q_5) p_5) = false → (zsh ((2, f), S, L, P) h0 = (1, 11) ∧ (R32 (S h0 0) ∧ (((0 : Int) = (S h0 0) → zz_J zpX13_holds_5 (zz_ret Q X 0 0) 2 [some (vr h0), some (vr 103), some (vi (x2 + 1))] [] ((2, f), S, L, P) (0, 0)) ∧ (¬ (0 : Int) = (S h0 0) → zsh ((2, f), S, L, P) h0 = (1, 11) ∧ (R32 (S h0 0) ∧ ((¬ (S h0 0) = 0 → Q (some (vi 0)) ((2, f), S, L, P)) ∧ ((S h0 0) = 0 → Q (some (vi 1)) ((2, f), S, L, P))))))))))) ∨ ((zsh ((2, f), S, L, P) x_4 = (1, 12) ∨ zsh ((2, f), S, L, P) x_4 = (17, 12)) ∧ (0 + 0 ≤ 0 ∧ 0 + 0 ≤ 0) ∧ (∃ (c_6 : Fc → Bool) (q_6 p_6 lo_6 hi_6 : Nat), noT (coT lo_6 hi_6 f S P 3) lo_6 hi_6 f P x_4 c_6 ∧ sciB S P q_6 p_6 ∧ (c_6 (fcX (cx S q_6) p_6) = true → (zsh ((2, f), S, L, P) h0 = (1, 11) ∧ (R32 (S h0 0) ∧ (((1 : Int) = (S h0 0) → zz_J zpX13_holds_5 (zz_ret Q X 0 0) 2 [some (vr h0), some (vr 103), some (vi (x2 + 1))] [] ((2, f), S, L, P) (0, 0)) ∧ (¬ (1 : Int) = (S h0 0) → zsh ((2, f), S, L, P) h0 = (1, 11) ∧ (R32 (S h0 0) ∧ ((¬ (S h0 0) = 0 → Q (some (vi 0)) ((2, f), S, L, P)) ∧ ((S h0 0) = 0 → Q (some (vi 1)) ((2, f), S, L, P))))))))) ∧ (c_6 (fcX (cx S q_6) p_6) = false → (zsh ((2, f), S, L, P) h0 = (1, 11) ∧ (R32 (S h0 0) ∧ (((0 : Int) = (S h0 0) → zz_J zpX13_holds_5 (zz_ret Q X 0 0) 2 [some (vr h0), some (vr 103), some (vi (x2 + 1))] [] ((2, f), S, L, P) (0, 0)) ∧ (¬ (0 : Int) = (S h0 0) → zsh ((2, f), S, L, P) h0 = (1, 11) ∧ (R32 (S h0 0) ∧ ((¬ (S h0 0) = 0 → Q (some (vi 0)) ((2, f), S, L, P)) ∧ ((S h0 0) = 0 → Q (some (vi 1)) ((2, f), S, L, P))))))))))) ∨ ((zsh ((2, f), S, L, P) x_4 = (1, 13) ∨ zsh ((2, f), S, L, P) x_4 = (17, 13)) ∧ (0 + 0 ≤ 0 ∧ 0 + 0 ≤ 0) ∧ (∃ q_7 p_7 : Nat, (2000 ≤ x_4 ∧ f x_4 = (1, 13) ∧ (S x_4 0 = 0 ∨ S x_4 0 = 1)) ∧ scnI S P q_7 p_7 ∧ ((if S x_4 0 = 1 then cx S q_7 2 = (p_7 : Int) else cx S q_7 6 = 1) → (zsh ((2, f), S, L, P) h0 = (1, 11) ∧ (R32 (S h0 0) ∧ (((1 : Int) = (S h0 0) → zz_J zpX13_holds_5 (zz_ret Q X 0 0) 2 [some (vr h0), some (vr 103), some (vi (x2 + 1))] [] ((2, f), S, L, P) (0, 0)) ∧ (¬ (1 : Int) = (S h0 0) → zsh ((2, f), S, L, P) h0 = (1, 11) ∧ (R32 (S h0 0) ∧ ((¬ (S h0 0) = 0 → Q (some (vi 0)) ((2, f), S, L, P)) ∧ ((S h0 0) = 0 → Q (some (vi 1)) ((2, f), S, L, P))))))))) ∧ (¬ (if S x_4 0 = 1 then cx S q_7 2 = (p_7 : Int) else cx S q_7 6 = 1) → (zsh ((2, f), S, L, P) h0 = (1, 11) ∧ (R32 (S h0 0) ∧ (((0 : Int) = (S h0 0) → zz_J zpX13_holds_5 (zz_ret Q X 0 0) 2 [some (vr h0), some (vr 103), some (vi (x2 + 1))] [] ((2, f), S, L, P) (0, 0)) ∧ (¬ (0 : Int) = (S h0 0) → zsh ((2, f), S, L, P) h0 = (1, 11) ∧ (R32 (S h0 0) ∧ ((¬ (S h0 0) = 0 → Q (some (vi 0)) ((2, f), S, L, P)) ∧ ((S h0 0) = 0 → Q (some (vi 1)) ((2, f), S, L, P))))))))))) ∨ ((zsh ((2, f), S, L, P) x_4 = (1, 16) ∨ zsh ((2, f), S, L, P) x_4 = (17, 16)) ∧ (0 + 0 ≤ 0 ∧ 0 + 0 ≤ 0) ∧ (∃ (g_8 k_8 : Fc → Int) (q_8 p_8 a_8 b_8 lo_8 hi_8 : Nat), (2000 ≤ x_4 ∧ f x_4 = (1, 16) ∧ P x_4 0 = some a_8 ∧ P x_4 1 = some b_8) ∧ SuT lo_8 hi_8 f S P a_8 g_8 ∧ SuT lo_8 hi_8 f S P b_8 k_8 ∧ scnI S P q_8 p_8 ∧ R32 (g_8 (fcX (cx S q_8) p_8)) ∧ R32 (k_8 (fcX (cx S q_8) p_8)) ∧ (g_8 (fcX (cx S q_8) p_8) < k_8 (fcX (cx S q_8) p_8) → (zsh ((2, f), S, L, P) h0 = (1, 11) ∧ (R32 (S h0 0) ∧ (((1 : Int) = (S h0 0) → zz_J zpX13_holds_5 (zz_ret Q X 0 0) 2 [some (vr h0), some (vr 103), some (vi (x2 + 1))] [] ((2, f), S, L, P) (0, 0)) ∧ (¬ (1 : Int) = (S h0 0) → zsh ((2, f), S, L, P) h0 = (1, 11) ∧ (R32 (S h0 0) ∧ ((¬ (S h0 0) = 0 → Q (some (vi 0)) ((2, f), S, L, P)) ∧ ((S h0 0) = 0 → Q (some (vi 1)) ((2, f), S, L, P))))))))) ∧ (¬ g_8 (fcX (cx S q_8) p_8) < k_8 (fcX (cx S q_8) p_8) → (zsh ((2, f), S, L, P) h0 = (1, 11) ∧ (R32 (S h0 0) ∧ (((0 : Int) = (S h0 0) → zz_J zpX13_holds_5 (zz_ret Q X 0 0) 2 [some (vr h0), some (vr 103), some (vi (x2 + 1))] [] ((2, f), S, L, P) (0, 0)) ∧ (¬ (0 : Int) = (S h0 0) → zsh ((2, f), S, L, P) h0 = (1, 11) ∧ (R32 (S h0 0) ∧ ((¬ (S h0 0) = 0 → Q (some (vi 0)) ((2, f), S, L, P)) ∧ ((S h0 0) = 0 → Q (some (vi 1)) ((2, f), S, L, P))))))))))))))) ∧ (zpt ((2, f), S, L, P) h0 1 = none → False ∧ False))))))) ∧ (zpt ((2, f), S, L, P) h0 1 = none → False ∧ False)) : zz_J zpX13_holds_5 (zz_ret Q X 0 0) 2 [some (vr h0), some (vr 103), some (vi x2)] [] ((2, f), S, L, P) (0, 0) := zz_J.go [(2, [])] 400 h

theorem zmX14_holds_5 (l : Launch) (hl : l.stackTraces = false) : mm_Spec l yX14_holds (ws_ yX14_holds cX14_holds 2 (some .boolean)) (mm_rm 10 0 0) (zE zX14_holds_5) := by
  refine zz_Met.J hl (by decide) (fun C G hnh => ztX14_holds_5 G hnh) ?_
  rintro as ⟨⟨t_, f⟩, S, L, P⟩ Q X h
  unfold zX14_holds_5 at h
  split at h
  rotate_left
  · exact h.elim
  rename_i h_ s
  obtain ⟨e1_, e2_, h⟩ := mm_and2 h (fun q => q)
  cases mm_beq e1_
  cases mm_beq e2_
  try dsimp only at h
  refine ⟨rfl, ?_⟩
  obtain ⟨c, q, p, lo, hi, ⟨q1, q2, a, g, q3, q4, rfl⟩, hs, ha, hb⟩ := h
  have hz : zsh ((2, f), S, L, P) h_ = (1, 12) := (zsh_hi q1.le).trans q2
  have hx : zpt ((2, f), S, L, P) h_ 0 = some a := (zpt_hi q1.le).trans q3
  have ha' : g (fcX (cx S q) p) = true → Q (some (vi 0)) ((2, f), S, L, P) := fun e => hb (by show (!g _) = false; rw [e]; rfl)
  have hb' : g (fcX (cx S q) p) = false → Q (some (vi 1)) ((2, f), S, L, P) := fun e => ha (by show (!g _) = true; rw [e]; rfl)
  refine zwX14_holds_5_0 (q_go hz hx ?_)
  first | exact le_or q4 hs ha' hb' | exact co_or q4 hs ha' hb'
theorem zmX13_holds_5 (l : Launch) (hl : l.stackTraces = false) : mm_Spec l yX13_holds (ws_ yX13_holds cX13_holds 3 (some .boolean)) (mm_rm 10 0 0) (zE zX13_holds_5) := by
  refine zz_Met.J hl (by decide) (fun C G hnh => ztX13_holds_5 G hnh) ?_
  rintro as ⟨⟨t_, f⟩, S, L, P⟩ Q X h
  unfold zX13_holds_5 at h
  split at h
  rotate_left
  · exact h.elim
  rename_i h_ s
  obtain ⟨e1_, e2_, h⟩ := mm_and2 h (fun q => q)
  cases mm_beq e1_
  cases mm_beq e2_
  try dsimp only at h
  refine ⟨rfl, ?_⟩
  obtain ⟨c, q, p, lo, hi0, ⟨q1, q2, all, a, l, cs, q3, q4, ⟨ha2, hfa, hsz, hlen, hel⟩, q6, q7, rfl⟩, hs, ha, hb⟩ := h
  have hz : zsh ((2, f), S, L, P) h_ = (1, 11) := (zsh_hi q1.le).trans q2
  have hx : zpt ((2, f), S, L, P) h_ 1 = some a := (zpt_hi q1.le).trans q4
  replace ha2 := ha2.le
  have hza : zsh ((2, f), S, L, P) a = (1, 17) := (zsh_hi ha2).trans hfa
  have s01 : S h_ 0 = 0 ∨ S h_ 0 = 1 := by rw [q3]; cases all <;> simp
  have sR : R32 (S h_ 0) := by rcases s01 with e | e <;> rw [e] <;> decide
  have ret : alB all cs (fcX (cx S q) p) = all → Q (some (vi (S h_ 0))) ((2, f), S, L, P) := by
    rw [q3]
    cases all with
    | true => exact fun e => ha e
    | false => exact fun e => hb e
  have t2 : ∀ (m i : Nat), i + m = l.length → (∀ (j : Nat) (g : Fc → Bool), j < i → cs[j]? = some g → g (fcX (cx S q) p) = all) → zz_J zpX13_holds_5 (zz_ret Q X 0 0) 2 [some (vr h_), some (vr 103), some (vi (i : Int))] [] ((2, f), S, L, P) (0, 0) := by
    intro m
    induction m with
    | zero =>
      intro i hi hal
      refine zwX13_holds_5_2 (q_go hz hx ⟨Or.inl hza, hza, by omega, by show R32 (S a 2); rw [hsz]; omega, fun _ => ⟨hz, s01, ret (alB_a fun j g hg => hal j g ?_ hg)⟩, fun c => absurd (show S a 2 ≤ (i : Int) by rw [hsz]; omega) c⟩)
      have : j < cs.length := by
        apply Decidable.byContradiction
        intro hc
        rw [List.getElem?_eq_none (by omega)] at hg
        cases hg
      omega
    | succ m ih =>
      intro i hi hal
      have il : i < l.length := by omega
      have ig : i < cs.length := by omega
      obtain ⟨e, n, he2, hPe, hfe, hn, hln, hPi⟩ := hel (fun c => by rw [c] at il; exact absurd il (by simp))
      replace he2 := he2.le
      have hlx : l[i]? = some l[i] := List.getElem?_eq_getElem il
      have hgx : cs[i]? = some cs[i] := List.getElem?_eq_getElem ig
      have hcx := q7 i _ _ hlx hgx
      have AB : ∀ v : Int, (v = bif cs[i] (fcX (cx S q) p) then 1 else 0) → (zsh ((2, f), S, L, P) h_ = (1, 11) ∧ (R32 (S h_ 0) ∧ ((v = (S h_ 0) → zz_J zpX13_holds_5 (zz_ret Q X 0 0) 2 [some (vr h_), some (vr 103), some (vi ((i : Int) + 1))] [] ((2, f), S, L, P) (0, 0)) ∧ (¬ v = (S h_ 0) → zsh ((2, f), S, L, P) h_ = (1, 11) ∧ (R32 (S h_ 0) ∧ ((¬ (S h_ 0) = 0 → Q (some (vi 0)) ((2, f), S, L, P)) ∧ ((S h_ 0) = 0 → Q (some (vi 1)) ((2, f), S, L, P)))))))) := by
        intro v hv
        refine ⟨hz, sR, fun c => ?_, fun c => ⟨hz, sR, ?_⟩⟩
        · refine ih (i + 1) (by omega) (fun j g hj hg => ?_)
          by_cases ej : j = i
          · rw [ej, hgx] at hg
            cases hg
            rw [hv, q3] at c
            revert c
            cases cs[i] (fcX (cx S q) p) <;> cases all <;> simp
          · exact hal j g (by omega) hg
        · have hne : cs[i] (fcX (cx S q) p) ≠ all := by
            rw [hv, q3] at c
            intro e2
            rw [e2] at c
            exact c rfl
          have e2 := alB_t hgx hne
          rw [q3]
          revert e2 ha hb
          cases all with
          | true => exact fun ha hb e2 => ⟨fun _ => hb e2, fun c => absurd c (by decide)⟩
          | false => exact fun ha hb e2 => ⟨fun c => absurd rfl c, fun _ => ha e2⟩
      refine zwX13_holds_5_2 (q_go hz hx ⟨Or.inl hza, hza, by omega, by show R32 (S a 2); rw [hsz]; omega, fun c => absurd (show S a 2 ≤ (i : Int) from c) (by rw [hsz]; omega), fun _ => ⟨hz, ?_⟩⟩)
      refine (q_go hz hx ⟨Or.inl hza, hza, e, n, l[i], (zpt_hi ha2).trans hPe, (zsh_hi he2).trans hfe, hn, by omega, ⟨by show (i : Int) < S a 2; rw [hsz]; omega, by show S a 2 < 2147483647; rw [hsz]; omega⟩, ?_, coT_sh hcx, ?_⟩ : _ ∧ _ ∧ _).2
      · rw [Int.toNat_natCast]
        exact (zpt_hi he2).trans (hPi i _ hlx)
      · have A1 := fun e : cs[i] (fcX (cx S q) p) = true => AB 1 (by rw [e]; rfl)
        have A0 := fun e : cs[i] (fcX (cx S q) p) = false => AB 0 (by rw [e]; rfl)
        first | exact le_or hcx hs A1 A0 | exact co_or hcx hs A1 A0
  exact zwX13_holds_5_0 (t2 l.length 0 (by omega) (fun j g hj => absurd hj (Nat.not_lt_zero _)))
def zX14_holds_6 : zz_Sp := fun as M Q X => match as with
  | [.inr (.inr (some h_)), .inr (.inr (some s))] => bif Nat.beq M.1.1 2 && Nat.beq s 103 then (∃ (c_ : Fc → Bool) (q_ p_ lo_ hi_ : Nat), noT (coT lo_ hi_ M.1.2 M.2.1 M.2.2.2 5) lo_ hi_ M.1.2 M.2.2.2 h_ c_ ∧ sciB M.2.1 M.2.2.2 q_ p_ ∧ (c_ (fcX (cx M.2.1 q_) p_) = true → Q (some (vi 1)) ((2, M.1.2), M.2.1, M.2.2.1, M.2.2.2)) ∧ (c_ (fcX (cx M.2.1 q_) p_) = false → Q (some (vi 0)) ((2, M.1.2), M.2.1, M.2.2.1, M.2.2.2))) else False
  | _ => False

def zpX14_holds_6 : zz_P := [(0, zo_ald 1 0), (1, zo_getq 4 12 0), (4, zo_ald 5 1), (5, zo_or (zo_cfF (mm_rm 11 0 0) 10 2 11 0 0 zX13_holds_5) (zo_or (zo_cfF (mm_rm 11 0 0) 10 2 12 0 0 zX14_holds_5) (zo_or (zo_cfF (mm_rm 11 0 0) 10 2 13 0 0 zX15_holds) (zo_cfF (mm_rm 11 0 0) 10 2 16 0 0 zX19_holds)))), (10, zo_zifne 13 17), (13, zo_c 14 (vi 1)), (14, zo_goto 18), (17, zo_c 18 (vi 0)), (18, zo_zret true)]
theorem ztX14_holds_6 {C : mm_C} (G : mm_G C RX14 cX14_holds (some .boolean) 2 (mm_rm 11 0 0)) (hnh : mm_nh C) : zz_OKs C zpX14_holds_6 :=
  ⟨zz_of (ok_aload_n G dX14_holds_0 rfl rfl) (z_ald _ _),
   zz_of (ok_get G (nx := 4) (ci := 12) (kd := 2) (k := 0) (RX14, TX14, 1) rfl (by decide) rfl q1187 dX14_holds_1 rfl) (z_getq _ _ _),
   zz_of (ok_aload_n G dX14_holds_4 rfl rfl) (z_ald _ _),
   zz_or (zz_of (ok_calfF G (hnh.q 5) (zmX13_holds_5 _ G.hst) (RX13, TX13, 2) rfl q1452 q1456 q1454 q114 q1458 (List.Mem.head _) (by decide +kernel) ⟨Nat.le_of_ble_eq_true rfl, Nat.le_of_ble_eq_true rfl⟩ dX14_holds_5 rfl) (z_cfF _ _ _ _ _ _ _)) (zz_or (zz_of (ok_calfF G (hnh.q 5) (zmX14_holds_5 _ G.hst) (RX14, TX14, 1) rfl q1452 q1448 q1446 q115 q1450 (List.Mem.tail _ (List.Mem.head _)) (by decide +kernel) ⟨Nat.le_of_ble_eq_true rfl, Nat.le_of_ble_eq_true rfl⟩ dX14_holds_5 rfl) (z_cfF _ _ _ _ _ _ _)) (zz_or (zz_of (ok_calfF G (hnh.q 5) (zmX15_holds _ G.hst) (RX15, TX15, 1) rfl q1452 q1411 q1409 q116 q1413 (List.Mem.tail _ (List.Mem.tail _ (List.Mem.head _))) (by decide +kernel) ⟨Nat.le_of_ble_eq_true rfl, Nat.le_of_ble_eq_true rfl⟩ dX14_holds_5 rfl) (z_cfF _ _ _ _ _ _ _)) (zz_of (ok_calfF G (hnh.q 5) (zmX19_holds _ G.hst) (RX19, TX19, 2) rfl q1452 q1421 q1419 q121 q1423 (List.Mem.tail _ (List.Mem.tail _ (List.Mem.tail _ (List.Mem.head _)))) (by decide +kernel) ⟨Nat.le_of_ble_eq_true rfl, Nat.le_of_ble_eq_true rfl⟩ dX14_holds_5 rfl) (z_cfF _ _ _ _ _ _ _)))),
   zz_of (ok_ifne G dX14_holds_10 rfl rfl) (z_zifne _ _),
   zz_of (ok_iconst G (v := 1) dX14_holds_13 (by decide) rfl) (z_cn 14 1),
   zz_of (ok_goto G dX14_holds_14 rfl) (z_goto _),
   zz_of (ok_iconst G (v := 0) dX14_holds_17 (by decide) rfl) (z_cn 18 0),
   zz_of (ok_zret G dX14_holds_18) (z_zret _), trivial⟩

theorem zwX14_holds_6_0 {Q : Option zv → zz_M → Prop} {X : Nat → zz_M → Prop} {f : Nat → Nat × Nat} {S L : Nat → Nat → Int} {P : Nat → Nat → Option Nat} {h_ : Nat} (h : zsh ((2, f), S, L, P) h_ = (1, 12) ∧ (∀ b1 : Nat, zpt ((2, f), S, L, P) h_ 0 = some b1 → ((zsh ((2, f), S, L, P) b1 = (1, 11) ∨ zsh ((2, f), S, L, P) b1 = (17, 11)) ∧ (0 + 0 ≤ 0 ∧ 0 + 0 ≤ 0) ∧ (∃ (c_2 : Fc → Bool) (q_2 p_2 lo_2 hi_2 : Nat), roT (coT lo_2 hi_2 f S P 4) lo_2 hi_2 f S P b1 c_2 ∧ sciB S P q_2 p_2 ∧ (c_2 (fcX (cx S q_2) p_2) = true → (Q (some (vi 0)) ((2, f), S, L, P))) ∧ (c_2 (fcX (cx S q_2) p_2) = false → (Q (some (vi 1)) ((2, f), S, L, P))))) ∨ ((zsh ((2, f), S, L, P) b1 = (1, 12) ∨ zsh ((2, f), S, L, P) b1 = (17, 12)) ∧ (0 + 0 ≤ 0 ∧ 0 + 0 ≤ 0) ∧ (∃ (c_3 : Fc → Bool) (q_3 p_3 lo_3 hi_3 : Nat), noT (coT lo_3 hi_3 f S P 4) lo_3 hi_3 f P b1 c_3 ∧ sciB S P q_3 p_3 ∧ (c_3 (fcX (cx S q_3) p_3) = true → (Q (some (vi 0)) ((2, f), S, L, P))) ∧ (c_3 (fcX (cx S q_3) p_3) = false → (Q (some (vi 1)) ((2, f), S, L, P))))) ∨ ((zsh ((2, f), S, L, P) b1 = (1, 13) ∨ zsh ((2, f), S, L, P) b1 = (17, 13)) ∧ (0 + 0 ≤ 0 ∧ 0 + 0 ≤ 0) ∧ (∃ q_4 p_4 : Nat, (2000 ≤ b1 ∧ f b1 = (1, 13) ∧ (S b1 0 = 0 ∨ S b1 0 = 1)) ∧ scnI S P q_4 p_4 ∧ ((if S b1 0 = 1 then cx S q_4 2 = (p_4 : Int) else cx S q_4 6 = 1) → (Q (some (vi 0)) ((2, f), S, L, P))) ∧ (¬ (if S b1 0 = 1 then cx S q_4 2 = (p_4 : Int) else cx S q_4 6 = 1) → (Q (some (vi 1)) ((2, f), S, L, P))))) ∨ ((zsh ((2, f), S, L, P) b1 = (1, 16) ∨ zsh ((2, f), S, L, P) b1 = (17, 16)) ∧ (0 + 0 ≤ 0 ∧ 0 + 0 ≤ 0) ∧ (∃ (g_5 k_5 : Fc → Int) (q_5 p_5 a_5 b_5 lo_5 hi_5 : Nat), (2000 ≤ b1 ∧ f b1 = (1, 16) ∧ P b1 0 = some a_5 ∧ P b1 1 = some b_5) ∧ SuT lo_5 hi_5 f S P a_5 g_5 ∧ SuT lo_5 hi_5 f S P b_5 k_5 ∧ scnI S P q_5 p_5 ∧ R32 (g_5 (fcX (cx S q_5) p_5)) ∧ R32 (k_5 (fcX (cx S q_5) p_5)) ∧ (g_5 (fcX (cx S q_5) p_5) < k_5 (fcX (cx S q_5) p_5) → (Q (some (vi 0)) ((2, f), S, L, P))) ∧ (¬ g_5 (fcX (cx S q_5) p_5) < k_5 (fcX (cx S q_5) p_5) → (Q (some (vi 1)) ((2, f), S, L, P)))))) ∧ (zpt ((2, f), S, L, P) h_ 0 = none → (False ∧ (0 + 0 ≤ 0 ∧ 0 + 0 ≤ 0) ∧ False) ∨ (False ∧ (0 + 0 ≤ 0 ∧ 0 + 0 ≤ 0) ∧ False) ∨ (False ∧ (0 + 0 ≤ 0 ∧ 0 + 0 ≤ 0) ∧ False) ∨ (False ∧ (0 + 0 ≤ 0 ∧ 0 + 0 ≤ 0) ∧ False))) : zz_J zpX14_holds_6 (zz_ret Q X 0 0) 0 [some (vr h_), some (vr 103)] [] ((2, f), S, L, P) (0, 0) := zz_J.go [] 400 h

def zX13_holds_6 : zz_Sp := fun as M Q X => match as with
  | [.inr (.inr (some h_)), .inr (.inr (some s))] => bif Nat.beq M.1.1 2 && Nat.beq s 103 then (∃ (c_ : Fc → Bool) (q_ p_ lo_ hi_ : Nat), roT (coT lo_ hi_ M.1.2 M.2.1 M.2.2.2 5) lo_ hi_ M.1.2 M.2.1 M.2.2.2 h_ c_ ∧ sciB M.2.1 M.2.2.2 q_ p_ ∧ (c_ (fcX (cx M.2.1 q_) p_) = true → Q (some (vi 1)) ((2, M.1.2), M.2.1, M.2.2.1, M.2.2.2)) ∧ (c_ (fcX (cx M.2.1 q_) p_) = false → Q (some (vi 0)) ((2, M.1.2), M.2.1, M.2.2.1, M.2.2.2))) else False
  | _ => False

def zpX13_holds_6 : zz_P := [(0, zo_c 1 (vi 0)), (1, zo_ist 2 2), (2, zo_ild 3 2), (3, zo_ald 4 0), (4, zo_getq 7 11 1), (7, zo_callvp 10 1 17 zJ2_sizeh), (10, zo_cge false false 13 56), (13, zo_ald 14 0), (14, zo_getq 17 11 1), (17, zo_ild 18 2), (18, zo_callvp 21 2 17 zJ2_get), (21, zo_cast 24 [11, 12, 13, 16]), (24, zo_ald 25 1), (25, zo_or (zo_cfF (mm_rm 11 0 0) 30 2 11 0 0 zX13_holds_5) (zo_or (zo_cfF (mm_rm 11 0 0) 30 2 12 0 0 zX14_holds_5) (zo_or (zo_cfF (mm_rm 11 0 0) 30 2 13 0 0 zX15_holds) (zo_cfF (mm_rm 11 0 0) 30 2 16 0 0 zX19_holds)))), (30, zo_ald 31 0), (31, zo_getp 34 11 0 0), (34, zo_ceq true false 37 50), (37, zo_ald 38 0), (38, zo_getp 41 11 0 0), (41, zo_ifne false 44 48), (44, zo_c 45 (vi 1)), (45, zo_goto 49), (48, zo_c 49 (vi 0)), (49, zo_zret true), (50, zo_inc 53 2 1), (53, zo_goto 2), (56, zo_ald 57 0), (57, zo_getp 60 11 0 0), (60, zo_zret false)]
theorem ztX13_holds_6 {C : mm_C} (G : mm_G C RX13 cX13_holds (some .boolean) 3 (mm_rm 11 0 0)) (hnh : mm_nh C) : zz_OKs C zpX13_holds_6 :=
  ⟨zz_of (ok_iconst G (v := 0) dX13_holds_0 (by decide) rfl) (z_cn 1 0),
   zz_of (ok_istore_n G dX13_holds_1 rfl rfl (by decide)) (z_ist _ _),
   zz_of (ok_iload_n G dX13_holds_2 rfl rfl) (z_ild _ _),
   zz_of (ok_aload_n G dX13_holds_3 rfl rfl) (z_ald _ _),
   zz_of (ok_get G (nx := 7) (ci := 11) (kd := 2) (k := 1) (RX13, TX13, 2) rfl (by decide) rfl q1157 dX13_holds_4 rfl) (z_getq _ _ _),
   zz_of (ok_callv G hnh (zmJ2_sizeh _ G.hst) rfl rfl (RJ2, TJ2, 3) rfl q1459 q592 q593 q86 q594 (by decide +kernel) ⟨by decide, by decide⟩ dX13_holds_7 rfl) (z_callvp _ _ _ _),
   zz_of (ok_cge G dX13_holds_10 rfl rfl) (z_cge _ _ _ _),
   zz_of (ok_aload_n G dX13_holds_13 rfl rfl) (z_ald _ _),
   zz_of (ok_get G (nx := 17) (ci := 11) (kd := 2) (k := 1) (RX13, TX13, 2) rfl (by decide) rfl q1157 dX13_holds_14 rfl) (z_getq _ _ _),
   zz_of (ok_iload_n G dX13_holds_17 rfl rfl) (z_ild _ _),
   zz_of (ok_callv G hnh (zmJ2_get _ G.hst) rfl rfl (RJ2, TJ2, 3) rfl q1460 q1382 q1383 q86 q1384 (by decide +kernel) ⟨by decide, by decide⟩ dX13_holds_18 rfl) (z_callvp _ _ _ _),
   zz_of (ok_cast G (l := [11, 12, 13, 16]) (fun ci h r e => by
      simp only [List.mem_cons, List.not_mem_nil, or_false] at h
      rcases h with rfl | rfl | rfl | rfl <;> cases e <;> first | exact Or.inl rfl | exact Or.inr q1453 | exact Or.inr q1445 | exact Or.inr q1408 | exact Or.inr q1418) q1461 dX13_holds_21 rfl) (z_cast _ _),
   zz_of (ok_aload_n G dX13_holds_24 rfl rfl) (z_ald _ _),
   zz_or (zz_of (ok_calfF G (hnh.q 25) (zmX13_holds_5 _ G.hst) (RX13, TX13, 2) rfl q1463 q1456 q1454 q114 q1458 (List.Mem.head _) (by decide +kernel) ⟨Nat.le_of_ble_eq_true rfl, Nat.le_of_ble_eq_true rfl⟩ dX13_holds_25 rfl) (z_cfF _ _ _ _ _ _ _)) (zz_or (zz_of (ok_calfF G (hnh.q 25) (zmX14_holds_5 _ G.hst) (RX14, TX14, 1) rfl q1463 q1448 q1446 q115 q1450 (List.Mem.tail _ (List.Mem.head _)) (by decide +kernel) ⟨Nat.le_of_ble_eq_true rfl, Nat.le_of_ble_eq_true rfl⟩ dX13_holds_25 rfl) (z_cfF _ _ _ _ _ _ _)) (zz_or (zz_of (ok_calfF G (hnh.q 25) (zmX15_holds _ G.hst) (RX15, TX15, 1) rfl q1463 q1411 q1409 q116 q1413 (List.Mem.tail _ (List.Mem.tail _ (List.Mem.head _))) (by decide +kernel) ⟨Nat.le_of_ble_eq_true rfl, Nat.le_of_ble_eq_true rfl⟩ dX13_holds_25 rfl) (z_cfF _ _ _ _ _ _ _)) (zz_of (ok_calfF G (hnh.q 25) (zmX19_holds _ G.hst) (RX19, TX19, 2) rfl q1463 q1421 q1419 q121 q1423 (List.Mem.tail _ (List.Mem.tail _ (List.Mem.tail _ (List.Mem.head _)))) (by decide +kernel) ⟨Nat.le_of_ble_eq_true rfl, Nat.le_of_ble_eq_true rfl⟩ dX13_holds_25 rfl) (z_cfF _ _ _ _ _ _ _)))),
   zz_of (ok_aload_n G dX13_holds_30 rfl rfl) (z_ald _ _),
   zz_of (ok_get G (nx := 34) (ci := 11) (kd := 0) (k := 0) (RX13, TX13, 2) rfl (by decide) rfl q1156 dX13_holds_31 rfl) (z_getp _ _ _ _),
   zz_of (ok_ceq G dX13_holds_34 rfl rfl) (z_ceq _ _ _ _),
   zz_of (ok_aload_n G dX13_holds_37 rfl rfl) (z_ald _ _),
   zz_of (ok_get G (nx := 41) (ci := 11) (kd := 0) (k := 0) (RX13, TX13, 2) rfl (by decide) rfl q1156 dX13_holds_38 rfl) (z_getp _ _ _ _),
   zz_of (ok_ifne G dX13_holds_41 rfl rfl) (z_ifne _ _ _),
   zz_of (ok_iconst G (v := 1) dX13_holds_44 (by decide) rfl) (z_cn 45 1),
   zz_of (ok_goto G dX13_holds_45 rfl) (z_goto _),
   zz_of (ok_iconst G (v := 0) dX13_holds_48 (by decide) rfl) (z_cn 49 0),
   zz_of (ok_zret G dX13_holds_49) (z_zret _),
   zz_of (ok_iinc G (v := 1) dX13_holds_50 (by decide) rfl (by decide)) (z_incn 53 2 1),
   zz_of (ok_goto G dX13_holds_53 rfl) (z_goto _),
   zz_of (ok_aload_n G dX13_holds_56 rfl rfl) (z_ald _ _),
   zz_of (ok_get G (nx := 60) (ci := 11) (kd := 0) (k := 0) (RX13, TX13, 2) rfl (by decide) rfl q1156 dX13_holds_57 rfl) (z_getp _ _ _ _),
   zz_of (ok_zret G dX13_holds_60) (z_zret _), trivial⟩

theorem zwX13_holds_6_0 {Q : Option zv → zz_M → Prop} {X : Nat → zz_M → Prop} {f : Nat → Nat × Nat} {S L : Nat → Nat → Int} {P : Nat → Nat → Option Nat} {h_ : Nat} (h : zz_J zpX13_holds_6 (zz_ret Q X 0 0) 2 [some (vr h_), some (vr 103), some (vi 0)] [] ((2, f), S, L, P) (0, 0)) : zz_J zpX13_holds_6 (zz_ret Q X 0 0) 0 [some (vr h_), some (vr 103), none] [] ((2, f), S, L, P) (0, 0) := zz_J.go [(2, [])] 400 h
theorem zwX13_holds_6_2 {Q : Option zv → zz_M → Prop} {X : Nat → zz_M → Prop} {f : Nat → Nat × Nat} {S L : Nat → Nat → Int} {P : Nat → Nat → Option Nat} {h0 : Nat} {x2 : Int} (h : zsh ((2, f), S, L, P) h0 = (1, 11) ∧ (∀ b1 : Nat, zpt ((2, f), S, L, P) h0 1 = some b1 → (zsh ((2, f), S, L, P) b1 = (1, 17) ∨ zsh ((2, f), S, L, P) b1 = (17, 17)) ∧ (zsh ((2, f), S, L, P) b1 = (1, 17) ∧ (R32 x2 ∧ (R32 (((2, f), S, L, P).2.1 b1 2) ∧ (((((2, f), S, L, P).2.1 b1 2) ≤ x2 → zsh ((2, f), S, L, P) h0 = (1, 11) ∧ (((S h0 0) = 0 ∨ (S h0 0) = 1) ∧ (Q (some (vi (S h0 0))) ((2, f), S, L, P)))) ∧ (¬ (((2, f), S, L, P).2.1 b1 2) ≤ x2 → zsh ((2, f), S, L, P) h0 = (1, 11) ∧ (∀ b3 : Nat, zpt ((2, f), S, L, P) h0 1 = some b3 → (zsh ((2, f), S, L, P) b3 = (1, 17) ∨ zsh ((2, f), S, L, P) b3 = (17, 17)) ∧ (zsh ((2, f), S, L, P) b3 = (1, 17) ∧ ∃ (e_4 n_4 x_4 : Nat), zpt ((2, f), S, L, P) b3 1 = some e_4 ∧ zsh ((2, f), S, L, P) e_4 = (7, n_4) ∧ n_4 ≤ 2147483647 ∧ (0 ≤ x2 ∧ x2 < (n_4 : Int)) ∧ (x2 < ((2, f), S, L, P).2.1 b3 2 ∧ ((2, f), S, L, P).2.1 b3 2 < 2147483647) ∧ zpt ((2, f), S, L, P) e_4 x2.toNat = some x_4 ∧ ((∃ ci : Nat, (zsh ((2, f), S, L, P) x_4 = (1, ci) ∨ zsh ((2, f), S, L, P) x_4 = (17, ci)) ∧ mm_mem [11, 12, 13, 16] ci = true) ∧ (((zsh ((2, f), S, L, P) x_4 = (1, 11) ∨ zsh ((2, f), S, L, P) x_4 = (17, 11)) ∧ (0 + 0 ≤ 0 ∧ 0 + 0 ≤ 0) ∧ (∃ (c_5 : Fc → Bool) (q_5 p_5 lo_5 hi_5 : Nat), roT (coT lo_5 hi_5 f S P 4) lo_5 hi_5 f S P x_4 c_5 ∧ sciB S P q_5 p_5 ∧ (c_5 (fcX (cx S q_5) p_5) = true → (zsh ((2, f), S, L, P) h0 = (1, 11) ∧ (R32 (S h0 0) ∧ (((1 : Int) = (S h0 0) → zz_J zpX13_holds_6 (zz_ret Q X 0 0) 2 [some (vr h0), some (vr 103), some (vi (x2 + 1))] [] ((2, f), S, L, P) (0, 0)) ∧ (¬ (1 : Int) = (S h0 0) → zsh ((2, f), S, L, P) h0 = (1, 11) ∧ (R32 (S h0 0) ∧ ((¬ (S h0 0) = 0 → Q (some (vi 0)) ((2, f), S, L, P)) ∧ ((S h0 0) = 0 → Q (some (vi 1)) ((2, f), S, L, P))))))))) ∧ (c_5 (fcX (cx S q_5) p_5) = false → (zsh ((2, f), S, L, P) h0 = (1, 11) ∧ (R32 (S h0 0) ∧ (((0 : Int) = (S h0 0) → zz_J zpX13_holds_6 (zz_ret Q X 0 0) 2 [some (vr h0), some (vr 103), some (vi (x2 + 1))] [] ((2, f), S, L, P) (0, 0)) ∧ (¬ (0 : Int) = (S h0 0) → zsh ((2, f), S, L, P) h0 = (1, 11) ∧ (R32 (S h0 0) ∧ ((¬ (S h0 0) = 0 → Q (some (vi 0)) ((2, f), S, L, P)) ∧ ((S h0 0) = 0 → Q (some (vi 1)) ((2, f), S, L, P))))))))))) ∨ ((zsh ((2, f), S, L, P) x_4 = (1, 12) ∨ zsh ((2, f), S, L, P) x_4 = (17, 12)) ∧ (0 + 0 ≤ 0 ∧ 0 + 0 ≤ 0) ∧ (∃ (c_6 : Fc → Bool) (q_6 p_6 lo_6 hi_6 : Nat), noT (coT lo_6 hi_6 f S P 4) lo_6 hi_6 f P x_4 c_6 ∧ sciB S P q_6 p_6 ∧ (c_6 (fcX (cx S q_6) p_6) = true → (zsh ((2, f), S, L, P) h0 = (1, 11) ∧ (R32 (S h0 0) ∧ (((1 : Int) = (S h0 0) → zz_J zpX13_holds_6 (zz_ret Q X 0 0) 2 [some (vr h0), some (vr 103), some (vi (x2 + 1))] [] ((2, f), S, L, P) (0, 0)) ∧ (¬ (1 : Int) = (S h0 0) → zsh ((2, f), S, L, P) h0 = (1, 11) ∧ (R32 (S h0 0) ∧ ((¬ (S h0 0) = 0 → Q (some (vi 0)) ((2, f), S, L, P)) ∧ ((S h0 0) = 0 → Q (some (vi 1)) ((2, f), S, L, P))))))))) ∧ (c_6 (fcX (cx S q_6) p_6) = false → (zsh ((2, f), S, L, P) h0 = (1, 11) ∧ (R32 (S h0 0) ∧ (((0 : Int) = (S h0 0) → zz_J zpX13_holds_6 (zz_ret Q X 0 0) 2 [some (vr h0), some (vr 103), some (vi (x2 + 1))] [] ((2, f), S, L, P) (0, 0)) ∧ (¬ (0 : Int) = (S h0 0) → zsh ((2, f), S, L, P) h0 = (1, 11) ∧ (R32 (S h0 0) ∧ ((¬ (S h0 0) = 0 → Q (some (vi 0)) ((2, f), S, L, P)) ∧ ((S h0 0) = 0 → Q (some (vi 1)) ((2, f), S, L, P))))))))))) ∨ ((zsh ((2, f), S, L, P) x_4 = (1, 13) ∨ zsh ((2, f), S, L, P) x_4 = (17, 13)) ∧ (0 + 0 ≤ 0 ∧ 0 + 0 ≤ 0) ∧ (∃ q_7 p_7 : Nat, (2000 ≤ x_4 ∧ f x_4 = (1, 13) ∧ (S x_4 0 = 0 ∨ S x_4 0 = 1)) ∧ scnI S P q_7 p_7 ∧ ((if S x_4 0 = 1 then cx S q_7 2 = (p_7 : Int) else cx S q_7 6 = 1) → (zsh ((2, f), S, L, P) h0 = (1, 11) ∧ (R32 (S h0 0) ∧ (((1 : Int) = (S h0 0) → zz_J zpX13_holds_6 (zz_ret Q X 0 0) 2 [some (vr h0), some (vr 103), some (vi (x2 + 1))] [] ((2, f), S, L, P) (0, 0)) ∧ (¬ (1 : Int) = (S h0 0) → zsh ((2, f), S, L, P) h0 = (1, 11) ∧ (R32 (S h0 0) ∧ ((¬ (S h0 0) = 0 → Q (some (vi 0)) ((2, f), S, L, P)) ∧ ((S h0 0) = 0 → Q (some (vi 1)) ((2, f), S, L, P))))))))) ∧ (¬ (if S x_4 0 = 1 then cx S q_7 2 = (p_7 : Int) else cx S q_7 6 = 1) → (zsh ((2, f), S, L, P) h0 = (1, 11) ∧ (R32 (S h0 0) ∧ (((0 : Int) = (S h0 0) → zz_J zpX13_holds_6 (zz_ret Q X 0 0) 2 [some (vr h0), some (vr 103), some (vi (x2 + 1))] [] ((2, f), S, L, P) (0, 0)) ∧ (¬ (0 : Int) = (S h0 0) → zsh ((2, f), S, L, P) h0 = (1, 11) ∧ (R32 (S h0 0) ∧ ((¬ (S h0 0) = 0 → Q (some (vi 0)) ((2, f), S, L, P)) ∧ ((S h0 0) = 0 → Q (some (vi 1)) ((2, f), S, L, P))))))))))) ∨ ((zsh ((2, f), S, L, P) x_4 = (1, 16) ∨ zsh ((2, f), S, L, P) x_4 = (17, 16)) ∧ (0 + 0 ≤ 0 ∧ 0 + 0 ≤ 0) ∧ (∃ (g_8 k_8 : Fc → Int) (q_8 p_8 a_8 b_8 lo_8 hi_8 : Nat), (2000 ≤ x_4 ∧ f x_4 = (1, 16) ∧ P x_4 0 = some a_8 ∧ P x_4 1 = some b_8) ∧ SuT lo_8 hi_8 f S P a_8 g_8 ∧ SuT lo_8 hi_8 f S P b_8 k_8 ∧ scnI S P q_8 p_8 ∧ R32 (g_8 (fcX (cx S q_8) p_8)) ∧ R32 (k_8 (fcX (cx S q_8) p_8)) ∧ (g_8 (fcX (cx S q_8) p_8) < k_8 (fcX (cx S q_8) p_8) → (zsh ((2, f), S, L, P) h0 = (1, 11) ∧ (R32 (S h0 0) ∧ (((1 : Int) = (S h0 0) → zz_J zpX13_holds_6 (zz_ret Q X 0 0) 2 [some (vr h0), some (vr 103), some (vi (x2 + 1))] [] ((2, f), S, L, P) (0, 0)) ∧ (¬ (1 : Int) = (S h0 0) → zsh ((2, f), S, L, P) h0 = (1, 11) ∧ (R32 (S h0 0) ∧ ((¬ (S h0 0) = 0 → Q (some (vi 0)) ((2, f), S, L, P)) ∧ ((S h0 0) = 0 → Q (some (vi 1)) ((2, f), S, L, P))))))))) ∧ (¬ g_8 (fcX (cx S q_8) p_8) < k_8 (fcX (cx S q_8) p_8) → (zsh ((2, f), S, L, P) h0 = (1, 11) ∧ (R32 (S h0 0) ∧ (((0 : Int) = (S h0 0) → zz_J zpX13_holds_6 (zz_ret Q X 0 0) 2 [some (vr h0), some (vr 103), some (vi (x2 + 1))] [] ((2, f), S, L, P) (0, 0)) ∧ (¬ (0 : Int) = (S h0 0) → zsh ((2, f), S, L, P) h0 = (1, 11) ∧ (R32 (S h0 0) ∧ ((¬ (S h0 0) = 0 → Q (some (vi 0)) ((2, f), S, L, P)) ∧ ((S h0 0) = 0 → Q (some (vi 1)) ((2, f), S, L, P))))))))))))))) ∧ (zpt ((2, f), S, L, P) h0 1 = none → False ∧ False))))))) ∧ (zpt ((2, f), S, L, P) h0 1 = none → False ∧ False)) : zz_J zpX13_holds_6 (zz_ret Q X 0 0) 2 [some (vr h0), some (vr 103), some (vi x2)] [] ((2, f), S, L, P) (0, 0) := zz_J.go [(2, [])] 400 h

theorem zmX14_holds_6 (l : Launch) (hl : l.stackTraces = false) : mm_Spec l yX14_holds (ws_ yX14_holds cX14_holds 2 (some .boolean)) (mm_rm 11 0 0) (zE zX14_holds_6) := by
  refine zz_Met.J hl (by decide) (fun C G hnh => ztX14_holds_6 G hnh) ?_
  rintro as ⟨⟨t_, f⟩, S, L, P⟩ Q X h
  unfold zX14_holds_6 at h
  split at h
  rotate_left
  · exact h.elim
  rename_i h_ s
  obtain ⟨e1_, e2_, h⟩ := mm_and2 h (fun q => q)
  cases mm_beq e1_
  cases mm_beq e2_
  try dsimp only at h
  refine ⟨rfl, ?_⟩
  obtain ⟨c, q, p, lo, hi, ⟨q1, q2, a, g, q3, q4, rfl⟩, hs, ha, hb⟩ := h
  have hz : zsh ((2, f), S, L, P) h_ = (1, 12) := (zsh_hi q1.le).trans q2
  have hx : zpt ((2, f), S, L, P) h_ 0 = some a := (zpt_hi q1.le).trans q3
  have ha' : g (fcX (cx S q) p) = true → Q (some (vi 0)) ((2, f), S, L, P) := fun e => hb (by show (!g _) = false; rw [e]; rfl)
  have hb' : g (fcX (cx S q) p) = false → Q (some (vi 1)) ((2, f), S, L, P) := fun e => ha (by show (!g _) = true; rw [e]; rfl)
  refine zwX14_holds_6_0 (q_go hz hx ?_)
  first | exact le_or q4 hs ha' hb' | exact co_or q4 hs ha' hb'
theorem zmX13_holds_6 (l : Launch) (hl : l.stackTraces = false) : mm_Spec l yX13_holds (ws_ yX13_holds cX13_holds 3 (some .boolean)) (mm_rm 11 0 0) (zE zX13_holds_6) := by
  refine zz_Met.J hl (by decide) (fun C G hnh => ztX13_holds_6 G hnh) ?_
  rintro as ⟨⟨t_, f⟩, S, L, P⟩ Q X h
  unfold zX13_holds_6 at h
  split at h
  rotate_left
  · exact h.elim
  rename_i h_ s
  obtain ⟨e1_, e2_, h⟩ := mm_and2 h (fun q => q)
  cases mm_beq e1_
  cases mm_beq e2_
  try dsimp only at h
  refine ⟨rfl, ?_⟩
  obtain ⟨c, q, p, lo, hi0, ⟨q1, q2, all, a, l, cs, q3, q4, ⟨ha2, hfa, hsz, hlen, hel⟩, q6, q7, rfl⟩, hs, ha, hb⟩ := h
  have hz : zsh ((2, f), S, L, P) h_ = (1, 11) := (zsh_hi q1.le).trans q2
  have hx : zpt ((2, f), S, L, P) h_ 1 = some a := (zpt_hi q1.le).trans q4
  replace ha2 := ha2.le
  have hza : zsh ((2, f), S, L, P) a = (1, 17) := (zsh_hi ha2).trans hfa
  have s01 : S h_ 0 = 0 ∨ S h_ 0 = 1 := by rw [q3]; cases all <;> simp
  have sR : R32 (S h_ 0) := by rcases s01 with e | e <;> rw [e] <;> decide
  have ret : alB all cs (fcX (cx S q) p) = all → Q (some (vi (S h_ 0))) ((2, f), S, L, P) := by
    rw [q3]
    cases all with
    | true => exact fun e => ha e
    | false => exact fun e => hb e
  have t2 : ∀ (m i : Nat), i + m = l.length → (∀ (j : Nat) (g : Fc → Bool), j < i → cs[j]? = some g → g (fcX (cx S q) p) = all) → zz_J zpX13_holds_6 (zz_ret Q X 0 0) 2 [some (vr h_), some (vr 103), some (vi (i : Int))] [] ((2, f), S, L, P) (0, 0) := by
    intro m
    induction m with
    | zero =>
      intro i hi hal
      refine zwX13_holds_6_2 (q_go hz hx ⟨Or.inl hza, hza, by omega, by show R32 (S a 2); rw [hsz]; omega, fun _ => ⟨hz, s01, ret (alB_a fun j g hg => hal j g ?_ hg)⟩, fun c => absurd (show S a 2 ≤ (i : Int) by rw [hsz]; omega) c⟩)
      have : j < cs.length := by
        apply Decidable.byContradiction
        intro hc
        rw [List.getElem?_eq_none (by omega)] at hg
        cases hg
      omega
    | succ m ih =>
      intro i hi hal
      have il : i < l.length := by omega
      have ig : i < cs.length := by omega
      obtain ⟨e, n, he2, hPe, hfe, hn, hln, hPi⟩ := hel (fun c => by rw [c] at il; exact absurd il (by simp))
      replace he2 := he2.le
      have hlx : l[i]? = some l[i] := List.getElem?_eq_getElem il
      have hgx : cs[i]? = some cs[i] := List.getElem?_eq_getElem ig
      have hcx := q7 i _ _ hlx hgx
      have AB : ∀ v : Int, (v = bif cs[i] (fcX (cx S q) p) then 1 else 0) → (zsh ((2, f), S, L, P) h_ = (1, 11) ∧ (R32 (S h_ 0) ∧ ((v = (S h_ 0) → zz_J zpX13_holds_6 (zz_ret Q X 0 0) 2 [some (vr h_), some (vr 103), some (vi ((i : Int) + 1))] [] ((2, f), S, L, P) (0, 0)) ∧ (¬ v = (S h_ 0) → zsh ((2, f), S, L, P) h_ = (1, 11) ∧ (R32 (S h_ 0) ∧ ((¬ (S h_ 0) = 0 → Q (some (vi 0)) ((2, f), S, L, P)) ∧ ((S h_ 0) = 0 → Q (some (vi 1)) ((2, f), S, L, P)))))))) := by
        intro v hv
        refine ⟨hz, sR, fun c => ?_, fun c => ⟨hz, sR, ?_⟩⟩
        · refine ih (i + 1) (by omega) (fun j g hj hg => ?_)
          by_cases ej : j = i
          · rw [ej, hgx] at hg
            cases hg
            rw [hv, q3] at c
            revert c
            cases cs[i] (fcX (cx S q) p) <;> cases all <;> simp
          · exact hal j g (by omega) hg
        · have hne : cs[i] (fcX (cx S q) p) ≠ all := by
            rw [hv, q3] at c
            intro e2
            rw [e2] at c
            exact c rfl
          have e2 := alB_t hgx hne
          rw [q3]
          revert e2 ha hb
          cases all with
          | true => exact fun ha hb e2 => ⟨fun _ => hb e2, fun c => absurd c (by decide)⟩
          | false => exact fun ha hb e2 => ⟨fun c => absurd rfl c, fun _ => ha e2⟩
      refine zwX13_holds_6_2 (q_go hz hx ⟨Or.inl hza, hza, by omega, by show R32 (S a 2); rw [hsz]; omega, fun c => absurd (show S a 2 ≤ (i : Int) from c) (by rw [hsz]; omega), fun _ => ⟨hz, ?_⟩⟩)
      refine (q_go hz hx ⟨Or.inl hza, hza, e, n, l[i], (zpt_hi ha2).trans hPe, (zsh_hi he2).trans hfe, hn, by omega, ⟨by show (i : Int) < S a 2; rw [hsz]; omega, by show S a 2 < 2147483647; rw [hsz]; omega⟩, ?_, coT_sh hcx, ?_⟩ : _ ∧ _ ∧ _).2
      · rw [Int.toNat_natCast]
        exact (zpt_hi he2).trans (hPi i _ hlx)
      · have A1 := fun e : cs[i] (fcX (cx S q) p) = true => AB 1 (by rw [e]; rfl)
        have A0 := fun e : cs[i] (fcX (cx S q) p) = false => AB 0 (by rw [e]; rfl)
        first | exact le_or hcx hs A1 A0 | exact co_or hcx hs A1 A0
  exact zwX13_holds_6_0 (t2 l.length 0 (by omega) (fun j g hj => absurd hj (Nat.not_lt_zero _)))
def zX14_holds_7 : zz_Sp := fun as M Q X => match as with
  | [.inr (.inr (some h_)), .inr (.inr (some s))] => bif Nat.beq M.1.1 2 && Nat.beq s 103 then (∃ (c_ : Fc → Bool) (q_ p_ lo_ hi_ : Nat), noT (coT lo_ hi_ M.1.2 M.2.1 M.2.2.2 6) lo_ hi_ M.1.2 M.2.2.2 h_ c_ ∧ sciB M.2.1 M.2.2.2 q_ p_ ∧ (c_ (fcX (cx M.2.1 q_) p_) = true → Q (some (vi 1)) ((2, M.1.2), M.2.1, M.2.2.1, M.2.2.2)) ∧ (c_ (fcX (cx M.2.1 q_) p_) = false → Q (some (vi 0)) ((2, M.1.2), M.2.1, M.2.2.1, M.2.2.2))) else False
  | _ => False

def zpX14_holds_7 : zz_P := [(0, zo_ald 1 0), (1, zo_getq 4 12 0), (4, zo_ald 5 1), (5, zo_or (zo_cfF (mm_rm 12 0 0) 10 2 11 0 0 zX13_holds_6) (zo_or (zo_cfF (mm_rm 12 0 0) 10 2 12 0 0 zX14_holds_6) (zo_or (zo_cfF (mm_rm 12 0 0) 10 2 13 0 0 zX15_holds) (zo_cfF (mm_rm 12 0 0) 10 2 16 0 0 zX19_holds)))), (10, zo_zifne 13 17), (13, zo_c 14 (vi 1)), (14, zo_goto 18), (17, zo_c 18 (vi 0)), (18, zo_zret true)]
theorem ztX14_holds_7 {C : mm_C} (G : mm_G C RX14 cX14_holds (some .boolean) 2 (mm_rm 12 0 0)) (hnh : mm_nh C) : zz_OKs C zpX14_holds_7 :=
  ⟨zz_of (ok_aload_n G dX14_holds_0 rfl rfl) (z_ald _ _),
   zz_of (ok_get G (nx := 4) (ci := 12) (kd := 2) (k := 0) (RX14, TX14, 1) rfl (by decide) rfl q1187 dX14_holds_1 rfl) (z_getq _ _ _),
   zz_of (ok_aload_n G dX14_holds_4 rfl rfl) (z_ald _ _),
   zz_or (zz_of (ok_calfF G (hnh.q 5) (zmX13_holds_6 _ G.hst) (RX13, TX13, 2) rfl q1452 q1456 q1454 q114 q1458 (List.Mem.head _) (by decide +kernel) ⟨Nat.le_of_ble_eq_true rfl, Nat.le_of_ble_eq_true rfl⟩ dX14_holds_5 rfl) (z_cfF _ _ _ _ _ _ _)) (zz_or (zz_of (ok_calfF G (hnh.q 5) (zmX14_holds_6 _ G.hst) (RX14, TX14, 1) rfl q1452 q1448 q1446 q115 q1450 (List.Mem.tail _ (List.Mem.head _)) (by decide +kernel) ⟨Nat.le_of_ble_eq_true rfl, Nat.le_of_ble_eq_true rfl⟩ dX14_holds_5 rfl) (z_cfF _ _ _ _ _ _ _)) (zz_or (zz_of (ok_calfF G (hnh.q 5) (zmX15_holds _ G.hst) (RX15, TX15, 1) rfl q1452 q1411 q1409 q116 q1413 (List.Mem.tail _ (List.Mem.tail _ (List.Mem.head _))) (by decide +kernel) ⟨Nat.le_of_ble_eq_true rfl, Nat.le_of_ble_eq_true rfl⟩ dX14_holds_5 rfl) (z_cfF _ _ _ _ _ _ _)) (zz_of (ok_calfF G (hnh.q 5) (zmX19_holds _ G.hst) (RX19, TX19, 2) rfl q1452 q1421 q1419 q121 q1423 (List.Mem.tail _ (List.Mem.tail _ (List.Mem.tail _ (List.Mem.head _)))) (by decide +kernel) ⟨Nat.le_of_ble_eq_true rfl, Nat.le_of_ble_eq_true rfl⟩ dX14_holds_5 rfl) (z_cfF _ _ _ _ _ _ _)))),
   zz_of (ok_ifne G dX14_holds_10 rfl rfl) (z_zifne _ _),
   zz_of (ok_iconst G (v := 1) dX14_holds_13 (by decide) rfl) (z_cn 14 1),
   zz_of (ok_goto G dX14_holds_14 rfl) (z_goto _),
   zz_of (ok_iconst G (v := 0) dX14_holds_17 (by decide) rfl) (z_cn 18 0),
   zz_of (ok_zret G dX14_holds_18) (z_zret _), trivial⟩

theorem zwX14_holds_7_0 {Q : Option zv → zz_M → Prop} {X : Nat → zz_M → Prop} {f : Nat → Nat × Nat} {S L : Nat → Nat → Int} {P : Nat → Nat → Option Nat} {h_ : Nat} (h : zsh ((2, f), S, L, P) h_ = (1, 12) ∧ (∀ b1 : Nat, zpt ((2, f), S, L, P) h_ 0 = some b1 → ((zsh ((2, f), S, L, P) b1 = (1, 11) ∨ zsh ((2, f), S, L, P) b1 = (17, 11)) ∧ (0 + 0 ≤ 0 ∧ 0 + 0 ≤ 0) ∧ (∃ (c_2 : Fc → Bool) (q_2 p_2 lo_2 hi_2 : Nat), roT (coT lo_2 hi_2 f S P 5) lo_2 hi_2 f S P b1 c_2 ∧ sciB S P q_2 p_2 ∧ (c_2 (fcX (cx S q_2) p_2) = true → (Q (some (vi 0)) ((2, f), S, L, P))) ∧ (c_2 (fcX (cx S q_2) p_2) = false → (Q (some (vi 1)) ((2, f), S, L, P))))) ∨ ((zsh ((2, f), S, L, P) b1 = (1, 12) ∨ zsh ((2, f), S, L, P) b1 = (17, 12)) ∧ (0 + 0 ≤ 0 ∧ 0 + 0 ≤ 0) ∧ (∃ (c_3 : Fc → Bool) (q_3 p_3 lo_3 hi_3 : Nat), noT (coT lo_3 hi_3 f S P 5) lo_3 hi_3 f P b1 c_3 ∧ sciB S P q_3 p_3 ∧ (c_3 (fcX (cx S q_3) p_3) = true → (Q (some (vi 0)) ((2, f), S, L, P))) ∧ (c_3 (fcX (cx S q_3) p_3) = false → (Q (some (vi 1)) ((2, f), S, L, P))))) ∨ ((zsh ((2, f), S, L, P) b1 = (1, 13) ∨ zsh ((2, f), S, L, P) b1 = (17, 13)) ∧ (0 + 0 ≤ 0 ∧ 0 + 0 ≤ 0) ∧ (∃ q_4 p_4 : Nat, (2000 ≤ b1 ∧ f b1 = (1, 13) ∧ (S b1 0 = 0 ∨ S b1 0 = 1)) ∧ scnI S P q_4 p_4 ∧ ((if S b1 0 = 1 then cx S q_4 2 = (p_4 : Int) else cx S q_4 6 = 1) → (Q (some (vi 0)) ((2, f), S, L, P))) ∧ (¬ (if S b1 0 = 1 then cx S q_4 2 = (p_4 : Int) else cx S q_4 6 = 1) → (Q (some (vi 1)) ((2, f), S, L, P))))) ∨ ((zsh ((2, f), S, L, P) b1 = (1, 16) ∨ zsh ((2, f), S, L, P) b1 = (17, 16)) ∧ (0 + 0 ≤ 0 ∧ 0 + 0 ≤ 0) ∧ (∃ (g_5 k_5 : Fc → Int) (q_5 p_5 a_5 b_5 lo_5 hi_5 : Nat), (2000 ≤ b1 ∧ f b1 = (1, 16) ∧ P b1 0 = some a_5 ∧ P b1 1 = some b_5) ∧ SuT lo_5 hi_5 f S P a_5 g_5 ∧ SuT lo_5 hi_5 f S P b_5 k_5 ∧ scnI S P q_5 p_5 ∧ R32 (g_5 (fcX (cx S q_5) p_5)) ∧ R32 (k_5 (fcX (cx S q_5) p_5)) ∧ (g_5 (fcX (cx S q_5) p_5) < k_5 (fcX (cx S q_5) p_5) → (Q (some (vi 0)) ((2, f), S, L, P))) ∧ (¬ g_5 (fcX (cx S q_5) p_5) < k_5 (fcX (cx S q_5) p_5) → (Q (some (vi 1)) ((2, f), S, L, P)))))) ∧ (zpt ((2, f), S, L, P) h_ 0 = none → (False ∧ (0 + 0 ≤ 0 ∧ 0 + 0 ≤ 0) ∧ False) ∨ (False ∧ (0 + 0 ≤ 0 ∧ 0 + 0 ≤ 0) ∧ False) ∨ (False ∧ (0 + 0 ≤ 0 ∧ 0 + 0 ≤ 0) ∧ False) ∨ (False ∧ (0 + 0 ≤ 0 ∧ 0 + 0 ≤ 0) ∧ False))) : zz_J zpX14_holds_7 (zz_ret Q X 0 0) 0 [some (vr h_), some (vr 103)] [] ((2, f), S, L, P) (0, 0) := zz_J.go [] 400 h

def zX13_holds_7 : zz_Sp := fun as M Q X => match as with
  | [.inr (.inr (some h_)), .inr (.inr (some s))] => bif Nat.beq M.1.1 2 && Nat.beq s 103 then (∃ (c_ : Fc → Bool) (q_ p_ lo_ hi_ : Nat), roT (coT lo_ hi_ M.1.2 M.2.1 M.2.2.2 6) lo_ hi_ M.1.2 M.2.1 M.2.2.2 h_ c_ ∧ sciB M.2.1 M.2.2.2 q_ p_ ∧ (c_ (fcX (cx M.2.1 q_) p_) = true → Q (some (vi 1)) ((2, M.1.2), M.2.1, M.2.2.1, M.2.2.2)) ∧ (c_ (fcX (cx M.2.1 q_) p_) = false → Q (some (vi 0)) ((2, M.1.2), M.2.1, M.2.2.1, M.2.2.2))) else False
  | _ => False

def zpX13_holds_7 : zz_P := [(0, zo_c 1 (vi 0)), (1, zo_ist 2 2), (2, zo_ild 3 2), (3, zo_ald 4 0), (4, zo_getq 7 11 1), (7, zo_callvp 10 1 17 zJ2_sizeh), (10, zo_cge false false 13 56), (13, zo_ald 14 0), (14, zo_getq 17 11 1), (17, zo_ild 18 2), (18, zo_callvp 21 2 17 zJ2_get), (21, zo_cast 24 [11, 12, 13, 16]), (24, zo_ald 25 1), (25, zo_or (zo_cfF (mm_rm 12 0 0) 30 2 11 0 0 zX13_holds_6) (zo_or (zo_cfF (mm_rm 12 0 0) 30 2 12 0 0 zX14_holds_6) (zo_or (zo_cfF (mm_rm 12 0 0) 30 2 13 0 0 zX15_holds) (zo_cfF (mm_rm 12 0 0) 30 2 16 0 0 zX19_holds)))), (30, zo_ald 31 0), (31, zo_getp 34 11 0 0), (34, zo_ceq true false 37 50), (37, zo_ald 38 0), (38, zo_getp 41 11 0 0), (41, zo_ifne false 44 48), (44, zo_c 45 (vi 1)), (45, zo_goto 49), (48, zo_c 49 (vi 0)), (49, zo_zret true), (50, zo_inc 53 2 1), (53, zo_goto 2), (56, zo_ald 57 0), (57, zo_getp 60 11 0 0), (60, zo_zret false)]
theorem ztX13_holds_7 {C : mm_C} (G : mm_G C RX13 cX13_holds (some .boolean) 3 (mm_rm 12 0 0)) (hnh : mm_nh C) : zz_OKs C zpX13_holds_7 :=
  ⟨zz_of (ok_iconst G (v := 0) dX13_holds_0 (by decide) rfl) (z_cn 1 0),
   zz_of (ok_istore_n G dX13_holds_1 rfl rfl (by decide)) (z_ist _ _),
   zz_of (ok_iload_n G dX13_holds_2 rfl rfl) (z_ild _ _),
   zz_of (ok_aload_n G dX13_holds_3 rfl rfl) (z_ald _ _),
   zz_of (ok_get G (nx := 7) (ci := 11) (kd := 2) (k := 1) (RX13, TX13, 2) rfl (by decide) rfl q1157 dX13_holds_4 rfl) (z_getq _ _ _),
   zz_of (ok_callv G hnh (zmJ2_sizeh _ G.hst) rfl rfl (RJ2, TJ2, 3) rfl q1459 q592 q593 q86 q594 (by decide +kernel) ⟨by decide, by decide⟩ dX13_holds_7 rfl) (z_callvp _ _ _ _),
   zz_of (ok_cge G dX13_holds_10 rfl rfl) (z_cge _ _ _ _),
   zz_of (ok_aload_n G dX13_holds_13 rfl rfl) (z_ald _ _),
   zz_of (ok_get G (nx := 17) (ci := 11) (kd := 2) (k := 1) (RX13, TX13, 2) rfl (by decide) rfl q1157 dX13_holds_14 rfl) (z_getq _ _ _),
   zz_of (ok_iload_n G dX13_holds_17 rfl rfl) (z_ild _ _),
   zz_of (ok_callv G hnh (zmJ2_get _ G.hst) rfl rfl (RJ2, TJ2, 3) rfl q1460 q1382 q1383 q86 q1384 (by decide +kernel) ⟨by decide, by decide⟩ dX13_holds_18 rfl) (z_callvp _ _ _ _),
   zz_of (ok_cast G (l := [11, 12, 13, 16]) (fun ci h r e => by
      simp only [List.mem_cons, List.not_mem_nil, or_false] at h
      rcases h with rfl | rfl | rfl | rfl <;> cases e <;> first | exact Or.inl rfl | exact Or.inr q1453 | exact Or.inr q1445 | exact Or.inr q1408 | exact Or.inr q1418) q1461 dX13_holds_21 rfl) (z_cast _ _),
   zz_of (ok_aload_n G dX13_holds_24 rfl rfl) (z_ald _ _),
   zz_or (zz_of (ok_calfF G (hnh.q 25) (zmX13_holds_6 _ G.hst) (RX13, TX13, 2) rfl q1463 q1456 q1454 q114 q1458 (List.Mem.head _) (by decide +kernel) ⟨Nat.le_of_ble_eq_true rfl, Nat.le_of_ble_eq_true rfl⟩ dX13_holds_25 rfl) (z_cfF _ _ _ _ _ _ _)) (zz_or (zz_of (ok_calfF G (hnh.q 25) (zmX14_holds_6 _ G.hst) (RX14, TX14, 1) rfl q1463 q1448 q1446 q115 q1450 (List.Mem.tail _ (List.Mem.head _)) (by decide +kernel) ⟨Nat.le_of_ble_eq_true rfl, Nat.le_of_ble_eq_true rfl⟩ dX13_holds_25 rfl) (z_cfF _ _ _ _ _ _ _)) (zz_or (zz_of (ok_calfF G (hnh.q 25) (zmX15_holds _ G.hst) (RX15, TX15, 1) rfl q1463 q1411 q1409 q116 q1413 (List.Mem.tail _ (List.Mem.tail _ (List.Mem.head _))) (by decide +kernel) ⟨Nat.le_of_ble_eq_true rfl, Nat.le_of_ble_eq_true rfl⟩ dX13_holds_25 rfl) (z_cfF _ _ _ _ _ _ _)) (zz_of (ok_calfF G (hnh.q 25) (zmX19_holds _ G.hst) (RX19, TX19, 2) rfl q1463 q1421 q1419 q121 q1423 (List.Mem.tail _ (List.Mem.tail _ (List.Mem.tail _ (List.Mem.head _)))) (by decide +kernel) ⟨Nat.le_of_ble_eq_true rfl, Nat.le_of_ble_eq_true rfl⟩ dX13_holds_25 rfl) (z_cfF _ _ _ _ _ _ _)))),
   zz_of (ok_aload_n G dX13_holds_30 rfl rfl) (z_ald _ _),
   zz_of (ok_get G (nx := 34) (ci := 11) (kd := 0) (k := 0) (RX13, TX13, 2) rfl (by decide) rfl q1156 dX13_holds_31 rfl) (z_getp _ _ _ _),
   zz_of (ok_ceq G dX13_holds_34 rfl rfl) (z_ceq _ _ _ _),
   zz_of (ok_aload_n G dX13_holds_37 rfl rfl) (z_ald _ _),
   zz_of (ok_get G (nx := 41) (ci := 11) (kd := 0) (k := 0) (RX13, TX13, 2) rfl (by decide) rfl q1156 dX13_holds_38 rfl) (z_getp _ _ _ _),
   zz_of (ok_ifne G dX13_holds_41 rfl rfl) (z_ifne _ _ _),
   zz_of (ok_iconst G (v := 1) dX13_holds_44 (by decide) rfl) (z_cn 45 1),
   zz_of (ok_goto G dX13_holds_45 rfl) (z_goto _),
   zz_of (ok_iconst G (v := 0) dX13_holds_48 (by decide) rfl) (z_cn 49 0),
   zz_of (ok_zret G dX13_holds_49) (z_zret _),
   zz_of (ok_iinc G (v := 1) dX13_holds_50 (by decide) rfl (by decide)) (z_incn 53 2 1),
   zz_of (ok_goto G dX13_holds_53 rfl) (z_goto _),
   zz_of (ok_aload_n G dX13_holds_56 rfl rfl) (z_ald _ _),
   zz_of (ok_get G (nx := 60) (ci := 11) (kd := 0) (k := 0) (RX13, TX13, 2) rfl (by decide) rfl q1156 dX13_holds_57 rfl) (z_getp _ _ _ _),
   zz_of (ok_zret G dX13_holds_60) (z_zret _), trivial⟩

theorem zwX13_holds_7_0 {Q : Option zv → zz_M → Prop} {X : Nat → zz_M → Prop} {f : Nat → Nat × Nat} {S L : Nat → Nat → Int} {P : Nat → Nat → Option Nat} {h_ : Nat} (h : zz_J zpX13_holds_7 (zz_ret Q X 0 0) 2 [some (vr h_), some (vr 103), some (vi 0)] [] ((2, f), S, L, P) (0, 0)) : zz_J zpX13_holds_7 (zz_ret Q X 0 0) 0 [some (vr h_), some (vr 103), none] [] ((2, f), S, L, P) (0, 0) := zz_J.go [(2, [])] 400 h
theorem zwX13_holds_7_2 {Q : Option zv → zz_M → Prop} {X : Nat → zz_M → Prop} {f : Nat → Nat × Nat} {S L : Nat → Nat → Int} {P : Nat → Nat → Option Nat} {h0 : Nat} {x2 : Int} (h : zsh ((2, f), S, L, P) h0 = (1, 11) ∧ (∀ b1 : Nat, zpt ((2, f), S, L, P) h0 1 = some b1 → (zsh ((2, f), S, L, P) b1 = (1, 17) ∨ zsh ((2, f), S, L, P) b1 = (17, 17)) ∧ (zsh ((2, f), S, L, P) b1 = (1, 17) ∧ (R32 x2 ∧ (R32 (((2, f), S, L, P).2.1 b1 2) ∧ (((((2, f), S, L, P).2.1 b1 2) ≤ x2 → zsh ((2, f), S, L, P) h0 = (1, 11) ∧ (((S h0 0) = 0 ∨ (S h0 0) = 1) ∧ (Q (some (vi (S h0 0))) ((2, f), S, L, P)))) ∧ (¬ (((2, f), S, L, P).2.1 b1 2) ≤ x2 → zsh ((2, f), S, L, P) h0 = (1, 11) ∧ (∀ b3 : Nat, zpt ((2, f), S, L, P) h0 1 = some b3 → (zsh ((2, f), S, L, P) b3 = (1, 17) ∨ zsh ((2, f), S, L, P) b3 = (17, 17)) ∧ (zsh ((2, f), S, L, P) b3 = (1, 17) ∧ ∃ (e_4 n_4 x_4 : Nat), zpt ((2, f), S, L, P) b3 1 = some e_4 ∧ zsh ((2, f), S, L, P) e_4 = (7, n_4) ∧ n_4 ≤ 2147483647 ∧ (0 ≤ x2 ∧ x2 < (n_4 : Int)) ∧ (x2 < ((2, f), S, L, P).2.1 b3 2 ∧ ((2, f), S, L, P).2.1 b3 2 < 2147483647) ∧ zpt ((2, f), S, L, P) e_4 x2.toNat = some x_4 ∧ ((∃ ci : Nat, (zsh ((2, f), S, L, P) x_4 = (1, ci) ∨ zsh ((2, f), S, L, P) x_4 = (17, ci)) ∧ mm_mem [11, 12, 13, 16] ci = true) ∧ (((zsh ((2, f), S, L, P) x_4 = (1, 11) ∨ zsh ((2, f), S, L, P) x_4 = (17, 11)) ∧ (0 + 0 ≤ 0 ∧ 0 + 0 ≤ 0) ∧ (∃ (c_5 : Fc → Bool) (q_5 p_5 lo_5 hi_5 : Nat), roT (coT lo_5 hi_5 f S P 5) lo_5 hi_5 f S P x_4 c_5 ∧ sciB S P q_5 p_5 ∧ (c_5 (fcX (cx S q_5) p_5) = true → (zsh ((2, f), S, L, P) h0 = (1, 11) ∧ (R32 (S h0 0) ∧ (((1 : Int) = (S h0 0) → zz_J zpX13_holds_7 (zz_ret Q X 0 0) 2 [some (vr h0), some (vr 103), some (vi (x2 + 1))] [] ((2, f), S, L, P) (0, 0)) ∧ (¬ (1 : Int) = (S h0 0) → zsh ((2, f), S, L, P) h0 = (1, 11) ∧ (R32 (S h0 0) ∧ ((¬ (S h0 0) = 0 → Q (some (vi 0)) ((2, f), S, L, P)) ∧ ((S h0 0) = 0 → Q (some (vi 1)) ((2, f), S, L, P))))))))) ∧ (c_5 (fcX (cx S q_5) p_5) = false → (zsh ((2, f), S, L, P) h0 = (1, 11) ∧ (R32 (S h0 0) ∧ (((0 : Int) = (S h0 0) → zz_J zpX13_holds_7 (zz_ret Q X 0 0) 2 [some (vr h0), some (vr 103), some (vi (x2 + 1))] [] ((2, f), S, L, P) (0, 0)) ∧ (¬ (0 : Int) = (S h0 0) → zsh ((2, f), S, L, P) h0 = (1, 11) ∧ (R32 (S h0 0) ∧ ((¬ (S h0 0) = 0 → Q (some (vi 0)) ((2, f), S, L, P)) ∧ ((S h0 0) = 0 → Q (some (vi 1)) ((2, f), S, L, P))))))))))) ∨ ((zsh ((2, f), S, L, P) x_4 = (1, 12) ∨ zsh ((2, f), S, L, P) x_4 = (17, 12)) ∧ (0 + 0 ≤ 0 ∧ 0 + 0 ≤ 0) ∧ (∃ (c_6 : Fc → Bool) (q_6 p_6 lo_6 hi_6 : Nat), noT (coT lo_6 hi_6 f S P 5) lo_6 hi_6 f P x_4 c_6 ∧ sciB S P q_6 p_6 ∧ (c_6 (fcX (cx S q_6) p_6) = true → (zsh ((2, f), S, L, P) h0 = (1, 11) ∧ (R32 (S h0 0) ∧ (((1 : Int) = (S h0 0) → zz_J zpX13_holds_7 (zz_ret Q X 0 0) 2 [some (vr h0), some (vr 103), some (vi (x2 + 1))] [] ((2, f), S, L, P) (0, 0)) ∧ (¬ (1 : Int) = (S h0 0) → zsh ((2, f), S, L, P) h0 = (1, 11) ∧ (R32 (S h0 0) ∧ ((¬ (S h0 0) = 0 → Q (some (vi 0)) ((2, f), S, L, P)) ∧ ((S h0 0) = 0 → Q (some (vi 1)) ((2, f), S, L, P))))))))) ∧ (c_6 (fcX (cx S q_6) p_6) = false → (zsh ((2, f), S, L, P) h0 = (1, 11) ∧ (R32 (S h0 0) ∧ (((0 : Int) = (S h0 0) → zz_J zpX13_holds_7 (zz_ret Q X 0 0) 2 [some (vr h0), some (vr 103), some (vi (x2 + 1))] [] ((2, f), S, L, P) (0, 0)) ∧ (¬ (0 : Int) = (S h0 0) → zsh ((2, f), S, L, P) h0 = (1, 11) ∧ (R32 (S h0 0) ∧ ((¬ (S h0 0) = 0 → Q (some (vi 0)) ((2, f), S, L, P)) ∧ ((S h0 0) = 0 → Q (some (vi 1)) ((2, f), S, L, P))))))))))) ∨ ((zsh ((2, f), S, L, P) x_4 = (1, 13) ∨ zsh ((2, f), S, L, P) x_4 = (17, 13)) ∧ (0 + 0 ≤ 0 ∧ 0 + 0 ≤ 0) ∧ (∃ q_7 p_7 : Nat, (2000 ≤ x_4 ∧ f x_4 = (1, 13) ∧ (S x_4 0 = 0 ∨ S x_4 0 = 1)) ∧ scnI S P q_7 p_7 ∧ ((if S x_4 0 = 1 then cx S q_7 2 = (p_7 : Int) else cx S q_7 6 = 1) → (zsh ((2, f), S, L, P) h0 = (1, 11) ∧ (R32 (S h0 0) ∧ (((1 : Int) = (S h0 0) → zz_J zpX13_holds_7 (zz_ret Q X 0 0) 2 [some (vr h0), some (vr 103), some (vi (x2 + 1))] [] ((2, f), S, L, P) (0, 0)) ∧ (¬ (1 : Int) = (S h0 0) → zsh ((2, f), S, L, P) h0 = (1, 11) ∧ (R32 (S h0 0) ∧ ((¬ (S h0 0) = 0 → Q (some (vi 0)) ((2, f), S, L, P)) ∧ ((S h0 0) = 0 → Q (some (vi 1)) ((2, f), S, L, P))))))))) ∧ (¬ (if S x_4 0 = 1 then cx S q_7 2 = (p_7 : Int) else cx S q_7 6 = 1) → (zsh ((2, f), S, L, P) h0 = (1, 11) ∧ (R32 (S h0 0) ∧ (((0 : Int) = (S h0 0) → zz_J zpX13_holds_7 (zz_ret Q X 0 0) 2 [some (vr h0), some (vr 103), some (vi (x2 + 1))] [] ((2, f), S, L, P) (0, 0)) ∧ (¬ (0 : Int) = (S h0 0) → zsh ((2, f), S, L, P) h0 = (1, 11) ∧ (R32 (S h0 0) ∧ ((¬ (S h0 0) = 0 → Q (some (vi 0)) ((2, f), S, L, P)) ∧ ((S h0 0) = 0 → Q (some (vi 1)) ((2, f), S, L, P))))))))))) ∨ ((zsh ((2, f), S, L, P) x_4 = (1, 16) ∨ zsh ((2, f), S, L, P) x_4 = (17, 16)) ∧ (0 + 0 ≤ 0 ∧ 0 + 0 ≤ 0) ∧ (∃ (g_8 k_8 : Fc → Int) (q_8 p_8 a_8 b_8 lo_8 hi_8 : Nat), (2000 ≤ x_4 ∧ f x_4 = (1, 16) ∧ P x_4 0 = some a_8 ∧ P x_4 1 = some b_8) ∧ SuT lo_8 hi_8 f S P a_8 g_8 ∧ SuT lo_8 hi_8 f S P b_8 k_8 ∧ scnI S P q_8 p_8 ∧ R32 (g_8 (fcX (cx S q_8) p_8)) ∧ R32 (k_8 (fcX (cx S q_8) p_8)) ∧ (g_8 (fcX (cx S q_8) p_8) < k_8 (fcX (cx S q_8) p_8) → (zsh ((2, f), S, L, P) h0 = (1, 11) ∧ (R32 (S h0 0) ∧ (((1 : Int) = (S h0 0) → zz_J zpX13_holds_7 (zz_ret Q X 0 0) 2 [some (vr h0), some (vr 103), some (vi (x2 + 1))] [] ((2, f), S, L, P) (0, 0)) ∧ (¬ (1 : Int) = (S h0 0) → zsh ((2, f), S, L, P) h0 = (1, 11) ∧ (R32 (S h0 0) ∧ ((¬ (S h0 0) = 0 → Q (some (vi 0)) ((2, f), S, L, P)) ∧ ((S h0 0) = 0 → Q (some (vi 1)) ((2, f), S, L, P))))))))) ∧ (¬ g_8 (fcX (cx S q_8) p_8) < k_8 (fcX (cx S q_8) p_8) → (zsh ((2, f), S, L, P) h0 = (1, 11) ∧ (R32 (S h0 0) ∧ (((0 : Int) = (S h0 0) → zz_J zpX13_holds_7 (zz_ret Q X 0 0) 2 [some (vr h0), some (vr 103), some (vi (x2 + 1))] [] ((2, f), S, L, P) (0, 0)) ∧ (¬ (0 : Int) = (S h0 0) → zsh ((2, f), S, L, P) h0 = (1, 11) ∧ (R32 (S h0 0) ∧ ((¬ (S h0 0) = 0 → Q (some (vi 0)) ((2, f), S, L, P)) ∧ ((S h0 0) = 0 → Q (some (vi 1)) ((2, f), S, L, P))))))))))))))) ∧ (zpt ((2, f), S, L, P) h0 1 = none → False ∧ False))))))) ∧ (zpt ((2, f), S, L, P) h0 1 = none → False ∧ False)) : zz_J zpX13_holds_7 (zz_ret Q X 0 0) 2 [some (vr h0), some (vr 103), some (vi x2)] [] ((2, f), S, L, P) (0, 0) := zz_J.go [(2, [])] 400 h

theorem zmX14_holds_7 (l : Launch) (hl : l.stackTraces = false) : mm_Spec l yX14_holds (ws_ yX14_holds cX14_holds 2 (some .boolean)) (mm_rm 12 0 0) (zE zX14_holds_7) := by
  refine zz_Met.J hl (by decide) (fun C G hnh => ztX14_holds_7 G hnh) ?_
  rintro as ⟨⟨t_, f⟩, S, L, P⟩ Q X h
  unfold zX14_holds_7 at h
  split at h
  rotate_left
  · exact h.elim
  rename_i h_ s
  obtain ⟨e1_, e2_, h⟩ := mm_and2 h (fun q => q)
  cases mm_beq e1_
  cases mm_beq e2_
  try dsimp only at h
  refine ⟨rfl, ?_⟩
  obtain ⟨c, q, p, lo, hi, ⟨q1, q2, a, g, q3, q4, rfl⟩, hs, ha, hb⟩ := h
  have hz : zsh ((2, f), S, L, P) h_ = (1, 12) := (zsh_hi q1.le).trans q2
  have hx : zpt ((2, f), S, L, P) h_ 0 = some a := (zpt_hi q1.le).trans q3
  have ha' : g (fcX (cx S q) p) = true → Q (some (vi 0)) ((2, f), S, L, P) := fun e => hb (by show (!g _) = false; rw [e]; rfl)
  have hb' : g (fcX (cx S q) p) = false → Q (some (vi 1)) ((2, f), S, L, P) := fun e => ha (by show (!g _) = true; rw [e]; rfl)
  refine zwX14_holds_7_0 (q_go hz hx ?_)
  first | exact le_or q4 hs ha' hb' | exact co_or q4 hs ha' hb'
theorem zmX13_holds_7 (l : Launch) (hl : l.stackTraces = false) : mm_Spec l yX13_holds (ws_ yX13_holds cX13_holds 3 (some .boolean)) (mm_rm 12 0 0) (zE zX13_holds_7) := by
  refine zz_Met.J hl (by decide) (fun C G hnh => ztX13_holds_7 G hnh) ?_
  rintro as ⟨⟨t_, f⟩, S, L, P⟩ Q X h
  unfold zX13_holds_7 at h
  split at h
  rotate_left
  · exact h.elim
  rename_i h_ s
  obtain ⟨e1_, e2_, h⟩ := mm_and2 h (fun q => q)
  cases mm_beq e1_
  cases mm_beq e2_
  try dsimp only at h
  refine ⟨rfl, ?_⟩
  obtain ⟨c, q, p, lo, hi0, ⟨q1, q2, all, a, l, cs, q3, q4, ⟨ha2, hfa, hsz, hlen, hel⟩, q6, q7, rfl⟩, hs, ha, hb⟩ := h
  have hz : zsh ((2, f), S, L, P) h_ = (1, 11) := (zsh_hi q1.le).trans q2
  have hx : zpt ((2, f), S, L, P) h_ 1 = some a := (zpt_hi q1.le).trans q4
  replace ha2 := ha2.le
  have hza : zsh ((2, f), S, L, P) a = (1, 17) := (zsh_hi ha2).trans hfa
  have s01 : S h_ 0 = 0 ∨ S h_ 0 = 1 := by rw [q3]; cases all <;> simp
  have sR : R32 (S h_ 0) := by rcases s01 with e | e <;> rw [e] <;> decide
  have ret : alB all cs (fcX (cx S q) p) = all → Q (some (vi (S h_ 0))) ((2, f), S, L, P) := by
    rw [q3]
    cases all with
    | true => exact fun e => ha e
    | false => exact fun e => hb e
  have t2 : ∀ (m i : Nat), i + m = l.length → (∀ (j : Nat) (g : Fc → Bool), j < i → cs[j]? = some g → g (fcX (cx S q) p) = all) → zz_J zpX13_holds_7 (zz_ret Q X 0 0) 2 [some (vr h_), some (vr 103), some (vi (i : Int))] [] ((2, f), S, L, P) (0, 0) := by
    intro m
    induction m with
    | zero =>
      intro i hi hal
      refine zwX13_holds_7_2 (q_go hz hx ⟨Or.inl hza, hza, by omega, by show R32 (S a 2); rw [hsz]; omega, fun _ => ⟨hz, s01, ret (alB_a fun j g hg => hal j g ?_ hg)⟩, fun c => absurd (show S a 2 ≤ (i : Int) by rw [hsz]; omega) c⟩)
      have : j < cs.length := by
        apply Decidable.byContradiction
        intro hc
        rw [List.getElem?_eq_none (by omega)] at hg
        cases hg
      omega
    | succ m ih =>
      intro i hi hal
      have il : i < l.length := by omega
      have ig : i < cs.length := by omega
      obtain ⟨e, n, he2, hPe, hfe, hn, hln, hPi⟩ := hel (fun c => by rw [c] at il; exact absurd il (by simp))
      replace he2 := he2.le
      have hlx : l[i]? = some l[i] := List.getElem?_eq_getElem il
      have hgx : cs[i]? = some cs[i] := List.getElem?_eq_getElem ig
      have hcx := q7 i _ _ hlx hgx
      have AB : ∀ v : Int, (v = bif cs[i] (fcX (cx S q) p) then 1 else 0) → (zsh ((2, f), S, L, P) h_ = (1, 11) ∧ (R32 (S h_ 0) ∧ ((v = (S h_ 0) → zz_J zpX13_holds_7 (zz_ret Q X 0 0) 2 [some (vr h_), some (vr 103), some (vi ((i : Int) + 1))] [] ((2, f), S, L, P) (0, 0)) ∧ (¬ v = (S h_ 0) → zsh ((2, f), S, L, P) h_ = (1, 11) ∧ (R32 (S h_ 0) ∧ ((¬ (S h_ 0) = 0 → Q (some (vi 0)) ((2, f), S, L, P)) ∧ ((S h_ 0) = 0 → Q (some (vi 1)) ((2, f), S, L, P)))))))) := by
        intro v hv
        refine ⟨hz, sR, fun c => ?_, fun c => ⟨hz, sR, ?_⟩⟩
        · refine ih (i + 1) (by omega) (fun j g hj hg => ?_)
          by_cases ej : j = i
          · rw [ej, hgx] at hg
            cases hg
            rw [hv, q3] at c
            revert c
            cases cs[i] (fcX (cx S q) p) <;> cases all <;> simp
          · exact hal j g (by omega) hg
        · have hne : cs[i] (fcX (cx S q) p) ≠ all := by
            rw [hv, q3] at c
            intro e2
            rw [e2] at c
            exact c rfl
          have e2 := alB_t hgx hne
          rw [q3]
          revert e2 ha hb
          cases all with
          | true => exact fun ha hb e2 => ⟨fun _ => hb e2, fun c => absurd c (by decide)⟩
          | false => exact fun ha hb e2 => ⟨fun c => absurd rfl c, fun _ => ha e2⟩
      refine zwX13_holds_7_2 (q_go hz hx ⟨Or.inl hza, hza, by omega, by show R32 (S a 2); rw [hsz]; omega, fun c => absurd (show S a 2 ≤ (i : Int) from c) (by rw [hsz]; omega), fun _ => ⟨hz, ?_⟩⟩)
      refine (q_go hz hx ⟨Or.inl hza, hza, e, n, l[i], (zpt_hi ha2).trans hPe, (zsh_hi he2).trans hfe, hn, by omega, ⟨by show (i : Int) < S a 2; rw [hsz]; omega, by show S a 2 < 2147483647; rw [hsz]; omega⟩, ?_, coT_sh hcx, ?_⟩ : _ ∧ _ ∧ _).2
      · rw [Int.toNat_natCast]
        exact (zpt_hi he2).trans (hPi i _ hlx)
      · have A1 := fun e : cs[i] (fcX (cx S q) p) = true => AB 1 (by rw [e]; rfl)
        have A0 := fun e : cs[i] (fcX (cx S q) p) = false => AB 0 (by rw [e]; rfl)
        first | exact le_or hcx hs A1 A0 | exact co_or hcx hs A1 A0
  exact zwX13_holds_7_0 (t2 l.length 0 (by omega) (fun j g hj => absurd hj (Nat.not_lt_zero _)))
def zX14_holds_8 : zz_Sp := fun as M Q X => match as with
  | [.inr (.inr (some h_)), .inr (.inr (some s))] => bif Nat.beq M.1.1 2 && Nat.beq s 103 then (∃ (c_ : Fc → Bool) (q_ p_ lo_ hi_ : Nat), noT (coT lo_ hi_ M.1.2 M.2.1 M.2.2.2 7) lo_ hi_ M.1.2 M.2.2.2 h_ c_ ∧ sciB M.2.1 M.2.2.2 q_ p_ ∧ (c_ (fcX (cx M.2.1 q_) p_) = true → Q (some (vi 1)) ((2, M.1.2), M.2.1, M.2.2.1, M.2.2.2)) ∧ (c_ (fcX (cx M.2.1 q_) p_) = false → Q (some (vi 0)) ((2, M.1.2), M.2.1, M.2.2.1, M.2.2.2))) else False
  | _ => False

def zpX14_holds_8 : zz_P := [(0, zo_ald 1 0), (1, zo_getq 4 12 0), (4, zo_ald 5 1), (5, zo_or (zo_cfF (mm_rm 13 0 0) 10 2 11 0 0 zX13_holds_7) (zo_or (zo_cfF (mm_rm 13 0 0) 10 2 12 0 0 zX14_holds_7) (zo_or (zo_cfF (mm_rm 13 0 0) 10 2 13 0 0 zX15_holds) (zo_cfF (mm_rm 13 0 0) 10 2 16 0 0 zX19_holds)))), (10, zo_zifne 13 17), (13, zo_c 14 (vi 1)), (14, zo_goto 18), (17, zo_c 18 (vi 0)), (18, zo_zret true)]
theorem ztX14_holds_8 {C : mm_C} (G : mm_G C RX14 cX14_holds (some .boolean) 2 (mm_rm 13 0 0)) (hnh : mm_nh C) : zz_OKs C zpX14_holds_8 :=
  ⟨zz_of (ok_aload_n G dX14_holds_0 rfl rfl) (z_ald _ _),
   zz_of (ok_get G (nx := 4) (ci := 12) (kd := 2) (k := 0) (RX14, TX14, 1) rfl (by decide) rfl q1187 dX14_holds_1 rfl) (z_getq _ _ _),
   zz_of (ok_aload_n G dX14_holds_4 rfl rfl) (z_ald _ _),
   zz_or (zz_of (ok_calfF G (hnh.q 5) (zmX13_holds_7 _ G.hst) (RX13, TX13, 2) rfl q1452 q1456 q1454 q114 q1458 (List.Mem.head _) (by decide +kernel) ⟨Nat.le_of_ble_eq_true rfl, Nat.le_of_ble_eq_true rfl⟩ dX14_holds_5 rfl) (z_cfF _ _ _ _ _ _ _)) (zz_or (zz_of (ok_calfF G (hnh.q 5) (zmX14_holds_7 _ G.hst) (RX14, TX14, 1) rfl q1452 q1448 q1446 q115 q1450 (List.Mem.tail _ (List.Mem.head _)) (by decide +kernel) ⟨Nat.le_of_ble_eq_true rfl, Nat.le_of_ble_eq_true rfl⟩ dX14_holds_5 rfl) (z_cfF _ _ _ _ _ _ _)) (zz_or (zz_of (ok_calfF G (hnh.q 5) (zmX15_holds _ G.hst) (RX15, TX15, 1) rfl q1452 q1411 q1409 q116 q1413 (List.Mem.tail _ (List.Mem.tail _ (List.Mem.head _))) (by decide +kernel) ⟨Nat.le_of_ble_eq_true rfl, Nat.le_of_ble_eq_true rfl⟩ dX14_holds_5 rfl) (z_cfF _ _ _ _ _ _ _)) (zz_of (ok_calfF G (hnh.q 5) (zmX19_holds _ G.hst) (RX19, TX19, 2) rfl q1452 q1421 q1419 q121 q1423 (List.Mem.tail _ (List.Mem.tail _ (List.Mem.tail _ (List.Mem.head _)))) (by decide +kernel) ⟨Nat.le_of_ble_eq_true rfl, Nat.le_of_ble_eq_true rfl⟩ dX14_holds_5 rfl) (z_cfF _ _ _ _ _ _ _)))),
   zz_of (ok_ifne G dX14_holds_10 rfl rfl) (z_zifne _ _),
   zz_of (ok_iconst G (v := 1) dX14_holds_13 (by decide) rfl) (z_cn 14 1),
   zz_of (ok_goto G dX14_holds_14 rfl) (z_goto _),
   zz_of (ok_iconst G (v := 0) dX14_holds_17 (by decide) rfl) (z_cn 18 0),
   zz_of (ok_zret G dX14_holds_18) (z_zret _), trivial⟩

theorem zwX14_holds_8_0 {Q : Option zv → zz_M → Prop} {X : Nat → zz_M → Prop} {f : Nat → Nat × Nat} {S L : Nat → Nat → Int} {P : Nat → Nat → Option Nat} {h_ : Nat} (h : zsh ((2, f), S, L, P) h_ = (1, 12) ∧ (∀ b1 : Nat, zpt ((2, f), S, L, P) h_ 0 = some b1 → ((zsh ((2, f), S, L, P) b1 = (1, 11) ∨ zsh ((2, f), S, L, P) b1 = (17, 11)) ∧ (0 + 0 ≤ 0 ∧ 0 + 0 ≤ 0) ∧ (∃ (c_2 : Fc → Bool) (q_2 p_2 lo_2 hi_2 : Nat), roT (coT lo_2 hi_2 f S P 6) lo_2 hi_2 f S P b1 c_2 ∧ sciB S P q_2 p_2 ∧ (c_2 (fcX (cx S q_2) p_2) = true → (Q (some (vi 0)) ((2, f), S, L, P))) ∧ (c_2 (fcX (cx S q_2) p_2) = false → (Q (some (vi 1)) ((2, f), S, L, P))))) ∨ ((zsh ((2, f), S, L, P) b1 = (1, 12) ∨ zsh ((2, f), S, L, P) b1 = (17, 12)) ∧ (0 + 0 ≤ 0 ∧ 0 + 0 ≤ 0) ∧ (∃ (c_3 : Fc → Bool) (q_3 p_3 lo_3 hi_3 : Nat), noT (coT lo_3 hi_3 f S P 6) lo_3 hi_3 f P b1 c_3 ∧ sciB S P q_3 p_3 ∧ (c_3 (fcX (cx S q_3) p_3) = true → (Q (some (vi 0)) ((2, f), S, L, P))) ∧ (c_3 (fcX (cx S q_3) p_3) = false → (Q (some (vi 1)) ((2, f), S, L, P))))) ∨ ((zsh ((2, f), S, L, P) b1 = (1, 13) ∨ zsh ((2, f), S, L, P) b1 = (17, 13)) ∧ (0 + 0 ≤ 0 ∧ 0 + 0 ≤ 0) ∧ (∃ q_4 p_4 : Nat, (2000 ≤ b1 ∧ f b1 = (1, 13) ∧ (S b1 0 = 0 ∨ S b1 0 = 1)) ∧ scnI S P q_4 p_4 ∧ ((if S b1 0 = 1 then cx S q_4 2 = (p_4 : Int) else cx S q_4 6 = 1) → (Q (some (vi 0)) ((2, f), S, L, P))) ∧ (¬ (if S b1 0 = 1 then cx S q_4 2 = (p_4 : Int) else cx S q_4 6 = 1) → (Q (some (vi 1)) ((2, f), S, L, P))))) ∨ ((zsh ((2, f), S, L, P) b1 = (1, 16) ∨ zsh ((2, f), S, L, P) b1 = (17, 16)) ∧ (0 + 0 ≤ 0 ∧ 0 + 0 ≤ 0) ∧ (∃ (g_5 k_5 : Fc → Int) (q_5 p_5 a_5 b_5 lo_5 hi_5 : Nat), (2000 ≤ b1 ∧ f b1 = (1, 16) ∧ P b1 0 = some a_5 ∧ P b1 1 = some b_5) ∧ SuT lo_5 hi_5 f S P a_5 g_5 ∧ SuT lo_5 hi_5 f S P b_5 k_5 ∧ scnI S P q_5 p_5 ∧ R32 (g_5 (fcX (cx S q_5) p_5)) ∧ R32 (k_5 (fcX (cx S q_5) p_5)) ∧ (g_5 (fcX (cx S q_5) p_5) < k_5 (fcX (cx S q_5) p_5) → (Q (some (vi 0)) ((2, f), S, L, P))) ∧ (¬ g_5 (fcX (cx S q_5) p_5) < k_5 (fcX (cx S q_5) p_5) → (Q (some (vi 1)) ((2, f), S, L, P)))))) ∧ (zpt ((2, f), S, L, P) h_ 0 = none → (False ∧ (0 + 0 ≤ 0 ∧ 0 + 0 ≤ 0) ∧ False) ∨ (False ∧ (0 + 0 ≤ 0 ∧ 0 + 0 ≤ 0) ∧ False) ∨ (False ∧ (0 + 0 ≤ 0 ∧ 0 + 0 ≤ 0) ∧ False) ∨ (False ∧ (0 + 0 ≤ 0 ∧ 0 + 0 ≤ 0) ∧ False))) : zz_J zpX14_holds_8 (zz_ret Q X 0 0) 0 [some (vr h_), some (vr 103)] [] ((2, f), S, L, P) (0, 0) := zz_J.go [] 400 h

def zX13_holds_8 : zz_Sp := fun as M Q X => match as with
  | [.inr (.inr (some h_)), .inr (.inr (some s))] => bif Nat.beq M.1.1 2 && Nat.beq s 103 then (∃ (c_ : Fc → Bool) (q_ p_ lo_ hi_ : Nat), roT (coT lo_ hi_ M.1.2 M.2.1 M.2.2.2 7) lo_ hi_ M.1.2 M.2.1 M.2.2.2 h_ c_ ∧ sciB M.2.1 M.2.2.2 q_ p_ ∧ (c_ (fcX (cx M.2.1 q_) p_) = true → Q (some (vi 1)) ((2, M.1.2), M.2.1, M.2.2.1, M.2.2.2)) ∧ (c_ (fcX (cx M.2.1 q_) p_) = false → Q (some (vi 0)) ((2, M.1.2), M.2.1, M.2.2.1, M.2.2.2))) else False
  | _ => False

def zpX13_holds_8 : zz_P := [(0, zo_c 1 (vi 0)), (1, zo_ist 2 2), (2, zo_ild 3 2), (3, zo_ald 4 0), (4, zo_getq 7 11 1), (7, zo_callvp 10 1 17 zJ2_sizeh), (10, zo_cge false false 13 56), (13, zo_ald 14 0), (14, zo_getq 17 11 1), (17, zo_ild 18 2), (18, zo_callvp 21 2 17 zJ2_get), (21, zo_cast 24 [11, 12, 13, 16]), (24, zo_ald 25 1), (25, zo_or (zo_cfF (mm_rm 13 0 0) 30 2 11 0 0 zX13_holds_7) (zo_or (zo_cfF (mm_rm 13 0 0) 30 2 12 0 0 zX14_holds_7) (zo_or (zo_cfF (mm_rm 13 0 0) 30 2 13 0 0 zX15_holds) (zo_cfF (mm_rm 13 0 0) 30 2 16 0 0 zX19_holds)))), (30, zo_ald 31 0), (31, zo_getp 34 11 0 0), (34, zo_ceq true false 37 50), (37, zo_ald 38 0), (38, zo_getp 41 11 0 0), (41, zo_ifne false 44 48), (44, zo_c 45 (vi 1)), (45, zo_goto 49), (48, zo_c 49 (vi 0)), (49, zo_zret true), (50, zo_inc 53 2 1), (53, zo_goto 2), (56, zo_ald 57 0), (57, zo_getp 60 11 0 0), (60, zo_zret false)]
theorem ztX13_holds_8 {C : mm_C} (G : mm_G C RX13 cX13_holds (some .boolean) 3 (mm_rm 13 0 0)) (hnh : mm_nh C) : zz_OKs C zpX13_holds_8 :=
  ⟨zz_of (ok_iconst G (v := 0) dX13_holds_0 (by decide) rfl) (z_cn 1 0),
   zz_of (ok_istore_n G dX13_holds_1 rfl rfl (by decide)) (z_ist _ _),
   zz_of (ok_iload_n G dX13_holds_2 rfl rfl) (z_ild _ _),
   zz_of (ok_aload_n G dX13_holds_3 rfl rfl) (z_ald _ _),
   zz_of (ok_get G (nx := 7) (ci := 11) (kd := 2) (k := 1) (RX13, TX13, 2) rfl (by decide) rfl q1157 dX13_holds_4 rfl) (z_getq _ _ _),
   zz_of (ok_callv G hnh (zmJ2_sizeh _ G.hst) rfl rfl (RJ2, TJ2, 3) rfl q1459 q592 q593 q86 q594 (by decide +kernel) ⟨by decide, by decide⟩ dX13_holds_7 rfl) (z_callvp _ _ _ _),
   zz_of (ok_cge G dX13_holds_10 rfl rfl) (z_cge _ _ _ _),
   zz_of (ok_aload_n G dX13_holds_13 rfl rfl) (z_ald _ _),
   zz_of (ok_get G (nx := 17) (ci := 11) (kd := 2) (k := 1) (RX13, TX13, 2) rfl (by decide) rfl q1157 dX13_holds_14 rfl) (z_getq _ _ _),
   zz_of (ok_iload_n G dX13_holds_17 rfl rfl) (z_ild _ _),
   zz_of (ok_callv G hnh (zmJ2_get _ G.hst) rfl rfl (RJ2, TJ2, 3) rfl q1460 q1382 q1383 q86 q1384 (by decide +kernel) ⟨by decide, by decide⟩ dX13_holds_18 rfl) (z_callvp _ _ _ _),
   zz_of (ok_cast G (l := [11, 12, 13, 16]) (fun ci h r e => by
      simp only [List.mem_cons, List.not_mem_nil, or_false] at h
      rcases h with rfl | rfl | rfl | rfl <;> cases e <;> first | exact Or.inl rfl | exact Or.inr q1453 | exact Or.inr q1445 | exact Or.inr q1408 | exact Or.inr q1418) q1461 dX13_holds_21 rfl) (z_cast _ _),
   zz_of (ok_aload_n G dX13_holds_24 rfl rfl) (z_ald _ _),
   zz_or (zz_of (ok_calfF G (hnh.q 25) (zmX13_holds_7 _ G.hst) (RX13, TX13, 2) rfl q1463 q1456 q1454 q114 q1458 (List.Mem.head _) (by decide +kernel) ⟨Nat.le_of_ble_eq_true rfl, Nat.le_of_ble_eq_true rfl⟩ dX13_holds_25 rfl) (z_cfF _ _ _ _ _ _ _)) (zz_or (zz_of (ok_calfF G (hnh.q 25) (zmX14_holds_7 _ G.hst) (RX14, TX14, 1) rfl q1463 q1448 q1446 q115 q1450 (List.Mem.tail _ (List.Mem.head _)) (by decide +kernel) ⟨Nat.le_of_ble_eq_true rfl, Nat.le_of_ble_eq_true rfl⟩ dX13_holds_25 rfl) (z_cfF _ _ _ _ _ _ _)) (zz_or (zz_of (ok_calfF G (hnh.q 25) (zmX15_holds _ G.hst) (RX15, TX15, 1) rfl q1463 q1411 q1409 q116 q1413 (List.Mem.tail _ (List.Mem.tail _ (List.Mem.head _))) (by decide +kernel) ⟨Nat.le_of_ble_eq_true rfl, Nat.le_of_ble_eq_true rfl⟩ dX13_holds_25 rfl) (z_cfF _ _ _ _ _ _ _)) (zz_of (ok_calfF G (hnh.q 25) (zmX19_holds _ G.hst) (RX19, TX19, 2) rfl q1463 q1421 q1419 q121 q1423 (List.Mem.tail _ (List.Mem.tail _ (List.Mem.tail _ (List.Mem.head _)))) (by decide +kernel) ⟨Nat.le_of_ble_eq_true rfl, Nat.le_of_ble_eq_true rfl⟩ dX13_holds_25 rfl) (z_cfF _ _ _ _ _ _ _)))),
   zz_of (ok_aload_n G dX13_holds_30 rfl rfl) (z_ald _ _),
   zz_of (ok_get G (nx := 34) (ci := 11) (kd := 0) (k := 0) (RX13, TX13, 2) rfl (by decide) rfl q1156 dX13_holds_31 rfl) (z_getp _ _ _ _),
   zz_of (ok_ceq G dX13_holds_34 rfl rfl) (z_ceq _ _ _ _),
   zz_of (ok_aload_n G dX13_holds_37 rfl rfl) (z_ald _ _),
   zz_of (ok_get G (nx := 41) (ci := 11) (kd := 0) (k := 0) (RX13, TX13, 2) rfl (by decide) rfl q1156 dX13_holds_38 rfl) (z_getp _ _ _ _),
   zz_of (ok_ifne G dX13_holds_41 rfl rfl) (z_ifne _ _ _),
   zz_of (ok_iconst G (v := 1) dX13_holds_44 (by decide) rfl) (z_cn 45 1),
   zz_of (ok_goto G dX13_holds_45 rfl) (z_goto _),
   zz_of (ok_iconst G (v := 0) dX13_holds_48 (by decide) rfl) (z_cn 49 0),
   zz_of (ok_zret G dX13_holds_49) (z_zret _),
   zz_of (ok_iinc G (v := 1) dX13_holds_50 (by decide) rfl (by decide)) (z_incn 53 2 1),
   zz_of (ok_goto G dX13_holds_53 rfl) (z_goto _),
   zz_of (ok_aload_n G dX13_holds_56 rfl rfl) (z_ald _ _),
   zz_of (ok_get G (nx := 60) (ci := 11) (kd := 0) (k := 0) (RX13, TX13, 2) rfl (by decide) rfl q1156 dX13_holds_57 rfl) (z_getp _ _ _ _),
   zz_of (ok_zret G dX13_holds_60) (z_zret _), trivial⟩

theorem zwX13_holds_8_0 {Q : Option zv → zz_M → Prop} {X : Nat → zz_M → Prop} {f : Nat → Nat × Nat} {S L : Nat → Nat → Int} {P : Nat → Nat → Option Nat} {h_ : Nat} (h : zz_J zpX13_holds_8 (zz_ret Q X 0 0) 2 [some (vr h_), some (vr 103), some (vi 0)] [] ((2, f), S, L, P) (0, 0)) : zz_J zpX13_holds_8 (zz_ret Q X 0 0) 0 [some (vr h_), some (vr 103), none] [] ((2, f), S, L, P) (0, 0) := zz_J.go [(2, [])] 400 h
theorem zwX13_holds_8_2 {Q : Option zv → zz_M → Prop} {X : Nat → zz_M → Prop} {f : Nat → Nat × Nat} {S L : Nat → Nat → Int} {P : Nat → Nat → Option Nat} {h0 : Nat} {x2 : Int} (h : zsh ((2, f), S, L, P) h0 = (1, 11) ∧ (∀ b1 : Nat, zpt ((2, f), S, L, P) h0 1 = some b1 → (zsh ((2, f), S, L, P) b1 = (1, 17) ∨ zsh ((2, f), S, L, P) b1 = (17, 17)) ∧ (zsh ((2, f), S, L, P) b1 = (1, 17) ∧ (R32 x2 ∧ (R32 (((2, f), S, L, P).2.1 b1 2) ∧ (((((2, f), S, L, P).2.1 b1 2) ≤ x2 → zsh ((2, f), S, L, P) h0 = (1, 11) ∧ (((S h0 0) = 0 ∨ (S h0 0) = 1) ∧ (Q (some (vi (S h0 0))) ((2, f), S, L, P)))) ∧ (¬ (((2, f), S, L, P).2.1 b1 2) ≤ x2 → zsh ((2, f), S, L, P) h0 = (1, 11) ∧ (∀ b3 : Nat, zpt ((2, f), S, L, P) h0 1 = some b3 → (zsh ((2, f), S, L, P) b3 = (1, 17) ∨ zsh ((2, f), S, L, P) b3 = (17, 17)) ∧ (zsh ((2, f), S, L, P) b3 = (1, 17) ∧ ∃ (e_4 n_4 x_4 : Nat), zpt ((2, f), S, L, P) b3 1 = some e_4 ∧ zsh ((2, f), S, L, P) e_4 = (7, n_4) ∧ n_4 ≤ 2147483647 ∧ (0 ≤ x2 ∧ x2 < (n_4 : Int)) ∧ (x2 < ((2, f), S, L, P).2.1 b3 2 ∧ ((2, f), S, L, P).2.1 b3 2 < 2147483647) ∧ zpt ((2, f), S, L, P) e_4 x2.toNat = some x_4 ∧ ((∃ ci : Nat, (zsh ((2, f), S, L, P) x_4 = (1, ci) ∨ zsh ((2, f), S, L, P) x_4 = (17, ci)) ∧ mm_mem [11, 12, 13, 16] ci = true) ∧ (((zsh ((2, f), S, L, P) x_4 = (1, 11) ∨ zsh ((2, f), S, L, P) x_4 = (17, 11)) ∧ (0 + 0 ≤ 0 ∧ 0 + 0 ≤ 0) ∧ (∃ (c_5 : Fc → Bool) (q_5 p_5 lo_5 hi_5 : Nat), roT (coT lo_5 hi_5 f S P 6) lo_5 hi_5 f S P x_4 c_5 ∧ sciB S P q_5 p_5 ∧ (c_5 (fcX (cx S q_5) p_5) = true → (zsh ((2, f), S, L, P) h0 = (1, 11) ∧ (R32 (S h0 0) ∧ (((1 : Int) = (S h0 0) → zz_J zpX13_holds_8 (zz_ret Q X 0 0) 2 [some (vr h0), some (vr 103), some (vi (x2 + 1))] [] ((2, f), S, L, P) (0, 0)) ∧ (¬ (1 : Int) = (S h0 0) → zsh ((2, f), S, L, P) h0 = (1, 11) ∧ (R32 (S h0 0) ∧ ((¬ (S h0 0) = 0 → Q (some (vi 0)) ((2, f), S, L, P)) ∧ ((S h0 0) = 0 → Q (some (vi 1)) ((2, f), S, L, P))))))))) ∧ (c_5 (fcX (cx S q_5) p_5) = false → (zsh ((2, f), S, L, P) h0 = (1, 11) ∧ (R32 (S h0 0) ∧ (((0 : Int) = (S h0 0) → zz_J zpX13_holds_8 (zz_ret Q X 0 0) 2 [some (vr h0), some (vr 103), some (vi (x2 + 1))] [] ((2, f), S, L, P) (0, 0)) ∧ (¬ (0 : Int) = (S h0 0) → zsh ((2, f), S, L, P) h0 = (1, 11) ∧ (R32 (S h0 0) ∧ ((¬ (S h0 0) = 0 → Q (some (vi 0)) ((2, f), S, L, P)) ∧ ((S h0 0) = 0 → Q (some (vi 1)) ((2, f), S, L, P))))))))))) ∨ ((zsh ((2, f), S, L, P) x_4 = (1, 12) ∨ zsh ((2, f), S, L, P) x_4 = (17, 12)) ∧ (0 + 0 ≤ 0 ∧ 0 + 0 ≤ 0) ∧ (∃ (c_6 : Fc → Bool) (q_6 p_6 lo_6 hi_6 : Nat), noT (coT lo_6 hi_6 f S P 6) lo_6 hi_6 f P x_4 c_6 ∧ sciB S P q_6 p_6 ∧ (c_6 (fcX (cx S q_6) p_6) = true → (zsh ((2, f), S, L, P) h0 = (1, 11) ∧ (R32 (S h0 0) ∧ (((1 : Int) = (S h0 0) → zz_J zpX13_holds_8 (zz_ret Q X 0 0) 2 [some (vr h0), some (vr 103), some (vi (x2 + 1))] [] ((2, f), S, L, P) (0, 0)) ∧ (¬ (1 : Int) = (S h0 0) → zsh ((2, f), S, L, P) h0 = (1, 11) ∧ (R32 (S h0 0) ∧ ((¬ (S h0 0) = 0 → Q (some (vi 0)) ((2, f), S, L, P)) ∧ ((S h0 0) = 0 → Q (some (vi 1)) ((2, f), S, L, P))))))))) ∧ (c_6 (fcX (cx S q_6) p_6) = false → (zsh ((2, f), S, L, P) h0 = (1, 11) ∧ (R32 (S h0 0) ∧ (((0 : Int) = (S h0 0) → zz_J zpX13_holds_8 (zz_ret Q X 0 0) 2 [some (vr h0), some (vr 103), some (vi (x2 + 1))] [] ((2, f), S, L, P) (0, 0)) ∧ (¬ (0 : Int) = (S h0 0) → zsh ((2, f), S, L, P) h0 = (1, 11) ∧ (R32 (S h0 0) ∧ ((¬ (S h0 0) = 0 → Q (some (vi 0)) ((2, f), S, L, P)) ∧ ((S h0 0) = 0 → Q (some (vi 1)) ((2, f), S, L, P))))))))))) ∨ ((zsh ((2, f), S, L, P) x_4 = (1, 13) ∨ zsh ((2, f), S, L, P) x_4 = (17, 13)) ∧ (0 + 0 ≤ 0 ∧ 0 + 0 ≤ 0) ∧ (∃ q_7 p_7 : Nat, (2000 ≤ x_4 ∧ f x_4 = (1, 13) ∧ (S x_4 0 = 0 ∨ S x_4 0 = 1)) ∧ scnI S P q_7 p_7 ∧ ((if S x_4 0 = 1 then cx S q_7 2 = (p_7 : Int) else cx S q_7 6 = 1) → (zsh ((2, f), S, L, P) h0 = (1, 11) ∧ (R32 (S h0 0) ∧ (((1 : Int) = (S h0 0) → zz_J zpX13_holds_8 (zz_ret Q X 0 0) 2 [some (vr h0), some (vr 103), some (vi (x2 + 1))] [] ((2, f), S, L, P) (0, 0)) ∧ (¬ (1 : Int) = (S h0 0) → zsh ((2, f), S, L, P) h0 = (1, 11) ∧ (R32 (S h0 0) ∧ ((¬ (S h0 0) = 0 → Q (some (vi 0)) ((2, f), S, L, P)) ∧ ((S h0 0) = 0 → Q (some (vi 1)) ((2, f), S, L, P))))))))) ∧ (¬ (if S x_4 0 = 1 then cx S q_7 2 = (p_7 : Int) else cx S q_7 6 = 1) → (zsh ((2, f), S, L, P) h0 = (1, 11) ∧ (R32 (S h0 0) ∧ (((0 : Int) = (S h0 0) → zz_J zpX13_holds_8 (zz_ret Q X 0 0) 2 [some (vr h0), some (vr 103), some (vi (x2 + 1))] [] ((2, f), S, L, P) (0, 0)) ∧ (¬ (0 : Int) = (S h0 0) → zsh ((2, f), S, L, P) h0 = (1, 11) ∧ (R32 (S h0 0) ∧ ((¬ (S h0 0) = 0 → Q (some (vi 0)) ((2, f), S, L, P)) ∧ ((S h0 0) = 0 → Q (some (vi 1)) ((2, f), S, L, P))))))))))) ∨ ((zsh ((2, f), S, L, P) x_4 = (1, 16) ∨ zsh ((2, f), S, L, P) x_4 = (17, 16)) ∧ (0 + 0 ≤ 0 ∧ 0 + 0 ≤ 0) ∧ (∃ (g_8 k_8 : Fc → Int) (q_8 p_8 a_8 b_8 lo_8 hi_8 : Nat), (2000 ≤ x_4 ∧ f x_4 = (1, 16) ∧ P x_4 0 = some a_8 ∧ P x_4 1 = some b_8) ∧ SuT lo_8 hi_8 f S P a_8 g_8 ∧ SuT lo_8 hi_8 f S P b_8 k_8 ∧ scnI S P q_8 p_8 ∧ R32 (g_8 (fcX (cx S q_8) p_8)) ∧ R32 (k_8 (fcX (cx S q_8) p_8)) ∧ (g_8 (fcX (cx S q_8) p_8) < k_8 (fcX (cx S q_8) p_8) → (zsh ((2, f), S, L, P) h0 = (1, 11) ∧ (R32 (S h0 0) ∧ (((1 : Int) = (S h0 0) → zz_J zpX13_holds_8 (zz_ret Q X 0 0) 2 [some (vr h0), some (vr 103), some (vi (x2 + 1))] [] ((2, f), S, L, P) (0, 0)) ∧ (¬ (1 : Int) = (S h0 0) → zsh ((2, f), S, L, P) h0 = (1, 11) ∧ (R32 (S h0 0) ∧ ((¬ (S h0 0) = 0 → Q (some (vi 0)) ((2, f), S, L, P)) ∧ ((S h0 0) = 0 → Q (some (vi 1)) ((2, f), S, L, P))))))))) ∧ (¬ g_8 (fcX (cx S q_8) p_8) < k_8 (fcX (cx S q_8) p_8) → (zsh ((2, f), S, L, P) h0 = (1, 11) ∧ (R32 (S h0 0) ∧ (((0 : Int) = (S h0 0) → zz_J zpX13_holds_8 (zz_ret Q X 0 0) 2 [some (vr h0), some (vr 103), some (vi (x2 + 1))] [] ((2, f), S, L, P) (0, 0)) ∧ (¬ (0 : Int) = (S h0 0) → zsh ((2, f), S, L, P) h0 = (1, 11) ∧ (R32 (S h0 0) ∧ ((¬ (S h0 0) = 0 → Q (some (vi 0)) ((2, f), S, L, P)) ∧ ((S h0 0) = 0 → Q (some (vi 1)) ((2, f), S, L, P))))))))))))))) ∧ (zpt ((2, f), S, L, P) h0 1 = none → False ∧ False))))))) ∧ (zpt ((2, f), S, L, P) h0 1 = none → False ∧ False)) : zz_J zpX13_holds_8 (zz_ret Q X 0 0) 2 [some (vr h0), some (vr 103), some (vi x2)] [] ((2, f), S, L, P) (0, 0) := zz_J.go [(2, [])] 400 h

theorem zmX14_holds_8 (l : Launch) (hl : l.stackTraces = false) : mm_Spec l yX14_holds (ws_ yX14_holds cX14_holds 2 (some .boolean)) (mm_rm 13 0 0) (zE zX14_holds_8) := by
  refine zz_Met.J hl (by decide) (fun C G hnh => ztX14_holds_8 G hnh) ?_
  rintro as ⟨⟨t_, f⟩, S, L, P⟩ Q X h
  unfold zX14_holds_8 at h
  split at h
  rotate_left
  · exact h.elim
  rename_i h_ s
  obtain ⟨e1_, e2_, h⟩ := mm_and2 h (fun q => q)
  cases mm_beq e1_
  cases mm_beq e2_
  try dsimp only at h
  refine ⟨rfl, ?_⟩
  obtain ⟨c, q, p, lo, hi, ⟨q1, q2, a, g, q3, q4, rfl⟩, hs, ha, hb⟩ := h
  have hz : zsh ((2, f), S, L, P) h_ = (1, 12) := (zsh_hi q1.le).trans q2
  have hx : zpt ((2, f), S, L, P) h_ 0 = some a := (zpt_hi q1.le).trans q3
  have ha' : g (fcX (cx S q) p) = true → Q (some (vi 0)) ((2, f), S, L, P) := fun e => hb (by show (!g _) = false; rw [e]; rfl)
  have hb' : g (fcX (cx S q) p) = false → Q (some (vi 1)) ((2, f), S, L, P) := fun e => ha (by show (!g _) = true; rw [e]; rfl)
  refine zwX14_holds_8_0 (q_go hz hx ?_)
  first | exact le_or q4 hs ha' hb' | exact co_or q4 hs ha' hb'
theorem zmX13_holds_8 (l : Launch) (hl : l.stackTraces = false) : mm_Spec l yX13_holds (ws_ yX13_holds cX13_holds 3 (some .boolean)) (mm_rm 13 0 0) (zE zX13_holds_8) := by
  refine zz_Met.J hl (by decide) (fun C G hnh => ztX13_holds_8 G hnh) ?_
  rintro as ⟨⟨t_, f⟩, S, L, P⟩ Q X h
  unfold zX13_holds_8 at h
  split at h
  rotate_left
  · exact h.elim
  rename_i h_ s
  obtain ⟨e1_, e2_, h⟩ := mm_and2 h (fun q => q)
  cases mm_beq e1_
  cases mm_beq e2_
  try dsimp only at h
  refine ⟨rfl, ?_⟩
  obtain ⟨c, q, p, lo, hi0, ⟨q1, q2, all, a, l, cs, q3, q4, ⟨ha2, hfa, hsz, hlen, hel⟩, q6, q7, rfl⟩, hs, ha, hb⟩ := h
  have hz : zsh ((2, f), S, L, P) h_ = (1, 11) := (zsh_hi q1.le).trans q2
  have hx : zpt ((2, f), S, L, P) h_ 1 = some a := (zpt_hi q1.le).trans q4
  replace ha2 := ha2.le
  have hza : zsh ((2, f), S, L, P) a = (1, 17) := (zsh_hi ha2).trans hfa
  have s01 : S h_ 0 = 0 ∨ S h_ 0 = 1 := by rw [q3]; cases all <;> simp
  have sR : R32 (S h_ 0) := by rcases s01 with e | e <;> rw [e] <;> decide
  have ret : alB all cs (fcX (cx S q) p) = all → Q (some (vi (S h_ 0))) ((2, f), S, L, P) := by
    rw [q3]
    cases all with
    | true => exact fun e => ha e
    | false => exact fun e => hb e
  have t2 : ∀ (m i : Nat), i + m = l.length → (∀ (j : Nat) (g : Fc → Bool), j < i → cs[j]? = some g → g (fcX (cx S q) p) = all) → zz_J zpX13_holds_8 (zz_ret Q X 0 0) 2 [some (vr h_), some (vr 103), some (vi (i : Int))] [] ((2, f), S, L, P) (0, 0) := by
    intro m
    induction m with
    | zero =>
      intro i hi hal
      refine zwX13_holds_8_2 (q_go hz hx ⟨Or.inl hza, hza, by omega, by show R32 (S a 2); rw [hsz]; omega, fun _ => ⟨hz, s01, ret (alB_a fun j g hg => hal j g ?_ hg)⟩, fun c => absurd (show S a 2 ≤ (i : Int) by rw [hsz]; omega) c⟩)
      have : j < cs.length := by
        apply Decidable.byContradiction
        intro hc
        rw [List.getElem?_eq_none (by omega)] at hg
        cases hg
      omega
    | succ m ih =>
      intro i hi hal
      have il : i < l.length := by omega
      have ig : i < cs.length := by omega
      obtain ⟨e, n, he2, hPe, hfe, hn, hln, hPi⟩ := hel (fun c => by rw [c] at il; exact absurd il (by simp))
      replace he2 := he2.le
      have hlx : l[i]? = some l[i] := List.getElem?_eq_getElem il
      have hgx : cs[i]? = some cs[i] := List.getElem?_eq_getElem ig
      have hcx := q7 i _ _ hlx hgx
      have AB : ∀ v : Int, (v = bif cs[i] (fcX (cx S q) p) then 1 else 0) → (zsh ((2, f), S, L, P) h_ = (1, 11) ∧ (R32 (S h_ 0) ∧ ((v = (S h_ 0) → zz_J zpX13_holds_8 (zz_ret Q X 0 0) 2 [some (vr h_), some (vr 103), some (vi ((i : Int) + 1))] [] ((2, f), S, L, P) (0, 0)) ∧ (¬ v = (S h_ 0) → zsh ((2, f), S, L, P) h_ = (1, 11) ∧ (R32 (S h_ 0) ∧ ((¬ (S h_ 0) = 0 → Q (some (vi 0)) ((2, f), S, L, P)) ∧ ((S h_ 0) = 0 → Q (some (vi 1)) ((2, f), S, L, P)))))))) := by
        intro v hv
        refine ⟨hz, sR, fun c => ?_, fun c => ⟨hz, sR, ?_⟩⟩
        · refine ih (i + 1) (by omega) (fun j g hj hg => ?_)
          by_cases ej : j = i
          · rw [ej, hgx] at hg
            cases hg
            rw [hv, q3] at c
            revert c
            cases cs[i] (fcX (cx S q) p) <;> cases all <;> simp
          · exact hal j g (by omega) hg
        · have hne : cs[i] (fcX (cx S q) p) ≠ all := by
            rw [hv, q3] at c
            intro e2
            rw [e2] at c
            exact c rfl
          have e2 := alB_t hgx hne
          rw [q3]
          revert e2 ha hb
          cases all with
          | true => exact fun ha hb e2 => ⟨fun _ => hb e2, fun c => absurd c (by decide)⟩
          | false => exact fun ha hb e2 => ⟨fun c => absurd rfl c, fun _ => ha e2⟩
      refine zwX13_holds_8_2 (q_go hz hx ⟨Or.inl hza, hza, by omega, by show R32 (S a 2); rw [hsz]; omega, fun c => absurd (show S a 2 ≤ (i : Int) from c) (by rw [hsz]; omega), fun _ => ⟨hz, ?_⟩⟩)
      refine (q_go hz hx ⟨Or.inl hza, hza, e, n, l[i], (zpt_hi ha2).trans hPe, (zsh_hi he2).trans hfe, hn, by omega, ⟨by show (i : Int) < S a 2; rw [hsz]; omega, by show S a 2 < 2147483647; rw [hsz]; omega⟩, ?_, coT_sh hcx, ?_⟩ : _ ∧ _ ∧ _).2
      · rw [Int.toNat_natCast]
        exact (zpt_hi he2).trans (hPi i _ hlx)
      · have A1 := fun e : cs[i] (fcX (cx S q) p) = true => AB 1 (by rw [e]; rfl)
        have A0 := fun e : cs[i] (fcX (cx S q) p) = false => AB 0 (by rw [e]; rfl)
        first | exact le_or hcx hs A1 A0 | exact co_or hcx hs A1 A0
  exact zwX13_holds_8_0 (t2 l.length 0 (by omega) (fun j g hj => absurd hj (Nat.not_lt_zero _)))
def zX14_holds_9 : zz_Sp := fun as M Q X => match as with
  | [.inr (.inr (some h_)), .inr (.inr (some s))] => bif Nat.beq M.1.1 2 && Nat.beq s 103 then (∃ (c_ : Fc → Bool) (q_ p_ lo_ hi_ : Nat), noT (coT lo_ hi_ M.1.2 M.2.1 M.2.2.2 8) lo_ hi_ M.1.2 M.2.2.2 h_ c_ ∧ sciB M.2.1 M.2.2.2 q_ p_ ∧ (c_ (fcX (cx M.2.1 q_) p_) = true → Q (some (vi 1)) ((2, M.1.2), M.2.1, M.2.2.1, M.2.2.2)) ∧ (c_ (fcX (cx M.2.1 q_) p_) = false → Q (some (vi 0)) ((2, M.1.2), M.2.1, M.2.2.1, M.2.2.2))) else False
  | _ => False

def zpX14_holds_9 : zz_P := [(0, zo_ald 1 0), (1, zo_getq 4 12 0), (4, zo_ald 5 1), (5, zo_or (zo_cfF (mm_rm 14 0 0) 10 2 11 0 0 zX13_holds_8) (zo_or (zo_cfF (mm_rm 14 0 0) 10 2 12 0 0 zX14_holds_8) (zo_or (zo_cfF (mm_rm 14 0 0) 10 2 13 0 0 zX15_holds) (zo_cfF (mm_rm 14 0 0) 10 2 16 0 0 zX19_holds)))), (10, zo_zifne 13 17), (13, zo_c 14 (vi 1)), (14, zo_goto 18), (17, zo_c 18 (vi 0)), (18, zo_zret true)]
theorem ztX14_holds_9 {C : mm_C} (G : mm_G C RX14 cX14_holds (some .boolean) 2 (mm_rm 14 0 0)) (hnh : mm_nh C) : zz_OKs C zpX14_holds_9 :=
  ⟨zz_of (ok_aload_n G dX14_holds_0 rfl rfl) (z_ald _ _),
   zz_of (ok_get G (nx := 4) (ci := 12) (kd := 2) (k := 0) (RX14, TX14, 1) rfl (by decide) rfl q1187 dX14_holds_1 rfl) (z_getq _ _ _),
   zz_of (ok_aload_n G dX14_holds_4 rfl rfl) (z_ald _ _),
   zz_or (zz_of (ok_calfF G (hnh.q 5) (zmX13_holds_8 _ G.hst) (RX13, TX13, 2) rfl q1452 q1456 q1454 q114 q1458 (List.Mem.head _) (by decide +kernel) ⟨Nat.le_of_ble_eq_true rfl, Nat.le_of_ble_eq_true rfl⟩ dX14_holds_5 rfl) (z_cfF _ _ _ _ _ _ _)) (zz_or (zz_of (ok_calfF G (hnh.q 5) (zmX14_holds_8 _ G.hst) (RX14, TX14, 1) rfl q1452 q1448 q1446 q115 q1450 (List.Mem.tail _ (List.Mem.head _)) (by decide +kernel) ⟨Nat.le_of_ble_eq_true rfl, Nat.le_of_ble_eq_true rfl⟩ dX14_holds_5 rfl) (z_cfF _ _ _ _ _ _ _)) (zz_or (zz_of (ok_calfF G (hnh.q 5) (zmX15_holds _ G.hst) (RX15, TX15, 1) rfl q1452 q1411 q1409 q116 q1413 (List.Mem.tail _ (List.Mem.tail _ (List.Mem.head _))) (by decide +kernel) ⟨Nat.le_of_ble_eq_true rfl, Nat.le_of_ble_eq_true rfl⟩ dX14_holds_5 rfl) (z_cfF _ _ _ _ _ _ _)) (zz_of (ok_calfF G (hnh.q 5) (zmX19_holds _ G.hst) (RX19, TX19, 2) rfl q1452 q1421 q1419 q121 q1423 (List.Mem.tail _ (List.Mem.tail _ (List.Mem.tail _ (List.Mem.head _)))) (by decide +kernel) ⟨Nat.le_of_ble_eq_true rfl, Nat.le_of_ble_eq_true rfl⟩ dX14_holds_5 rfl) (z_cfF _ _ _ _ _ _ _)))),
   zz_of (ok_ifne G dX14_holds_10 rfl rfl) (z_zifne _ _),
   zz_of (ok_iconst G (v := 1) dX14_holds_13 (by decide) rfl) (z_cn 14 1),
   zz_of (ok_goto G dX14_holds_14 rfl) (z_goto _),
   zz_of (ok_iconst G (v := 0) dX14_holds_17 (by decide) rfl) (z_cn 18 0),
   zz_of (ok_zret G dX14_holds_18) (z_zret _), trivial⟩

theorem zwX14_holds_9_0 {Q : Option zv → zz_M → Prop} {X : Nat → zz_M → Prop} {f : Nat → Nat × Nat} {S L : Nat → Nat → Int} {P : Nat → Nat → Option Nat} {h_ : Nat} (h : zsh ((2, f), S, L, P) h_ = (1, 12) ∧ (∀ b1 : Nat, zpt ((2, f), S, L, P) h_ 0 = some b1 → ((zsh ((2, f), S, L, P) b1 = (1, 11) ∨ zsh ((2, f), S, L, P) b1 = (17, 11)) ∧ (0 + 0 ≤ 0 ∧ 0 + 0 ≤ 0) ∧ (∃ (c_2 : Fc → Bool) (q_2 p_2 lo_2 hi_2 : Nat), roT (coT lo_2 hi_2 f S P 7) lo_2 hi_2 f S P b1 c_2 ∧ sciB S P q_2 p_2 ∧ (c_2 (fcX (cx S q_2) p_2) = true → (Q (some (vi 0)) ((2, f), S, L, P))) ∧ (c_2 (fcX (cx S q_2) p_2) = false → (Q (some (vi 1)) ((2, f), S, L, P))))) ∨ ((zsh ((2, f), S, L, P) b1 = (1, 12) ∨ zsh ((2, f), S, L, P) b1 = (17, 12)) ∧ (0 + 0 ≤ 0 ∧ 0 + 0 ≤ 0) ∧ (∃ (c_3 : Fc → Bool) (q_3 p_3 lo_3 hi_3 : Nat), noT (coT lo_3 hi_3 f S P 7) lo_3 hi_3 f P b1 c_3 ∧ sciB S P q_3 p_3 ∧ (c_3 (fcX (cx S q_3) p_3) = true → (Q (some (vi 0)) ((2, f), S, L, P))) ∧ (c_3 (fcX (cx S q_3) p_3) = false → (Q (some (vi 1)) ((2, f), S, L, P))))) ∨ ((zsh ((2, f), S, L, P) b1 = (1, 13) ∨ zsh ((2, f), S, L, P) b1 = (17, 13)) ∧ (0 + 0 ≤ 0 ∧ 0 + 0 ≤ 0) ∧ (∃ q_4 p_4 : Nat, (2000 ≤ b1 ∧ f b1 = (1, 13) ∧ (S b1 0 = 0 ∨ S b1 0 = 1)) ∧ scnI S P q_4 p_4 ∧ ((if S b1 0 = 1 then cx S q_4 2 = (p_4 : Int) else cx S q_4 6 = 1) → (Q (some (vi 0)) ((2, f), S, L, P))) ∧ (¬ (if S b1 0 = 1 then cx S q_4 2 = (p_4 : Int) else cx S q_4 6 = 1) → (Q (some (vi 1)) ((2, f), S, L, P))))) ∨ ((zsh ((2, f), S, L, P) b1 = (1, 16) ∨ zsh ((2, f), S, L, P) b1 = (17, 16)) ∧ (0 + 0 ≤ 0 ∧ 0 + 0 ≤ 0) ∧ (∃ (g_5 k_5 : Fc → Int) (q_5 p_5 a_5 b_5 lo_5 hi_5 : Nat), (2000 ≤ b1 ∧ f b1 = (1, 16) ∧ P b1 0 = some a_5 ∧ P b1 1 = some b_5) ∧ SuT lo_5 hi_5 f S P a_5 g_5 ∧ SuT lo_5 hi_5 f S P b_5 k_5 ∧ scnI S P q_5 p_5 ∧ R32 (g_5 (fcX (cx S q_5) p_5)) ∧ R32 (k_5 (fcX (cx S q_5) p_5)) ∧ (g_5 (fcX (cx S q_5) p_5) < k_5 (fcX (cx S q_5) p_5) → (Q (some (vi 0)) ((2, f), S, L, P))) ∧ (¬ g_5 (fcX (cx S q_5) p_5) < k_5 (fcX (cx S q_5) p_5) → (Q (some (vi 1)) ((2, f), S, L, P)))))) ∧ (zpt ((2, f), S, L, P) h_ 0 = none → (False ∧ (0 + 0 ≤ 0 ∧ 0 + 0 ≤ 0) ∧ False) ∨ (False ∧ (0 + 0 ≤ 0 ∧ 0 + 0 ≤ 0) ∧ False) ∨ (False ∧ (0 + 0 ≤ 0 ∧ 0 + 0 ≤ 0) ∧ False) ∨ (False ∧ (0 + 0 ≤ 0 ∧ 0 + 0 ≤ 0) ∧ False))) : zz_J zpX14_holds_9 (zz_ret Q X 0 0) 0 [some (vr h_), some (vr 103)] [] ((2, f), S, L, P) (0, 0) := zz_J.go [] 400 h

def zX13_holds_9 : zz_Sp := fun as M Q X => match as with
  | [.inr (.inr (some h_)), .inr (.inr (some s))] => bif Nat.beq M.1.1 2 && Nat.beq s 103 then (∃ (c_ : Fc → Bool) (q_ p_ lo_ hi_ : Nat), roT (coT lo_ hi_ M.1.2 M.2.1 M.2.2.2 8) lo_ hi_ M.1.2 M.2.1 M.2.2.2 h_ c_ ∧ sciB M.2.1 M.2.2.2 q_ p_ ∧ (c_ (fcX (cx M.2.1 q_) p_) = true → Q (some (vi 1)) ((2, M.1.2), M.2.1, M.2.2.1, M.2.2.2)) ∧ (c_ (fcX (cx M.2.1 q_) p_) = false → Q (some (vi 0)) ((2, M.1.2), M.2.1, M.2.2.1, M.2.2.2))) else False
  | _ => False

def zpX13_holds_9 : zz_P := [(0, zo_c 1 (vi 0)), (1, zo_ist 2 2), (2, zo_ild 3 2), (3, zo_ald 4 0), (4, zo_getq 7 11 1), (7, zo_callvp 10 1 17 zJ2_sizeh), (10, zo_cge false false 13 56), (13, zo_ald 14 0), (14, zo_getq 17 11 1), (17, zo_ild 18 2), (18, zo_callvp 21 2 17 zJ2_get), (21, zo_cast 24 [11, 12, 13, 16]), (24, zo_ald 25 1), (25, zo_or (zo_cfF (mm_rm 14 0 0) 30 2 11 0 0 zX13_holds_8) (zo_or (zo_cfF (mm_rm 14 0 0) 30 2 12 0 0 zX14_holds_8) (zo_or (zo_cfF (mm_rm 14 0 0) 30 2 13 0 0 zX15_holds) (zo_cfF (mm_rm 14 0 0) 30 2 16 0 0 zX19_holds)))), (30, zo_ald 31 0), (31, zo_getp 34 11 0 0), (34, zo_ceq true false 37 50), (37, zo_ald 38 0), (38, zo_getp 41 11 0 0), (41, zo_ifne false 44 48), (44, zo_c 45 (vi 1)), (45, zo_goto 49), (48, zo_c 49 (vi 0)), (49, zo_zret true), (50, zo_inc 53 2 1), (53, zo_goto 2), (56, zo_ald 57 0), (57, zo_getp 60 11 0 0), (60, zo_zret false)]
theorem ztX13_holds_9 {C : mm_C} (G : mm_G C RX13 cX13_holds (some .boolean) 3 (mm_rm 14 0 0)) (hnh : mm_nh C) : zz_OKs C zpX13_holds_9 :=
  ⟨zz_of (ok_iconst G (v := 0) dX13_holds_0 (by decide) rfl) (z_cn 1 0),
   zz_of (ok_istore_n G dX13_holds_1 rfl rfl (by decide)) (z_ist _ _),
   zz_of (ok_iload_n G dX13_holds_2 rfl rfl) (z_ild _ _),
   zz_of (ok_aload_n G dX13_holds_3 rfl rfl) (z_ald _ _),
   zz_of (ok_get G (nx := 7) (ci := 11) (kd := 2) (k := 1) (RX13, TX13, 2) rfl (by decide) rfl q1157 dX13_holds_4 rfl) (z_getq _ _ _),
   zz_of (ok_callv G hnh (zmJ2_sizeh _ G.hst) rfl rfl (RJ2, TJ2, 3) rfl q1459 q592 q593 q86 q594 (by decide +kernel) ⟨by decide, by decide⟩ dX13_holds_7 rfl) (z_callvp _ _ _ _),
   zz_of (ok_cge G dX13_holds_10 rfl rfl) (z_cge _ _ _ _),
   zz_of (ok_aload_n G dX13_holds_13 rfl rfl) (z_ald _ _),
   zz_of (ok_get G (nx := 17) (ci := 11) (kd := 2) (k := 1) (RX13, TX13, 2) rfl (by decide) rfl q1157 dX13_holds_14 rfl) (z_getq _ _ _),
   zz_of (ok_iload_n G dX13_holds_17 rfl rfl) (z_ild _ _),
   zz_of (ok_callv G hnh (zmJ2_get _ G.hst) rfl rfl (RJ2, TJ2, 3) rfl q1460 q1382 q1383 q86 q1384 (by decide +kernel) ⟨by decide, by decide⟩ dX13_holds_18 rfl) (z_callvp _ _ _ _),
   zz_of (ok_cast G (l := [11, 12, 13, 16]) (fun ci h r e => by
      simp only [List.mem_cons, List.not_mem_nil, or_false] at h
      rcases h with rfl | rfl | rfl | rfl <;> cases e <;> first | exact Or.inl rfl | exact Or.inr q1453 | exact Or.inr q1445 | exact Or.inr q1408 | exact Or.inr q1418) q1461 dX13_holds_21 rfl) (z_cast _ _),
   zz_of (ok_aload_n G dX13_holds_24 rfl rfl) (z_ald _ _),
   zz_or (zz_of (ok_calfF G (hnh.q 25) (zmX13_holds_8 _ G.hst) (RX13, TX13, 2) rfl q1463 q1456 q1454 q114 q1458 (List.Mem.head _) (by decide +kernel) ⟨Nat.le_of_ble_eq_true rfl, Nat.le_of_ble_eq_true rfl⟩ dX13_holds_25 rfl) (z_cfF _ _ _ _ _ _ _)) (zz_or (zz_of (ok_calfF G (hnh.q 25) (zmX14_holds_8 _ G.hst) (RX14, TX14, 1) rfl q1463 q1448 q1446 q115 q1450 (List.Mem.tail _ (List.Mem.head _)) (by decide +kernel) ⟨Nat.le_of_ble_eq_true rfl, Nat.le_of_ble_eq_true rfl⟩ dX13_holds_25 rfl) (z_cfF _ _ _ _ _ _ _)) (zz_or (zz_of (ok_calfF G (hnh.q 25) (zmX15_holds _ G.hst) (RX15, TX15, 1) rfl q1463 q1411 q1409 q116 q1413 (List.Mem.tail _ (List.Mem.tail _ (List.Mem.head _))) (by decide +kernel) ⟨Nat.le_of_ble_eq_true rfl, Nat.le_of_ble_eq_true rfl⟩ dX13_holds_25 rfl) (z_cfF _ _ _ _ _ _ _)) (zz_of (ok_calfF G (hnh.q 25) (zmX19_holds _ G.hst) (RX19, TX19, 2) rfl q1463 q1421 q1419 q121 q1423 (List.Mem.tail _ (List.Mem.tail _ (List.Mem.tail _ (List.Mem.head _)))) (by decide +kernel) ⟨Nat.le_of_ble_eq_true rfl, Nat.le_of_ble_eq_true rfl⟩ dX13_holds_25 rfl) (z_cfF _ _ _ _ _ _ _)))),
   zz_of (ok_aload_n G dX13_holds_30 rfl rfl) (z_ald _ _),
   zz_of (ok_get G (nx := 34) (ci := 11) (kd := 0) (k := 0) (RX13, TX13, 2) rfl (by decide) rfl q1156 dX13_holds_31 rfl) (z_getp _ _ _ _),
   zz_of (ok_ceq G dX13_holds_34 rfl rfl) (z_ceq _ _ _ _),
   zz_of (ok_aload_n G dX13_holds_37 rfl rfl) (z_ald _ _),
   zz_of (ok_get G (nx := 41) (ci := 11) (kd := 0) (k := 0) (RX13, TX13, 2) rfl (by decide) rfl q1156 dX13_holds_38 rfl) (z_getp _ _ _ _),
   zz_of (ok_ifne G dX13_holds_41 rfl rfl) (z_ifne _ _ _),
   zz_of (ok_iconst G (v := 1) dX13_holds_44 (by decide) rfl) (z_cn 45 1),
   zz_of (ok_goto G dX13_holds_45 rfl) (z_goto _),
   zz_of (ok_iconst G (v := 0) dX13_holds_48 (by decide) rfl) (z_cn 49 0),
   zz_of (ok_zret G dX13_holds_49) (z_zret _),
   zz_of (ok_iinc G (v := 1) dX13_holds_50 (by decide) rfl (by decide)) (z_incn 53 2 1),
   zz_of (ok_goto G dX13_holds_53 rfl) (z_goto _),
   zz_of (ok_aload_n G dX13_holds_56 rfl rfl) (z_ald _ _),
   zz_of (ok_get G (nx := 60) (ci := 11) (kd := 0) (k := 0) (RX13, TX13, 2) rfl (by decide) rfl q1156 dX13_holds_57 rfl) (z_getp _ _ _ _),
   zz_of (ok_zret G dX13_holds_60) (z_zret _), trivial⟩

theorem zwX13_holds_9_0 {Q : Option zv → zz_M → Prop} {X : Nat → zz_M → Prop} {f : Nat → Nat × Nat} {S L : Nat → Nat → Int} {P : Nat → Nat → Option Nat} {h_ : Nat} (h : zz_J zpX13_holds_9 (zz_ret Q X 0 0) 2 [some (vr h_), some (vr 103), some (vi 0)] [] ((2, f), S, L, P) (0, 0)) : zz_J zpX13_holds_9 (zz_ret Q X 0 0) 0 [some (vr h_), some (vr 103), none] [] ((2, f), S, L, P) (0, 0) := zz_J.go [(2, [])] 400 h
theorem zwX13_holds_9_2 {Q : Option zv → zz_M → Prop} {X : Nat → zz_M → Prop} {f : Nat → Nat × Nat} {S L : Nat → Nat → Int} {P : Nat → Nat → Option Nat} {h0 : Nat} {x2 : Int} (h : zsh ((2, f), S, L, P) h0 = (1, 11) ∧ (∀ b1 : Nat, zpt ((2, f), S, L, P) h0 1 = some b1 → (zsh ((2, f), S, L, P) b1 = (1, 17) ∨ zsh ((2, f), S, L, P) b1 = (17, 17)) ∧ (zsh ((2, f), S, L, P) b1 = (1, 17) ∧ (R32 x2 ∧ (R32 (((2, f), S, L, P).2.1 b1 2) ∧ (((((2, f), S, L, P).2.1 b1 2) ≤ x2 → zsh ((2, f), S, L, P) h0 = (1, 11) ∧ (((S h0 0) = 0 ∨ (S h0 0) = 1) ∧ (Q (some (vi (S h0 0))) ((2, f), S, L, P)))) ∧ (¬ (((2, f), S, L, P).2.1 b1 2) ≤ x2 → zsh ((2, f), S, L, P) h0 = (1, 11) ∧ (∀ b3 : Nat, zpt ((2, f), S, L, P) h0 1 = some b3 → (zsh ((2, f), S, L, P) b3 = (1, 17) ∨ zsh ((2, f), S, L, P) b3 = (17, 17)) ∧ (zsh ((2, f), S, L, P) b3 = (1, 17) ∧ ∃ (e_4 n_4 x_4 : Nat), zpt ((2, f), S, L, P) b3 1 = some e_4 ∧ zsh ((2, f), S, L, P) e_4 = (7, n_4) ∧ n_4 ≤ 2147483647 ∧ (0 ≤ x2 ∧ x2 < (n_4 : Int)) ∧ (x2 < ((2, f), S, L, P).2.1 b3 2 ∧ ((2, f), S, L, P).2.1 b3 2 < 2147483647) ∧ zpt ((2, f), S, L, P) e_4 x2.toNat = some x_4 ∧ ((∃ ci : Nat, (zsh ((2, f), S, L, P) x_4 = (1, ci) ∨ zsh ((2, f), S, L, P) x_4 = (17, ci)) ∧ mm_mem [11, 12, 13, 16] ci = true) ∧ (((zsh ((2, f), S, L, P) x_4 = (1, 11) ∨ zsh ((2, f), S, L, P) x_4 = (17, 11)) ∧ (0 + 0 ≤ 0 ∧ 0 + 0 ≤ 0) ∧ (∃ (c_5 : Fc → Bool) (q_5 p_5 lo_5 hi_5 : Nat), roT (coT lo_5 hi_5 f S P 7) lo_5 hi_5 f S P x_4 c_5 ∧ sciB S P q_5 p_5 ∧ (c_5 (fcX (cx S q_5) p_5) = true → (zsh ((2, f), S, L, P) h0 = (1, 11) ∧ (R32 (S h0 0) ∧ (((1 : Int) = (S h0 0) → zz_J zpX13_holds_9 (zz_ret Q X 0 0) 2 [some (vr h0), some (vr 103), some (vi (x2 + 1))] [] ((2, f), S, L, P) (0, 0)) ∧ (¬ (1 : Int) = (S h0 0) → zsh ((2, f), S, L, P) h0 = (1, 11) ∧ (R32 (S h0 0) ∧ ((¬ (S h0 0) = 0 → Q (some (vi 0)) ((2, f), S, L, P)) ∧ ((S h0 0) = 0 → Q (some (vi 1)) ((2, f), S, L, P))))))))) ∧ (c_5 (fcX (cx S q_5) p_5) = false → (zsh ((2, f), S, L, P) h0 = (1, 11) ∧ (R32 (S h0 0) ∧ (((0 : Int) = (S h0 0) → zz_J zpX13_holds_9 (zz_ret Q X 0 0) 2 [some (vr h0), some (vr 103), some (vi (x2 + 1))] [] ((2, f), S, L, P) (0, 0)) ∧ (¬ (0 : Int) = (S h0 0) → zsh ((2, f), S, L, P) h0 = (1, 11) ∧ (R32 (S h0 0) ∧ ((¬ (S h0 0) = 0 → Q (some (vi 0)) ((2, f), S, L, P)) ∧ ((S h0 0) = 0 → Q (some (vi 1)) ((2, f), S, L, P))))))))))) ∨ ((zsh ((2, f), S, L, P) x_4 = (1, 12) ∨ zsh ((2, f), S, L, P) x_4 = (17, 12)) ∧ (0 + 0 ≤ 0 ∧ 0 + 0 ≤ 0) ∧ (∃ (c_6 : Fc → Bool) (q_6 p_6 lo_6 hi_6 : Nat), noT (coT lo_6 hi_6 f S P 7) lo_6 hi_6 f P x_4 c_6 ∧ sciB S P q_6 p_6 ∧ (c_6 (fcX (cx S q_6) p_6) = true → (zsh ((2, f), S, L, P) h0 = (1, 11) ∧ (R32 (S h0 0) ∧ (((1 : Int) = (S h0 0) → zz_J zpX13_holds_9 (zz_ret Q X 0 0) 2 [some (vr h0), some (vr 103), some (vi (x2 + 1))] [] ((2, f), S, L, P) (0, 0)) ∧ (¬ (1 : Int) = (S h0 0) → zsh ((2, f), S, L, P) h0 = (1, 11) ∧ (R32 (S h0 0) ∧ ((¬ (S h0 0) = 0 → Q (some (vi 0)) ((2, f), S, L, P)) ∧ ((S h0 0) = 0 → Q (some (vi 1)) ((2, f), S, L, P))))))))) ∧ (c_6 (fcX (cx S q_6) p_6) = false → (zsh ((2, f), S, L, P) h0 = (1, 11) ∧ (R32 (S h0 0) ∧ (((0 : Int) = (S h0 0) → zz_J zpX13_holds_9 (zz_ret Q X 0 0) 2 [some (vr h0), some (vr 103), some (vi (x2 + 1))] [] ((2, f), S, L, P) (0, 0)) ∧ (¬ (0 : Int) = (S h0 0) → zsh ((2, f), S, L, P) h0 = (1, 11) ∧ (R32 (S h0 0) ∧ ((¬ (S h0 0) = 0 → Q (some (vi 0)) ((2, f), S, L, P)) ∧ ((S h0 0) = 0 → Q (some (vi 1)) ((2, f), S, L, P))))))))))) ∨ ((zsh ((2, f), S, L, P) x_4 = (1, 13) ∨ zsh ((2, f), S, L, P) x_4 = (17, 13)) ∧ (0 + 0 ≤ 0 ∧ 0 + 0 ≤ 0) ∧ (∃ q_7 p_7 : Nat, (2000 ≤ x_4 ∧ f x_4 = (1, 13) ∧ (S x_4 0 = 0 ∨ S x_4 0 = 1)) ∧ scnI S P q_7 p_7 ∧ ((if S x_4 0 = 1 then cx S q_7 2 = (p_7 : Int) else cx S q_7 6 = 1) → (zsh ((2, f), S, L, P) h0 = (1, 11) ∧ (R32 (S h0 0) ∧ (((1 : Int) = (S h0 0) → zz_J zpX13_holds_9 (zz_ret Q X 0 0) 2 [some (vr h0), some (vr 103), some (vi (x2 + 1))] [] ((2, f), S, L, P) (0, 0)) ∧ (¬ (1 : Int) = (S h0 0) → zsh ((2, f), S, L, P) h0 = (1, 11) ∧ (R32 (S h0 0) ∧ ((¬ (S h0 0) = 0 → Q (some (vi 0)) ((2, f), S, L, P)) ∧ ((S h0 0) = 0 → Q (some (vi 1)) ((2, f), S, L, P))))))))) ∧ (¬ (if S x_4 0 = 1 then cx S q_7 2 = (p_7 : Int) else cx S q_7 6 = 1) → (zsh ((2, f), S, L, P) h0 = (1, 11) ∧ (R32 (S h0 0) ∧ (((0 : Int) = (S h0 0) → zz_J zpX13_holds_9 (zz_ret Q X 0 0) 2 [some (vr h0), some (vr 103), some (vi (x2 + 1))] [] ((2, f), S, L, P) (0, 0)) ∧ (¬ (0 : Int) = (S h0 0) → zsh ((2, f), S, L, P) h0 = (1, 11) ∧ (R32 (S h0 0) ∧ ((¬ (S h0 0) = 0 → Q (some (vi 0)) ((2, f), S, L, P)) ∧ ((S h0 0) = 0 → Q (some (vi 1)) ((2, f), S, L, P))))))))))) ∨ ((zsh ((2, f), S, L, P) x_4 = (1, 16) ∨ zsh ((2, f), S, L, P) x_4 = (17, 16)) ∧ (0 + 0 ≤ 0 ∧ 0 + 0 ≤ 0) ∧ (∃ (g_8 k_8 : Fc → Int) (q_8 p_8 a_8 b_8 lo_8 hi_8 : Nat), (2000 ≤ x_4 ∧ f x_4 = (1, 16) ∧ P x_4 0 = some a_8 ∧ P x_4 1 = some b_8) ∧ SuT lo_8 hi_8 f S P a_8 g_8 ∧ SuT lo_8 hi_8 f S P b_8 k_8 ∧ scnI S P q_8 p_8 ∧ R32 (g_8 (fcX (cx S q_8) p_8)) ∧ R32 (k_8 (fcX (cx S q_8) p_8)) ∧ (g_8 (fcX (cx S q_8) p_8) < k_8 (fcX (cx S q_8) p_8) → (zsh ((2, f), S, L, P) h0 = (1, 11) ∧ (R32 (S h0 0) ∧ (((1 : Int) = (S h0 0) → zz_J zpX13_holds_9 (zz_ret Q X 0 0) 2 [some (vr h0), some (vr 103), some (vi (x2 + 1))] [] ((2, f), S, L, P) (0, 0)) ∧ (¬ (1 : Int) = (S h0 0) → zsh ((2, f), S, L, P) h0 = (1, 11) ∧ (R32 (S h0 0) ∧ ((¬ (S h0 0) = 0 → Q (some (vi 0)) ((2, f), S, L, P)) ∧ ((S h0 0) = 0 → Q (some (vi 1)) ((2, f), S, L, P))))))))) ∧ (¬ g_8 (fcX (cx S q_8) p_8) < k_8 (fcX (cx S q_8) p_8) → (zsh ((2, f), S, L, P) h0 = (1, 11) ∧ (R32 (S h0 0) ∧ (((0 : Int) = (S h0 0) → zz_J zpX13_holds_9 (zz_ret Q X 0 0) 2 [some (vr h0), some (vr 103), some (vi (x2 + 1))] [] ((2, f), S, L, P) (0, 0)) ∧ (¬ (0 : Int) = (S h0 0) → zsh ((2, f), S, L, P) h0 = (1, 11) ∧ (R32 (S h0 0) ∧ ((¬ (S h0 0) = 0 → Q (some (vi 0)) ((2, f), S, L, P)) ∧ ((S h0 0) = 0 → Q (some (vi 1)) ((2, f), S, L, P))))))))))))))) ∧ (zpt ((2, f), S, L, P) h0 1 = none → False ∧ False))))))) ∧ (zpt ((2, f), S, L, P) h0 1 = none → False ∧ False)) : zz_J zpX13_holds_9 (zz_ret Q X 0 0) 2 [some (vr h0), some (vr 103), some (vi x2)] [] ((2, f), S, L, P) (0, 0) := zz_J.go [(2, [])] 400 h

theorem zmX14_holds_9 (l : Launch) (hl : l.stackTraces = false) : mm_Spec l yX14_holds (ws_ yX14_holds cX14_holds 2 (some .boolean)) (mm_rm 14 0 0) (zE zX14_holds_9) := by
  refine zz_Met.J hl (by decide) (fun C G hnh => ztX14_holds_9 G hnh) ?_
  rintro as ⟨⟨t_, f⟩, S, L, P⟩ Q X h
  unfold zX14_holds_9 at h
  split at h
  rotate_left
  · exact h.elim
  rename_i h_ s
  obtain ⟨e1_, e2_, h⟩ := mm_and2 h (fun q => q)
  cases mm_beq e1_
  cases mm_beq e2_
  try dsimp only at h
  refine ⟨rfl, ?_⟩
  obtain ⟨c, q, p, lo, hi, ⟨q1, q2, a, g, q3, q4, rfl⟩, hs, ha, hb⟩ := h
  have hz : zsh ((2, f), S, L, P) h_ = (1, 12) := (zsh_hi q1.le).trans q2
  have hx : zpt ((2, f), S, L, P) h_ 0 = some a := (zpt_hi q1.le).trans q3
  have ha' : g (fcX (cx S q) p) = true → Q (some (vi 0)) ((2, f), S, L, P) := fun e => hb (by show (!g _) = false; rw [e]; rfl)
  have hb' : g (fcX (cx S q) p) = false → Q (some (vi 1)) ((2, f), S, L, P) := fun e => ha (by show (!g _) = true; rw [e]; rfl)
  refine zwX14_holds_9_0 (q_go hz hx ?_)
  first | exact le_or q4 hs ha' hb' | exact co_or q4 hs ha' hb'
theorem zmX13_holds_9 (l : Launch) (hl : l.stackTraces = false) : mm_Spec l yX13_holds (ws_ yX13_holds cX13_holds 3 (some .boolean)) (mm_rm 14 0 0) (zE zX13_holds_9) := by
  refine zz_Met.J hl (by decide) (fun C G hnh => ztX13_holds_9 G hnh) ?_
  rintro as ⟨⟨t_, f⟩, S, L, P⟩ Q X h
  unfold zX13_holds_9 at h
  split at h
  rotate_left
  · exact h.elim
  rename_i h_ s
  obtain ⟨e1_, e2_, h⟩ := mm_and2 h (fun q => q)
  cases mm_beq e1_
  cases mm_beq e2_
  try dsimp only at h
  refine ⟨rfl, ?_⟩
  obtain ⟨c, q, p, lo, hi0, ⟨q1, q2, all, a, l, cs, q3, q4, ⟨ha2, hfa, hsz, hlen, hel⟩, q6, q7, rfl⟩, hs, ha, hb⟩ := h
  have hz : zsh ((2, f), S, L, P) h_ = (1, 11) := (zsh_hi q1.le).trans q2
  have hx : zpt ((2, f), S, L, P) h_ 1 = some a := (zpt_hi q1.le).trans q4
  replace ha2 := ha2.le
  have hza : zsh ((2, f), S, L, P) a = (1, 17) := (zsh_hi ha2).trans hfa
  have s01 : S h_ 0 = 0 ∨ S h_ 0 = 1 := by rw [q3]; cases all <;> simp
  have sR : R32 (S h_ 0) := by rcases s01 with e | e <;> rw [e] <;> decide
  have ret : alB all cs (fcX (cx S q) p) = all → Q (some (vi (S h_ 0))) ((2, f), S, L, P) := by
    rw [q3]
    cases all with
    | true => exact fun e => ha e
    | false => exact fun e => hb e
  have t2 : ∀ (m i : Nat), i + m = l.length → (∀ (j : Nat) (g : Fc → Bool), j < i → cs[j]? = some g → g (fcX (cx S q) p) = all) → zz_J zpX13_holds_9 (zz_ret Q X 0 0) 2 [some (vr h_), some (vr 103), some (vi (i : Int))] [] ((2, f), S, L, P) (0, 0) := by
    intro m
    induction m with
    | zero =>
      intro i hi hal
      refine zwX13_holds_9_2 (q_go hz hx ⟨Or.inl hza, hza, by omega, by show R32 (S a 2); rw [hsz]; omega, fun _ => ⟨hz, s01, ret (alB_a fun j g hg => hal j g ?_ hg)⟩, fun c => absurd (show S a 2 ≤ (i : Int) by rw [hsz]; omega) c⟩)
      have : j < cs.length := by
        apply Decidable.byContradiction
        intro hc
        rw [List.getElem?_eq_none (by omega)] at hg
        cases hg
      omega
    | succ m ih =>
      intro i hi hal
      have il : i < l.length := by omega
      have ig : i < cs.length := by omega
      obtain ⟨e, n, he2, hPe, hfe, hn, hln, hPi⟩ := hel (fun c => by rw [c] at il; exact absurd il (by simp))
      replace he2 := he2.le
      have hlx : l[i]? = some l[i] := List.getElem?_eq_getElem il
      have hgx : cs[i]? = some cs[i] := List.getElem?_eq_getElem ig
      have hcx := q7 i _ _ hlx hgx
      have AB : ∀ v : Int, (v = bif cs[i] (fcX (cx S q) p) then 1 else 0) → (zsh ((2, f), S, L, P) h_ = (1, 11) ∧ (R32 (S h_ 0) ∧ ((v = (S h_ 0) → zz_J zpX13_holds_9 (zz_ret Q X 0 0) 2 [some (vr h_), some (vr 103), some (vi ((i : Int) + 1))] [] ((2, f), S, L, P) (0, 0)) ∧ (¬ v = (S h_ 0) → zsh ((2, f), S, L, P) h_ = (1, 11) ∧ (R32 (S h_ 0) ∧ ((¬ (S h_ 0) = 0 → Q (some (vi 0)) ((2, f), S, L, P)) ∧ ((S h_ 0) = 0 → Q (some (vi 1)) ((2, f), S, L, P)))))))) := by
        intro v hv
        refine ⟨hz, sR, fun c => ?_, fun c => ⟨hz, sR, ?_⟩⟩
        · refine ih (i + 1) (by omega) (fun j g hj hg => ?_)
          by_cases ej : j = i
          · rw [ej, hgx] at hg
            cases hg
            rw [hv, q3] at c
            revert c
            cases cs[i] (fcX (cx S q) p) <;> cases all <;> simp
          · exact hal j g (by omega) hg
        · have hne : cs[i] (fcX (cx S q) p) ≠ all := by
            rw [hv, q3] at c
            intro e2
            rw [e2] at c
            exact c rfl
          have e2 := alB_t hgx hne
          rw [q3]
          revert e2 ha hb
          cases all with
          | true => exact fun ha hb e2 => ⟨fun _ => hb e2, fun c => absurd c (by decide)⟩
          | false => exact fun ha hb e2 => ⟨fun c => absurd rfl c, fun _ => ha e2⟩
      refine zwX13_holds_9_2 (q_go hz hx ⟨Or.inl hza, hza, by omega, by show R32 (S a 2); rw [hsz]; omega, fun c => absurd (show S a 2 ≤ (i : Int) from c) (by rw [hsz]; omega), fun _ => ⟨hz, ?_⟩⟩)
      refine (q_go hz hx ⟨Or.inl hza, hza, e, n, l[i], (zpt_hi ha2).trans hPe, (zsh_hi he2).trans hfe, hn, by omega, ⟨by show (i : Int) < S a 2; rw [hsz]; omega, by show S a 2 < 2147483647; rw [hsz]; omega⟩, ?_, coT_sh hcx, ?_⟩ : _ ∧ _ ∧ _).2
      · rw [Int.toNat_natCast]
        exact (zpt_hi he2).trans (hPi i _ hlx)
      · have A1 := fun e : cs[i] (fcX (cx S q) p) = true => AB 1 (by rw [e]; rfl)
        have A0 := fun e : cs[i] (fcX (cx S q) p) = false => AB 0 (by rw [e]; rfl)
        first | exact le_or hcx hs A1 A0 | exact co_or hcx hs A1 A0
  exact zwX13_holds_9_0 (t2 l.length 0 (by omega) (fun j g hj => absurd hj (Nat.not_lt_zero _)))
def zX14_holds_10 : zz_Sp := fun as M Q X => match as with
  | [.inr (.inr (some h_)), .inr (.inr (some s))] => bif Nat.beq M.1.1 2 && Nat.beq s 103 then (∃ (c_ : Fc → Bool) (q_ p_ lo_ hi_ : Nat), noT (coT lo_ hi_ M.1.2 M.2.1 M.2.2.2 9) lo_ hi_ M.1.2 M.2.2.2 h_ c_ ∧ sciB M.2.1 M.2.2.2 q_ p_ ∧ (c_ (fcX (cx M.2.1 q_) p_) = true → Q (some (vi 1)) ((2, M.1.2), M.2.1, M.2.2.1, M.2.2.2)) ∧ (c_ (fcX (cx M.2.1 q_) p_) = false → Q (some (vi 0)) ((2, M.1.2), M.2.1, M.2.2.1, M.2.2.2))) else False
  | _ => False

def zpX14_holds_10 : zz_P := [(0, zo_ald 1 0), (1, zo_getq 4 12 0), (4, zo_ald 5 1), (5, zo_or (zo_cfF (mm_rm 15 0 0) 10 2 11 0 0 zX13_holds_9) (zo_or (zo_cfF (mm_rm 15 0 0) 10 2 12 0 0 zX14_holds_9) (zo_or (zo_cfF (mm_rm 15 0 0) 10 2 13 0 0 zX15_holds) (zo_cfF (mm_rm 15 0 0) 10 2 16 0 0 zX19_holds)))), (10, zo_zifne 13 17), (13, zo_c 14 (vi 1)), (14, zo_goto 18), (17, zo_c 18 (vi 0)), (18, zo_zret true)]
theorem ztX14_holds_10 {C : mm_C} (G : mm_G C RX14 cX14_holds (some .boolean) 2 (mm_rm 15 0 0)) (hnh : mm_nh C) : zz_OKs C zpX14_holds_10 :=
  ⟨zz_of (ok_aload_n G dX14_holds_0 rfl rfl) (z_ald _ _),
   zz_of (ok_get G (nx := 4) (ci := 12) (kd := 2) (k := 0) (RX14, TX14, 1) rfl (by decide) rfl q1187 dX14_holds_1 rfl) (z_getq _ _ _),
   zz_of (ok_aload_n G dX14_holds_4 rfl rfl) (z_ald _ _),
   zz_or (zz_of (ok_calfF G (hnh.q 5) (zmX13_holds_9 _ G.hst) (RX13, TX13, 2) rfl q1452 q1456 q1454 q114 q1458 (List.Mem.head _) (by decide +kernel) ⟨Nat.le_of_ble_eq_true rfl, Nat.le_of_ble_eq_true rfl⟩ dX14_holds_5 rfl) (z_cfF _ _ _ _ _ _ _)) (zz_or (zz_of (ok_calfF G (hnh.q 5) (zmX14_holds_9 _ G.hst) (RX14, TX14, 1) rfl q1452 q1448 q1446 q115 q1450 (List.Mem.tail _ (List.Mem.head _)) (by decide +kernel) ⟨Nat.le_of_ble_eq_true rfl, Nat.le_of_ble_eq_true rfl⟩ dX14_holds_5 rfl) (z_cfF _ _ _ _ _ _ _)) (zz_or (zz_of (ok_calfF G (hnh.q 5) (zmX15_holds _ G.hst) (RX15, TX15, 1) rfl q1452 q1411 q1409 q116 q1413 (List.Mem.tail _ (List.Mem.tail _ (List.Mem.head _))) (by decide +kernel) ⟨Nat.le_of_ble_eq_true rfl, Nat.le_of_ble_eq_true rfl⟩ dX14_holds_5 rfl) (z_cfF _ _ _ _ _ _ _)) (zz_of (ok_calfF G (hnh.q 5) (zmX19_holds _ G.hst) (RX19, TX19, 2) rfl q1452 q1421 q1419 q121 q1423 (List.Mem.tail _ (List.Mem.tail _ (List.Mem.tail _ (List.Mem.head _)))) (by decide +kernel) ⟨Nat.le_of_ble_eq_true rfl, Nat.le_of_ble_eq_true rfl⟩ dX14_holds_5 rfl) (z_cfF _ _ _ _ _ _ _)))),
   zz_of (ok_ifne G dX14_holds_10 rfl rfl) (z_zifne _ _),
   zz_of (ok_iconst G (v := 1) dX14_holds_13 (by decide) rfl) (z_cn 14 1),
   zz_of (ok_goto G dX14_holds_14 rfl) (z_goto _),
   zz_of (ok_iconst G (v := 0) dX14_holds_17 (by decide) rfl) (z_cn 18 0),
   zz_of (ok_zret G dX14_holds_18) (z_zret _), trivial⟩

theorem zwX14_holds_10_0 {Q : Option zv → zz_M → Prop} {X : Nat → zz_M → Prop} {f : Nat → Nat × Nat} {S L : Nat → Nat → Int} {P : Nat → Nat → Option Nat} {h_ : Nat} (h : zsh ((2, f), S, L, P) h_ = (1, 12) ∧ (∀ b1 : Nat, zpt ((2, f), S, L, P) h_ 0 = some b1 → ((zsh ((2, f), S, L, P) b1 = (1, 11) ∨ zsh ((2, f), S, L, P) b1 = (17, 11)) ∧ (0 + 0 ≤ 0 ∧ 0 + 0 ≤ 0) ∧ (∃ (c_2 : Fc → Bool) (q_2 p_2 lo_2 hi_2 : Nat), roT (coT lo_2 hi_2 f S P 8) lo_2 hi_2 f S P b1 c_2 ∧ sciB S P q_2 p_2 ∧ (c_2 (fcX (cx S q_2) p_2) = true → (Q (some (vi 0)) ((2, f), S, L, P))) ∧ (c_2 (fcX (cx S q_2) p_2) = false → (Q (some (vi 1)) ((2, f), S, L, P))))) ∨ ((zsh ((2, f), S, L, P) b1 = (1, 12) ∨ zsh ((2, f), S, L, P) b1 = (17, 12)) ∧ (0 + 0 ≤ 0 ∧ 0 + 0 ≤ 0) ∧ (∃ (c_3 : Fc → Bool) (q_3 p_3 lo_3 hi_3 : Nat), noT (coT lo_3 hi_3 f S P 8) lo_3 hi_3 f P b1 c_3 ∧ sciB S P q_3 p_3 ∧ (c_3 (fcX (cx S q_3) p_3) = true → (Q (some (vi 0)) ((2, f), S, L, P))) ∧ (c_3 (fcX (cx S q_3) p_3) = false → (Q (some (vi 1)) ((2, f), S, L, P))))) ∨ ((zsh ((2, f), S, L, P) b1 = (1, 13) ∨ zsh ((2, f), S, L, P) b1 = (17, 13)) ∧ (0 + 0 ≤ 0 ∧ 0 + 0 ≤ 0) ∧ (∃ q_4 p_4 : Nat, (2000 ≤ b1 ∧ f b1 = (1, 13) ∧ (S b1 0 = 0 ∨ S b1 0 = 1)) ∧ scnI S P q_4 p_4 ∧ ((if S b1 0 = 1 then cx S q_4 2 = (p_4 : Int) else cx S q_4 6 = 1) → (Q (some (vi 0)) ((2, f), S, L, P))) ∧ (¬ (if S b1 0 = 1 then cx S q_4 2 = (p_4 : Int) else cx S q_4 6 = 1) → (Q (some (vi 1)) ((2, f), S, L, P))))) ∨ ((zsh ((2, f), S, L, P) b1 = (1, 16) ∨ zsh ((2, f), S, L, P) b1 = (17, 16)) ∧ (0 + 0 ≤ 0 ∧ 0 + 0 ≤ 0) ∧ (∃ (g_5 k_5 : Fc → Int) (q_5 p_5 a_5 b_5 lo_5 hi_5 : Nat), (2000 ≤ b1 ∧ f b1 = (1, 16) ∧ P b1 0 = some a_5 ∧ P b1 1 = some b_5) ∧ SuT lo_5 hi_5 f S P a_5 g_5 ∧ SuT lo_5 hi_5 f S P b_5 k_5 ∧ scnI S P q_5 p_5 ∧ R32 (g_5 (fcX (cx S q_5) p_5)) ∧ R32 (k_5 (fcX (cx S q_5) p_5)) ∧ (g_5 (fcX (cx S q_5) p_5) < k_5 (fcX (cx S q_5) p_5) → (Q (some (vi 0)) ((2, f), S, L, P))) ∧ (¬ g_5 (fcX (cx S q_5) p_5) < k_5 (fcX (cx S q_5) p_5) → (Q (some (vi 1)) ((2, f), S, L, P)))))) ∧ (zpt ((2, f), S, L, P) h_ 0 = none → (False ∧ (0 + 0 ≤ 0 ∧ 0 + 0 ≤ 0) ∧ False) ∨ (False ∧ (0 + 0 ≤ 0 ∧ 0 + 0 ≤ 0) ∧ False) ∨ (False ∧ (0 + 0 ≤ 0 ∧ 0 + 0 ≤ 0) ∧ False) ∨ (False ∧ (0 + 0 ≤ 0 ∧ 0 + 0 ≤ 0) ∧ False))) : zz_J zpX14_holds_10 (zz_ret Q X 0 0) 0 [some (vr h_), some (vr 103)] [] ((2, f), S, L, P) (0, 0) := zz_J.go [] 400 h

def zX13_holds_10 : zz_Sp := fun as M Q X => match as with
  | [.inr (.inr (some h_)), .inr (.inr (some s))] => bif Nat.beq M.1.1 2 && Nat.beq s 103 then (∃ (c_ : Fc → Bool) (q_ p_ lo_ hi_ : Nat), roT (coT lo_ hi_ M.1.2 M.2.1 M.2.2.2 9) lo_ hi_ M.1.2 M.2.1 M.2.2.2 h_ c_ ∧ sciB M.2.1 M.2.2.2 q_ p_ ∧ (c_ (fcX (cx M.2.1 q_) p_) = true → Q (some (vi 1)) ((2, M.1.2), M.2.1, M.2.2.1, M.2.2.2)) ∧ (c_ (fcX (cx M.2.1 q_) p_) = false → Q (some (vi 0)) ((2, M.1.2), M.2.1, M.2.2.1, M.2.2.2))) else False
  | _ => False

def zpX13_holds_10 : zz_P := [(0, zo_c 1 (vi 0)), (1, zo_ist 2 2), (2, zo_ild 3 2), (3, zo_ald 4 0), (4, zo_getq 7 11 1), (7, zo_callvp 10 1 17 zJ2_sizeh), (10, zo_cge false false 13 56), (13, zo_ald 14 0), (14, zo_getq 17 11 1), (17, zo_ild 18 2), (18, zo_callvp 21 2 17 zJ2_get), (21, zo_cast 24 [11, 12, 13, 16]), (24, zo_ald 25 1), (25, zo_or (zo_cfF (mm_rm 15 0 0) 30 2 11 0 0 zX13_holds_9) (zo_or (zo_cfF (mm_rm 15 0 0) 30 2 12 0 0 zX14_holds_9) (zo_or (zo_cfF (mm_rm 15 0 0) 30 2 13 0 0 zX15_holds) (zo_cfF (mm_rm 15 0 0) 30 2 16 0 0 zX19_holds)))), (30, zo_ald 31 0), (31, zo_getp 34 11 0 0), (34, zo_ceq true false 37 50), (37, zo_ald 38 0), (38, zo_getp 41 11 0 0), (41, zo_ifne false 44 48), (44, zo_c 45 (vi 1)), (45, zo_goto 49), (48, zo_c 49 (vi 0)), (49, zo_zret true), (50, zo_inc 53 2 1), (53, zo_goto 2), (56, zo_ald 57 0), (57, zo_getp 60 11 0 0), (60, zo_zret false)]
theorem ztX13_holds_10 {C : mm_C} (G : mm_G C RX13 cX13_holds (some .boolean) 3 (mm_rm 15 0 0)) (hnh : mm_nh C) : zz_OKs C zpX13_holds_10 :=
  ⟨zz_of (ok_iconst G (v := 0) dX13_holds_0 (by decide) rfl) (z_cn 1 0),
   zz_of (ok_istore_n G dX13_holds_1 rfl rfl (by decide)) (z_ist _ _),
   zz_of (ok_iload_n G dX13_holds_2 rfl rfl) (z_ild _ _),
   zz_of (ok_aload_n G dX13_holds_3 rfl rfl) (z_ald _ _),
   zz_of (ok_get G (nx := 7) (ci := 11) (kd := 2) (k := 1) (RX13, TX13, 2) rfl (by decide) rfl q1157 dX13_holds_4 rfl) (z_getq _ _ _),
   zz_of (ok_callv G hnh (zmJ2_sizeh _ G.hst) rfl rfl (RJ2, TJ2, 3) rfl q1459 q592 q593 q86 q594 (by decide +kernel) ⟨by decide, by decide⟩ dX13_holds_7 rfl) (z_callvp _ _ _ _),
   zz_of (ok_cge G dX13_holds_10 rfl rfl) (z_cge _ _ _ _),
   zz_of (ok_aload_n G dX13_holds_13 rfl rfl) (z_ald _ _),
   zz_of (ok_get G (nx := 17) (ci := 11) (kd := 2) (k := 1) (RX13, TX13, 2) rfl (by decide) rfl q1157 dX13_holds_14 rfl) (z_getq _ _ _),
   zz_of (ok_iload_n G dX13_holds_17 rfl rfl) (z_ild _ _),
   zz_of (ok_callv G hnh (zmJ2_get _ G.hst) rfl rfl (RJ2, TJ2, 3) rfl q1460 q1382 q1383 q86 q1384 (by decide +kernel) ⟨by decide, by decide⟩ dX13_holds_18 rfl) (z_callvp _ _ _ _),
   zz_of (ok_cast G (l := [11, 12, 13, 16]) (fun ci h r e => by
      simp only [List.mem_cons, List.not_mem_nil, or_false] at h
      rcases h with rfl | rfl | rfl | rfl <;> cases e <;> first | exact Or.inl rfl | exact Or.inr q1453 | exact Or.inr q1445 | exact Or.inr q1408 | exact Or.inr q1418) q1461 dX13_holds_21 rfl) (z_cast _ _),
   zz_of (ok_aload_n G dX13_holds_24 rfl rfl) (z_ald _ _),
   zz_or (zz_of (ok_calfF G (hnh.q 25) (zmX13_holds_9 _ G.hst) (RX13, TX13, 2) rfl q1463 q1456 q1454 q114 q1458 (List.Mem.head _) (by decide +kernel) ⟨Nat.le_of_ble_eq_true rfl, Nat.le_of_ble_eq_true rfl⟩ dX13_holds_25 rfl) (z_cfF _ _ _ _ _ _ _)) (zz_or (zz_of (ok_calfF G (hnh.q 25) (zmX14_holds_9 _ G.hst) (RX14, TX14, 1) rfl q1463 q1448 q1446 q115 q1450 (List.Mem.tail _ (List.Mem.head _)) (by decide +kernel) ⟨Nat.le_of_ble_eq_true rfl, Nat.le_of_ble_eq_true rfl⟩ dX13_holds_25 rfl) (z_cfF _ _ _ _ _ _ _)) (zz_or (zz_of (ok_calfF G (hnh.q 25) (zmX15_holds _ G.hst) (RX15, TX15, 1) rfl q1463 q1411 q1409 q116 q1413 (List.Mem.tail _ (List.Mem.tail _ (List.Mem.head _))) (by decide +kernel) ⟨Nat.le_of_ble_eq_true rfl, Nat.le_of_ble_eq_true rfl⟩ dX13_holds_25 rfl) (z_cfF _ _ _ _ _ _ _)) (zz_of (ok_calfF G (hnh.q 25) (zmX19_holds _ G.hst) (RX19, TX19, 2) rfl q1463 q1421 q1419 q121 q1423 (List.Mem.tail _ (List.Mem.tail _ (List.Mem.tail _ (List.Mem.head _)))) (by decide +kernel) ⟨Nat.le_of_ble_eq_true rfl, Nat.le_of_ble_eq_true rfl⟩ dX13_holds_25 rfl) (z_cfF _ _ _ _ _ _ _)))),
   zz_of (ok_aload_n G dX13_holds_30 rfl rfl) (z_ald _ _),
   zz_of (ok_get G (nx := 34) (ci := 11) (kd := 0) (k := 0) (RX13, TX13, 2) rfl (by decide) rfl q1156 dX13_holds_31 rfl) (z_getp _ _ _ _),
   zz_of (ok_ceq G dX13_holds_34 rfl rfl) (z_ceq _ _ _ _),
   zz_of (ok_aload_n G dX13_holds_37 rfl rfl) (z_ald _ _),
   zz_of (ok_get G (nx := 41) (ci := 11) (kd := 0) (k := 0) (RX13, TX13, 2) rfl (by decide) rfl q1156 dX13_holds_38 rfl) (z_getp _ _ _ _),
   zz_of (ok_ifne G dX13_holds_41 rfl rfl) (z_ifne _ _ _),
   zz_of (ok_iconst G (v := 1) dX13_holds_44 (by decide) rfl) (z_cn 45 1),
   zz_of (ok_goto G dX13_holds_45 rfl) (z_goto _),
   zz_of (ok_iconst G (v := 0) dX13_holds_48 (by decide) rfl) (z_cn 49 0),
   zz_of (ok_zret G dX13_holds_49) (z_zret _),
   zz_of (ok_iinc G (v := 1) dX13_holds_50 (by decide) rfl (by decide)) (z_incn 53 2 1),
   zz_of (ok_goto G dX13_holds_53 rfl) (z_goto _),
   zz_of (ok_aload_n G dX13_holds_56 rfl rfl) (z_ald _ _),
   zz_of (ok_get G (nx := 60) (ci := 11) (kd := 0) (k := 0) (RX13, TX13, 2) rfl (by decide) rfl q1156 dX13_holds_57 rfl) (z_getp _ _ _ _),
   zz_of (ok_zret G dX13_holds_60) (z_zret _), trivial⟩

theorem zwX13_holds_10_0 {Q : Option zv → zz_M → Prop} {X : Nat → zz_M → Prop} {f : Nat → Nat × Nat} {S L : Nat → Nat → Int} {P : Nat → Nat → Option Nat} {h_ : Nat} (h : zz_J zpX13_holds_10 (zz_ret Q X 0 0) 2 [some (vr h_), some (vr 103), some (vi 0)] [] ((2, f), S, L, P) (0, 0)) : zz_J zpX13_holds_10 (zz_ret Q X 0 0) 0 [some (vr h_), some (vr 103), none] [] ((2, f), S, L, P) (0, 0) := zz_J.go [(2, [])] 400 h
theorem zwX13_holds_10_2 {Q : Option zv → zz_M → Prop} {X : Nat → zz_M → Prop} {f : Nat → Nat × Nat} {S L : Nat → Nat → Int} {P : Nat → Nat → Option Nat} {h0 : Nat} {x2 : Int} (h : zsh ((2, f), S, L, P) h0 = (1, 11) ∧ (∀ b1 : Nat, zpt ((2, f), S, L, P) h0 1 = some b1 → (zsh ((2, f), S, L, P) b1 = (1, 17) ∨ zsh ((2, f), S, L, P) b1 = (17, 17)) ∧ (zsh ((2, f), S, L, P) b1 = (1, 17) ∧ (R32 x2 ∧ (R32 (((2, f), S, L, P).2.1 b1 2) ∧ (((((2, f), S, L, P).2.1 b1 2) ≤ x2 → zsh ((2, f), S, L, P) h0 = (1, 11) ∧ (((S h0 0) = 0 ∨ (S h0 0) = 1) ∧ (Q (some (vi (S h0 0))) ((2, f), S, L, P)))) ∧ (¬ (((2, f), S, L, P).2.1 b1 2) ≤ x2 → zsh ((2, f), S, L, P) h0 = (1, 11) ∧ (∀ b3 : Nat, zpt ((2, f), S, L, P) h0 1 = some b3 → (zsh ((2, f), S, L, P) b3 = (1, 17) ∨ zsh ((2, f), S, L, P) b3 = (17, 17)) ∧ (zsh ((2, f), S, L, P) b3 = (1, 17) ∧ ∃ (e_4 n_4 x_4 : Nat), zpt ((2, f), S, L, P) b3 1 = some e_4 ∧ zsh ((2, f), S, L, P) e_4 = (7, n_4) ∧ n_4 ≤ 2147483647 ∧ (0 ≤ x2 ∧ x2 < (n_4 : Int)) ∧ (x2 < ((2, f), S, L, P).2.1 b3 2 ∧ ((2, f), S, L, P).2.1 b3 2 < 2147483647) ∧ zpt ((2, f), S, L, P) e_4 x2.toNat = some x_4 ∧ ((∃ ci : Nat, (zsh ((2, f), S, L, P) x_4 = (1, ci) ∨ zsh ((2, f), S, L, P) x_4 = (17, ci)) ∧ mm_mem [11, 12, 13, 16] ci = true) ∧ (((zsh ((2, f), S, L, P) x_4 = (1, 11) ∨ zsh ((2, f), S, L, P) x_4 = (17, 11)) ∧ (0 + 0 ≤ 0 ∧ 0 + 0 ≤ 0) ∧ (∃ (c_5 : Fc → Bool) (q_5 p_5 lo_5 hi_5 : Nat), roT (coT lo_5 hi_5 f S P 8) lo_5 hi_5 f S P x_4 c_5 ∧ sciB S P q_5 p_5 ∧ (c_5 (fcX (cx S q_5) p_5) = true → (zsh ((2, f), S, L, P) h0 = (1, 11) ∧ (R32 (S h0 0) ∧ (((1 : Int) = (S h0 0) → zz_J zpX13_holds_10 (zz_ret Q X 0 0) 2 [some (vr h0), some (vr 103), some (vi (x2 + 1))] [] ((2, f), S, L, P) (0, 0)) ∧ (¬ (1 : Int) = (S h0 0) → zsh ((2, f), S, L, P) h0 = (1, 11) ∧ (R32 (S h0 0) ∧ ((¬ (S h0 0) = 0 → Q (some (vi 0)) ((2, f), S, L, P)) ∧ ((S h0 0) = 0 → Q (some (vi 1)) ((2, f), S, L, P))))))))) ∧ (c_5 (fcX (cx S q_5) p_5) = false → (zsh ((2, f), S, L, P) h0 = (1, 11) ∧ (R32 (S h0 0) ∧ (((0 : Int) = (S h0 0) → zz_J zpX13_holds_10 (zz_ret Q X 0 0) 2 [some (vr h0), some (vr 103), some (vi (x2 + 1))] [] ((2, f), S, L, P) (0, 0)) ∧ (¬ (0 : Int) = (S h0 0) → zsh ((2, f), S, L, P) h0 = (1, 11) ∧ (R32 (S h0 0) ∧ ((¬ (S h0 0) = 0 → Q (some (vi 0)) ((2, f), S, L, P)) ∧ ((S h0 0) = 0 → Q (some (vi 1)) ((2, f), S, L, P))))))))))) ∨ ((zsh ((2, f), S, L, P) x_4 = (1, 12) ∨ zsh ((2, f), S, L, P) x_4 = (17, 12)) ∧ (0 + 0 ≤ 0 ∧ 0 + 0 ≤ 0) ∧ (∃ (c_6 : Fc → Bool) (q_6 p_6 lo_6 hi_6 : Nat), noT (coT lo_6 hi_6 f S P 8) lo_6 hi_6 f P x_4 c_6 ∧ sciB S P q_6 p_6 ∧ (c_6 (fcX (cx S q_6) p_6) = true → (zsh ((2, f), S, L, P) h0 = (1, 11) ∧ (R32 (S h0 0) ∧ (((1 : Int) = (S h0 0) → zz_J zpX13_holds_10 (zz_ret Q X 0 0) 2 [some (vr h0), some (vr 103), some (vi (x2 + 1))] [] ((2, f), S, L, P) (0, 0)) ∧ (¬ (1 : Int) = (S h0 0) → zsh ((2, f), S, L, P) h0 = (1, 11) ∧ (R32 (S h0 0) ∧ ((¬ (S h0 0) = 0 → Q (some (vi 0)) ((2, f), S, L, P)) ∧ ((S h0 0) = 0 → Q (some (vi 1)) ((2, f), S, L, P))))))))) ∧ (c_6 (fcX (cx S q_6) p_6) = false → (zsh ((2, f), S, L, P) h0 = (1, 11) ∧ (R32 (S h0 0) ∧ (((0 : Int) = (S h0 0) → zz_J zpX13_holds_10 (zz_ret Q X 0 0) 2 [some (vr h0), some (vr 103), some (vi (x2 + 1))] [] ((2, f), S, L, P) (0, 0)) ∧ (¬ (0 : Int) = (S h0 0) → zsh ((2, f), S, L, P) h0 = (1, 11) ∧ (R32 (S h0 0) ∧ ((¬ (S h0 0) = 0 → Q (some (vi 0)) ((2, f), S, L, P)) ∧ ((S h0 0) = 0 → Q (some (vi 1)) ((2, f), S, L, P))))))))))) ∨ ((zsh ((2, f), S, L, P) x_4 = (1, 13) ∨ zsh ((2, f), S, L, P) x_4 = (17, 13)) ∧ (0 + 0 ≤ 0 ∧ 0 + 0 ≤ 0) ∧ (∃ q_7 p_7 : Nat, (2000 ≤ x_4 ∧ f x_4 = (1, 13) ∧ (S x_4 0 = 0 ∨ S x_4 0 = 1)) ∧ scnI S P q_7 p_7 ∧ ((if S x_4 0 = 1 then cx S q_7 2 = (p_7 : Int) else cx S q_7 6 = 1) → (zsh ((2, f), S, L, P) h0 = (1, 11) ∧ (R32 (S h0 0) ∧ (((1 : Int) = (S h0 0) → zz_J zpX13_holds_10 (zz_ret Q X 0 0) 2 [some (vr h0), some (vr 103), some (vi (x2 + 1))] [] ((2, f), S, L, P) (0, 0)) ∧ (¬ (1 : Int) = (S h0 0) → zsh ((2, f), S, L, P) h0 = (1, 11) ∧ (R32 (S h0 0) ∧ ((¬ (S h0 0) = 0 → Q (some (vi 0)) ((2, f), S, L, P)) ∧ ((S h0 0) = 0 → Q (some (vi 1)) ((2, f), S, L, P))))))))) ∧ (¬ (if S x_4 0 = 1 then cx S q_7 2 = (p_7 : Int) else cx S q_7 6 = 1) → (zsh ((2, f), S, L, P) h0 = (1, 11) ∧ (R32 (S h0 0) ∧ (((0 : Int) = (S h0 0) → zz_J zpX13_holds_10 (zz_ret Q X 0 0) 2 [some (vr h0), some (vr 103), some (vi (x2 + 1))] [] ((2, f), S, L, P) (0, 0)) ∧ (¬ (0 : Int) = (S h0 0) → zsh ((2, f), S, L, P) h0 = (1, 11) ∧ (R32 (S h0 0) ∧ ((¬ (S h0 0) = 0 → Q (some (vi 0)) ((2, f), S, L, P)) ∧ ((S h0 0) = 0 → Q (some (vi 1)) ((2, f), S, L, P))))))))))) ∨ ((zsh ((2, f), S, L, P) x_4 = (1, 16) ∨ zsh ((2, f), S, L, P) x_4 = (17, 16)) ∧ (0 + 0 ≤ 0 ∧ 0 + 0 ≤ 0) ∧ (∃ (g_8 k_8 : Fc → Int) (q_8 p_8 a_8 b_8 lo_8 hi_8 : Nat), (2000 ≤ x_4 ∧ f x_4 = (1, 16) ∧ P x_4 0 = some a_8 ∧ P x_4 1 = some b_8) ∧ SuT lo_8 hi_8 f S P a_8 g_8 ∧ SuT lo_8 hi_8 f S P b_8 k_8 ∧ scnI S P q_8 p_8 ∧ R32 (g_8 (fcX (cx S q_8) p_8)) ∧ R32 (k_8 (fcX (cx S q_8) p_8)) ∧ (g_8 (fcX (cx S q_8) p_8) < k_8 (fcX (cx S q_8) p_8) → (zsh ((2, f), S, L, P) h0 = (1, 11) ∧ (R32 (S h0 0) ∧ (((1 : Int) = (S h0 0) → zz_J zpX13_holds_10 (zz_ret Q X 0 0) 2 [some (vr h0), some (vr 103), some (vi (x2 + 1))] [] ((2, f), S, L, P) (0, 0)) ∧ (¬ (1 : Int) = (S h0 0) → zsh ((2, f), S, L, P) h0 = (1, 11) ∧ (R32 (S h0 0) ∧ ((¬ (S h0 0) = 0 → Q (some (vi 0)) ((2, f), S, L, P)) ∧ ((S h0 0) = 0 → Q (some (vi 1)) ((2, f), S, L, P))))))))) ∧ (¬ g_8 (fcX (cx S q_8) p_8) < k_8 (fcX (cx S q_8) p_8) → (zsh ((2, f), S, L, P) h0 = (1, 11) ∧ (R32 (S h0 0) ∧ (((0 : Int) = (S h0 0) → zz_J zpX13_holds_10 (zz_ret Q X 0 0) 2 [some (vr h0), some (vr 103), some (vi (x2 + 1))] [] ((2, f), S, L, P) (0, 0)) ∧ (¬ (0 : Int) = (S h0 0) → zsh ((2, f), S, L, P) h0 = (1, 11) ∧ (R32 (S h0 0) ∧ ((¬ (S h0 0) = 0 → Q (some (vi 0)) ((2, f), S, L, P)) ∧ ((S h0 0) = 0 → Q (some (vi 1)) ((2, f), S, L, P))))))))))))))) ∧ (zpt ((2, f), S, L, P) h0 1 = none → False ∧ False))))))) ∧ (zpt ((2, f), S, L, P) h0 1 = none → False ∧ False)) : zz_J zpX13_holds_10 (zz_ret Q X 0 0) 2 [some (vr h0), some (vr 103), some (vi x2)] [] ((2, f), S, L, P) (0, 0) := zz_J.go [(2, [])] 400 h

theorem zmX14_holds_10 (l : Launch) (hl : l.stackTraces = false) : mm_Spec l yX14_holds (ws_ yX14_holds cX14_holds 2 (some .boolean)) (mm_rm 15 0 0) (zE zX14_holds_10) := by
  refine zz_Met.J hl (by decide) (fun C G hnh => ztX14_holds_10 G hnh) ?_
  rintro as ⟨⟨t_, f⟩, S, L, P⟩ Q X h
  unfold zX14_holds_10 at h
  split at h
  rotate_left
  · exact h.elim
  rename_i h_ s
  obtain ⟨e1_, e2_, h⟩ := mm_and2 h (fun q => q)
  cases mm_beq e1_
  cases mm_beq e2_
  try dsimp only at h
  refine ⟨rfl, ?_⟩
  obtain ⟨c, q, p, lo, hi, ⟨q1, q2, a, g, q3, q4, rfl⟩, hs, ha, hb⟩ := h
  have hz : zsh ((2, f), S, L, P) h_ = (1, 12) := (zsh_hi q1.le).trans q2
  have hx : zpt ((2, f), S, L, P) h_ 0 = some a := (zpt_hi q1.le).trans q3
  have ha' : g (fcX (cx S q) p) = true → Q (some (vi 0)) ((2, f), S, L, P) := fun e => hb (by show (!g _) = false; rw [e]; rfl)
  have hb' : g (fcX (cx S q) p) = false → Q (some (vi 1)) ((2, f), S, L, P) := fun e => ha (by show (!g _) = true; rw [e]; rfl)
  refine zwX14_holds_10_0 (q_go hz hx ?_)
  first | exact le_or q4 hs ha' hb' | exact co_or q4 hs ha' hb'
theorem zmX13_holds_10 (l : Launch) (hl : l.stackTraces = false) : mm_Spec l yX13_holds (ws_ yX13_holds cX13_holds 3 (some .boolean)) (mm_rm 15 0 0) (zE zX13_holds_10) := by
  refine zz_Met.J hl (by decide) (fun C G hnh => ztX13_holds_10 G hnh) ?_
  rintro as ⟨⟨t_, f⟩, S, L, P⟩ Q X h
  unfold zX13_holds_10 at h
  split at h
  rotate_left
  · exact h.elim
  rename_i h_ s
  obtain ⟨e1_, e2_, h⟩ := mm_and2 h (fun q => q)
  cases mm_beq e1_
  cases mm_beq e2_
  try dsimp only at h
  refine ⟨rfl, ?_⟩
  obtain ⟨c, q, p, lo, hi0, ⟨q1, q2, all, a, l, cs, q3, q4, ⟨ha2, hfa, hsz, hlen, hel⟩, q6, q7, rfl⟩, hs, ha, hb⟩ := h
  have hz : zsh ((2, f), S, L, P) h_ = (1, 11) := (zsh_hi q1.le).trans q2
  have hx : zpt ((2, f), S, L, P) h_ 1 = some a := (zpt_hi q1.le).trans q4
  replace ha2 := ha2.le
  have hza : zsh ((2, f), S, L, P) a = (1, 17) := (zsh_hi ha2).trans hfa
  have s01 : S h_ 0 = 0 ∨ S h_ 0 = 1 := by rw [q3]; cases all <;> simp
  have sR : R32 (S h_ 0) := by rcases s01 with e | e <;> rw [e] <;> decide
  have ret : alB all cs (fcX (cx S q) p) = all → Q (some (vi (S h_ 0))) ((2, f), S, L, P) := by
    rw [q3]
    cases all with
    | true => exact fun e => ha e
    | false => exact fun e => hb e
  have t2 : ∀ (m i : Nat), i + m = l.length → (∀ (j : Nat) (g : Fc → Bool), j < i → cs[j]? = some g → g (fcX (cx S q) p) = all) → zz_J zpX13_holds_10 (zz_ret Q X 0 0) 2 [some (vr h_), some (vr 103), some (vi (i : Int))] [] ((2, f), S, L, P) (0, 0) := by
    intro m
    induction m with
    | zero =>
      intro i hi hal
      refine zwX13_holds_10_2 (q_go hz hx ⟨Or.inl hza, hza, by omega, by show R32 (S a 2); rw [hsz]; omega, fun _ => ⟨hz, s01, ret (alB_a fun j g hg => hal j g ?_ hg)⟩, fun c => absurd (show S a 2 ≤ (i : Int) by rw [hsz]; omega) c⟩)
      have : j < cs.length := by
        apply Decidable.byContradiction
        intro hc
        rw [List.getElem?_eq_none (by omega)] at hg
        cases hg
      omega
    | succ m ih =>
      intro i hi hal
      have il : i < l.length := by omega
      have ig : i < cs.length := by omega
      obtain ⟨e, n, he2, hPe, hfe, hn, hln, hPi⟩ := hel (fun c => by rw [c] at il; exact absurd il (by simp))
      replace he2 := he2.le
      have hlx : l[i]? = some l[i] := List.getElem?_eq_getElem il
      have hgx : cs[i]? = some cs[i] := List.getElem?_eq_getElem ig
      have hcx := q7 i _ _ hlx hgx
      have AB : ∀ v : Int, (v = bif cs[i] (fcX (cx S q) p) then 1 else 0) → (zsh ((2, f), S, L, P) h_ = (1, 11) ∧ (R32 (S h_ 0) ∧ ((v = (S h_ 0) → zz_J zpX13_holds_10 (zz_ret Q X 0 0) 2 [some (vr h_), some (vr 103), some (vi ((i : Int) + 1))] [] ((2, f), S, L, P) (0, 0)) ∧ (¬ v = (S h_ 0) → zsh ((2, f), S, L, P) h_ = (1, 11) ∧ (R32 (S h_ 0) ∧ ((¬ (S h_ 0) = 0 → Q (some (vi 0)) ((2, f), S, L, P)) ∧ ((S h_ 0) = 0 → Q (some (vi 1)) ((2, f), S, L, P)))))))) := by
        intro v hv
        refine ⟨hz, sR, fun c => ?_, fun c => ⟨hz, sR, ?_⟩⟩
        · refine ih (i + 1) (by omega) (fun j g hj hg => ?_)
          by_cases ej : j = i
          · rw [ej, hgx] at hg
            cases hg
            rw [hv, q3] at c
            revert c
            cases cs[i] (fcX (cx S q) p) <;> cases all <;> simp
          · exact hal j g (by omega) hg
        · have hne : cs[i] (fcX (cx S q) p) ≠ all := by
            rw [hv, q3] at c
            intro e2
            rw [e2] at c
            exact c rfl
          have e2 := alB_t hgx hne
          rw [q3]
          revert e2 ha hb
          cases all with
          | true => exact fun ha hb e2 => ⟨fun _ => hb e2, fun c => absurd c (by decide)⟩
          | false => exact fun ha hb e2 => ⟨fun c => absurd rfl c, fun _ => ha e2⟩
      refine zwX13_holds_10_2 (q_go hz hx ⟨Or.inl hza, hza, by omega, by show R32 (S a 2); rw [hsz]; omega, fun c => absurd (show S a 2 ≤ (i : Int) from c) (by rw [hsz]; omega), fun _ => ⟨hz, ?_⟩⟩)
      refine (q_go hz hx ⟨Or.inl hza, hza, e, n, l[i], (zpt_hi ha2).trans hPe, (zsh_hi he2).trans hfe, hn, by omega, ⟨by show (i : Int) < S a 2; rw [hsz]; omega, by show S a 2 < 2147483647; rw [hsz]; omega⟩, ?_, coT_sh hcx, ?_⟩ : _ ∧ _ ∧ _).2
      · rw [Int.toNat_natCast]
        exact (zpt_hi he2).trans (hPi i _ hlx)
      · have A1 := fun e : cs[i] (fcX (cx S q) p) = true => AB 1 (by rw [e]; rfl)
        have A0 := fun e : cs[i] (fcX (cx S q) p) = false => AB 0 (by rw [e]; rfl)
        first | exact le_or hcx hs A1 A0 | exact co_or hcx hs A1 A0
  exact zwX13_holds_10_0 (t2 l.length 0 (by omega) (fun j g hj => absurd hj (Nat.not_lt_zero _)))
def zX14_holds_11 : zz_Sp := fun as M Q X => match as with
  | [.inr (.inr (some h_)), .inr (.inr (some s))] => bif Nat.beq M.1.1 2 && Nat.beq s 103 then (∃ (c_ : Fc → Bool) (q_ p_ lo_ hi_ : Nat), noT (coT lo_ hi_ M.1.2 M.2.1 M.2.2.2 10) lo_ hi_ M.1.2 M.2.2.2 h_ c_ ∧ sciB M.2.1 M.2.2.2 q_ p_ ∧ (c_ (fcX (cx M.2.1 q_) p_) = true → Q (some (vi 1)) ((2, M.1.2), M.2.1, M.2.2.1, M.2.2.2)) ∧ (c_ (fcX (cx M.2.1 q_) p_) = false → Q (some (vi 0)) ((2, M.1.2), M.2.1, M.2.2.1, M.2.2.2))) else False
  | _ => False

def zpX14_holds_11 : zz_P := [(0, zo_ald 1 0), (1, zo_getq 4 12 0), (4, zo_ald 5 1), (5, zo_or (zo_cfF (mm_rm 16 0 0) 10 2 11 0 0 zX13_holds_10) (zo_or (zo_cfF (mm_rm 16 0 0) 10 2 12 0 0 zX14_holds_10) (zo_or (zo_cfF (mm_rm 16 0 0) 10 2 13 0 0 zX15_holds) (zo_cfF (mm_rm 16 0 0) 10 2 16 0 0 zX19_holds)))), (10, zo_zifne 13 17), (13, zo_c 14 (vi 1)), (14, zo_goto 18), (17, zo_c 18 (vi 0)), (18, zo_zret true)]
theorem ztX14_holds_11 {C : mm_C} (G : mm_G C RX14 cX14_holds (some .boolean) 2 (mm_rm 16 0 0)) (hnh : mm_nh C) : zz_OKs C zpX14_holds_11 :=
  ⟨zz_of (ok_aload_n G dX14_holds_0 rfl rfl) (z_ald _ _),
   zz_of (ok_get G (nx := 4) (ci := 12) (kd := 2) (k := 0) (RX14, TX14, 1) rfl (by decide) rfl q1187 dX14_holds_1 rfl) (z_getq _ _ _),
   zz_of (ok_aload_n G dX14_holds_4 rfl rfl) (z_ald _ _),
   zz_or (zz_of (ok_calfF G (hnh.q 5) (zmX13_holds_10 _ G.hst) (RX13, TX13, 2) rfl q1452 q1456 q1454 q114 q1458 (List.Mem.head _) (by decide +kernel) ⟨Nat.le_of_ble_eq_true rfl, Nat.le_of_ble_eq_true rfl⟩ dX14_holds_5 rfl) (z_cfF _ _ _ _ _ _ _)) (zz_or (zz_of (ok_calfF G (hnh.q 5) (zmX14_holds_10 _ G.hst) (RX14, TX14, 1) rfl q1452 q1448 q1446 q115 q1450 (List.Mem.tail _ (List.Mem.head _)) (by decide +kernel) ⟨Nat.le_of_ble_eq_true rfl, Nat.le_of_ble_eq_true rfl⟩ dX14_holds_5 rfl) (z_cfF _ _ _ _ _ _ _)) (zz_or (zz_of (ok_calfF G (hnh.q 5) (zmX15_holds _ G.hst) (RX15, TX15, 1) rfl q1452 q1411 q1409 q116 q1413 (List.Mem.tail _ (List.Mem.tail _ (List.Mem.head _))) (by decide +kernel) ⟨Nat.le_of_ble_eq_true rfl, Nat.le_of_ble_eq_true rfl⟩ dX14_holds_5 rfl) (z_cfF _ _ _ _ _ _ _)) (zz_of (ok_calfF G (hnh.q 5) (zmX19_holds _ G.hst) (RX19, TX19, 2) rfl q1452 q1421 q1419 q121 q1423 (List.Mem.tail _ (List.Mem.tail _ (List.Mem.tail _ (List.Mem.head _)))) (by decide +kernel) ⟨Nat.le_of_ble_eq_true rfl, Nat.le_of_ble_eq_true rfl⟩ dX14_holds_5 rfl) (z_cfF _ _ _ _ _ _ _)))),
   zz_of (ok_ifne G dX14_holds_10 rfl rfl) (z_zifne _ _),
   zz_of (ok_iconst G (v := 1) dX14_holds_13 (by decide) rfl) (z_cn 14 1),
   zz_of (ok_goto G dX14_holds_14 rfl) (z_goto _),
   zz_of (ok_iconst G (v := 0) dX14_holds_17 (by decide) rfl) (z_cn 18 0),
   zz_of (ok_zret G dX14_holds_18) (z_zret _), trivial⟩

theorem zwX14_holds_11_0 {Q : Option zv → zz_M → Prop} {X : Nat → zz_M → Prop} {f : Nat → Nat × Nat} {S L : Nat → Nat → Int} {P : Nat → Nat → Option Nat} {h_ : Nat} (h : zsh ((2, f), S, L, P) h_ = (1, 12) ∧ (∀ b1 : Nat, zpt ((2, f), S, L, P) h_ 0 = some b1 → ((zsh ((2, f), S, L, P) b1 = (1, 11) ∨ zsh ((2, f), S, L, P) b1 = (17, 11)) ∧ (0 + 0 ≤ 0 ∧ 0 + 0 ≤ 0) ∧ (∃ (c_2 : Fc → Bool) (q_2 p_2 lo_2 hi_2 : Nat), roT (coT lo_2 hi_2 f S P 9) lo_2 hi_2 f S P b1 c_2 ∧ sciB S P q_2 p_2 ∧ (c_2 (fcX (cx S q_2) p_2) = true → (Q (some (vi 0)) ((2, f), S, L, P))) ∧ (c_2 (fcX (cx S q_2) p_2) = false → (Q (some (vi 1)) ((2, f), S, L, P))))) ∨ ((zsh ((2, f), S, L, P) b1 = (1, 12) ∨ zsh ((2, f), S, L, P) b1 = (17, 12)) ∧ (0 + 0 ≤ 0 ∧ 0 + 0 ≤ 0) ∧ (∃ (c_3 : Fc → Bool) (q_3 p_3 lo_3 hi_3 : Nat), noT (coT lo_3 hi_3 f S P 9) lo_3 hi_3 f P b1 c_3 ∧ sciB S P q_3 p_3 ∧ (c_3 (fcX (cx S q_3) p_3) = true → (Q (some (vi 0)) ((2, f), S, L, P))) ∧ (c_3 (fcX (cx S q_3) p_3) = false → (Q (some (vi 1)) ((2, f), S, L, P))))) ∨ ((zsh ((2, f), S, L, P) b1 = (1, 13) ∨ zsh ((2, f), S, L, P) b1 = (17, 13)) ∧ (0 + 0 ≤ 0 ∧ 0 + 0 ≤ 0) ∧ (∃ q_4 p_4 : Nat, (2000 ≤ b1 ∧ f b1 = (1, 13) ∧ (S b1 0 = 0 ∨ S b1 0 = 1)) ∧ scnI S P q_4 p_4 ∧ ((if S b1 0 = 1 then cx S q_4 2 = (p_4 : Int) else cx S q_4 6 = 1) → (Q (some (vi 0)) ((2, f), S, L, P))) ∧ (¬ (if S b1 0 = 1 then cx S q_4 2 = (p_4 : Int) else cx S q_4 6 = 1) → (Q (some (vi 1)) ((2, f), S, L, P))))) ∨ ((zsh ((2, f), S, L, P) b1 = (1, 16) ∨ zsh ((2, f), S, L, P) b1 = (17, 16)) ∧ (0 + 0 ≤ 0 ∧ 0 + 0 ≤ 0) ∧ (∃ (g_5 k_5 : Fc → Int) (q_5 p_5 a_5 b_5 lo_5 hi_5 : Nat), (2000 ≤ b1 ∧ f b1 = (1, 16) ∧ P b1 0 = some a_5 ∧ P b1 1 = some b_5) ∧ SuT lo_5 hi_5 f S P a_5 g_5 ∧ SuT lo_5 hi_5 f S P b_5 k_5 ∧ scnI S P q_5 p_5 ∧ R32 (g_5 (fcX (cx S q_5) p_5)) ∧ R32 (k_5 (fcX (cx S q_5) p_5)) ∧ (g_5 (fcX (cx S q_5) p_5) < k_5 (fcX (cx S q_5) p_5) → (Q (some (vi 0)) ((2, f), S, L, P))) ∧ (¬ g_5 (fcX (cx S q_5) p_5) < k_5 (fcX (cx S q_5) p_5) → (Q (some (vi 1)) ((2, f), S, L, P)))))) ∧ (zpt ((2, f), S, L, P) h_ 0 = none → (False ∧ (0 + 0 ≤ 0 ∧ 0 + 0 ≤ 0) ∧ False) ∨ (False ∧ (0 + 0 ≤ 0 ∧ 0 + 0 ≤ 0) ∧ False) ∨ (False ∧ (0 + 0 ≤ 0 ∧ 0 + 0 ≤ 0) ∧ False) ∨ (False ∧ (0 + 0 ≤ 0 ∧ 0 + 0 ≤ 0) ∧ False))) : zz_J zpX14_holds_11 (zz_ret Q X 0 0) 0 [some (vr h_), some (vr 103)] [] ((2, f), S, L, P) (0, 0) := zz_J.go [] 400 h

def zX13_holds_11 : zz_Sp := fun as M Q X => match as with
  | [.inr (.inr (some h_)), .inr (.inr (some s))] => bif Nat.beq M.1.1 2 && Nat.beq s 103 then (∃ (c_ : Fc → Bool) (q_ p_ lo_ hi_ : Nat), roT (coT lo_ hi_ M.1.2 M.2.1 M.2.2.2 10) lo_ hi_ M.1.2 M.2.1 M.2.2.2 h_ c_ ∧ sciB M.2.1 M.2.2.2 q_ p_ ∧ (c_ (fcX (cx M.2.1 q_) p_) = true → Q (some (vi 1)) ((2, M.1.2), M.2.1, M.2.2.1, M.2.2.2)) ∧ (c_ (fcX (cx M.2.1 q_) p_) = false → Q (some (vi 0)) ((2, M.1.2), M.2.1, M.2.2.1, M.2.2.2))) else False
  | _ => False

def zpX13_holds_11 : zz_P := [(0, zo_c 1 (vi 0)), (1, zo_ist 2 2), (2, zo_ild 3 2), (3, zo_ald 4 0), (4, zo_getq 7 11 1), (7, zo_callvp 10 1 17 zJ2_sizeh), (10, zo_cge false false 13 56), (13, zo_ald 14 0), (14, zo_getq 17 11 1), (17, zo_ild 18 2), (18, zo_callvp 21 2 17 zJ2_get), (21, zo_cast 24 [11, 12, 13, 16]), (24, zo_ald 25 1), (25, zo_or (zo_cfF (mm_rm 16 0 0) 30 2 11 0 0 zX13_holds_10) (zo_or (zo_cfF (mm_rm 16 0 0) 30 2 12 0 0 zX14_holds_10) (zo_or (zo_cfF (mm_rm 16 0 0) 30 2 13 0 0 zX15_holds) (zo_cfF (mm_rm 16 0 0) 30 2 16 0 0 zX19_holds)))), (30, zo_ald 31 0), (31, zo_getp 34 11 0 0), (34, zo_ceq true false 37 50), (37, zo_ald 38 0), (38, zo_getp 41 11 0 0), (41, zo_ifne false 44 48), (44, zo_c 45 (vi 1)), (45, zo_goto 49), (48, zo_c 49 (vi 0)), (49, zo_zret true), (50, zo_inc 53 2 1), (53, zo_goto 2), (56, zo_ald 57 0), (57, zo_getp 60 11 0 0), (60, zo_zret false)]
theorem ztX13_holds_11 {C : mm_C} (G : mm_G C RX13 cX13_holds (some .boolean) 3 (mm_rm 16 0 0)) (hnh : mm_nh C) : zz_OKs C zpX13_holds_11 :=
  ⟨zz_of (ok_iconst G (v := 0) dX13_holds_0 (by decide) rfl) (z_cn 1 0),
   zz_of (ok_istore_n G dX13_holds_1 rfl rfl (by decide)) (z_ist _ _),
   zz_of (ok_iload_n G dX13_holds_2 rfl rfl) (z_ild _ _),
   zz_of (ok_aload_n G dX13_holds_3 rfl rfl) (z_ald _ _),
   zz_of (ok_get G (nx := 7) (ci := 11) (kd := 2) (k := 1) (RX13, TX13, 2) rfl (by decide) rfl q1157 dX13_holds_4 rfl) (z_getq _ _ _),
   zz_of (ok_callv G hnh (zmJ2_sizeh _ G.hst) rfl rfl (RJ2, TJ2, 3) rfl q1459 q592 q593 q86 q594 (by decide +kernel) ⟨by decide, by decide⟩ dX13_holds_7 rfl) (z_callvp _ _ _ _),
   zz_of (ok_cge G dX13_holds_10 rfl rfl) (z_cge _ _ _ _),
   zz_of (ok_aload_n G dX13_holds_13 rfl rfl) (z_ald _ _),
   zz_of (ok_get G (nx := 17) (ci := 11) (kd := 2) (k := 1) (RX13, TX13, 2) rfl (by decide) rfl q1157 dX13_holds_14 rfl) (z_getq _ _ _),
   zz_of (ok_iload_n G dX13_holds_17 rfl rfl) (z_ild _ _),
   zz_of (ok_callv G hnh (zmJ2_get _ G.hst) rfl rfl (RJ2, TJ2, 3) rfl q1460 q1382 q1383 q86 q1384 (by decide +kernel) ⟨by decide, by decide⟩ dX13_holds_18 rfl) (z_callvp _ _ _ _),
   zz_of (ok_cast G (l := [11, 12, 13, 16]) (fun ci h r e => by
      simp only [List.mem_cons, List.not_mem_nil, or_false] at h
      rcases h with rfl | rfl | rfl | rfl <;> cases e <;> first | exact Or.inl rfl | exact Or.inr q1453 | exact Or.inr q1445 | exact Or.inr q1408 | exact Or.inr q1418) q1461 dX13_holds_21 rfl) (z_cast _ _),
   zz_of (ok_aload_n G dX13_holds_24 rfl rfl) (z_ald _ _),
   zz_or (zz_of (ok_calfF G (hnh.q 25) (zmX13_holds_10 _ G.hst) (RX13, TX13, 2) rfl q1463 q1456 q1454 q114 q1458 (List.Mem.head _) (by decide +kernel) ⟨Nat.le_of_ble_eq_true rfl, Nat.le_of_ble_eq_true rfl⟩ dX13_holds_25 rfl) (z_cfF _ _ _ _ _ _ _)) (zz_or (zz_of (ok_calfF G (hnh.q 25) (zmX14_holds_10 _ G.hst) (RX14, TX14, 1) rfl q1463 q1448 q1446 q115 q1450 (List.Mem.tail _ (List.Mem.head _)) (by decide +kernel) ⟨Nat.le_of_ble_eq_true rfl, Nat.le_of_ble_eq_true rfl⟩ dX13_holds_25 rfl) (z_cfF _ _ _ _ _ _ _)) (zz_or (zz_of (ok_calfF G (hnh.q 25) (zmX15_holds _ G.hst) (RX15, TX15, 1) rfl q1463 q1411 q1409 q116 q1413 (List.Mem.tail _ (List.Mem.tail _ (List.Mem.head _))) (by decide +kernel) ⟨Nat.le_of_ble_eq_true rfl, Nat.le_of_ble_eq_true rfl⟩ dX13_holds_25 rfl) (z_cfF _ _ _ _ _ _ _)) (zz_of (ok_calfF G (hnh.q 25) (zmX19_holds _ G.hst) (RX19, TX19, 2) rfl q1463 q1421 q1419 q121 q1423 (List.Mem.tail _ (List.Mem.tail _ (List.Mem.tail _ (List.Mem.head _)))) (by decide +kernel) ⟨Nat.le_of_ble_eq_true rfl, Nat.le_of_ble_eq_true rfl⟩ dX13_holds_25 rfl) (z_cfF _ _ _ _ _ _ _)))),
   zz_of (ok_aload_n G dX13_holds_30 rfl rfl) (z_ald _ _),
   zz_of (ok_get G (nx := 34) (ci := 11) (kd := 0) (k := 0) (RX13, TX13, 2) rfl (by decide) rfl q1156 dX13_holds_31 rfl) (z_getp _ _ _ _),
   zz_of (ok_ceq G dX13_holds_34 rfl rfl) (z_ceq _ _ _ _),
   zz_of (ok_aload_n G dX13_holds_37 rfl rfl) (z_ald _ _),
   zz_of (ok_get G (nx := 41) (ci := 11) (kd := 0) (k := 0) (RX13, TX13, 2) rfl (by decide) rfl q1156 dX13_holds_38 rfl) (z_getp _ _ _ _),
   zz_of (ok_ifne G dX13_holds_41 rfl rfl) (z_ifne _ _ _),
   zz_of (ok_iconst G (v := 1) dX13_holds_44 (by decide) rfl) (z_cn 45 1),
   zz_of (ok_goto G dX13_holds_45 rfl) (z_goto _),
   zz_of (ok_iconst G (v := 0) dX13_holds_48 (by decide) rfl) (z_cn 49 0),
   zz_of (ok_zret G dX13_holds_49) (z_zret _),
   zz_of (ok_iinc G (v := 1) dX13_holds_50 (by decide) rfl (by decide)) (z_incn 53 2 1),
   zz_of (ok_goto G dX13_holds_53 rfl) (z_goto _),
   zz_of (ok_aload_n G dX13_holds_56 rfl rfl) (z_ald _ _),
   zz_of (ok_get G (nx := 60) (ci := 11) (kd := 0) (k := 0) (RX13, TX13, 2) rfl (by decide) rfl q1156 dX13_holds_57 rfl) (z_getp _ _ _ _),
   zz_of (ok_zret G dX13_holds_60) (z_zret _), trivial⟩

theorem zwX13_holds_11_0 {Q : Option zv → zz_M → Prop} {X : Nat → zz_M → Prop} {f : Nat → Nat × Nat} {S L : Nat → Nat → Int} {P : Nat → Nat → Option Nat} {h_ : Nat} (h : zz_J zpX13_holds_11 (zz_ret Q X 0 0) 2 [some (vr h_), some (vr 103), some (vi 0)] [] ((2, f), S, L, P) (0, 0)) : zz_J zpX13_holds_11 (zz_ret Q X 0 0) 0 [some (vr h_), some (vr 103), none] [] ((2, f), S, L, P) (0, 0) := zz_J.go [(2, [])] 400 h
theorem zwX13_holds_11_2 {Q : Option zv → zz_M → Prop} {X : Nat → zz_M → Prop} {f : Nat → Nat × Nat} {S L : Nat → Nat → Int} {P : Nat → Nat → Option Nat} {h0 : Nat} {x2 : Int} (h : zsh ((2, f), S, L, P) h0 = (1, 11) ∧ (∀ b1 : Nat, zpt ((2, f), S, L, P) h0 1 = some b1 → (zsh ((2, f), S, L, P) b1 = (1, 17) ∨ zsh ((2, f), S, L, P) b1 = (17, 17)) ∧ (zsh ((2, f), S, L, P) b1 = (1, 17) ∧ (R32 x2 ∧ (R32 (((2, f), S, L, P).2.1 b1 2) ∧ (((((2, f), S, L, P).2.1 b1 2) ≤ x2 → zsh ((2, f), S, L, P) h0 = (1, 11) ∧ (((S h0 0) = 0 ∨ (S h0 0) = 1) ∧ (Q (some (vi (S h0 0))) ((2, f), S, L, P)))) ∧ (¬ (((2, f), S, L, P).2.1 b1 2) ≤ x2 → zsh ((2, f), S, L, P) h0 = (1, 11) ∧ (∀ b3 : Nat, zpt ((2, f), S, L, P) h0 1 = some b3 → (zsh ((2, f), S, L, P) b3 = (1, 17) ∨ zsh ((2, f), S, L, P) b3 = (17, 17)) ∧ (zsh ((2, f), S, L, P) b3 = (1, 17) ∧ ∃ (e_4 n_4 x_4 : Nat), zpt ((2, f), S, L, P) b3 1 = some e_4 ∧ zsh ((2, f), S, L, P) e_4 = (7, n_4) ∧ n_4 ≤ 2147483647 ∧ (0 ≤ x2 ∧ x2 < (n_4 : Int)) ∧ (x2 < ((2, f), S, L, P).2.1 b3 2 ∧ ((2, f), S, L, P).2.1 b3 2 < 2147483647) ∧ zpt ((2, f), S, L, P) e_4 x2.toNat = some x_4 ∧ ((∃ ci : Nat, (zsh ((2, f), S, L, P) x_4 = (1, ci) ∨ zsh ((2, f), S, L, P) x_4 = (17, ci)) ∧ mm_mem [11, 12, 13, 16] ci = true) ∧ (((zsh ((2, f), S, L, P) x_4 = (1, 11) ∨ zsh ((2, f), S, L, P) x_4 = (17, 11)) ∧ (0 + 0 ≤ 0 ∧ 0 + 0 ≤ 0) ∧ (∃ (c_5 : Fc → Bool) (q_5 p_5 lo_5 hi_5 : Nat), roT (coT lo_5 hi_5 f S P 9) lo_5 hi_5 f S P x_4 c_5 ∧ sciB S P q_5 p_5 ∧ (c_5 (fcX (cx S q_5) p_5) = true → (zsh ((2, f), S, L, P) h0 = (1, 11) ∧ (R32 (S h0 0) ∧ (((1 : Int) = (S h0 0) → zz_J zpX13_holds_11 (zz_ret Q X 0 0) 2 [some (vr h0), some (vr 103), some (vi (x2 + 1))] [] ((2, f), S, L, P) (0, 0)) ∧ (¬ (1 : Int) = (S h0 0) → zsh ((2, f), S, L, P) h0 = (1, 11) ∧ (R32 (S h0 0) ∧ ((¬ (S h0 0) = 0 → Q (some (vi 0)) ((2, f), S, L, P)) ∧ ((S h0 0) = 0 → Q (some (vi 1)) ((2, f), S, L, P))))))))) ∧ (c_5 (fcX (cx S q_5) p_5) = false → (zsh ((2, f), S, L, P) h0 = (1, 11) ∧ (R32 (S h0 0) ∧ (((0 : Int) = (S h0 0) → zz_J zpX13_holds_11 (zz_ret Q X 0 0) 2 [some (vr h0), some (vr 103), some (vi (x2 + 1))] [] ((2, f), S, L, P) (0, 0)) ∧ (¬ (0 : Int) = (S h0 0) → zsh ((2, f), S, L, P) h0 = (1, 11) ∧ (R32 (S h0 0) ∧ ((¬ (S h0 0) = 0 → Q (some (vi 0)) ((2, f), S, L, P)) ∧ ((S h0 0) = 0 → Q (some (vi 1)) ((2, f), S, L, P))))))))))) ∨ ((zsh ((2, f), S, L, P) x_4 = (1, 12) ∨ zsh ((2, f), S, L, P) x_4 = (17, 12)) ∧ (0 + 0 ≤ 0 ∧ 0 + 0 ≤ 0) ∧ (∃ (c_6 : Fc → Bool) (q_6 p_6 lo_6 hi_6 : Nat), noT (coT lo_6 hi_6 f S P 9) lo_6 hi_6 f P x_4 c_6 ∧ sciB S P q_6 p_6 ∧ (c_6 (fcX (cx S q_6) p_6) = true → (zsh ((2, f), S, L, P) h0 = (1, 11) ∧ (R32 (S h0 0) ∧ (((1 : Int) = (S h0 0) → zz_J zpX13_holds_11 (zz_ret Q X 0 0) 2 [some (vr h0), some (vr 103), some (vi (x2 + 1))] [] ((2, f), S, L, P) (0, 0)) ∧ (¬ (1 : Int) = (S h0 0) → zsh ((2, f), S, L, P) h0 = (1, 11) ∧ (R32 (S h0 0) ∧ ((¬ (S h0 0) = 0 → Q (some (vi 0)) ((2, f), S, L, P)) ∧ ((S h0 0) = 0 → Q (some (vi 1)) ((2, f), S, L, P))))))))) ∧ (c_6 (fcX (cx S q_6) p_6) = false → (zsh ((2, f), S, L, P) h0 = (1, 11) ∧ (R32 (S h0 0) ∧ (((0 : Int) = (S h0 0) → zz_J zpX13_holds_11 (zz_ret Q X 0 0) 2 [some (vr h0), some (vr 103), some (vi (x2 + 1))] [] ((2, f), S, L, P) (0, 0)) ∧ (¬ (0 : Int) = (S h0 0) → zsh ((2, f), S, L, P) h0 = (1, 11) ∧ (R32 (S h0 0) ∧ ((¬ (S h0 0) = 0 → Q (some (vi 0)) ((2, f), S, L, P)) ∧ ((S h0 0) = 0 → Q (some (vi 1)) ((2, f), S, L, P))))))))))) ∨ ((zsh ((2, f), S, L, P) x_4 = (1, 13) ∨ zsh ((2, f), S, L, P) x_4 = (17, 13)) ∧ (0 + 0 ≤ 0 ∧ 0 + 0 ≤ 0) ∧ (∃ q_7 p_7 : Nat, (2000 ≤ x_4 ∧ f x_4 = (1, 13) ∧ (S x_4 0 = 0 ∨ S x_4 0 = 1)) ∧ scnI S P q_7 p_7 ∧ ((if S x_4 0 = 1 then cx S q_7 2 = (p_7 : Int) else cx S q_7 6 = 1) → (zsh ((2, f), S, L, P) h0 = (1, 11) ∧ (R32 (S h0 0) ∧ (((1 : Int) = (S h0 0) → zz_J zpX13_holds_11 (zz_ret Q X 0 0) 2 [some (vr h0), some (vr 103), some (vi (x2 + 1))] [] ((2, f), S, L, P) (0, 0)) ∧ (¬ (1 : Int) = (S h0 0) → zsh ((2, f), S, L, P) h0 = (1, 11) ∧ (R32 (S h0 0) ∧ ((¬ (S h0 0) = 0 → Q (some (vi 0)) ((2, f), S, L, P)) ∧ ((S h0 0) = 0 → Q (some (vi 1)) ((2, f), S, L, P))))))))) ∧ (¬ (if S x_4 0 = 1 then cx S q_7 2 = (p_7 : Int) else cx S q_7 6 = 1) → (zsh ((2, f), S, L, P) h0 = (1, 11) ∧ (R32 (S h0 0) ∧ (((0 : Int) = (S h0 0) → zz_J zpX13_holds_11 (zz_ret Q X 0 0) 2 [some (vr h0), some (vr 103), some (vi (x2 + 1))] [] ((2, f), S, L, P) (0, 0)) ∧ (¬ (0 : Int) = (S h0 0) → zsh ((2, f), S, L, P) h0 = (1, 11) ∧ (R32 (S h0 0) ∧ ((¬ (S h0 0) = 0 → Q (some (vi 0)) ((2, f), S, L, P)) ∧ ((S h0 0) = 0 → Q (some (vi 1)) ((2, f), S, L, P))))))))))) ∨ ((zsh ((2, f), S, L, P) x_4 = (1, 16) ∨ zsh ((2, f), S, L, P) x_4 = (17, 16)) ∧ (0 + 0 ≤ 0 ∧ 0 + 0 ≤ 0) ∧ (∃ (g_8 k_8 : Fc → Int) (q_8 p_8 a_8 b_8 lo_8 hi_8 : Nat), (2000 ≤ x_4 ∧ f x_4 = (1, 16) ∧ P x_4 0 = some a_8 ∧ P x_4 1 = some b_8) ∧ SuT lo_8 hi_8 f S P a_8 g_8 ∧ SuT lo_8 hi_8 f S P b_8 k_8 ∧ scnI S P q_8 p_8 ∧ R32 (g_8 (fcX (cx S q_8) p_8)) ∧ R32 (k_8 (fcX (cx S q_8) p_8)) ∧ (g_8 (fcX (cx S q_8) p_8) < k_8 (fcX (cx S q_8) p_8) → (zsh ((2, f), S, L, P) h0 = (1, 11) ∧ (R32 (S h0 0) ∧ (((1 : Int) = (S h0 0) → zz_J zpX13_holds_11 (zz_ret Q X 0 0) 2 [some (vr h0), some (vr 103), some (vi (x2 + 1))] [] ((2, f), S, L, P) (0, 0)) ∧ (¬ (1 : Int) = (S h0 0) → zsh ((2, f), S, L, P) h0 = (1, 11) ∧ (R32 (S h0 0) ∧ ((¬ (S h0 0) = 0 → Q (some (vi 0)) ((2, f), S, L, P)) ∧ ((S h0 0) = 0 → Q (some (vi 1)) ((2, f), S, L, P))))))))) ∧ (¬ g_8 (fcX (cx S q_8) p_8) < k_8 (fcX (cx S q_8) p_8) → (zsh ((2, f), S, L, P) h0 = (1, 11) ∧ (R32 (S h0 0) ∧ (((0 : Int) = (S h0 0) → zz_J zpX13_holds_11 (zz_ret Q X 0 0) 2 [some (vr h0), some (vr 103), some (vi (x2 + 1))] [] ((2, f), S, L, P) (0, 0)) ∧ (¬ (0 : Int) = (S h0 0) → zsh ((2, f), S, L, P) h0 = (1, 11) ∧ (R32 (S h0 0) ∧ ((¬ (S h0 0) = 0 → Q (some (vi 0)) ((2, f), S, L, P)) ∧ ((S h0 0) = 0 → Q (some (vi 1)) ((2, f), S, L, P))))))))))))))) ∧ (zpt ((2, f), S, L, P) h0 1 = none → False ∧ False))))))) ∧ (zpt ((2, f), S, L, P) h0 1 = none → False ∧ False)) : zz_J zpX13_holds_11 (zz_ret Q X 0 0) 2 [some (vr h0), some (vr 103), some (vi x2)] [] ((2, f), S, L, P) (0, 0) := zz_J.go [(2, [])] 400 h

theorem zmX14_holds_11 (l : Launch) (hl : l.stackTraces = false) : mm_Spec l yX14_holds (ws_ yX14_holds cX14_holds 2 (some .boolean)) (mm_rm 16 0 0) (zE zX14_holds_11) := by
  refine zz_Met.J hl (by decide) (fun C G hnh => ztX14_holds_11 G hnh) ?_
  rintro as ⟨⟨t_, f⟩, S, L, P⟩ Q X h
  unfold zX14_holds_11 at h
  split at h
  rotate_left
  · exact h.elim
  rename_i h_ s
  obtain ⟨e1_, e2_, h⟩ := mm_and2 h (fun q => q)
  cases mm_beq e1_
  cases mm_beq e2_
  try dsimp only at h
  refine ⟨rfl, ?_⟩
  obtain ⟨c, q, p, lo, hi, ⟨q1, q2, a, g, q3, q4, rfl⟩, hs, ha, hb⟩ := h
  have hz : zsh ((2, f), S, L, P) h_ = (1, 12) := (zsh_hi q1.le).trans q2
  have hx : zpt ((2, f), S, L, P) h_ 0 = some a := (zpt_hi q1.le).trans q3
  have ha' : g (fcX (cx S q) p) = true → Q (some (vi 0)) ((2, f), S, L, P) := fun e => hb (by show (!g _) = false; rw [e]; rfl)
  have hb' : g (fcX (cx S q) p) = false → Q (some (vi 1)) ((2, f), S, L, P) := fun e => ha (by show (!g _) = true; rw [e]; rfl)
  refine zwX14_holds_11_0 (q_go hz hx ?_)
  first | exact le_or q4 hs ha' hb' | exact co_or q4 hs ha' hb'
theorem zmX13_holds_11 (l : Launch) (hl : l.stackTraces = false) : mm_Spec l yX13_holds (ws_ yX13_holds cX13_holds 3 (some .boolean)) (mm_rm 16 0 0) (zE zX13_holds_11) := by
  refine zz_Met.J hl (by decide) (fun C G hnh => ztX13_holds_11 G hnh) ?_
  rintro as ⟨⟨t_, f⟩, S, L, P⟩ Q X h
  unfold zX13_holds_11 at h
  split at h
  rotate_left
  · exact h.elim
  rename_i h_ s
  obtain ⟨e1_, e2_, h⟩ := mm_and2 h (fun q => q)
  cases mm_beq e1_
  cases mm_beq e2_
  try dsimp only at h
  refine ⟨rfl, ?_⟩
  obtain ⟨c, q, p, lo, hi0, ⟨q1, q2, all, a, l, cs, q3, q4, ⟨ha2, hfa, hsz, hlen, hel⟩, q6, q7, rfl⟩, hs, ha, hb⟩ := h
  have hz : zsh ((2, f), S, L, P) h_ = (1, 11) := (zsh_hi q1.le).trans q2
  have hx : zpt ((2, f), S, L, P) h_ 1 = some a := (zpt_hi q1.le).trans q4
  replace ha2 := ha2.le
  have hza : zsh ((2, f), S, L, P) a = (1, 17) := (zsh_hi ha2).trans hfa
  have s01 : S h_ 0 = 0 ∨ S h_ 0 = 1 := by rw [q3]; cases all <;> simp
  have sR : R32 (S h_ 0) := by rcases s01 with e | e <;> rw [e] <;> decide
  have ret : alB all cs (fcX (cx S q) p) = all → Q (some (vi (S h_ 0))) ((2, f), S, L, P) := by
    rw [q3]
    cases all with
    | true => exact fun e => ha e
    | false => exact fun e => hb e
  have t2 : ∀ (m i : Nat), i + m = l.length → (∀ (j : Nat) (g : Fc → Bool), j < i → cs[j]? = some g → g (fcX (cx S q) p) = all) → zz_J zpX13_holds_11 (zz_ret Q X 0 0) 2 [some (vr h_), some (vr 103), some (vi (i : Int))] [] ((2, f), S, L, P) (0, 0) := by
    intro m
    induction m with
    | zero =>
      intro i hi hal
      refine zwX13_holds_11_2 (q_go hz hx ⟨Or.inl hza, hza, by omega, by show R32 (S a 2); rw [hsz]; omega, fun _ => ⟨hz, s01, ret (alB_a fun j g hg => hal j g ?_ hg)⟩, fun c => absurd (show S a 2 ≤ (i : Int) by rw [hsz]; omega) c⟩)
      have : j < cs.length := by
        apply Decidable.byContradiction
        intro hc
        rw [List.getElem?_eq_none (by omega)] at hg
        cases hg
      omega
    | succ m ih =>
      intro i hi hal
      have il : i < l.length := by omega
      have ig : i < cs.length := by omega
      obtain ⟨e, n, he2, hPe, hfe, hn, hln, hPi⟩ := hel (fun c => by rw [c] at il; exact absurd il (by simp))
      replace he2 := he2.le
      have hlx : l[i]? = some l[i] := List.getElem?_eq_getElem il
      have hgx : cs[i]? = some cs[i] := List.getElem?_eq_getElem ig
      have hcx := q7 i _ _ hlx hgx
      have AB : ∀ v : Int, (v = bif cs[i] (fcX (cx S q) p) then 1 else 0) → (zsh ((2, f), S, L, P) h_ = (1, 11) ∧ (R32 (S h_ 0) ∧ ((v = (S h_ 0) → zz_J zpX13_holds_11 (zz_ret Q X 0 0) 2 [some (vr h_), some (vr 103), some (vi ((i : Int) + 1))] [] ((2, f), S, L, P) (0, 0)) ∧ (¬ v = (S h_ 0) → zsh ((2, f), S, L, P) h_ = (1, 11) ∧ (R32 (S h_ 0) ∧ ((¬ (S h_ 0) = 0 → Q (some (vi 0)) ((2, f), S, L, P)) ∧ ((S h_ 0) = 0 → Q (some (vi 1)) ((2, f), S, L, P)))))))) := by
        intro v hv
        refine ⟨hz, sR, fun c => ?_, fun c => ⟨hz, sR, ?_⟩⟩
        · refine ih (i + 1) (by omega) (fun j g hj hg => ?_)
          by_cases ej : j = i
          · rw [ej, hgx] at hg
            cases hg
            rw [hv, q3] at c
            revert c
            cases cs[i] (fcX (cx S q) p) <;> cases all <;> simp
          · exact hal j g (by omega) hg
        · have hne : cs[i] (fcX (cx S q) p) ≠ all := by
            rw [hv, q3] at c
            intro e2
            rw [e2] at c
            exact c rfl
          have e2 := alB_t hgx hne
          rw [q3]
          revert e2 ha hb
          cases all with
          | true => exact fun ha hb e2 => ⟨fun _ => hb e2, fun c => absurd c (by decide)⟩
          | false => exact fun ha hb e2 => ⟨fun c => absurd rfl c, fun _ => ha e2⟩
      refine zwX13_holds_11_2 (q_go hz hx ⟨Or.inl hza, hza, by omega, by show R32 (S a 2); rw [hsz]; omega, fun c => absurd (show S a 2 ≤ (i : Int) from c) (by rw [hsz]; omega), fun _ => ⟨hz, ?_⟩⟩)
      refine (q_go hz hx ⟨Or.inl hza, hza, e, n, l[i], (zpt_hi ha2).trans hPe, (zsh_hi he2).trans hfe, hn, by omega, ⟨by show (i : Int) < S a 2; rw [hsz]; omega, by show S a 2 < 2147483647; rw [hsz]; omega⟩, ?_, coT_sh hcx, ?_⟩ : _ ∧ _ ∧ _).2
      · rw [Int.toNat_natCast]
        exact (zpt_hi he2).trans (hPi i _ hlx)
      · have A1 := fun e : cs[i] (fcX (cx S q) p) = true => AB 1 (by rw [e]; rfl)
        have A0 := fun e : cs[i] (fcX (cx S q) p) = false => AB 0 (by rw [e]; rfl)
        first | exact le_or hcx hs A1 A0 | exact co_or hcx hs A1 A0
  exact zwX13_holds_11_0 (t2 l.length 0 (by omega) (fun j g hj => absurd hj (Nat.not_lt_zero _)))
def zX14_holds_12 : zz_Sp := fun as M Q X => match as with
  | [.inr (.inr (some h_)), .inr (.inr (some s))] => bif Nat.beq M.1.1 2 && Nat.beq s 103 then (∃ (c_ : Fc → Bool) (q_ p_ lo_ hi_ : Nat), noT (coT lo_ hi_ M.1.2 M.2.1 M.2.2.2 11) lo_ hi_ M.1.2 M.2.2.2 h_ c_ ∧ sciB M.2.1 M.2.2.2 q_ p_ ∧ (c_ (fcX (cx M.2.1 q_) p_) = true → Q (some (vi 1)) ((2, M.1.2), M.2.1, M.2.2.1, M.2.2.2)) ∧ (c_ (fcX (cx M.2.1 q_) p_) = false → Q (some (vi 0)) ((2, M.1.2), M.2.1, M.2.2.1, M.2.2.2))) else False
  | _ => False

def zpX14_holds_12 : zz_P := [(0, zo_ald 1 0), (1, zo_getq 4 12 0), (4, zo_ald 5 1), (5, zo_or (zo_cfF (mm_rm 17 0 0) 10 2 11 0 0 zX13_holds_11) (zo_or (zo_cfF (mm_rm 17 0 0) 10 2 12 0 0 zX14_holds_11) (zo_or (zo_cfF (mm_rm 17 0 0) 10 2 13 0 0 zX15_holds) (zo_cfF (mm_rm 17 0 0) 10 2 16 0 0 zX19_holds)))), (10, zo_zifne 13 17), (13, zo_c 14 (vi 1)), (14, zo_goto 18), (17, zo_c 18 (vi 0)), (18, zo_zret true)]
theorem ztX14_holds_12 {C : mm_C} (G : mm_G C RX14 cX14_holds (some .boolean) 2 (mm_rm 17 0 0)) (hnh : mm_nh C) : zz_OKs C zpX14_holds_12 :=
  ⟨zz_of (ok_aload_n G dX14_holds_0 rfl rfl) (z_ald _ _),
   zz_of (ok_get G (nx := 4) (ci := 12) (kd := 2) (k := 0) (RX14, TX14, 1) rfl (by decide) rfl q1187 dX14_holds_1 rfl) (z_getq _ _ _),
   zz_of (ok_aload_n G dX14_holds_4 rfl rfl) (z_ald _ _),
   zz_or (zz_of (ok_calfF G (hnh.q 5) (zmX13_holds_11 _ G.hst) (RX13, TX13, 2) rfl q1452 q1456 q1454 q114 q1458 (List.Mem.head _) (by decide +kernel) ⟨Nat.le_of_ble_eq_true rfl, Nat.le_of_ble_eq_true rfl⟩ dX14_holds_5 rfl) (z_cfF _ _ _ _ _ _ _)) (zz_or (zz_of (ok_calfF G (hnh.q 5) (zmX14_holds_11 _ G.hst) (RX14, TX14, 1) rfl q1452 q1448 q1446 q115 q1450 (List.Mem.tail _ (List.Mem.head _)) (by decide +kernel) ⟨Nat.le_of_ble_eq_true rfl, Nat.le_of_ble_eq_true rfl⟩ dX14_holds_5 rfl) (z_cfF _ _ _ _ _ _ _)) (zz_or (zz_of (ok_calfF G (hnh.q 5) (zmX15_holds _ G.hst) (RX15, TX15, 1) rfl q1452 q1411 q1409 q116 q1413 (List.Mem.tail _ (List.Mem.tail _ (List.Mem.head _))) (by decide +kernel) ⟨Nat.le_of_ble_eq_true rfl, Nat.le_of_ble_eq_true rfl⟩ dX14_holds_5 rfl) (z_cfF _ _ _ _ _ _ _)) (zz_of (ok_calfF G (hnh.q 5) (zmX19_holds _ G.hst) (RX19, TX19, 2) rfl q1452 q1421 q1419 q121 q1423 (List.Mem.tail _ (List.Mem.tail _ (List.Mem.tail _ (List.Mem.head _)))) (by decide +kernel) ⟨Nat.le_of_ble_eq_true rfl, Nat.le_of_ble_eq_true rfl⟩ dX14_holds_5 rfl) (z_cfF _ _ _ _ _ _ _)))),
   zz_of (ok_ifne G dX14_holds_10 rfl rfl) (z_zifne _ _),
   zz_of (ok_iconst G (v := 1) dX14_holds_13 (by decide) rfl) (z_cn 14 1),
   zz_of (ok_goto G dX14_holds_14 rfl) (z_goto _),
   zz_of (ok_iconst G (v := 0) dX14_holds_17 (by decide) rfl) (z_cn 18 0),
   zz_of (ok_zret G dX14_holds_18) (z_zret _), trivial⟩

theorem zwX14_holds_12_0 {Q : Option zv → zz_M → Prop} {X : Nat → zz_M → Prop} {f : Nat → Nat × Nat} {S L : Nat → Nat → Int} {P : Nat → Nat → Option Nat} {h_ : Nat} (h : zsh ((2, f), S, L, P) h_ = (1, 12) ∧ (∀ b1 : Nat, zpt ((2, f), S, L, P) h_ 0 = some b1 → ((zsh ((2, f), S, L, P) b1 = (1, 11) ∨ zsh ((2, f), S, L, P) b1 = (17, 11)) ∧ (0 + 0 ≤ 0 ∧ 0 + 0 ≤ 0) ∧ (∃ (c_2 : Fc → Bool) (q_2 p_2 lo_2 hi_2 : Nat), roT (coT lo_2 hi_2 f S P 10) lo_2 hi_2 f S P b1 c_2 ∧ sciB S P q_2 p_2 ∧ (c_2 (fcX (cx S q_2) p_2) = true → (Q (some (vi 0)) ((2, f), S, L, P))) ∧ (c_2 (fcX (cx S q_2) p_2) = false → (Q (some (vi 1)) ((2, f), S, L, P))))) ∨ ((zsh ((2, f), S, L, P) b1 = (1, 12) ∨ zsh ((2, f), S, L, P) b1 = (17, 12)) ∧ (0 + 0 ≤ 0 ∧ 0 + 0 ≤ 0) ∧ (∃ (c_3 : Fc → Bool) (q_3 p_3 lo_3 hi_3 : Nat), noT (coT lo_3 hi_3 f S P 10) lo_3 hi_3 f P b1 c_3 ∧ sciB S P q_3 p_3 ∧ (c_3 (fcX (cx S q_3) p_3) = true → (Q (some (vi 0)) ((2, f), S, L, P))) ∧ (c_3 (fcX (cx S q_3) p_3) = false → (Q (some (vi 1)) ((2, f), S, L, P))))) ∨ ((zsh ((2, f), S, L, P) b1 = (1, 13) ∨ zsh ((2, f), S, L, P) b1 = (17, 13)) ∧ (0 + 0 ≤ 0 ∧ 0 + 0 ≤ 0) ∧ (∃ q_4 p_4 : Nat, (2000 ≤ b1 ∧ f b1 = (1, 13) ∧ (S b1 0 = 0 ∨ S b1 0 = 1)) ∧ scnI S P q_4 p_4 ∧ ((if S b1 0 = 1 then cx S q_4 2 = (p_4 : Int) else cx S q_4 6 = 1) → (Q (some (vi 0)) ((2, f), S, L, P))) ∧ (¬ (if S b1 0 = 1 then cx S q_4 2 = (p_4 : Int) else cx S q_4 6 = 1) → (Q (some (vi 1)) ((2, f), S, L, P))))) ∨ ((zsh ((2, f), S, L, P) b1 = (1, 16) ∨ zsh ((2, f), S, L, P) b1 = (17, 16)) ∧ (0 + 0 ≤ 0 ∧ 0 + 0 ≤ 0) ∧ (∃ (g_5 k_5 : Fc → Int) (q_5 p_5 a_5 b_5 lo_5 hi_5 : Nat), (2000 ≤ b1 ∧ f b1 = (1, 16) ∧ P b1 0 = some a_5 ∧ P b1 1 = some b_5) ∧ SuT lo_5 hi_5 f S P a_5 g_5 ∧ SuT lo_5 hi_5 f S P b_5 k_5 ∧ scnI S P q_5 p_5 ∧ R32 (g_5 (fcX (cx S q_5) p_5)) ∧ R32 (k_5 (fcX (cx S q_5) p_5)) ∧ (g_5 (fcX (cx S q_5) p_5) < k_5 (fcX (cx S q_5) p_5) → (Q (some (vi 0)) ((2, f), S, L, P))) ∧ (¬ g_5 (fcX (cx S q_5) p_5) < k_5 (fcX (cx S q_5) p_5) → (Q (some (vi 1)) ((2, f), S, L, P)))))) ∧ (zpt ((2, f), S, L, P) h_ 0 = none → (False ∧ (0 + 0 ≤ 0 ∧ 0 + 0 ≤ 0) ∧ False) ∨ (False ∧ (0 + 0 ≤ 0 ∧ 0 + 0 ≤ 0) ∧ False) ∨ (False ∧ (0 + 0 ≤ 0 ∧ 0 + 0 ≤ 0) ∧ False) ∨ (False ∧ (0 + 0 ≤ 0 ∧ 0 + 0 ≤ 0) ∧ False))) : zz_J zpX14_holds_12 (zz_ret Q X 0 0) 0 [some (vr h_), some (vr 103)] [] ((2, f), S, L, P) (0, 0) := zz_J.go [] 400 h

def zX13_holds_12 : zz_Sp := fun as M Q X => match as with
  | [.inr (.inr (some h_)), .inr (.inr (some s))] => bif Nat.beq M.1.1 2 && Nat.beq s 103 then (∃ (c_ : Fc → Bool) (q_ p_ lo_ hi_ : Nat), roT (coT lo_ hi_ M.1.2 M.2.1 M.2.2.2 11) lo_ hi_ M.1.2 M.2.1 M.2.2.2 h_ c_ ∧ sciB M.2.1 M.2.2.2 q_ p_ ∧ (c_ (fcX (cx M.2.1 q_) p_) = true → Q (some (vi 1)) ((2, M.1.2), M.2.1, M.2.2.1, M.2.2.2)) ∧ (c_ (fcX (cx M.2.1 q_) p_) = false → Q (some (vi 0)) ((2, M.1.2), M.2.1, M.2.2.1, M.2.2.2))) else False
  | _ => False

def zpX13_holds_12 : zz_P := [(0, zo_c 1 (vi 0)), (1, zo_ist 2 2), (2, zo_ild 3 2), (3, zo_ald 4 0), (4, zo_getq 7 11 1), (7, zo_callvp 10 1 17 zJ2_sizeh), (10, zo_cge false false 13 56), (13, zo_ald 14 0), (14, zo_getq 17 11 1), (17, zo_ild 18 2), (18, zo_callvp 21 2 17 zJ2_get), (21, zo_cast 24 [11, 12, 13, 16]), (24, zo_ald 25 1), (25, zo_or (zo_cfF (mm_rm 17 0 0) 30 2 11 0 0 zX13_holds_11) (zo_or (zo_cfF (mm_rm 17 0 0) 30 2 12 0 0 zX14_holds_11) (zo_or (zo_cfF (mm_rm 17 0 0) 30 2 13 0 0 zX15_holds) (zo_cfF (mm_rm 17 0 0) 30 2 16 0 0 zX19_holds)))), (30, zo_ald 31 0), (31, zo_getp 34 11 0 0), (34, zo_ceq true false 37 50), (37, zo_ald 38 0), (38, zo_getp 41 11 0 0), (41, zo_ifne false 44 48), (44, zo_c 45 (vi 1)), (45, zo_goto 49), (48, zo_c 49 (vi 0)), (49, zo_zret true), (50, zo_inc 53 2 1), (53, zo_goto 2), (56, zo_ald 57 0), (57, zo_getp 60 11 0 0), (60, zo_zret false)]
theorem ztX13_holds_12 {C : mm_C} (G : mm_G C RX13 cX13_holds (some .boolean) 3 (mm_rm 17 0 0)) (hnh : mm_nh C) : zz_OKs C zpX13_holds_12 :=
  ⟨zz_of (ok_iconst G (v := 0) dX13_holds_0 (by decide) rfl) (z_cn 1 0),
   zz_of (ok_istore_n G dX13_holds_1 rfl rfl (by decide)) (z_ist _ _),
   zz_of (ok_iload_n G dX13_holds_2 rfl rfl) (z_ild _ _),
   zz_of (ok_aload_n G dX13_holds_3 rfl rfl) (z_ald _ _),
   zz_of (ok_get G (nx := 7) (ci := 11) (kd := 2) (k := 1) (RX13, TX13, 2) rfl (by decide) rfl q1157 dX13_holds_4 rfl) (z_getq _ _ _),
   zz_of (ok_callv G hnh (zmJ2_sizeh _ G.hst) rfl rfl (RJ2, TJ2, 3) rfl q1459 q592 q593 q86 q594 (by decide +kernel) ⟨by decide, by decide⟩ dX13_holds_7 rfl) (z_callvp _ _ _ _),
   zz_of (ok_cge G dX13_holds_10 rfl rfl) (z_cge _ _ _ _),
   zz_of (ok_aload_n G dX13_holds_13 rfl rfl) (z_ald _ _),
   zz_of (ok_get G (nx := 17) (ci := 11) (kd := 2) (k := 1) (RX13, TX13, 2) rfl (by decide) rfl q1157 dX13_holds_14 rfl) (z_getq _ _ _),
   zz_of (ok_iload_n G dX13_holds_17 rfl rfl) (z_ild _ _),
   zz_of (ok_callv G hnh (zmJ2_get _ G.hst) rfl rfl (RJ2, TJ2, 3) rfl q1460 q1382 q1383 q86 q1384 (by decide +kernel) ⟨by decide, by decide⟩ dX13_holds_18 rfl) (z_callvp _ _ _ _),
   zz_of (ok_cast G (l := [11, 12, 13, 16]) (fun ci h r e => by
      simp only [List.mem_cons, List.not_mem_nil, or_false] at h
      rcases h with rfl | rfl | rfl | rfl <;> cases e <;> first | exact Or.inl rfl | exact Or.inr q1453 | exact Or.inr q1445 | exact Or.inr q1408 | exact Or.inr q1418) q1461 dX13_holds_21 rfl) (z_cast _ _),
   zz_of (ok_aload_n G dX13_holds_24 rfl rfl) (z_ald _ _),
   zz_or (zz_of (ok_calfF G (hnh.q 25) (zmX13_holds_11 _ G.hst) (RX13, TX13, 2) rfl q1463 q1456 q1454 q114 q1458 (List.Mem.head _) (by decide +kernel) ⟨Nat.le_of_ble_eq_true rfl, Nat.le_of_ble_eq_true rfl⟩ dX13_holds_25 rfl) (z_cfF _ _ _ _ _ _ _)) (zz_or (zz_of (ok_calfF G (hnh.q 25) (zmX14_holds_11 _ G.hst) (RX14, TX14, 1) rfl q1463 q1448 q1446 q115 q1450 (List.Mem.tail _ (List.Mem.head _)) (by decide +kernel) ⟨Nat.le_of_ble_eq_true rfl, Nat.le_of_ble_eq_true rfl⟩ dX13_holds_25 rfl) (z_cfF _ _ _ _ _ _ _)) (zz_or (zz_of (ok_calfF G (hnh.q 25) (zmX15_holds _ G.hst) (RX15, TX15, 1) rfl q1463 q1411 q1409 q116 q1413 (List.Mem.tail _ (List.Mem.tail _ (List.Mem.head _))) (by decide +kernel) ⟨Nat.le_of_ble_eq_true rfl, Nat.le_of_ble_eq_true rfl⟩ dX13_holds_25 rfl) (z_cfF _ _ _ _ _ _ _)) (zz_of (ok_calfF G (hnh.q 25) (zmX19_holds _ G.hst) (RX19, TX19, 2) rfl q1463 q1421 q1419 q121 q1423 (List.Mem.tail _ (List.Mem.tail _ (List.Mem.tail _ (List.Mem.head _)))) (by decide +kernel) ⟨Nat.le_of_ble_eq_true rfl, Nat.le_of_ble_eq_true rfl⟩ dX13_holds_25 rfl) (z_cfF _ _ _ _ _ _ _)))),
   zz_of (ok_aload_n G dX13_holds_30 rfl rfl) (z_ald _ _),
   zz_of (ok_get G (nx := 34) (ci := 11) (kd := 0) (k := 0) (RX13, TX13, 2) rfl (by decide) rfl q1156 dX13_holds_31 rfl) (z_getp _ _ _ _),
   zz_of (ok_ceq G dX13_holds_34 rfl rfl) (z_ceq _ _ _ _),
   zz_of (ok_aload_n G dX13_holds_37 rfl rfl) (z_ald _ _),
   zz_of (ok_get G (nx := 41) (ci := 11) (kd := 0) (k := 0) (RX13, TX13, 2) rfl (by decide) rfl q1156 dX13_holds_38 rfl) (z_getp _ _ _ _),
   zz_of (ok_ifne G dX13_holds_41 rfl rfl) (z_ifne _ _ _),
   zz_of (ok_iconst G (v := 1) dX13_holds_44 (by decide) rfl) (z_cn 45 1),
   zz_of (ok_goto G dX13_holds_45 rfl) (z_goto _),
   zz_of (ok_iconst G (v := 0) dX13_holds_48 (by decide) rfl) (z_cn 49 0),
   zz_of (ok_zret G dX13_holds_49) (z_zret _),
   zz_of (ok_iinc G (v := 1) dX13_holds_50 (by decide) rfl (by decide)) (z_incn 53 2 1),
   zz_of (ok_goto G dX13_holds_53 rfl) (z_goto _),
   zz_of (ok_aload_n G dX13_holds_56 rfl rfl) (z_ald _ _),
   zz_of (ok_get G (nx := 60) (ci := 11) (kd := 0) (k := 0) (RX13, TX13, 2) rfl (by decide) rfl q1156 dX13_holds_57 rfl) (z_getp _ _ _ _),
   zz_of (ok_zret G dX13_holds_60) (z_zret _), trivial⟩

theorem zwX13_holds_12_0 {Q : Option zv → zz_M → Prop} {X : Nat → zz_M → Prop} {f : Nat → Nat × Nat} {S L : Nat → Nat → Int} {P : Nat → Nat → Option Nat} {h_ : Nat} (h : zz_J zpX13_holds_12 (zz_ret Q X 0 0) 2 [some (vr h_), some (vr 103), some (vi 0)] [] ((2, f), S, L, P) (0, 0)) : zz_J zpX13_holds_12 (zz_ret Q X 0 0) 0 [some (vr h_), some (vr 103), none] [] ((2, f), S, L, P) (0, 0) := zz_J.go [(2, [])] 400 h
theorem zwX13_holds_12_2 {Q : Option zv → zz_M → Prop} {X : Nat → zz_M → Prop} {f : Nat → Nat × Nat} {S L : Nat → Nat → Int} {P : Nat → Nat → Option Nat} {h0 : Nat} {x2 : Int} (h : zsh ((2, f), S, L, P) h0 = (1, 11) ∧ (∀ b1 : Nat, zpt ((2, f), S, L, P) h0 1 = some b1 → (zsh ((2, f), S, L, P) b1 = (1, 17) ∨ zsh ((2, f), S, L, P) b1 = (17, 17)) ∧ (zsh ((2, f), S, L, P) b1 = (1, 17) ∧ (R32 x2 ∧ (R32 (((2, f), S, L, P).2.1 b1 2) ∧ (((((2, f), S, L, P).2.1 b1 2) ≤ x2 → zsh ((2, f), S, L, P) h0 = (1, 11) ∧ (((S h0 0) = 0 ∨ (S h0 0) = 1) ∧ (Q (some (vi (S h0 0))) ((2, f), S, L, P)))) ∧ (¬ (((2, f), S, L, P).2.1 b1 2) ≤ x2 → zsh ((2, f), S, L, P) h0 = (1, 11) ∧ (∀ b3 : Nat, zpt ((2, f), S, L, P) h0 1 = some b3 → (zsh ((2, f), S, L, P) b3 = (1, 17) ∨ zsh ((2, f), S, L, P) b3 = (17, 17)) ∧ (zsh ((2, f), S, L, P) b3 = (1, 17) ∧ ∃ (e_4 n_4 x_4 : Nat), zpt ((2, f), S, L, P) b3 1 = some e_4 ∧ zsh ((2, f), S, L, P) e_4 = (7, n_4) ∧ n_4 ≤ 2147483647 ∧ (0 ≤ x2 ∧ x2 < (n_4 : Int)) ∧ (x2 < ((2, f), S, L, P).2.1 b3 2 ∧ ((2, f), S, L, P).2.1 b3 2 < 2147483647) ∧ zpt ((2, f), S, L, P) e_4 x2.toNat = some x_4 ∧ ((∃ ci : Nat, (zsh ((2, f), S, L, P) x_4 = (1, ci) ∨ zsh ((2, f), S, L, P) x_4 = (17, ci)) ∧ mm_mem [11, 12, 13, 16] ci = true) ∧ (((zsh ((2, f), S, L, P) x_4 = (1, 11) ∨ zsh ((2, f), S, L, P) x_4 = (17, 11)) ∧ (0 + 0 ≤ 0 ∧ 0 + 0 ≤ 0) ∧ (∃ (c_5 : Fc → Bool) (q_5 p_5 lo_5 hi_5 : Nat), roT (coT lo_5 hi_5 f S P 10) lo_5 hi_5 f S P x_4 c_5 ∧ sciB S P q_5 p_5 ∧ (c_5 (fcX (cx S q_5) p_5) = true → (zsh ((2, f), S, L, P) h0 = (1, 11) ∧ (R32 (S h0 0) ∧ (((1 : Int) = (S h0 0) → zz_J zpX13_holds_12 (zz_ret Q X 0 0) 2 [some (vr h0), some (vr 103), some (vi (x2 + 1))] [] ((2, f), S, L, P) (0, 0)) ∧ (¬ (1 : Int) = (S h0 0) → zsh ((2, f), S, L, P) h0 = (1, 11) ∧ (R32 (S h0 0) ∧ ((¬ (S h0 0) = 0 → Q (some (vi 0)) ((2, f), S, L, P)) ∧ ((S h0 0) = 0 → Q (some (vi 1)) ((2, f), S, L, P))))))))) ∧ (c_5 (fcX (cx S q_5) p_5) = false → (zsh ((2, f), S, L, P) h0 = (1, 11) ∧ (R32 (S h0 0) ∧ (((0 : Int) = (S h0 0) → zz_J zpX13_holds_12 (zz_ret Q X 0 0) 2 [some (vr h0), some (vr 103), some (vi (x2 + 1))] [] ((2, f), S, L, P) (0, 0)) ∧ (¬ (0 : Int) = (S h0 0) → zsh ((2, f), S, L, P) h0 = (1, 11) ∧ (R32 (S h0 0) ∧ ((¬ (S h0 0) = 0 → Q (some (vi 0)) ((2, f), S, L, P)) ∧ ((S h0 0) = 0 → Q (some (vi 1)) ((2, f), S, L, P))))))))))) ∨ ((zsh ((2, f), S, L, P) x_4 = (1, 12) ∨ zsh ((2, f), S, L, P) x_4 = (17, 12)) ∧ (0 + 0 ≤ 0 ∧ 0 + 0 ≤ 0) ∧ (∃ (c_6 : Fc → Bool) (q_6 p_6 lo_6 hi_6 : Nat), noT (coT lo_6 hi_6 f S P 10) lo_6 hi_6 f P x_4 c_6 ∧ sciB S P q_6 p_6 ∧ (c_6 (fcX (cx S q_6) p_6) = true → (zsh ((2, f), S, L, P) h0 = (1, 11) ∧ (R32 (S h0 0) ∧ (((1 : Int) = (S h0 0) → zz_J zpX13_holds_12 (zz_ret Q X 0 0) 2 [some (vr h0), some (vr 103), some (vi (x2 + 1))] [] ((2, f), S, L, P) (0, 0)) ∧ (¬ (1 : Int) = (S h0 0) → zsh ((2, f), S, L, P) h0 = (1, 11) ∧ (R32 (S h0 0) ∧ ((¬ (S h0 0) = 0 → Q (some (vi 0)) ((2, f), S, L, P)) ∧ ((S h0 0) = 0 → Q (some (vi 1)) ((2, f), S, L, P))))))))) ∧ (c_6 (fcX (cx S q_6) p_6) = false → (zsh ((2, f), S, L, P) h0 = (1, 11) ∧ (R32 (S h0 0) ∧ (((0 : Int) = (S h0 0) → zz_J zpX13_holds_12 (zz_ret Q X 0 0) 2 [some (vr h0), some (vr 103), some (vi (x2 + 1))] [] ((2, f), S, L, P) (0, 0)) ∧ (¬ (0 : Int) = (S h0 0) → zsh ((2, f), S, L, P) h0 = (1, 11) ∧ (R32 (S h0 0) ∧ ((¬ (S h0 0) = 0 → Q (some (vi 0)) ((2, f), S, L, P)) ∧ ((S h0 0) = 0 → Q (some (vi 1)) ((2, f), S, L, P))))))))))) ∨ ((zsh ((2, f), S, L, P) x_4 = (1, 13) ∨ zsh ((2, f), S, L, P) x_4 = (17, 13)) ∧ (0 + 0 ≤ 0 ∧ 0 + 0 ≤ 0) ∧ (∃ q_7 p_7 : Nat, (2000 ≤ x_4 ∧ f x_4 = (1, 13) ∧ (S x_4 0 = 0 ∨ S x_4 0 = 1)) ∧ scnI S P q_7 p_7 ∧ ((if S x_4 0 = 1 then cx S q_7 2 = (p_7 : Int) else cx S q_7 6 = 1) → (zsh ((2, f), S, L, P) h0 = (1, 11) ∧ (R32 (S h0 0) ∧ (((1 : Int) = (S h0 0) → zz_J zpX13_holds_12 (zz_ret Q X 0 0) 2 [some (vr h0), some (vr 103), some (vi (x2 + 1))] [] ((2, f), S, L, P) (0, 0)) ∧ (¬ (1 : Int) = (S h0 0) → zsh ((2, f), S, L, P) h0 = (1, 11) ∧ (R32 (S h0 0) ∧ ((¬ (S h0 0) = 0 → Q (some (vi 0)) ((2, f), S, L, P)) ∧ ((S h0 0) = 0 → Q (some (vi 1)) ((2, f), S, L, P))))))))) ∧ (¬ (if S x_4 0 = 1 then cx S q_7 2 = (p_7 : Int) else cx S q_7 6 = 1) → (zsh ((2, f), S, L, P) h0 = (1, 11) ∧ (R32 (S h0 0) ∧ (((0 : Int) = (S h0 0) → zz_J zpX13_holds_12 (zz_ret Q X 0 0) 2 [some (vr h0), some (vr 103), some (vi (x2 + 1))] [] ((2, f), S, L, P) (0, 0)) ∧ (¬ (0 : Int) = (S h0 0) → zsh ((2, f), S, L, P) h0 = (1, 11) ∧ (R32 (S h0 0) ∧ ((¬ (S h0 0) = 0 → Q (some (vi 0)) ((2, f), S, L, P)) ∧ ((S h0 0) = 0 → Q (some (vi 1)) ((2, f), S, L, P))))))))))) ∨ ((zsh ((2, f), S, L, P) x_4 = (1, 16) ∨ zsh ((2, f), S, L, P) x_4 = (17, 16)) ∧ (0 + 0 ≤ 0 ∧ 0 + 0 ≤ 0) ∧ (∃ (g_8 k_8 : Fc → Int) (q_8 p_8 a_8 b_8 lo_8 hi_8 : Nat), (2000 ≤ x_4 ∧ f x_4 = (1, 16) ∧ P x_4 0 = some a_8 ∧ P x_4 1 = some b_8) ∧ SuT lo_8 hi_8 f S P a_8 g_8 ∧ SuT lo_8 hi_8 f S P b_8 k_8 ∧ scnI S P q_8 p_8 ∧ R32 (g_8 (fcX (cx S q_8) p_8)) ∧ R32 (k_8 (fcX (cx S q_8) p_8)) ∧ (g_8 (fcX (cx S q_8) p_8) < k_8 (fcX (cx S q_8) p_8) → (zsh ((2, f), S, L, P) h0 = (1, 11) ∧ (R32 (S h0 0) ∧ (((1 : Int) = (S h0 0) → zz_J zpX13_holds_12 (zz_ret Q X 0 0) 2 [some (vr h0), some (vr 103), some (vi (x2 + 1))] [] ((2, f), S, L, P) (0, 0)) ∧ (¬ (1 : Int) = (S h0 0) → zsh ((2, f), S, L, P) h0 = (1, 11) ∧ (R32 (S h0 0) ∧ ((¬ (S h0 0) = 0 → Q (some (vi 0)) ((2, f), S, L, P)) ∧ ((S h0 0) = 0 → Q (some (vi 1)) ((2, f), S, L, P))))))))) ∧ (¬ g_8 (fcX (cx S q_8) p_8) < k_8 (fcX (cx S q_8) p_8) → (zsh ((2, f), S, L, P) h0 = (1, 11) ∧ (R32 (S h0 0) ∧ (((0 : Int) = (S h0 0) → zz_J zpX13_holds_12 (zz_ret Q X 0 0) 2 [some (vr h0), some (vr 103), some (vi (x2 + 1))] [] ((2, f), S, L, P) (0, 0)) ∧ (¬ (0 : Int) = (S h0 0) → zsh ((2, f), S, L, P) h0 = (1, 11) ∧ (R32 (S h0 0) ∧ ((¬ (S h0 0) = 0 → Q (some (vi 0)) ((2, f), S, L, P)) ∧ ((S h0 0) = 0 → Q (some (vi 1)) ((2, f), S, L, P))))))))))))))) ∧ (zpt ((2, f), S, L, P) h0 1 = none → False ∧ False))))))) ∧ (zpt ((2, f), S, L, P) h0 1 = none → False ∧ False)) : zz_J zpX13_holds_12 (zz_ret Q X 0 0) 2 [some (vr h0), some (vr 103), some (vi x2)] [] ((2, f), S, L, P) (0, 0) := zz_J.go [(2, [])] 400 h

theorem zmX14_holds_12 (l : Launch) (hl : l.stackTraces = false) : mm_Spec l yX14_holds (ws_ yX14_holds cX14_holds 2 (some .boolean)) (mm_rm 17 0 0) (zE zX14_holds_12) := by
  refine zz_Met.J hl (by decide) (fun C G hnh => ztX14_holds_12 G hnh) ?_
  rintro as ⟨⟨t_, f⟩, S, L, P⟩ Q X h
  unfold zX14_holds_12 at h
  split at h
  rotate_left
  · exact h.elim
  rename_i h_ s
  obtain ⟨e1_, e2_, h⟩ := mm_and2 h (fun q => q)
  cases mm_beq e1_
  cases mm_beq e2_
  try dsimp only at h
  refine ⟨rfl, ?_⟩
  obtain ⟨c, q, p, lo, hi, ⟨q1, q2, a, g, q3, q4, rfl⟩, hs, ha, hb⟩ := h
  have hz : zsh ((2, f), S, L, P) h_ = (1, 12) := (zsh_hi q1.le).trans q2
  have hx : zpt ((2, f), S, L, P) h_ 0 = some a := (zpt_hi q1.le).trans q3
  have ha' : g (fcX (cx S q) p) = true → Q (some (vi 0)) ((2, f), S, L, P) := fun e => hb (by show (!g _) = false; rw [e]; rfl)
  have hb' : g (fcX (cx S q) p) = false → Q (some (vi 1)) ((2, f), S, L, P) := fun e => ha (by show (!g _) = true; rw [e]; rfl)
  refine zwX14_holds_12_0 (q_go hz hx ?_)
  first | exact le_or q4 hs ha' hb' | exact co_or q4 hs ha' hb'
theorem zmX13_holds_12 (l : Launch) (hl : l.stackTraces = false) : mm_Spec l yX13_holds (ws_ yX13_holds cX13_holds 3 (some .boolean)) (mm_rm 17 0 0) (zE zX13_holds_12) := by
  refine zz_Met.J hl (by decide) (fun C G hnh => ztX13_holds_12 G hnh) ?_
  rintro as ⟨⟨t_, f⟩, S, L, P⟩ Q X h
  unfold zX13_holds_12 at h
  split at h
  rotate_left
  · exact h.elim
  rename_i h_ s
  obtain ⟨e1_, e2_, h⟩ := mm_and2 h (fun q => q)
  cases mm_beq e1_
  cases mm_beq e2_
  try dsimp only at h
  refine ⟨rfl, ?_⟩
  obtain ⟨c, q, p, lo, hi0, ⟨q1, q2, all, a, l, cs, q3, q4, ⟨ha2, hfa, hsz, hlen, hel⟩, q6, q7, rfl⟩, hs, ha, hb⟩ := h
  have hz : zsh ((2, f), S, L, P) h_ = (1, 11) := (zsh_hi q1.le).trans q2
  have hx : zpt ((2, f), S, L, P) h_ 1 = some a := (zpt_hi q1.le).trans q4
  replace ha2 := ha2.le
  have hza : zsh ((2, f), S, L, P) a = (1, 17) := (zsh_hi ha2).trans hfa
  have s01 : S h_ 0 = 0 ∨ S h_ 0 = 1 := by rw [q3]; cases all <;> simp
  have sR : R32 (S h_ 0) := by rcases s01 with e | e <;> rw [e] <;> decide
  have ret : alB all cs (fcX (cx S q) p) = all → Q (some (vi (S h_ 0))) ((2, f), S, L, P) := by
    rw [q3]
    cases all with
    | true => exact fun e => ha e
    | false => exact fun e => hb e
  have t2 : ∀ (m i : Nat), i + m = l.length → (∀ (j : Nat) (g : Fc → Bool), j < i → cs[j]? = some g → g (fcX (cx S q) p) = all) → zz_J zpX13_holds_12 (zz_ret Q X 0 0) 2 [some (vr h_), some (vr 103), some (vi (i : Int))] [] ((2, f), S, L, P) (0, 0) := by
    intro m
    induction m with
    | zero =>
      intro i hi hal
      refine zwX13_holds_12_2 (q_go hz hx ⟨Or.inl hza, hza, by omega, by show R32 (S a 2); rw [hsz]; omega, fun _ => ⟨hz, s01, ret (alB_a fun j g hg => hal j g ?_ hg)⟩, fun c => absurd (show S a 2 ≤ (i : Int) by rw [hsz]; omega) c⟩)
      have : j < cs.length := by
        apply Decidable.byContradiction
        intro hc
        rw [List.getElem?_eq_none (by omega)] at hg
        cases hg
      omega
    | succ m ih =>
      intro i hi hal
      have il : i < l.length := by omega
      have ig : i < cs.length := by omega
      obtain ⟨e, n, he2, hPe, hfe, hn, hln, hPi⟩ := hel (fun c => by rw [c] at il; exact absurd il (by simp))
      replace he2 := he2.le
      have hlx : l[i]? = some l[i] := List.getElem?_eq_getElem il
      have hgx : cs[i]? = some cs[i] := List.getElem?_eq_getElem ig
      have hcx := q7 i _ _ hlx hgx
      have AB : ∀ v : Int, (v = bif cs[i] (fcX (cx S q) p) then 1 else 0) → (zsh ((2, f), S, L, P) h_ = (1, 11) ∧ (R32 (S h_ 0) ∧ ((v = (S h_ 0) → zz_J zpX13_holds_12 (zz_ret Q X 0 0) 2 [some (vr h_), some (vr 103), some (vi ((i : Int) + 1))] [] ((2, f), S, L, P) (0, 0)) ∧ (¬ v = (S h_ 0) → zsh ((2, f), S, L, P) h_ = (1, 11) ∧ (R32 (S h_ 0) ∧ ((¬ (S h_ 0) = 0 → Q (some (vi 0)) ((2, f), S, L, P)) ∧ ((S h_ 0) = 0 → Q (some (vi 1)) ((2, f), S, L, P)))))))) := by
        intro v hv
        refine ⟨hz, sR, fun c => ?_, fun c => ⟨hz, sR, ?_⟩⟩
        · refine ih (i + 1) (by omega) (fun j g hj hg => ?_)
          by_cases ej : j = i
          · rw [ej, hgx] at hg
            cases hg
            rw [hv, q3] at c
            revert c
            cases cs[i] (fcX (cx S q) p) <;> cases all <;> simp
          · exact hal j g (by omega) hg
        · have hne : cs[i] (fcX (cx S q) p) ≠ all := by
            rw [hv, q3] at c
            intro e2
            rw [e2] at c
            exact c rfl
          have e2 := alB_t hgx hne
          rw [q3]
          revert e2 ha hb
          cases all with
          | true => exact fun ha hb e2 => ⟨fun _ => hb e2, fun c => absurd c (by decide)⟩
          | false => exact fun ha hb e2 => ⟨fun c => absurd rfl c, fun _ => ha e2⟩
      refine zwX13_holds_12_2 (q_go hz hx ⟨Or.inl hza, hza, by omega, by show R32 (S a 2); rw [hsz]; omega, fun c => absurd (show S a 2 ≤ (i : Int) from c) (by rw [hsz]; omega), fun _ => ⟨hz, ?_⟩⟩)
      refine (q_go hz hx ⟨Or.inl hza, hza, e, n, l[i], (zpt_hi ha2).trans hPe, (zsh_hi he2).trans hfe, hn, by omega, ⟨by show (i : Int) < S a 2; rw [hsz]; omega, by show S a 2 < 2147483647; rw [hsz]; omega⟩, ?_, coT_sh hcx, ?_⟩ : _ ∧ _ ∧ _).2
      · rw [Int.toNat_natCast]
        exact (zpt_hi he2).trans (hPi i _ hlx)
      · have A1 := fun e : cs[i] (fcX (cx S q) p) = true => AB 1 (by rw [e]; rfl)
        have A0 := fun e : cs[i] (fcX (cx S q) p) = false => AB 0 (by rw [e]; rfl)
        first | exact le_or hcx hs A1 A0 | exact co_or hcx hs A1 A0
  exact zwX13_holds_12_0 (t2 l.length 0 (by omega) (fun j g hj => absurd hj (Nat.not_lt_zero _)))
def zX14_holds_13 : zz_Sp := fun as M Q X => match as with
  | [.inr (.inr (some h_)), .inr (.inr (some s))] => bif Nat.beq M.1.1 2 && Nat.beq s 103 then (∃ (c_ : Fc → Bool) (q_ p_ lo_ hi_ : Nat), noT (coT lo_ hi_ M.1.2 M.2.1 M.2.2.2 12) lo_ hi_ M.1.2 M.2.2.2 h_ c_ ∧ sciB M.2.1 M.2.2.2 q_ p_ ∧ (c_ (fcX (cx M.2.1 q_) p_) = true → Q (some (vi 1)) ((2, M.1.2), M.2.1, M.2.2.1, M.2.2.2)) ∧ (c_ (fcX (cx M.2.1 q_) p_) = false → Q (some (vi 0)) ((2, M.1.2), M.2.1, M.2.2.1, M.2.2.2))) else False
  | _ => False

def zpX14_holds_13 : zz_P := [(0, zo_ald 1 0), (1, zo_getq 4 12 0), (4, zo_ald 5 1), (5, zo_or (zo_cfF (mm_rm 18 0 0) 10 2 11 0 0 zX13_holds_12) (zo_or (zo_cfF (mm_rm 18 0 0) 10 2 12 0 0 zX14_holds_12) (zo_or (zo_cfF (mm_rm 18 0 0) 10 2 13 0 0 zX15_holds) (zo_cfF (mm_rm 18 0 0) 10 2 16 0 0 zX19_holds)))), (10, zo_zifne 13 17), (13, zo_c 14 (vi 1)), (14, zo_goto 18), (17, zo_c 18 (vi 0)), (18, zo_zret true)]
theorem ztX14_holds_13 {C : mm_C} (G : mm_G C RX14 cX14_holds (some .boolean) 2 (mm_rm 18 0 0)) (hnh : mm_nh C) : zz_OKs C zpX14_holds_13 :=
  ⟨zz_of (ok_aload_n G dX14_holds_0 rfl rfl) (z_ald _ _),
   zz_of (ok_get G (nx := 4) (ci := 12) (kd := 2) (k := 0) (RX14, TX14, 1) rfl (by decide) rfl q1187 dX14_holds_1 rfl) (z_getq _ _ _),
   zz_of (ok_aload_n G dX14_holds_4 rfl rfl) (z_ald _ _),
   zz_or (zz_of (ok_calfF G (hnh.q 5) (zmX13_holds_12 _ G.hst) (RX13, TX13, 2) rfl q1452 q1456 q1454 q114 q1458 (List.Mem.head _) (by decide +kernel) ⟨Nat.le_of_ble_eq_true rfl, Nat.le_of_ble_eq_true rfl⟩ dX14_holds_5 rfl) (z_cfF _ _ _ _ _ _ _)) (zz_or (zz_of (ok_calfF G (hnh.q 5) (zmX14_holds_12 _ G.hst) (RX14, TX14, 1) rfl q1452 q1448 q1446 q115 q1450 (List.Mem.tail _ (List.Mem.head _)) (by decide +kernel) ⟨Nat.le_of_ble_eq_true rfl, Nat.le_of_ble_eq_true rfl⟩ dX14_holds_5 rfl) (z_cfF _ _ _ _ _ _ _)) (zz_or (zz_of (ok_calfF G (hnh.q 5) (zmX15_holds _ G.hst) (RX15, TX15, 1) rfl q1452 q1411 q1409 q116 q1413 (List.Mem.tail _ (List.Mem.tail _ (List.Mem.head _))) (by decide +kernel) ⟨Nat.le_of_ble_eq_true rfl, Nat.le_of_ble_eq_true rfl⟩ dX14_holds_5 rfl) (z_cfF _ _ _ _ _ _ _)) (zz_of (ok_calfF G (hnh.q 5) (zmX19_holds _ G.hst) (RX19, TX19, 2) rfl q1452 q1421 q1419 q121 q1423 (List.Mem.tail _ (List.Mem.tail _ (List.Mem.tail _ (List.Mem.head _)))) (by decide +kernel) ⟨Nat.le_of_ble_eq_true rfl, Nat.le_of_ble_eq_true rfl⟩ dX14_holds_5 rfl) (z_cfF _ _ _ _ _ _ _)))),
   zz_of (ok_ifne G dX14_holds_10 rfl rfl) (z_zifne _ _),
   zz_of (ok_iconst G (v := 1) dX14_holds_13 (by decide) rfl) (z_cn 14 1),
   zz_of (ok_goto G dX14_holds_14 rfl) (z_goto _),
   zz_of (ok_iconst G (v := 0) dX14_holds_17 (by decide) rfl) (z_cn 18 0),
   zz_of (ok_zret G dX14_holds_18) (z_zret _), trivial⟩

theorem zwX14_holds_13_0 {Q : Option zv → zz_M → Prop} {X : Nat → zz_M → Prop} {f : Nat → Nat × Nat} {S L : Nat → Nat → Int} {P : Nat → Nat → Option Nat} {h_ : Nat} (h : zsh ((2, f), S, L, P) h_ = (1, 12) ∧ (∀ b1 : Nat, zpt ((2, f), S, L, P) h_ 0 = some b1 → ((zsh ((2, f), S, L, P) b1 = (1, 11) ∨ zsh ((2, f), S, L, P) b1 = (17, 11)) ∧ (0 + 0 ≤ 0 ∧ 0 + 0 ≤ 0) ∧ (∃ (c_2 : Fc → Bool) (q_2 p_2 lo_2 hi_2 : Nat), roT (coT lo_2 hi_2 f S P 11) lo_2 hi_2 f S P b1 c_2 ∧ sciB S P q_2 p_2 ∧ (c_2 (fcX (cx S q_2) p_2) = true → (Q (some (vi 0)) ((2, f), S, L, P))) ∧ (c_2 (fcX (cx S q_2) p_2) = false → (Q (some (vi 1)) ((2, f), S, L, P))))) ∨ ((zsh ((2, f), S, L, P) b1 = (1, 12) ∨ zsh ((2, f), S, L, P) b1 = (17, 12)) ∧ (0 + 0 ≤ 0 ∧ 0 + 0 ≤ 0) ∧ (∃ (c_3 : Fc → Bool) (q_3 p_3 lo_3 hi_3 : Nat), noT (coT lo_3 hi_3 f S P 11) lo_3 hi_3 f P b1 c_3 ∧ sciB S P q_3 p_3 ∧ (c_3 (fcX (cx S q_3) p_3) = true → (Q (some (vi 0)) ((2, f), S, L, P))) ∧ (c_3 (fcX (cx S q_3) p_3) = false → (Q (some (vi 1)) ((2, f), S, L, P))))) ∨ ((zsh ((2, f), S, L, P) b1 = (1, 13) ∨ zsh ((2, f), S, L, P) b1 = (17, 13)) ∧ (0 + 0 ≤ 0 ∧ 0 + 0 ≤ 0) ∧ (∃ q_4 p_4 : Nat, (2000 ≤ b1 ∧ f b1 = (1, 13) ∧ (S b1 0 = 0 ∨ S b1 0 = 1)) ∧ scnI S P q_4 p_4 ∧ ((if S b1 0 = 1 then cx S q_4 2 = (p_4 : Int) else cx S q_4 6 = 1) → (Q (some (vi 0)) ((2, f), S, L, P))) ∧ (¬ (if S b1 0 = 1 then cx S q_4 2 = (p_4 : Int) else cx S q_4 6 = 1) → (Q (some (vi 1)) ((2, f), S, L, P))))) ∨ ((zsh ((2, f), S, L, P) b1 = (1, 16) ∨ zsh ((2, f), S, L, P) b1 = (17, 16)) ∧ (0 + 0 ≤ 0 ∧ 0 + 0 ≤ 0) ∧ (∃ (g_5 k_5 : Fc → Int) (q_5 p_5 a_5 b_5 lo_5 hi_5 : Nat), (2000 ≤ b1 ∧ f b1 = (1, 16) ∧ P b1 0 = some a_5 ∧ P b1 1 = some b_5) ∧ SuT lo_5 hi_5 f S P a_5 g_5 ∧ SuT lo_5 hi_5 f S P b_5 k_5 ∧ scnI S P q_5 p_5 ∧ R32 (g_5 (fcX (cx S q_5) p_5)) ∧ R32 (k_5 (fcX (cx S q_5) p_5)) ∧ (g_5 (fcX (cx S q_5) p_5) < k_5 (fcX (cx S q_5) p_5) → (Q (some (vi 0)) ((2, f), S, L, P))) ∧ (¬ g_5 (fcX (cx S q_5) p_5) < k_5 (fcX (cx S q_5) p_5) → (Q (some (vi 1)) ((2, f), S, L, P)))))) ∧ (zpt ((2, f), S, L, P) h_ 0 = none → (False ∧ (0 + 0 ≤ 0 ∧ 0 + 0 ≤ 0) ∧ False) ∨ (False ∧ (0 + 0 ≤ 0 ∧ 0 + 0 ≤ 0) ∧ False) ∨ (False ∧ (0 + 0 ≤ 0 ∧ 0 + 0 ≤ 0) ∧ False) ∨ (False ∧ (0 + 0 ≤ 0 ∧ 0 + 0 ≤ 0) ∧ False))) : zz_J zpX14_holds_13 (zz_ret Q X 0 0) 0 [some (vr h_), some (vr 103)] [] ((2, f), S, L, P) (0, 0) := zz_J.go [] 400 h

def zX13_holds_13 : zz_Sp := fun as M Q X => match as with
  | [.inr (.inr (some h_)), .inr (.inr (some s))] => bif Nat.beq M.1.1 2 && Nat.beq s 103 then (∃ (c_ : Fc → Bool) (q_ p_ lo_ hi_ : Nat), roT (coT lo_ hi_ M.1.2 M.2.1 M.2.2.2 12) lo_ hi_ M.1.2 M.2.1 M.2.2.2 h_ c_ ∧ sciB M.2.1 M.2.2.2 q_ p_ ∧ (c_ (fcX (cx M.2.1 q_) p_) = true → Q (some (vi 1)) ((2, M.1.2), M.2.1, M.2.2.1, M.2.2.2)) ∧ (c_ (fcX (cx M.2.1 q_) p_) = false → Q (some (vi 0)) ((2, M.1.2), M.2.1, M.2.2.1, M.2.2.2))) else False
  | _ => False

def zpX13_holds_13 : zz_P := [(0, zo_c 1 (vi 0)), (1, zo_ist 2 2), (2, zo_ild 3 2), (3, zo_ald 4 0), (4, zo_getq 7 11 1), (7, zo_callvp 10 1 17 zJ2_sizeh), (10, zo_cge false false 13 56), (13, zo_ald 14 0), (14, zo_getq 17 11 1), (17, zo_ild 18 2), (18, zo_callvp 21 2 17 zJ2_get), (21, zo_cast 24 [11, 12, 13, 16]), (24, zo_ald 25 1), (25, zo_or (zo_cfF (mm_rm 18 0 0) 30 2 11 0 0 zX13_holds_12) (zo_or (zo_cfF (mm_rm 18 0 0) 30 2 12 0 0 zX14_holds_12) (zo_or (zo_cfF (mm_rm 18 0 0) 30 2 13 0 0 zX15_holds) (zo_cfF (mm_rm 18 0 0) 30 2 16 0 0 zX19_holds)))), (30, zo_ald 31 0), (31, zo_getp 34 11 0 0), (34, zo_ceq true false 37 50), (37, zo_ald 38 0), (38, zo_getp 41 11 0 0), (41, zo_ifne false 44 48), (44, zo_c 45 (vi 1)), (45, zo_goto 49), (48, zo_c 49 (vi 0)), (49, zo_zret true), (50, zo_inc 53 2 1), (53, zo_goto 2), (56, zo_ald 57 0), (57, zo_getp 60 11 0 0), (60, zo_zret false)]
theorem ztX13_holds_13 {C : mm_C} (G : mm_G C RX13 cX13_holds (some .boolean) 3 (mm_rm 18 0 0)) (hnh : mm_nh C) : zz_OKs C zpX13_holds_13 :=
  ⟨zz_of (ok_iconst G (v := 0) dX13_holds_0 (by decide) rfl) (z_cn 1 0),
   zz_of (ok_istore_n G dX13_holds_1 rfl rfl (by decide)) (z_ist _ _),
   zz_of (ok_iload_n G dX13_holds_2 rfl rfl) (z_ild _ _),
   zz_of (ok_aload_n G dX13_holds_3 rfl rfl) (z_ald _ _),
   zz_of (ok_get G (nx := 7) (ci := 11) (kd := 2) (k := 1) (RX13, TX13, 2) rfl (by decide) rfl q1157 dX13_holds_4 rfl) (z_getq _ _ _),
   zz_of (ok_callv G hnh (zmJ2_sizeh _ G.hst) rfl rfl (RJ2, TJ2, 3) rfl q1459 q592 q593 q86 q594 (by decide +kernel) ⟨by decide, by decide⟩ dX13_holds_7 rfl) (z_callvp _ _ _ _),
   zz_of (ok_cge G dX13_holds_10 rfl rfl) (z_cge _ _ _ _),
   zz_of (ok_aload_n G dX13_holds_13 rfl rfl) (z_ald _ _),
   zz_of (ok_get G (nx := 17) (ci := 11) (kd := 2) (k := 1) (RX13, TX13, 2) rfl (by decide) rfl q1157 dX13_holds_14 rfl) (z_getq _ _ _),
   zz_of (ok_iload_n G dX13_holds_17 rfl rfl) (z_ild _ _),
   zz_of (ok_callv G hnh (zmJ2_get _ G.hst) rfl rfl (RJ2, TJ2, 3) rfl q1460 q1382 q1383 q86 q1384 (by decide +kernel) ⟨by decide, by decide⟩ dX13_holds_18 rfl) (z_callvp _ _ _ _),
   zz_of (ok_cast G (l := [11, 12, 13, 16]) (fun ci h r e => by
      simp only [List.mem_cons, List.not_mem_nil, or_false] at h
      rcases h with rfl | rfl | rfl | rfl <;> cases e <;> first | exact Or.inl rfl | exact Or.inr q1453 | exact Or.inr q1445 | exact Or.inr q1408 | exact Or.inr q1418) q1461 dX13_holds_21 rfl) (z_cast _ _),
   zz_of (ok_aload_n G dX13_holds_24 rfl rfl) (z_ald _ _),
   zz_or (zz_of (ok_calfF G (hnh.q 25) (zmX13_holds_12 _ G.hst) (RX13, TX13, 2) rfl q1463 q1456 q1454 q114 q1458 (List.Mem.head _) (by decide +kernel) ⟨Nat.le_of_ble_eq_true rfl, Nat.le_of_ble_eq_true rfl⟩ dX13_holds_25 rfl) (z_cfF _ _ _ _ _ _ _)) (zz_or (zz_of (ok_calfF G (hnh.q 25) (zmX14_holds_12 _ G.hst) (RX14, TX14, 1) rfl q1463 q1448 q1446 q115 q1450 (List.Mem.tail _ (List.Mem.head _)) (by decide +kernel) ⟨Nat.le_of_ble_eq_true rfl, Nat.le_of_ble_eq_true rfl⟩ dX13_holds_25 rfl) (z_cfF _ _ _ _ _ _ _)) (zz_or (zz_of (ok_calfF G (hnh.q 25) (zmX15_holds _ G.hst) (RX15, TX15, 1) rfl q1463 q1411 q1409 q116 q1413 (List.Mem.tail _ (List.Mem.tail _ (List.Mem.head _))) (by decide +kernel) ⟨Nat.le_of_ble_eq_true rfl, Nat.le_of_ble_eq_true rfl⟩ dX13_holds_25 rfl) (z_cfF _ _ _ _ _ _ _)) (zz_of (ok_calfF G (hnh.q 25) (zmX19_holds _ G.hst) (RX19, TX19, 2) rfl q1463 q1421 q1419 q121 q1423 (List.Mem.tail _ (List.Mem.tail _ (List.Mem.tail _ (List.Mem.head _)))) (by decide +kernel) ⟨Nat.le_of_ble_eq_true rfl, Nat.le_of_ble_eq_true rfl⟩ dX13_holds_25 rfl) (z_cfF _ _ _ _ _ _ _)))),
   zz_of (ok_aload_n G dX13_holds_30 rfl rfl) (z_ald _ _),
   zz_of (ok_get G (nx := 34) (ci := 11) (kd := 0) (k := 0) (RX13, TX13, 2) rfl (by decide) rfl q1156 dX13_holds_31 rfl) (z_getp _ _ _ _),
   zz_of (ok_ceq G dX13_holds_34 rfl rfl) (z_ceq _ _ _ _),
   zz_of (ok_aload_n G dX13_holds_37 rfl rfl) (z_ald _ _),
   zz_of (ok_get G (nx := 41) (ci := 11) (kd := 0) (k := 0) (RX13, TX13, 2) rfl (by decide) rfl q1156 dX13_holds_38 rfl) (z_getp _ _ _ _),
   zz_of (ok_ifne G dX13_holds_41 rfl rfl) (z_ifne _ _ _),
   zz_of (ok_iconst G (v := 1) dX13_holds_44 (by decide) rfl) (z_cn 45 1),
   zz_of (ok_goto G dX13_holds_45 rfl) (z_goto _),
   zz_of (ok_iconst G (v := 0) dX13_holds_48 (by decide) rfl) (z_cn 49 0),
   zz_of (ok_zret G dX13_holds_49) (z_zret _),
   zz_of (ok_iinc G (v := 1) dX13_holds_50 (by decide) rfl (by decide)) (z_incn 53 2 1),
   zz_of (ok_goto G dX13_holds_53 rfl) (z_goto _),
   zz_of (ok_aload_n G dX13_holds_56 rfl rfl) (z_ald _ _),
   zz_of (ok_get G (nx := 60) (ci := 11) (kd := 0) (k := 0) (RX13, TX13, 2) rfl (by decide) rfl q1156 dX13_holds_57 rfl) (z_getp _ _ _ _),
   zz_of (ok_zret G dX13_holds_60) (z_zret _), trivial⟩

theorem zwX13_holds_13_0 {Q : Option zv → zz_M → Prop} {X : Nat → zz_M → Prop} {f : Nat → Nat × Nat} {S L : Nat → Nat → Int} {P : Nat → Nat → Option Nat} {h_ : Nat} (h : zz_J zpX13_holds_13 (zz_ret Q X 0 0) 2 [some (vr h_), some (vr 103), some (vi 0)] [] ((2, f), S, L, P) (0, 0)) : zz_J zpX13_holds_13 (zz_ret Q X 0 0) 0 [some (vr h_), some (vr 103), none] [] ((2, f), S, L, P) (0, 0) := zz_J.go [(2, [])] 400 h
theorem zwX13_holds_13_2 {Q : Option zv → zz_M → Prop} {X : Nat → zz_M → Prop} {f : Nat → Nat × Nat} {S L : Nat → Nat → Int} {P : Nat → Nat → Option Nat} {h0 : Nat} {x2 : Int} (h : zsh ((2, f), S, L, P) h0 = (1, 11) ∧ (∀ b1 : Nat, zpt ((2, f), S, L, P) h0 1 = some b1 → (zsh ((2, f), S, L, P) b1 = (1, 17) ∨ zsh ((2, f), S, L, P) b1 = (17, 17)) ∧ (zsh ((2, f), S, L, P) b1 = (1, 17) ∧ (R32 x2 ∧ (R32 (((2, f), S, L, P).2.1 b1 2) ∧ (((((2, f), S, L, P).2.1 b1 2) ≤ x2 → zsh ((2, f), S, L, P) h0 = (1, 11) ∧ (((S h0 0) = 0 ∨ (S h0 0) = 1) ∧ (Q (some (vi (S h0 0))) ((2, f), S, L, P)))) ∧ (¬ (((2, f), S, L, P).2.1 b1 2) ≤ x2 → zsh ((2, f), S, L, P) h0 = (1, 11) ∧ (∀ b3 : Nat, zpt ((2, f), S, L, P) h0 1 = some b3 → (zsh ((2, f), S, L, P) b3 = (1, 17) ∨ zsh ((2, f), S, L, P) b3 = (17, 17)) ∧ (zsh ((2, f), S, L, P) b3 = (1, 17) ∧ ∃ (e_4 n_4 x_4 : Nat), zpt ((2, f), S, L, P) b3 1 = some e_4 ∧ zsh ((2, f), S, L, P) e_4 = (7, n_4) ∧ n_4 ≤ 2147483647 ∧ (0 ≤ x2 ∧ x2 < (n_4 : Int)) ∧ (x2 < ((2, f), S, L, P).2.1 b3 2 ∧ ((2, f), S, L, P).2.1 b3 2 < 2147483647) ∧ zpt ((2, f), S, L, P) e_4 x2.toNat = some x_4 ∧ ((∃ ci : Nat, (zsh ((2, f), S, L, P) x_4 = (1, ci) ∨ zsh ((2, f), S, L, P) x_4 = (17, ci)) ∧ mm_mem [11, 12, 13, 16] ci = true) ∧ (((zsh ((2, f), S, L, P) x_4 = (1, 11) ∨ zsh ((2, f), S, L, P) x_4 = (17, 11)) ∧ (0 + 0 ≤ 0 ∧ 0 + 0 ≤ 0) ∧ (∃ (c_5 : Fc → Bool) (q_5 p_5 lo_5 hi_5 : Nat), roT (coT lo_5 hi_5 f S P 11) lo_5 hi_5 f S P x_4 c_5 ∧ sciB S P q_5 p_5 ∧ (c_5 (fcX (cx S q_5) p_5) = true → (zsh ((2, f), S, L, P) h0 = (1, 11) ∧ (R32 (S h0 0) ∧ (((1 : Int) = (S h0 0) → zz_J zpX13_holds_13 (zz_ret Q X 0 0) 2 [some (vr h0), some (vr 103), some (vi (x2 + 1))] [] ((2, f), S, L, P) (0, 0)) ∧ (¬ (1 : Int) = (S h0 0) → zsh ((2, f), S, L, P) h0 = (1, 11) ∧ (R32 (S h0 0) ∧ ((¬ (S h0 0) = 0 → Q (some (vi 0)) ((2, f), S, L, P)) ∧ ((S h0 0) = 0 → Q (some (vi 1)) ((2, f), S, L, P))))))))) ∧ (c_5 (fcX (cx S q_5) p_5) = false → (zsh ((2, f), S, L, P) h0 = (1, 11) ∧ (R32 (S h0 0) ∧ (((0 : Int) = (S h0 0) → zz_J zpX13_holds_13 (zz_ret Q X 0 0) 2 [some (vr h0), some (vr 103), some (vi (x2 + 1))] [] ((2, f), S, L, P) (0, 0)) ∧ (¬ (0 : Int) = (S h0 0) → zsh ((2, f), S, L, P) h0 = (1, 11) ∧ (R32 (S h0 0) ∧ ((¬ (S h0 0) = 0 → Q (some (vi 0)) ((2, f), S, L, P)) ∧ ((S h0 0) = 0 → Q (some (vi 1)) ((2, f), S, L, P))))))))))) ∨ ((zsh ((2, f), S, L, P) x_4 = (1, 12) ∨ zsh ((2, f), S, L, P) x_4 = (17, 12)) ∧ (0 + 0 ≤ 0 ∧ 0 + 0 ≤ 0) ∧ (∃ (c_6 : Fc → Bool) (q_6 p_6 lo_6 hi_6 : Nat), noT (coT lo_6 hi_6 f S P 11) lo_6 hi_6 f P x_4 c_6 ∧ sciB S P q_6 p_6 ∧ (c_6 (fcX (cx S q_6) p_6) = true → (zsh ((2, f), S, L, P) h0 = (1, 11) ∧ (R32 (S h0 0) ∧ (((1 : Int) = (S h0 0) → zz_J zpX13_holds_13 (zz_ret Q X 0 0) 2 [some (vr h0), some (vr 103), some (vi (x2 + 1))] [] ((2, f), S, L, P) (0, 0)) ∧ (¬ (1 : Int) = (S h0 0) → zsh ((2, f), S, L, P) h0 = (1, 11) ∧ (R32 (S h0 0) ∧ ((¬ (S h0 0) = 0 → Q (some (vi 0)) ((2, f), S, L, P)) ∧ ((S h0 0) = 0 → Q (some (vi 1)) ((2, f), S, L, P))))))))) ∧ (c_6 (fcX (cx S q_6) p_6) = false → (zsh ((2, f), S, L, P) h0 = (1, 11) ∧ (R32 (S h0 0) ∧ (((0 : Int) = (S h0 0) → zz_J zpX13_holds_13 (zz_ret Q X 0 0) 2 [some (vr h0), some (vr 103), some (vi (x2 + 1))] [] ((2, f), S, L, P) (0, 0)) ∧ (¬ (0 : Int) = (S h0 0) → zsh ((2, f), S, L, P) h0 = (1, 11) ∧ (R32 (S h0 0) ∧ ((¬ (S h0 0) = 0 → Q (some (vi 0)) ((2, f), S, L, P)) ∧ ((S h0 0) = 0 → Q (some (vi 1)) ((2, f), S, L, P))))))))))) ∨ ((zsh ((2, f), S, L, P) x_4 = (1, 13) ∨ zsh ((2, f), S, L, P) x_4 = (17, 13)) ∧ (0 + 0 ≤ 0 ∧ 0 + 0 ≤ 0) ∧ (∃ q_7 p_7 : Nat, (2000 ≤ x_4 ∧ f x_4 = (1, 13) ∧ (S x_4 0 = 0 ∨ S x_4 0 = 1)) ∧ scnI S P q_7 p_7 ∧ ((if S x_4 0 = 1 then cx S q_7 2 = (p_7 : Int) else cx S q_7 6 = 1) → (zsh ((2, f), S, L, P) h0 = (1, 11) ∧ (R32 (S h0 0) ∧ (((1 : Int) = (S h0 0) → zz_J zpX13_holds_13 (zz_ret Q X 0 0) 2 [some (vr h0), some (vr 103), some (vi (x2 + 1))] [] ((2, f), S, L, P) (0, 0)) ∧ (¬ (1 : Int) = (S h0 0) → zsh ((2, f), S, L, P) h0 = (1, 11) ∧ (R32 (S h0 0) ∧ ((¬ (S h0 0) = 0 → Q (some (vi 0)) ((2, f), S, L, P)) ∧ ((S h0 0) = 0 → Q (some (vi 1)) ((2, f), S, L, P))))))))) ∧ (¬ (if S x_4 0 = 1 then cx S q_7 2 = (p_7 : Int) else cx S q_7 6 = 1) → (zsh ((2, f), S, L, P) h0 = (1, 11) ∧ (R32 (S h0 0) ∧ (((0 : Int) = (S h0 0) → zz_J zpX13_holds_13 (zz_ret Q X 0 0) 2 [some (vr h0), some (vr 103), some (vi (x2 + 1))] [] ((2, f), S, L, P) (0, 0)) ∧ (¬ (0 : Int) = (S h0 0) → zsh ((2, f), S, L, P) h0 = (1, 11) ∧ (R32 (S h0 0) ∧ ((¬ (S h0 0) = 0 → Q (some (vi 0)) ((2, f), S, L, P)) ∧ ((S h0 0) = 0 → Q (some (vi 1)) ((2, f), S, L, P))))))))))) ∨ ((zsh ((2, f), S, L, P) x_4 = (1, 16) ∨ zsh ((2, f), S, L, P) x_4 = (17, 16)) ∧ (0 + 0 ≤ 0 ∧ 0 + 0 ≤ 0) ∧ (∃ (g_8 k_8 : Fc → Int) (q_8 p_8 a_8 b_8 lo_8 hi_8 : Nat), (2000 ≤ x_4 ∧ f x_4 = (1, 16) ∧ P x_4 0 = some a_8 ∧ P x_4 1 = some b_8) ∧ SuT lo_8 hi_8 f S P a_8 g_8 ∧ SuT lo_8 hi_8 f S P b_8 k_8 ∧ scnI S P q_8 p_8 ∧ R32 (g_8 (fcX (cx S q_8) p_8)) ∧ R32 (k_8 (fcX (cx S q_8) p_8)) ∧ (g_8 (fcX (cx S q_8) p_8) < k_8 (fcX (cx S q_8) p_8) → (zsh ((2, f), S, L, P) h0 = (1, 11) ∧ (R32 (S h0 0) ∧ (((1 : Int) = (S h0 0) → zz_J zpX13_holds_13 (zz_ret Q X 0 0) 2 [some (vr h0), some (vr 103), some (vi (x2 + 1))] [] ((2, f), S, L, P) (0, 0)) ∧ (¬ (1 : Int) = (S h0 0) → zsh ((2, f), S, L, P) h0 = (1, 11) ∧ (R32 (S h0 0) ∧ ((¬ (S h0 0) = 0 → Q (some (vi 0)) ((2, f), S, L, P)) ∧ ((S h0 0) = 0 → Q (some (vi 1)) ((2, f), S, L, P))))))))) ∧ (¬ g_8 (fcX (cx S q_8) p_8) < k_8 (fcX (cx S q_8) p_8) → (zsh ((2, f), S, L, P) h0 = (1, 11) ∧ (R32 (S h0 0) ∧ (((0 : Int) = (S h0 0) → zz_J zpX13_holds_13 (zz_ret Q X 0 0) 2 [some (vr h0), some (vr 103), some (vi (x2 + 1))] [] ((2, f), S, L, P) (0, 0)) ∧ (¬ (0 : Int) = (S h0 0) → zsh ((2, f), S, L, P) h0 = (1, 11) ∧ (R32 (S h0 0) ∧ ((¬ (S h0 0) = 0 → Q (some (vi 0)) ((2, f), S, L, P)) ∧ ((S h0 0) = 0 → Q (some (vi 1)) ((2, f), S, L, P))))))))))))))) ∧ (zpt ((2, f), S, L, P) h0 1 = none → False ∧ False))))))) ∧ (zpt ((2, f), S, L, P) h0 1 = none → False ∧ False)) : zz_J zpX13_holds_13 (zz_ret Q X 0 0) 2 [some (vr h0), some (vr 103), some (vi x2)] [] ((2, f), S, L, P) (0, 0) := zz_J.go [(2, [])] 400 h

theorem zmX14_holds_13 (l : Launch) (hl : l.stackTraces = false) : mm_Spec l yX14_holds (ws_ yX14_holds cX14_holds 2 (some .boolean)) (mm_rm 18 0 0) (zE zX14_holds_13) := by
  refine zz_Met.J hl (by decide) (fun C G hnh => ztX14_holds_13 G hnh) ?_
  rintro as ⟨⟨t_, f⟩, S, L, P⟩ Q X h
  unfold zX14_holds_13 at h
  split at h
  rotate_left
  · exact h.elim
  rename_i h_ s
  obtain ⟨e1_, e2_, h⟩ := mm_and2 h (fun q => q)
  cases mm_beq e1_
  cases mm_beq e2_
  try dsimp only at h
  refine ⟨rfl, ?_⟩
  obtain ⟨c, q, p, lo, hi, ⟨q1, q2, a, g, q3, q4, rfl⟩, hs, ha, hb⟩ := h
  have hz : zsh ((2, f), S, L, P) h_ = (1, 12) := (zsh_hi q1.le).trans q2
  have hx : zpt ((2, f), S, L, P) h_ 0 = some a := (zpt_hi q1.le).trans q3
  have ha' : g (fcX (cx S q) p) = true → Q (some (vi 0)) ((2, f), S, L, P) := fun e => hb (by show (!g _) = false; rw [e]; rfl)
  have hb' : g (fcX (cx S q) p) = false → Q (some (vi 1)) ((2, f), S, L, P) := fun e => ha (by show (!g _) = true; rw [e]; rfl)
  refine zwX14_holds_13_0 (q_go hz hx ?_)
  first | exact le_or q4 hs ha' hb' | exact co_or q4 hs ha' hb'
theorem zmX13_holds_13 (l : Launch) (hl : l.stackTraces = false) : mm_Spec l yX13_holds (ws_ yX13_holds cX13_holds 3 (some .boolean)) (mm_rm 18 0 0) (zE zX13_holds_13) := by
  refine zz_Met.J hl (by decide) (fun C G hnh => ztX13_holds_13 G hnh) ?_
  rintro as ⟨⟨t_, f⟩, S, L, P⟩ Q X h
  unfold zX13_holds_13 at h
  split at h
  rotate_left
  · exact h.elim
  rename_i h_ s
  obtain ⟨e1_, e2_, h⟩ := mm_and2 h (fun q => q)
  cases mm_beq e1_
  cases mm_beq e2_
  try dsimp only at h
  refine ⟨rfl, ?_⟩
  obtain ⟨c, q, p, lo, hi0, ⟨q1, q2, all, a, l, cs, q3, q4, ⟨ha2, hfa, hsz, hlen, hel⟩, q6, q7, rfl⟩, hs, ha, hb⟩ := h
  have hz : zsh ((2, f), S, L, P) h_ = (1, 11) := (zsh_hi q1.le).trans q2
  have hx : zpt ((2, f), S, L, P) h_ 1 = some a := (zpt_hi q1.le).trans q4
  replace ha2 := ha2.le
  have hza : zsh ((2, f), S, L, P) a = (1, 17) := (zsh_hi ha2).trans hfa
  have s01 : S h_ 0 = 0 ∨ S h_ 0 = 1 := by rw [q3]; cases all <;> simp
  have sR : R32 (S h_ 0) := by rcases s01 with e | e <;> rw [e] <;> decide
  have ret : alB all cs (fcX (cx S q) p) = all → Q (some (vi (S h_ 0))) ((2, f), S, L, P) := by
    rw [q3]
    cases all with
    | true => exact fun e => ha e
    | false => exact fun e => hb e
  have t2 : ∀ (m i : Nat), i + m = l.length → (∀ (j : Nat) (g : Fc → Bool), j < i → cs[j]? = some g → g (fcX (cx S q) p) = all) → zz_J zpX13_holds_13 (zz_ret Q X 0 0) 2 [some (vr h_), some (vr 103), some (vi (i : Int))] [] ((2, f), S, L, P) (0, 0) := by
    intro m
    induction m with
    | zero =>
      intro i hi hal
      refine zwX13_holds_13_2 (q_go hz hx ⟨Or.inl hza, hza, by omega, by show R32 (S a 2); rw [hsz]; omega, fun _ => ⟨hz, s01, ret (alB_a fun j g hg => hal j g ?_ hg)⟩, fun c => absurd (show S a 2 ≤ (i : Int) by rw [hsz]; omega) c⟩)
      have : j < cs.length := by
        apply Decidable.byContradiction
        intro hc
        rw [List.getElem?_eq_none (by omega)] at hg
        cases hg
      omega
    | succ m ih =>
      intro i hi hal
      have il : i < l.length := by omega
      have ig : i < cs.length := by omega
      obtain ⟨e, n, he2, hPe, hfe, hn, hln, hPi⟩ := hel (fun c => by rw [c] at il; exact absurd il (by simp))
      replace he2 := he2.le
      have hlx : l[i]? = some l[i] := List.getElem?_eq_getElem il
      have hgx : cs[i]? = some cs[i] := List.getElem?_eq_getElem ig
      have hcx := q7 i _ _ hlx hgx
      have AB : ∀ v : Int, (v = bif cs[i] (fcX (cx S q) p) then 1 else 0) → (zsh ((2, f), S, L, P) h_ = (1, 11) ∧ (R32 (S h_ 0) ∧ ((v = (S h_ 0) → zz_J zpX13_holds_13 (zz_ret Q X 0 0) 2 [some (vr h_), some (vr 103), some (vi ((i : Int) + 1))] [] ((2, f), S, L, P) (0, 0)) ∧ (¬ v = (S h_ 0) → zsh ((2, f), S, L, P) h_ = (1, 11) ∧ (R32 (S h_ 0) ∧ ((¬ (S h_ 0) = 0 → Q (some (vi 0)) ((2, f), S, L, P)) ∧ ((S h_ 0) = 0 → Q (some (vi 1)) ((2, f), S, L, P)))))))) := by
        intro v hv
        refine ⟨hz, sR, fun c => ?_, fun c => ⟨hz, sR, ?_⟩⟩
        · refine ih (i + 1) (by omega) (fun j g hj hg => ?_)
          by_cases ej : j = i
          · rw [ej, hgx] at hg
            cases hg
            rw [hv, q3] at c
            revert c
            cases cs[i] (fcX (cx S q) p) <;> cases all <;> simp
          · exact hal j g (by omega) hg
        · have hne : cs[i] (fcX (cx S q) p) ≠ all := by
            rw [hv, q3] at c
            intro e2
            rw [e2] at c
            exact c rfl
          have e2 := alB_t hgx hne
          rw [q3]
          revert e2 ha hb
          cases all with
          | true => exact fun ha hb e2 => ⟨fun _ => hb e2, fun c => absurd c (by decide)⟩
          | false => exact fun ha hb e2 => ⟨fun c => absurd rfl c, fun _ => ha e2⟩
      refine zwX13_holds_13_2 (q_go hz hx ⟨Or.inl hza, hza, by omega, by show R32 (S a 2); rw [hsz]; omega, fun c => absurd (show S a 2 ≤ (i : Int) from c) (by rw [hsz]; omega), fun _ => ⟨hz, ?_⟩⟩)
      refine (q_go hz hx ⟨Or.inl hza, hza, e, n, l[i], (zpt_hi ha2).trans hPe, (zsh_hi he2).trans hfe, hn, by omega, ⟨by show (i : Int) < S a 2; rw [hsz]; omega, by show S a 2 < 2147483647; rw [hsz]; omega⟩, ?_, coT_sh hcx, ?_⟩ : _ ∧ _ ∧ _).2
      · rw [Int.toNat_natCast]
        exact (zpt_hi he2).trans (hPi i _ hlx)
      · have A1 := fun e : cs[i] (fcX (cx S q) p) = true => AB 1 (by rw [e]; rfl)
        have A0 := fun e : cs[i] (fcX (cx S q) p) = false => AB 0 (by rw [e]; rfl)
        first | exact le_or hcx hs A1 A0 | exact co_or hcx hs A1 A0
  exact zwX13_holds_13_0 (t2 l.length 0 (by omega) (fun j g hj => absurd hj (Nat.not_lt_zero _)))
def zX14_holds_14 : zz_Sp := fun as M Q X => match as with
  | [.inr (.inr (some h_)), .inr (.inr (some s))] => bif Nat.beq M.1.1 2 && Nat.beq s 103 then (∃ (c_ : Fc → Bool) (q_ p_ lo_ hi_ : Nat), noT (coT lo_ hi_ M.1.2 M.2.1 M.2.2.2 13) lo_ hi_ M.1.2 M.2.2.2 h_ c_ ∧ sciB M.2.1 M.2.2.2 q_ p_ ∧ (c_ (fcX (cx M.2.1 q_) p_) = true → Q (some (vi 1)) ((2, M.1.2), M.2.1, M.2.2.1, M.2.2.2)) ∧ (c_ (fcX (cx M.2.1 q_) p_) = false → Q (some (vi 0)) ((2, M.1.2), M.2.1, M.2.2.1, M.2.2.2))) else False
  | _ => False

def zpX14_holds_14 : zz_P := [(0, zo_ald 1 0), (1, zo_getq 4 12 0), (4, zo_ald 5 1), (5, zo_or (zo_cfF (mm_rm 19 0 0) 10 2 11 0 0 zX13_holds_13) (zo_or (zo_cfF (mm_rm 19 0 0) 10 2 12 0 0 zX14_holds_13) (zo_or (zo_cfF (mm_rm 19 0 0) 10 2 13 0 0 zX15_holds) (zo_cfF (mm_rm 19 0 0) 10 2 16 0 0 zX19_holds)))), (10, zo_zifne 13 17), (13, zo_c 14 (vi 1)), (14, zo_goto 18), (17, zo_c 18 (vi 0)), (18, zo_zret true)]
theorem ztX14_holds_14 {C : mm_C} (G : mm_G C RX14 cX14_holds (some .boolean) 2 (mm_rm 19 0 0)) (hnh : mm_nh C) : zz_OKs C zpX14_holds_14 :=
  ⟨zz_of (ok_aload_n G dX14_holds_0 rfl rfl) (z_ald _ _),
   zz_of (ok_get G (nx := 4) (ci := 12) (kd := 2) (k := 0) (RX14, TX14, 1) rfl (by decide) rfl q1187 dX14_holds_1 rfl) (z_getq _ _ _),
   zz_of (ok_aload_n G dX14_holds_4 rfl rfl) (z_ald _ _),
   zz_or (zz_of (ok_calfF G (hnh.q 5) (zmX13_holds_13 _ G.hst) (RX13, TX13, 2) rfl q1452 q1456 q1454 q114 q1458 (List.Mem.head _) (by decide +kernel) ⟨Nat.le_of_ble_eq_true rfl, Nat.le_of_ble_eq_true rfl⟩ dX14_holds_5 rfl) (z_cfF _ _ _ _ _ _ _)) (zz_or (zz_of (ok_calfF G (hnh.q 5) (zmX14_holds_13 _ G.hst) (RX14, TX14, 1) rfl q1452 q1448 q1446 q115 q1450 (List.Mem.tail _ (List.Mem.head _)) (by decide +kernel) ⟨Nat.le_of_ble_eq_true rfl, Nat.le_of_ble_eq_true rfl⟩ dX14_holds_5 rfl) (z_cfF _ _ _ _ _ _ _)) (zz_or (zz_of (ok_calfF G (hnh.q 5) (zmX15_holds _ G.hst) (RX15, TX15, 1) rfl q1452 q1411 q1409 q116 q1413 (List.Mem.tail _ (List.Mem.tail _ (List.Mem.head _))) (by decide +kernel) ⟨Nat.le_of_ble_eq_true rfl, Nat.le_of_ble_eq_true rfl⟩ dX14_holds_5 rfl) (z_cfF _ _ _ _ _ _ _)) (zz_of (ok_calfF G (hnh.q 5) (zmX19_holds _ G.hst) (RX19, TX19, 2) rfl q1452 q1421 q1419 q121 q1423 (List.Mem.tail _ (List.Mem.tail _ (List.Mem.tail _ (List.Mem.head _)))) (by decide +kernel) ⟨Nat.le_of_ble_eq_true rfl, Nat.le_of_ble_eq_true rfl⟩ dX14_holds_5 rfl) (z_cfF _ _ _ _ _ _ _)))),
   zz_of (ok_ifne G dX14_holds_10 rfl rfl) (z_zifne _ _),
   zz_of (ok_iconst G (v := 1) dX14_holds_13 (by decide) rfl) (z_cn 14 1),
   zz_of (ok_goto G dX14_holds_14 rfl) (z_goto _),
   zz_of (ok_iconst G (v := 0) dX14_holds_17 (by decide) rfl) (z_cn 18 0),
   zz_of (ok_zret G dX14_holds_18) (z_zret _), trivial⟩

theorem zwX14_holds_14_0 {Q : Option zv → zz_M → Prop} {X : Nat → zz_M → Prop} {f : Nat → Nat × Nat} {S L : Nat → Nat → Int} {P : Nat → Nat → Option Nat} {h_ : Nat} (h : zsh ((2, f), S, L, P) h_ = (1, 12) ∧ (∀ b1 : Nat, zpt ((2, f), S, L, P) h_ 0 = some b1 → ((zsh ((2, f), S, L, P) b1 = (1, 11) ∨ zsh ((2, f), S, L, P) b1 = (17, 11)) ∧ (0 + 0 ≤ 0 ∧ 0 + 0 ≤ 0) ∧ (∃ (c_2 : Fc → Bool) (q_2 p_2 lo_2 hi_2 : Nat), roT (coT lo_2 hi_2 f S P 12) lo_2 hi_2 f S P b1 c_2 ∧ sciB S P q_2 p_2 ∧ (c_2 (fcX (cx S q_2) p_2) = true → (Q (some (vi 0)) ((2, f), S, L, P))) ∧ (c_2 (fcX (cx S q_2) p_2) = false → (Q (some (vi 1)) ((2, f), S, L, P))))) ∨ ((zsh ((2, f), S, L, P) b1 = (1, 12) ∨ zsh ((2, f), S, L, P) b1 = (17, 12)) ∧ (0 + 0 ≤ 0 ∧ 0 + 0 ≤ 0) ∧ (∃ (c_3 : Fc → Bool) (q_3 p_3 lo_3 hi_3 : Nat), noT (coT lo_3 hi_3 f S P 12) lo_3 hi_3 f P b1 c_3 ∧ sciB S P q_3 p_3 ∧ (c_3 (fcX (cx S q_3) p_3) = true → (Q (some (vi 0)) ((2, f), S, L, P))) ∧ (c_3 (fcX (cx S q_3) p_3) = false → (Q (some (vi 1)) ((2, f), S, L, P))))) ∨ ((zsh ((2, f), S, L, P) b1 = (1, 13) ∨ zsh ((2, f), S, L, P) b1 = (17, 13)) ∧ (0 + 0 ≤ 0 ∧ 0 + 0 ≤ 0) ∧ (∃ q_4 p_4 : Nat, (2000 ≤ b1 ∧ f b1 = (1, 13) ∧ (S b1 0 = 0 ∨ S b1 0 = 1)) ∧ scnI S P q_4 p_4 ∧ ((if S b1 0 = 1 then cx S q_4 2 = (p_4 : Int) else cx S q_4 6 = 1) → (Q (some (vi 0)) ((2, f), S, L, P))) ∧ (¬ (if S b1 0 = 1 then cx S q_4 2 = (p_4 : Int) else cx S q_4 6 = 1) → (Q (some (vi 1)) ((2, f), S, L, P))))) ∨ ((zsh ((2, f), S, L, P) b1 = (1, 16) ∨ zsh ((2, f), S, L, P) b1 = (17, 16)) ∧ (0 + 0 ≤ 0 ∧ 0 + 0 ≤ 0) ∧ (∃ (g_5 k_5 : Fc → Int) (q_5 p_5 a_5 b_5 lo_5 hi_5 : Nat), (2000 ≤ b1 ∧ f b1 = (1, 16) ∧ P b1 0 = some a_5 ∧ P b1 1 = some b_5) ∧ SuT lo_5 hi_5 f S P a_5 g_5 ∧ SuT lo_5 hi_5 f S P b_5 k_5 ∧ scnI S P q_5 p_5 ∧ R32 (g_5 (fcX (cx S q_5) p_5)) ∧ R32 (k_5 (fcX (cx S q_5) p_5)) ∧ (g_5 (fcX (cx S q_5) p_5) < k_5 (fcX (cx S q_5) p_5) → (Q (some (vi 0)) ((2, f), S, L, P))) ∧ (¬ g_5 (fcX (cx S q_5) p_5) < k_5 (fcX (cx S q_5) p_5) → (Q (some (vi 1)) ((2, f), S, L, P)))))) ∧ (zpt ((2, f), S, L, P) h_ 0 = none → (False ∧ (0 + 0 ≤ 0 ∧ 0 + 0 ≤ 0) ∧ False) ∨ (False ∧ (0 + 0 ≤ 0 ∧ 0 + 0 ≤ 0) ∧ False) ∨ (False ∧ (0 + 0 ≤ 0 ∧ 0 + 0 ≤ 0) ∧ False) ∨ (False ∧ (0 + 0 ≤ 0 ∧ 0 + 0 ≤ 0) ∧ False))) : zz_J zpX14_holds_14 (zz_ret Q X 0 0) 0 [some (vr h_), some (vr 103)] [] ((2, f), S, L, P) (0, 0) := zz_J.go [] 400 h

def zX13_holds_14 : zz_Sp := fun as M Q X => match as with
  | [.inr (.inr (some h_)), .inr (.inr (some s))] => bif Nat.beq M.1.1 2 && Nat.beq s 103 then (∃ (c_ : Fc → Bool) (q_ p_ lo_ hi_ : Nat), roT (coT lo_ hi_ M.1.2 M.2.1 M.2.2.2 13) lo_ hi_ M.1.2 M.2.1 M.2.2.2 h_ c_ ∧ sciB M.2.1 M.2.2.2 q_ p_ ∧ (c_ (fcX (cx M.2.1 q_) p_) = true → Q (some (vi 1)) ((2, M.1.2), M.2.1, M.2.2.1, M.2.2.2)) ∧ (c_ (fcX (cx M.2.1 q_) p_) = false → Q (some (vi 0)) ((2, M.1.2), M.2.1, M.2.2.1, M.2.2.2))) else False
  | _ => False

def zpX13_holds_14 : zz_P := [(0, zo_c 1 (vi 0)), (1, zo_ist 2 2), (2, zo_ild 3 2), (3, zo_ald 4 0), (4, zo_getq 7 11 1), (7, zo_callvp 10 1 17 zJ2_sizeh), (10, zo_cge false false 13 56), (13, zo_ald 14 0), (14, zo_getq 17 11 1), (17, zo_ild 18 2), (18, zo_callvp 21 2 17 zJ2_get), (21, zo_cast 24 [11, 12, 13, 16]), (24, zo_ald 25 1), (25, zo_or (zo_cfF (mm_rm 19 0 0) 30 2 11 0 0 zX13_holds_13) (zo_or (zo_cfF (mm_rm 19 0 0) 30 2 12 0 0 zX14_holds_13) (zo_or (zo_cfF (mm_rm 19 0 0) 30 2 13 0 0 zX15_holds) (zo_cfF (mm_rm 19 0 0) 30 2 16 0 0 zX19_holds)))), (30, zo_ald 31 0), (31, zo_getp 34 11 0 0), (34, zo_ceq true false 37 50), (37, zo_ald 38 0), (38, zo_getp 41 11 0 0), (41, zo_ifne false 44 48), (44, zo_c 45 (vi 1)), (45, zo_goto 49), (48, zo_c 49 (vi 0)), (49, zo_zret true), (50, zo_inc 53 2 1), (53, zo_goto 2), (56, zo_ald 57 0), (57, zo_getp 60 11 0 0), (60, zo_zret false)]
theorem ztX13_holds_14 {C : mm_C} (G : mm_G C RX13 cX13_holds (some .boolean) 3 (mm_rm 19 0 0)) (hnh : mm_nh C) : zz_OKs C zpX13_holds_14 :=
  ⟨zz_of (ok_iconst G (v := 0) dX13_holds_0 (by decide) rfl) (z_cn 1 0),
   zz_of (ok_istore_n G dX13_holds_1 rfl rfl (by decide)) (z_ist _ _),
   zz_of (ok_iload_n G dX13_holds_2 rfl rfl) (z_ild _ _),
   zz_of (ok_aload_n G dX13_holds_3 rfl rfl) (z_ald _ _),
   zz_of (ok_get G (nx := 7) (ci := 11) (kd := 2) (k := 1) (RX13, TX13, 2) rfl (by decide) rfl q1157 dX13_holds_4 rfl) (z_getq _ _ _),
   zz_of (ok_callv G hnh (zmJ2_sizeh _ G.hst) rfl rfl (RJ2, TJ2, 3) rfl q1459 q592 q593 q86 q594 (by decide +kernel) ⟨by decide, by decide⟩ dX13_holds_7 rfl) (z_callvp _ _ _ _),
   zz_of (ok_cge G dX13_holds_10 rfl rfl) (z_cge _ _ _ _),
   zz_of (ok_aload_n G dX13_holds_13 rfl rfl) (z_ald _ _),
   zz_of (ok_get G (nx := 17) (ci := 11) (kd := 2) (k := 1) (RX13, TX13, 2) rfl (by decide) rfl q1157 dX13_holds_14 rfl) (z_getq _ _ _),
   zz_of (ok_iload_n G dX13_holds_17 rfl rfl) (z_ild _ _),
   zz_of (ok_callv G hnh (zmJ2_get _ G.hst) rfl rfl (RJ2, TJ2, 3) rfl q1460 q1382 q1383 q86 q1384 (by decide +kernel) ⟨by decide, by decide⟩ dX13_holds_18 rfl) (z_callvp _ _ _ _),
   zz_of (ok_cast G (l := [11, 12, 13, 16]) (fun ci h r e => by
      simp only [List.mem_cons, List.not_mem_nil, or_false] at h
      rcases h with rfl | rfl | rfl | rfl <;> cases e <;> first | exact Or.inl rfl | exact Or.inr q1453 | exact Or.inr q1445 | exact Or.inr q1408 | exact Or.inr q1418) q1461 dX13_holds_21 rfl) (z_cast _ _),
   zz_of (ok_aload_n G dX13_holds_24 rfl rfl) (z_ald _ _),
   zz_or (zz_of (ok_calfF G (hnh.q 25) (zmX13_holds_13 _ G.hst) (RX13, TX13, 2) rfl q1463 q1456 q1454 q114 q1458 (List.Mem.head _) (by decide +kernel) ⟨Nat.le_of_ble_eq_true rfl, Nat.le_of_ble_eq_true rfl⟩ dX13_holds_25 rfl) (z_cfF _ _ _ _ _ _ _)) (zz_or (zz_of (ok_calfF G (hnh.q 25) (zmX14_holds_13 _ G.hst) (RX14, TX14, 1) rfl q1463 q1448 q1446 q115 q1450 (List.Mem.tail _ (List.Mem.head _)) (by decide +kernel) ⟨Nat.le_of_ble_eq_true rfl, Nat.le_of_ble_eq_true rfl⟩ dX13_holds_25 rfl) (z_cfF _ _ _ _ _ _ _)) (zz_or (zz_of (ok_calfF G (hnh.q 25) (zmX15_holds _ G.hst) (RX15, TX15, 1) rfl q1463 q1411 q1409 q116 q1413 (List.Mem.tail _ (List.Mem.tail _ (List.Mem.head _))) (by decide +kernel) ⟨Nat.le_of_ble_eq_true rfl, Nat.le_of_ble_eq_true rfl⟩ dX13_holds_25 rfl) (z_cfF _ _ _ _ _ _ _)) (zz_of (ok_calfF G (hnh.q 25) (zmX19_holds _ G.hst) (RX19, TX19, 2) rfl q1463 q1421 q1419 q121 q1423 (List.Mem.tail _ (List.Mem.tail _ (List.Mem.tail _ (List.Mem.head _)))) (by decide +kernel) ⟨Nat.le_of_ble_eq_true rfl, Nat.le_of_ble_eq_true rfl⟩ dX13_holds_25 rfl) (z_cfF _ _ _ _ _ _ _)))),
   zz_of (ok_aload_n G dX13_holds_30 rfl rfl) (z_ald _ _),
   zz_of (ok_get G (nx := 34) (ci := 11) (kd := 0) (k := 0) (RX13, TX13, 2) rfl (by decide) rfl q1156 dX13_holds_31 rfl) (z_getp _ _ _ _),
   zz_of (ok_ceq G dX13_holds_34 rfl rfl) (z_ceq _ _ _ _),
   zz_of (ok_aload_n G dX13_holds_37 rfl rfl) (z_ald _ _),
   zz_of (ok_get G (nx := 41) (ci := 11) (kd := 0) (k := 0) (RX13, TX13, 2) rfl (by decide) rfl q1156 dX13_holds_38 rfl) (z_getp _ _ _ _),
   zz_of (ok_ifne G dX13_holds_41 rfl rfl) (z_ifne _ _ _),
   zz_of (ok_iconst G (v := 1) dX13_holds_44 (by decide) rfl) (z_cn 45 1),
   zz_of (ok_goto G dX13_holds_45 rfl) (z_goto _),
   zz_of (ok_iconst G (v := 0) dX13_holds_48 (by decide) rfl) (z_cn 49 0),
   zz_of (ok_zret G dX13_holds_49) (z_zret _),
   zz_of (ok_iinc G (v := 1) dX13_holds_50 (by decide) rfl (by decide)) (z_incn 53 2 1),
   zz_of (ok_goto G dX13_holds_53 rfl) (z_goto _),
   zz_of (ok_aload_n G dX13_holds_56 rfl rfl) (z_ald _ _),
   zz_of (ok_get G (nx := 60) (ci := 11) (kd := 0) (k := 0) (RX13, TX13, 2) rfl (by decide) rfl q1156 dX13_holds_57 rfl) (z_getp _ _ _ _),
   zz_of (ok_zret G dX13_holds_60) (z_zret _), trivial⟩

theorem zwX13_holds_14_0 {Q : Option zv → zz_M → Prop} {X : Nat → zz_M → Prop} {f : Nat → Nat × Nat} {S L : Nat → Nat → Int} {P : Nat → Nat → Option Nat} {h_ : Nat} (h : zz_J zpX13_holds_14 (zz_ret Q X 0 0) 2 [some (vr h_), some (vr 103), some (vi 0)] [] ((2, f), S, L, P) (0, 0)) : zz_J zpX13_holds_14 (zz_ret Q X 0 0) 0 [some (vr h_), some (vr 103), none] [] ((2, f), S, L, P) (0, 0) := zz_J.go [(2, [])] 400 h
theorem zwX13_holds_14_2 {Q : Option zv → zz_M → Prop} {X : Nat → zz_M → Prop} {f : Nat → Nat × Nat} {S L : Nat → Nat → Int} {P : Nat → Nat → Option Nat} {h0 : Nat} {x2 : Int} (h : zsh ((2, f), S, L, P) h0 = (1, 11) ∧ (∀ b1 : Nat, zpt ((2, f), S, L, P) h0 1 = some b1 → (zsh ((2, f), S, L, P) b1 = (1, 17) ∨ zsh ((2, f), S, L, P) b1 = (17, 17)) ∧ (zsh ((2, f), S, L, P) b1 = (1, 17) ∧ (R32 x2 ∧ (R32 (((2, f), S, L, P).2.1 b1 2) ∧ (((((2, f), S, L, P).2.1 b1 2) ≤ x2 → zsh ((2, f), S, L, P) h0 = (1, 11) ∧ (((S h0 0) = 0 ∨ (S h0 0) = 1) ∧ (Q (some (vi (S h0 0))) ((2, f), S, L, P)))) ∧ (¬ (((2, f), S, L, P).2.1 b1 2) ≤ x2 → zsh ((2, f), S, L, P) h0 = (1, 11) ∧ (∀ b3 : Nat, zpt ((2, f), S, L, P) h0 1 = some b3 → (zsh ((2, f), S, L, P) b3 = (1, 17) ∨ zsh ((2, f), S, L, P) b3 = (17, 17)) ∧ (zsh ((2, f), S, L, P) b3 = (1, 17) ∧ ∃ (e_4 n_4 x_4 : Nat), zpt ((2, f), S, L, P) b3 1 = some e_4 ∧ zsh ((2, f), S, L, P) e_4 = (7, n_4) ∧ n_4 ≤ 2147483647 ∧ (0 ≤ x2 ∧ x2 < (n_4 : Int)) ∧ (x2 < ((2, f), S, L, P).2.1 b3 2 ∧ ((2, f), S, L, P).2.1 b3 2 < 2147483647) ∧ zpt ((2, f), S, L, P) e_4 x2.toNat = some x_4 ∧ ((∃ ci : Nat, (zsh ((2, f), S, L, P) x_4 = (1, ci) ∨ zsh ((2, f), S, L, P) x_4 = (17, ci)) ∧ mm_mem [11, 12, 13, 16] ci = true) ∧ (((zsh ((2, f), S, L, P) x_4 = (1, 11) ∨ zsh ((2, f), S, L, P) x_4 = (17, 11)) ∧ (0 + 0 ≤ 0 ∧ 0 + 0 ≤ 0) ∧ (∃ (c_5 : Fc → Bool) (q_5 p_5 lo_5 hi_5 : Nat), roT (coT lo_5 hi_5 f S P 12) lo_5 hi_5 f S P x_4 c_5 ∧ sciB S P q_5 p_5 ∧ (c_5 (fcX (cx S q_5) p_5) = true → (zsh ((2, f), S, L, P) h0 = (1, 11) ∧ (R32 (S h0 0) ∧ (((1 : Int) = (S h0 0) → zz_J zpX13_holds_14 (zz_ret Q X 0 0) 2 [some (vr h0), some (vr 103), some (vi (x2 + 1))] [] ((2, f), S, L, P) (0, 0)) ∧ (¬ (1 : Int) = (S h0 0) → zsh ((2, f), S, L, P) h0 = (1, 11) ∧ (R32 (S h0 0) ∧ ((¬ (S h0 0) = 0 → Q (some (vi 0)) ((2, f), S, L, P)) ∧ ((S h0 0) = 0 → Q (some (vi 1)) ((2, f), S, L, P))))))))) ∧ (c_5 (fcX (cx S q_5) p_5) = false → (zsh ((2, f), S, L, P) h0 = (1, 11) ∧ (R32 (S h0 0) ∧ (((0 : Int) = (S h0 0) → zz_J zpX13_holds_14 (zz_ret Q X 0 0) 2 [some (vr h0), some (vr 103), some (vi (x2 + 1))] [] ((2, f), S, L, P) (0, 0)) ∧ (¬ (0 : Int) = (S h0 0) → zsh ((2, f), S, L, P) h0 = (1, 11) ∧ (R32 (S h0 0) ∧ ((¬ (S h0 0) = 0 → Q (some (vi 0)) ((2, f), S, L, P)) ∧ ((S h0 0) = 0 → Q (some (vi 1)) ((2, f), S, L, P))))))))))) ∨ ((zsh ((2, f), S, L, P) x_4 = (1, 12) ∨ zsh ((2, f), S, L, P) x_4 = (17, 12)) ∧ (0 + 0 ≤ 0 ∧ 0 + 0 ≤ 0) ∧ (∃ (c_6 : Fc → Bool) (q_6 p_6 lo_6 hi_6 : Nat), noT (coT lo_6 hi_6 f S P 12) lo_6 hi_6 f P x_4 c_6 ∧ sciB S P q_6 p_6 ∧ (c_6 (fcX (cx S q_6) p_6) = true → (zsh ((2, f), S, L, P) h0 = (1, 11) ∧ (R32 (S h0 0) ∧ (((1 : Int) = (S h0 0) → zz_J zpX13_holds_14 (zz_ret Q X 0 0) 2 [some (vr h0), some (vr 103), some (vi (x2 + 1))] [] ((2, f), S, L, P) (0, 0)) ∧ (¬ (1 : Int) = (S h0 0) → zsh ((2, f), S, L, P) h0 = (1, 11) ∧ (R32 (S h0 0) ∧ ((¬ (S h0 0) = 0 → Q (some (vi 0)) ((2, f), S, L, P)) ∧ ((S h0 0) = 0 → Q (some (vi 1)) ((2, f), S, L, P))))))))) ∧ (c_6 (fcX (cx S q_6) p_6) = false → (zsh ((2, f), S, L, P) h0 = (1, 11) ∧ (R32 (S h0 0) ∧ (((0 : Int) = (S h0 0) → zz_J zpX13_holds_14 (zz_ret Q X 0 0) 2 [some (vr h0), some (vr 103), some (vi (x2 + 1))] [] ((2, f), S, L, P) (0, 0)) ∧ (¬ (0 : Int) = (S h0 0) → zsh ((2, f), S, L, P) h0 = (1, 11) ∧ (R32 (S h0 0) ∧ ((¬ (S h0 0) = 0 → Q (some (vi 0)) ((2, f), S, L, P)) ∧ ((S h0 0) = 0 → Q (some (vi 1)) ((2, f), S, L, P))))))))))) ∨ ((zsh ((2, f), S, L, P) x_4 = (1, 13) ∨ zsh ((2, f), S, L, P) x_4 = (17, 13)) ∧ (0 + 0 ≤ 0 ∧ 0 + 0 ≤ 0) ∧ (∃ q_7 p_7 : Nat, (2000 ≤ x_4 ∧ f x_4 = (1, 13) ∧ (S x_4 0 = 0 ∨ S x_4 0 = 1)) ∧ scnI S P q_7 p_7 ∧ ((if S x_4 0 = 1 then cx S q_7 2 = (p_7 : Int) else cx S q_7 6 = 1) → (zsh ((2, f), S, L, P) h0 = (1, 11) ∧ (R32 (S h0 0) ∧ (((1 : Int) = (S h0 0) → zz_J zpX13_holds_14 (zz_ret Q X 0 0) 2 [some (vr h0), some (vr 103), some (vi (x2 + 1))] [] ((2, f), S, L, P) (0, 0)) ∧ (¬ (1 : Int) = (S h0 0) → zsh ((2, f), S, L, P) h0 = (1, 11) ∧ (R32 (S h0 0) ∧ ((¬ (S h0 0) = 0 → Q (some (vi 0)) ((2, f), S, L, P)) ∧ ((S h0 0) = 0 → Q (some (vi 1)) ((2, f), S, L, P))))))))) ∧ (¬ (if S x_4 0 = 1 then cx S q_7 2 = (p_7 : Int) else cx S q_7 6 = 1) → (zsh ((2, f), S, L, P) h0 = (1, 11) ∧ (R32 (S h0 0) ∧ (((0 : Int) = (S h0 0) → zz_J zpX13_holds_14 (zz_ret Q X 0 0) 2 [some (vr h0), some (vr 103), some (vi (x2 + 1))] [] ((2, f), S, L, P) (0, 0)) ∧ (¬ (0 : Int) = (S h0 0) → zsh ((2, f), S, L, P) h0 = (1, 11) ∧ (R32 (S h0 0) ∧ ((¬ (S h0 0) = 0 → Q (some (vi 0)) ((2, f), S, L, P)) ∧ ((S h0 0) = 0 → Q (some (vi 1)) ((2, f), S, L, P))))))))))) ∨ ((zsh ((2, f), S, L, P) x_4 = (1, 16) ∨ zsh ((2, f), S, L, P) x_4 = (17, 16)) ∧ (0 + 0 ≤ 0 ∧ 0 + 0 ≤ 0) ∧ (∃ (g_8 k_8 : Fc → Int) (q_8 p_8 a_8 b_8 lo_8 hi_8 : Nat), (2000 ≤ x_4 ∧ f x_4 = (1, 16) ∧ P x_4 0 = some a_8 ∧ P x_4 1 = some b_8) ∧ SuT lo_8 hi_8 f S P a_8 g_8 ∧ SuT lo_8 hi_8 f S P b_8 k_8 ∧ scnI S P q_8 p_8 ∧ R32 (g_8 (fcX (cx S q_8) p_8)) ∧ R32 (k_8 (fcX (cx S q_8) p_8)) ∧ (g_8 (fcX (cx S q_8) p_8) < k_8 (fcX (cx S q_8) p_8) → (zsh ((2, f), S, L, P) h0 = (1, 11) ∧ (R32 (S h0 0) ∧ (((1 : Int) = (S h0 0) → zz_J zpX13_holds_14 (zz_ret Q X 0 0) 2 [some (vr h0), some (vr 103), some (vi (x2 + 1))] [] ((2, f), S, L, P) (0, 0)) ∧ (¬ (1 : Int) = (S h0 0) → zsh ((2, f), S, L, P) h0 = (1, 11) ∧ (R32 (S h0 0) ∧ ((¬ (S h0 0) = 0 → Q (some (vi 0)) ((2, f), S, L, P)) ∧ ((S h0 0) = 0 → Q (some (vi 1)) ((2, f), S, L, P))))))))) ∧ (¬ g_8 (fcX (cx S q_8) p_8) < k_8 (fcX (cx S q_8) p_8) → (zsh ((2, f), S, L, P) h0 = (1, 11) ∧ (R32 (S h0 0) ∧ (((0 : Int) = (S h0 0) → zz_J zpX13_holds_14 (zz_ret Q X 0 0) 2 [some (vr h0), some (vr 103), some (vi (x2 + 1))] [] ((2, f), S, L, P) (0, 0)) ∧ (¬ (0 : Int) = (S h0 0) → zsh ((2, f), S, L, P) h0 = (1, 11) ∧ (R32 (S h0 0) ∧ ((¬ (S h0 0) = 0 → Q (some (vi 0)) ((2, f), S, L, P)) ∧ ((S h0 0) = 0 → Q (some (vi 1)) ((2, f), S, L, P))))))))))))))) ∧ (zpt ((2, f), S, L, P) h0 1 = none → False ∧ False))))))) ∧ (zpt ((2, f), S, L, P) h0 1 = none → False ∧ False)) : zz_J zpX13_holds_14 (zz_ret Q X 0 0) 2 [some (vr h0), some (vr 103), some (vi x2)] [] ((2, f), S, L, P) (0, 0) := zz_J.go [(2, [])] 400 h

theorem zmX14_holds_14 (l : Launch) (hl : l.stackTraces = false) : mm_Spec l yX14_holds (ws_ yX14_holds cX14_holds 2 (some .boolean)) (mm_rm 19 0 0) (zE zX14_holds_14) := by
  refine zz_Met.J hl (by decide) (fun C G hnh => ztX14_holds_14 G hnh) ?_
  rintro as ⟨⟨t_, f⟩, S, L, P⟩ Q X h
  unfold zX14_holds_14 at h
  split at h
  rotate_left
  · exact h.elim
  rename_i h_ s
  obtain ⟨e1_, e2_, h⟩ := mm_and2 h (fun q => q)
  cases mm_beq e1_
  cases mm_beq e2_
  try dsimp only at h
  refine ⟨rfl, ?_⟩
  obtain ⟨c, q, p, lo, hi, ⟨q1, q2, a, g, q3, q4, rfl⟩, hs, ha, hb⟩ := h
  have hz : zsh ((2, f), S, L, P) h_ = (1, 12) := (zsh_hi q1.le).trans q2
  have hx : zpt ((2, f), S, L, P) h_ 0 = some a := (zpt_hi q1.le).trans q3
  have ha' : g (fcX (cx S q) p) = true → Q (some (vi 0)) ((2, f), S, L, P) := fun e => hb (by show (!g _) = false; rw [e]; rfl)
  have hb' : g (fcX (cx S q) p) = false → Q (some (vi 1)) ((2, f), S, L, P) := fun e => ha (by show (!g _) = true; rw [e]; rfl)
  refine zwX14_holds_14_0 (q_go hz hx ?_)
  first | exact le_or q4 hs ha' hb' | exact co_or q4 hs ha' hb'
theorem zmX13_holds_14 (l : Launch) (hl : l.stackTraces = false) : mm_Spec l yX13_holds (ws_ yX13_holds cX13_holds 3 (some .boolean)) (mm_rm 19 0 0) (zE zX13_holds_14) := by
  refine zz_Met.J hl (by decide) (fun C G hnh => ztX13_holds_14 G hnh) ?_
  rintro as ⟨⟨t_, f⟩, S, L, P⟩ Q X h
  unfold zX13_holds_14 at h
  split at h
  rotate_left
  · exact h.elim
  rename_i h_ s
  obtain ⟨e1_, e2_, h⟩ := mm_and2 h (fun q => q)
  cases mm_beq e1_
  cases mm_beq e2_
  try dsimp only at h
  refine ⟨rfl, ?_⟩
  obtain ⟨c, q, p, lo, hi0, ⟨q1, q2, all, a, l, cs, q3, q4, ⟨ha2, hfa, hsz, hlen, hel⟩, q6, q7, rfl⟩, hs, ha, hb⟩ := h
  have hz : zsh ((2, f), S, L, P) h_ = (1, 11) := (zsh_hi q1.le).trans q2
  have hx : zpt ((2, f), S, L, P) h_ 1 = some a := (zpt_hi q1.le).trans q4
  replace ha2 := ha2.le
  have hza : zsh ((2, f), S, L, P) a = (1, 17) := (zsh_hi ha2).trans hfa
  have s01 : S h_ 0 = 0 ∨ S h_ 0 = 1 := by rw [q3]; cases all <;> simp
  have sR : R32 (S h_ 0) := by rcases s01 with e | e <;> rw [e] <;> decide
  have ret : alB all cs (fcX (cx S q) p) = all → Q (some (vi (S h_ 0))) ((2, f), S, L, P) := by
    rw [q3]
    cases all with
    | true => exact fun e => ha e
    | false => exact fun e => hb e
  have t2 : ∀ (m i : Nat), i + m = l.length → (∀ (j : Nat) (g : Fc → Bool), j < i → cs[j]? = some g → g (fcX (cx S q) p) = all) → zz_J zpX13_holds_14 (zz_ret Q X 0 0) 2 [some (vr h_), some (vr 103), some (vi (i : Int))] [] ((2, f), S, L, P) (0, 0) := by
    intro m
    induction m with
    | zero =>
      intro i hi hal
      refine zwX13_holds_14_2 (q_go hz hx ⟨Or.inl hza, hza, by omega, by show R32 (S a 2); rw [hsz]; omega, fun _ => ⟨hz, s01, ret (alB_a fun j g hg => hal j g ?_ hg)⟩, fun c => absurd (show S a 2 ≤ (i : Int) by rw [hsz]; omega) c⟩)
      have : j < cs.length := by
        apply Decidable.byContradiction
        intro hc
        rw [List.getElem?_eq_none (by omega)] at hg
        cases hg
      omega
    | succ m ih =>
      intro i hi hal
      have il : i < l.length := by omega
      have ig : i < cs.length := by omega
      obtain ⟨e, n, he2, hPe, hfe, hn, hln, hPi⟩ := hel (fun c => by rw [c] at il; exact absurd il (by simp))
      replace he2 := he2.le
      have hlx : l[i]? = some l[i] := List.getElem?_eq_getElem il
      have hgx : cs[i]? = some cs[i] := List.getElem?_eq_getElem ig
      have hcx := q7 i _ _ hlx hgx
      have AB : ∀ v : Int, (v = bif cs[i] (fcX (cx S q) p) then 1 else 0) → (zsh ((2, f), S, L, P) h_ = (1, 11) ∧ (R32 (S h_ 0) ∧ ((v = (S h_ 0) → zz_J zpX13_holds_14 (zz_ret Q X 0 0) 2 [some (vr h_), some (vr 103), some (vi ((i : Int) + 1))] [] ((2, f), S, L, P) (0, 0)) ∧ (¬ v = (S h_ 0) → zsh ((2, f), S, L, P) h_ = (1, 11) ∧ (R32 (S h_ 0) ∧ ((¬ (S h_ 0) = 0 → Q (some (vi 0)) ((2, f), S, L, P)) ∧ ((S h_ 0) = 0 → Q (some (vi 1)) ((2, f), S, L, P)))))))) := by
        intro v hv
        refine ⟨hz, sR, fun c => ?_, fun c => ⟨hz, sR, ?_⟩⟩
        · refine ih (i + 1) (by omega) (fun j g hj hg => ?_)
          by_cases ej : j = i
          · rw [ej, hgx] at hg
            cases hg
            rw [hv, q3] at c
            revert c
            cases cs[i] (fcX (cx S q) p) <;> cases all <;> simp
          · exact hal j g (by omega) hg
        · have hne : cs[i] (fcX (cx S q) p) ≠ all := by
            rw [hv, q3] at c
            intro e2
            rw [e2] at c
            exact c rfl
          have e2 := alB_t hgx hne
          rw [q3]
          revert e2 ha hb
          cases all with
          | true => exact fun ha hb e2 => ⟨fun _ => hb e2, fun c => absurd c (by decide)⟩
          | false => exact fun ha hb e2 => ⟨fun c => absurd rfl c, fun _ => ha e2⟩
      refine zwX13_holds_14_2 (q_go hz hx ⟨Or.inl hza, hza, by omega, by show R32 (S a 2); rw [hsz]; omega, fun c => absurd (show S a 2 ≤ (i : Int) from c) (by rw [hsz]; omega), fun _ => ⟨hz, ?_⟩⟩)
      refine (q_go hz hx ⟨Or.inl hza, hza, e, n, l[i], (zpt_hi ha2).trans hPe, (zsh_hi he2).trans hfe, hn, by omega, ⟨by show (i : Int) < S a 2; rw [hsz]; omega, by show S a 2 < 2147483647; rw [hsz]; omega⟩, ?_, coT_sh hcx, ?_⟩ : _ ∧ _ ∧ _).2
      · rw [Int.toNat_natCast]
        exact (zpt_hi he2).trans (hPi i _ hlx)
      · have A1 := fun e : cs[i] (fcX (cx S q) p) = true => AB 1 (by rw [e]; rfl)
        have A0 := fun e : cs[i] (fcX (cx S q) p) = false => AB 0 (by rw [e]; rfl)
        first | exact le_or hcx hs A1 A0 | exact co_or hcx hs A1 A0
  exact zwX13_holds_14_0 (t2 l.length 0 (by omega) (fun j g hj => absurd hj (Nat.not_lt_zero _)))
