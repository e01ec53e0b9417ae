/-! ===== the trees of rules: sums ===== -/
set_option maxRecDepth 100000
/-- a list of handles -/
def ALT (lo hi : Nat) (f : Nat → Nat × Nat) (S : Nat → Nat → Int) (P : Nat → Nat → Option Nat) (h : Nat) (l : List Nat) : Prop := inR lo hi h ∧ f h = (1, 17) ∧ S h 2 = (l.length : Int) ∧ l.length < 2147483647 ∧ (l ≠ [] → ∃ e n : Nat, inR lo hi e ∧ P h 1 = some e ∧ f e = (7, n) ∧ n ≤ 2147483647 ∧ l.length ≤ n ∧ ∀ i x : Nat, l[i]? = some x → P e i = some x)
theorem ALT.mo {lo hi lo' hi' : Nat} {f : Nat → Nat × Nat} {S : Nat → Nat → Int} {P : Nat → Nat → Option Nat} {h : Nat} {l : List Nat} (q : ALT lo hi f S P h l) (a : 2000 ≤ lo') (b : lo' ≤ lo) (c : hi ≤ hi') : ALT lo' hi' f S P h l := by
  obtain ⟨q1, q2, q3, q4, q5⟩ := q
  refine ⟨q1.mo a b c, q2, q3, q4, fun ne => ?_⟩
  obtain ⟨e, n, r1, r2⟩ := q5 ne
  exact ⟨e, n, r1.mo a b c, r2⟩
theorem ALT.fr {lo hi : Nat} {f f' : Nat → Nat × Nat} {S S' : Nat → Nat → Int} {P P' : Nat → Nat → Option Nat} {h : Nat} {l : List Nat} (q : ALT lo hi f S P h l) (a : agR lo hi f S P f' S' P') : ALT lo hi f' S' P' h l := by
  obtain ⟨q1, q2, q3, q4, q5⟩ := q
  obtain ⟨a1, a2, a3⟩ := a h q1.2.1 q1.2.2
  refine ⟨q1, by rw [a1]; exact q2, by rw [a2]; exact q3, q4, fun ne => ?_⟩
  obtain ⟨e, n, r1, r2, r3, r4, r5, r6⟩ := q5 ne
  obtain ⟨b1, b2, b3⟩ := a e r1.2.1 r1.2.2
  exact ⟨e, n, r1, by rw [a3]; exact r2, by rw [b1]; exact r3, r4, r5, fun i x hx => by rw [b3]; exact r6 i x hx⟩
def sumG : List (Fc → Int) → Fc → Int
  | [], _ => 0
  | g :: r, F => g F + sumG r F
/-- a sum -/
def SuT (lo hi : Nat) (f : Nat → Nat × Nat) (S : Nat → Nat → Int) (P : Nat → Nat → Option Nat) (h : Nat) (g : Fc → Int) : Prop := inR lo hi h ∧ f h = (1, 14) ∧ ∃ (a : Nat) (l : List Nat) (gs : List (Fc → Int)), P h 0 = some a ∧ ALT lo hi f S P a l ∧ l.length = gs.length ∧ (∀ (i x : Nat) (g' : Fc → Int), l[i]? = some x → gs[i]? = some g' → PaT lo hi f S P x g') ∧ g = sumG gs
theorem SuT.mo {lo hi lo' hi' : Nat} {f : Nat → Nat × Nat} {S : Nat → Nat → Int} {P : Nat → Nat → Option Nat} {h : Nat} {g : Fc → Int} (q : SuT lo hi f S P h g) (a : 2000 ≤ lo') (b : lo' ≤ lo) (c : hi ≤ hi') : SuT lo' hi' f S P h g := by
  obtain ⟨q1, q2, e, l, gs, q3, q4, q5, q6, q7⟩ := q
  exact ⟨q1.mo a b c, q2, e, l, gs, q3, q4.mo a b c, q5, fun i x g' h1 h2 => (q6 i x g' h1 h2).mo a b c, q7⟩
theorem SuT.fr {lo hi : Nat} {f f' : Nat → Nat × Nat} {S S' : Nat → Nat → Int} {P P' : Nat → Nat → Option Nat} {h : Nat} {g : Fc → Int} (q : SuT lo hi f S P h g) (a : agR lo hi f S P f' S' P') : SuT lo hi f' S' P' h g := by
  obtain ⟨q1, q2, e, l, gs, q3, q4, q5, q6, q7⟩ := q
  obtain ⟨a1, a2, a3⟩ := a h q1.2.1 q1.2.2
  exact ⟨q1, by rw [a1]; exact q2, e, l, gs, by rw [a3]; exact q3, q4.fr a, q5, fun i x g' h1 h2 => (q6 i x g' h1 h2).fr a, q7⟩
def zX16_in : zz_Sp := fun as M Q X => match as with
  | [.inr (.inr (some h_)), .inr (.inr (some s))] => bif Nat.beq M.1.1 2 && Nat.beq s 103 then (∃ (g_ : Fc → Int) (q_ p_ lo_ hi_ : Nat), SuT lo_ hi_ M.1.2 M.2.1 M.2.2.2 h_ g_ ∧ scnI M.2.1 M.2.2.2 q_ p_ ∧ Q (some (vi (g_ (fcX (cx M.2.1 q_) p_)))) ((2, M.1.2), M.2.1, M.2.2.1, M.2.2.2)) else False
  | _ => False

def zpX16_in : zz_P := [(0, zo_c 1 (vi 0)), (1, zo_ist 2 2), (2, zo_c 3 (vi 0)), (3, zo_ist 4 3), (4, zo_ild 5 3), (5, zo_ald 6 0), (6, zo_getq 9 14 0), (9, zo_callvp 12 1 17 zJ2_sizeh), (12, zo_cge false false 15 39), (15, zo_ild 16 2), (16, zo_ald 17 0), (17, zo_getq 20 14 0), (20, zo_ild 21 3), (21, zo_callvp 24 2 17 zJ2_get), (24, zo_cast 27 [15]), (27, zo_ald 28 1), (28, zo_callvp 31 2 15 zX17_in), (31, zo_iadd 32), (32, zo_ist 33 2), (33, zo_inc 36 3 1), (36, zo_goto 4), (39, zo_ild 40 2), (40, zo_iret)]
theorem ztX16_in {C : mm_C} (G : mm_G C RX16 cX16_in (some .int) 4 (mm_rm 4 0 0)) (hnh : mm_nh C) : zz_OKs C zpX16_in :=
  ⟨zz_of (ok_iconst G (v := 0) dX16_in_0 (by decide) rfl) (z_cn 1 0),
   zz_of (ok_istore_n G dX16_in_1 rfl rfl (by decide)) (z_ist _ _),
   zz_of (ok_iconst G (v := 0) dX16_in_2 (by decide) rfl) (z_cn 3 0),
   zz_of (ok_istore_n G dX16_in_3 rfl rfl (by decide)) (z_ist _ _),
   zz_of (ok_iload_n G dX16_in_4 rfl rfl) (z_ild _ _),
   zz_of (ok_aload_n G dX16_in_5 rfl rfl) (z_ald _ _),
   zz_of (ok_get G (nx := 9) (ci := 14) (kd := 2) (k := 0) (RX16, TX16, 1) rfl (by decide) rfl q1215 dX16_in_6 rfl) (z_getq _ _ _),
   zz_of (ok_callv G hnh (zmJ2_sizeh _ G.hst) rfl rfl (RJ2, TJ2, 3) rfl q1428 q592 q593 q86 q594 (by decide +kernel) ⟨by decide, by decide⟩ dX16_in_9 rfl) (z_callvp _ _ _ _),
   zz_of (ok_cge G dX16_in_12 rfl rfl) (z_cge _ _ _ _),
   zz_of (ok_iload_n G dX16_in_15 rfl rfl) (z_ild _ _),
   zz_of (ok_aload_n G dX16_in_16 rfl rfl) (z_ald _ _),
   zz_of (ok_get G (nx := 20) (ci := 14) (kd := 2) (k := 0) (RX16, TX16, 1) rfl (by decide) rfl q1215 dX16_in_17 rfl) (z_getq _ _ _),
   zz_of (ok_iload_n G dX16_in_20 rfl rfl) (z_ild _ _),
   zz_of (ok_callv G hnh (zmJ2_get _ G.hst) rfl rfl (RJ2, TJ2, 3) rfl q1429 q1382 q1383 q86 q1384 (by decide +kernel) ⟨by decide, by decide⟩ dX16_in_21 rfl) (z_callvp _ _ _ _),
   zz_of (ok_cast G (l := [15]) (fun ci h r e => by
      simp only [List.mem_cons, List.not_mem_nil, or_false] at h
      subst h <;> cases e <;> first | exact Or.inl rfl) q1430 dX16_in_24 rfl) (z_cast _ _),
   zz_of (ok_aload_n G dX16_in_27 rfl rfl) (z_ald _ _),
   zz_of (ok_callv G hnh (zmX17_in _ G.hst) rfl rfl (RX17, TX17, 2) rfl q1431 q1432 q1433 q118 q1434 (by decide +kernel) ⟨by decide, by decide⟩ dX16_in_28 rfl) (z_callvp _ _ _ _),
   zz_of (ok_iadd G dX16_in_31 rfl) (z_iadd _),
   zz_of (ok_istore_n G dX16_in_32 rfl rfl (by decide)) (z_ist _ _),
   zz_of (ok_iinc G (v := 1) dX16_in_33 (by decide) rfl (by decide)) (z_incn 36 3 1),
   zz_of (ok_goto G dX16_in_36 rfl) (z_goto _),
   zz_of (ok_iload_n G dX16_in_39 rfl rfl) (z_ild _ _),
   zz_of (ok_iret G dX16_in_40) (z_iret), trivial⟩

theorem zwX16_in_0 {Q : Option zv → zz_M → Prop} {X : Nat → zz_M → Prop} {f : Nat → Nat × Nat} {S L : Nat → Nat → Int} {P : Nat → Nat → Option Nat} {h_ : Nat} (h : zz_J zpX16_in (zz_ret Q X 0 0) 4 [some (vr h_), some (vr 103), some (vi 0), some (vi 0)] [] ((2, f), S, L, P) (0, 0)) : zz_J zpX16_in (zz_ret Q X 0 0) 0 [some (vr h_), some (vr 103), none, none] [] ((2, f), S, L, P) (0, 0) := zz_J.go [(4, [])] 400 h
theorem zwX16_in_4 {Q : Option zv → zz_M → Prop} {X : Nat → zz_M → Prop} {f : Nat → Nat × Nat} {S L : Nat → Nat → Int} {P : Nat → Nat → Option Nat} {h0 : Nat} {x2 : Int} {x3 : Int} (h : zsh ((2, f), S, L, P) h0 = (1, 14) ∧ (∀ b1 : Nat, zpt ((2, f), S, L, P) h0 0 = some b1 → (zsh ((2, f), S, L, P) b1 = (1, 17) ∨ zsh ((2, f), S, L, P) b1 = (17, 17)) ∧ (zsh ((2, f), S, L, P) b1 = (1, 17) ∧ (R32 x3 ∧ (R32 (((2, f), S, L, P).2.1 b1 2) ∧ (((((2, f), S, L, P).2.1 b1 2) ≤ x3 → Q (some (vi x2)) ((2, f), S, L, P)) ∧ (¬ (((2, f), S, L, P).2.1 b1 2) ≤ x3 → zsh ((2, f), S, L, P) h0 = (1, 14) ∧ (∀ b3 : Nat, zpt ((2, f), S, L, P) h0 0 = some b3 → (zsh ((2, f), S, L, P) b3 = (1, 17) ∨ zsh ((2, f), S, L, P) b3 = (17, 17)) ∧ (zsh ((2, f), S, L, P) b3 = (1, 17) ∧ ∃ (e_4 n_4 x_4 : Nat), zpt ((2, f), S, L, P) b3 1 = some e_4 ∧ zsh ((2, f), S, L, P) e_4 = (7, n_4) ∧ n_4 ≤ 2147483647 ∧ (0 ≤ x3 ∧ x3 < (n_4 : Int)) ∧ (x3 < ((2, f), S, L, P).2.1 b3 2 ∧ ((2, f), S, L, P).2.1 b3 2 < 2147483647) ∧ zpt ((2, f), S, L, P) e_4 x3.toNat = some x_4 ∧ ((∃ ci : Nat, (zsh ((2, f), S, L, P) x_4 = (1, ci) ∨ zsh ((2, f), S, L, P) x_4 = (17, ci)) ∧ mm_mem [15] ci = true) ∧ ((zsh ((2, f), S, L, P) x_4 = (1, 15) ∨ zsh ((2, f), S, L, P) x_4 = (17, 15)) ∧ (∃ (g_5 : Fc → Int) (q_5 p_5 lo_5 hi_5 : Nat), PaT lo_5 hi_5 f S P x_4 g_5 ∧ scnI S P q_5 p_5 ∧ (zz_J zpX16_in (zz_ret Q X 0 0) 4 [some (vr h0), some (vr 103), some (vi (x2 + (g_5 (fcX (cx S q_5) p_5)))), some (vi (x3 + 1))] [] ((2, f), S, L, P) (0, 0))))))) ∧ (zpt ((2, f), S, L, P) h0 0 = none → False ∧ False))))))) ∧ (zpt ((2, f), S, L, P) h0 0 = none → False ∧ False)) : zz_J zpX16_in (zz_ret Q X 0 0) 4 [some (vr h0), some (vr 103), some (vi x2), some (vi x3)] [] ((2, f), S, L, P) (0, 0) := zz_J.go [(4, [])] 400 h

theorem zmX16_in (l : Launch) (hl : l.stackTraces = false) : mm_Spec l yX16_in (ws_ yX16_in cX16_in 4 (some .int)) (mm_rm 4 0 0) (zE zX16_in) := by
  refine zz_Met.J hl (by decide) (fun C G hnh => ztX16_in G hnh) ?_
  rintro as ⟨⟨t_, f⟩, S, L, P⟩ Q X h
  unfold zX16_in at h
  split at h
  rotate_left
  · exact h.elim
  rename_i h_ s
  obtain ⟨e1_, e2_, h⟩ := mm_and2 h (fun q => q)
  cases mm_beq e1_
  cases mm_beq e2_
  try dsimp only at h
  refine ⟨rfl, ?_⟩
  obtain ⟨g, q, p, lo0, hi0, ⟨h2, hf, a, l, gs, hP0, ⟨ha2, hfa, hsz, hlen, hel⟩, hll, hparts, rfl⟩, hs, hr⟩ := h
  replace h2 := h2.le
  replace ha2 := ha2.le
  have hz : zsh ((2, f), S, L, P) h_ = (1, 14) := (zsh_hi h2).trans hf
  have hx : zpt ((2, f), S, L, P) h_ 0 = some a := (zpt_hi h2).trans hP0
  have hza : zsh ((2, f), S, L, P) a = (1, 17) := (zsh_hi ha2).trans hfa
  have t4 : ∀ (m i : Nat) (s : Int), i + m = l.length → s + sumG (gs.drop i) (fcX (cx S q) p) = sumG gs (fcX (cx S q) p) → zz_J zpX16_in (zz_ret Q X 0 0) 4 [some (vr h_), some (vr 103), some (vi s), some (vi (i : Int))] [] ((2, f), S, L, P) (0, 0) := by
    intro m
    induction m with
    | zero =>
      intro i s hi hsum
      refine zwX16_in_4 (q_go hz hx ⟨Or.inl hza, hza, by omega, by show R32 (S a 2); rw [hsz]; omega, fun _ => ?_, fun c => absurd (show S a 2 ≤ (i : Int) by rw [hsz]; omega) c⟩)
      have e : gs.drop i = [] := List.drop_eq_nil_of_le (by omega)
      rw [e] at hsum
      have e2 : s = sumG gs (fcX (cx S q) p) := by
        have : s + 0 = sumG gs (fcX (cx S q) p) := hsum
        omega
      rw [e2]
      exact hr
    | succ m ih =>
      intro i s hi hsum
      have il : i < l.length := by omega
      have ig : i < gs.length := by omega
      obtain ⟨e, n, he2, hPe, hfe, hn, hln, hPi⟩ := hel (fun c => by rw [c] at il; exact absurd il (by simp))
      replace he2 := he2.le
      have hlx : l[i]? = some l[i] := List.getElem?_eq_getElem il
      have hgx : gs[i]? = some gs[i] := List.getElem?_eq_getElem ig
      have hpa := hparts i _ _ hlx hgx
      have hzx : zsh ((2, f), S, L, P) l[i] = (1, 15) := (zsh_hi hpa.1.le).trans hpa.2.1
      rw [List.drop_eq_getElem_cons ig] at hsum
      have nx := ih (i + 1) (s + gs[i] (fcX (cx S q) p)) (by omega) (by
        have : s + (gs[i] (fcX (cx S q) p) + sumG (gs.drop (i + 1)) (fcX (cx S q) p)) = sumG gs (fcX (cx S q) p) := hsum
        omega)
      refine zwX16_in_4 (q_go hz hx ⟨Or.inl hza, hza, by omega, by show R32 (S a 2); rw [hsz]; omega, fun c => absurd (show S a 2 ≤ (i : Int) from c) (by rw [hsz]; omega), fun _ => q_go hz hx ⟨Or.inl hza, hza, e, n, l[i], (zpt_hi ha2).trans hPe, (zsh_hi he2).trans hfe, hn, by omega, ⟨by show (i : Int) < S a 2; rw [hsz]; omega, by show S a 2 < 2147483647; rw [hsz]; omega⟩, ?_, ⟨15, Or.inl hzx, rfl⟩, Or.inl hzx, gs[i], q, p, lo0, hi0, hpa, hs, nx⟩⟩)
      rw [Int.toNat_natCast]
      exact (zpt_hi he2).trans (hPi i _ hlx)
  exact zwX16_in_0 (t4 l.length 0 0 (by omega) (by rw [List.drop_zero]; omega))
