/-! ===== the trees of rules: parts ===== -/
set_option maxRecDepth 100000
theorem zfs_hi {h : Nat} (e : 2000 ≤ h) : zfs 2 h = false := by
  have b : ∀ a c : Nat, c < h → (Nat.ble a h && Nat.ble h c) = false := fun a c hc => by
    have : Nat.ble h c = false := by
      cases q : Nat.ble h c
      · rfl
      · exact absurd (Nat.le_of_ble_eq_true q) (by omega)
    rw [this, Bool.and_false]
  unfold zfs
  rw [b 100 140 (by omega), b 200 207 (by omega), b 210 225 (by omega), b 1000 1399 (by omega)]
  rfl
theorem zsh_hi {f : Nat → Nat × Nat} {S L : Nat → Nat → Int} {P : Nat → Nat → Option Nat} {h : Nat} (e : 2000 ≤ h) : zsh ((2, f), S, L, P) h = f h := zsh_f (zfs_hi e)
theorem zpt_hi {f : Nat → Nat × Nat} {S L : Nat → Nat → Int} {P : Nat → Nat → Option Nat} {h k : Nat} (e : 2000 ≤ h) : zpt ((2, f), S, L, P) h k = P h k := zpt_f (zfs_hi e)
/-- the scene is a player's at a score -/
def scnI (S : Nat → Nat → Int) (P : Nat → Nat → Option Nat) (q p : Nat) : Prop := P 103 0 = some q ∧ (q = 204 ∨ q = 108) ∧ S 103 1 = (p : Int) ∧ p < 2 ∧ scV (cx S q)
/-- a handle of a region -/
def inR (lo hi h : Nat) : Prop := 2000 ≤ lo ∧ lo ≤ h ∧ h < hi
theorem inR.le {lo hi h : Nat} (q : inR lo hi h) : 2000 ≤ h := Nat.le_trans q.1 q.2.1
theorem inR.mo {lo hi lo' hi' h : Nat} (q : inR lo hi h) (a : 2000 ≤ lo') (b : lo' ≤ lo) (c : hi ≤ hi') : inR lo' hi' h := ⟨a, Nat.le_trans b q.2.1, Nat.lt_of_lt_of_le q.2.2 c⟩
/-- two memories agree on a region -/
def agR (lo hi : Nat) (f : Nat → Nat × Nat) (S : Nat → Nat → Int) (P : Nat → Nat → Option Nat) (f' : Nat → Nat × Nat) (S' : Nat → Nat → Int) (P' : Nat → Nat → Option Nat) : Prop := ∀ h, lo ≤ h → h < hi → f' h = f h ∧ S' h = S h ∧ P' h = P h
/-- a part of a sum -/
def PaT (lo hi : Nat) (f : Nat → Nat × Nat) (S : Nat → Nat → Int) (P : Nat → Nat → Option Nat) (h : Nat) (g : Fc → Int) : Prop := inR lo hi h ∧ f h = (1, 15) ∧ ((P h 1 = none ∧ (0 ≤ S h 0 ∧ S h 0 ≤ 999) ∧ g = fun _ => S h 0) ∨ ∃ j, j < 5 ∧ P h 1 = some (1200 + j) ∧ g = fun F => F j)
theorem PaT.mo {lo hi lo' hi' : Nat} {f : Nat → Nat × Nat} {S : Nat → Nat → Int} {P : Nat → Nat → Option Nat} {h : Nat} {g : Fc → Int} (q : PaT lo hi f S P h g) (a : 2000 ≤ lo') (b : lo' ≤ lo) (c : hi ≤ hi') : PaT lo' hi' f S P h g := ⟨q.1.mo a b c, q.2⟩
theorem PaT.fr {lo hi : Nat} {f f' : Nat → Nat × Nat} {S S' : Nat → Nat → Int} {P P' : Nat → Nat → Option Nat} {h : Nat} {g : Fc → Int} (q : PaT lo hi f S P h g) (a : agR lo hi f S P f' S' P') : PaT lo hi f' S' P' h g := by
  obtain ⟨a1, a2, a3⟩ := a h q.1.2.1 q.1.2.2
  refine ⟨q.1, by rw [a1]; exact q.2.1, ?_⟩
  rw [a2, a3]
  exact q.2.2
def zX17_in : zz_Sp := fun as M Q X => match as with
  | [.inr (.inr (some h_)), .inr (.inr (some s))] => bif Nat.beq M.1.1 2 && Nat.beq s 103 then (∃ (g_ : Fc → Int) (q_ p_ lo_ hi_ : Nat), PaT lo_ hi_ M.1.2 M.2.1 M.2.2.2 h_ g_ ∧ scnI M.2.1 M.2.2.2 q_ p_ ∧ Q (some (vi (g_ (fcX (cx M.2.1 q_) p_)))) ((2, M.1.2), M.2.1, M.2.2.1, M.2.2.2)) else False
  | _ => False

def zpX17_in : zz_P := [(0, zo_ald 1 0), (1, zo_getq 4 15 1), (4, zo_ifnonnull 7 14), (7, zo_ald 8 0), (8, zo_getp 11 15 0 0), (11, zo_goto 22), (14, zo_ald 15 1), (15, zo_ald 16 0), (16, zo_getq 19 15 1), (19, zo_callv 22 2 4 zX5_of), (22, zo_iret)]
theorem ztX17_in {C : mm_C} (G : mm_G C RX17 cX17_in (some .int) 2 (mm_rm 3 0 0)) (hnh : mm_nh C) : zz_OKs C zpX17_in :=
  ⟨zz_of (ok_aload_n G dX17_in_0 rfl rfl) (z_ald _ _),
   zz_of (ok_get G (nx := 4) (ci := 15) (kd := 2) (k := 1) (RX17, TX17, 2) rfl (by decide) rfl q1235 dX17_in_1 rfl) (z_getq _ _ _),
   zz_of (ok_ifnonnull G dX17_in_4 rfl rfl) (z_ifnonnull _ _),
   zz_of (ok_aload_n G dX17_in_7 rfl rfl) (z_ald _ _),
   zz_of (ok_get G (nx := 11) (ci := 15) (kd := 0) (k := 0) (RX17, TX17, 2) rfl (by decide) rfl q1234 dX17_in_8 rfl) (z_getp _ _ _ _),
   zz_of (ok_goto G dX17_in_11 rfl) (z_goto _),
   zz_of (ok_aload_n G dX17_in_14 rfl rfl) (z_ald _ _),
   zz_of (ok_aload_n G dX17_in_15 rfl rfl) (z_ald _ _),
   zz_of (ok_get G (nx := 19) (ci := 15) (kd := 2) (k := 1) (RX17, TX17, 2) rfl (by decide) rfl q1235 dX17_in_16 rfl) (z_getq _ _ _),
   zz_of (ok_callv G hnh (zmX5_of _ G.hst) rfl rfl (RX5, TX5, 3) rfl q1435 q1436 q1437 q89 q1438 (by decide +kernel) ⟨by decide, by decide⟩ dX17_in_19 rfl) (z_callv _ _ _ _),
   zz_of (ok_iret G dX17_in_22) (z_iret), trivial⟩

theorem zwX17_in_0 {Q : Option zv → zz_M → Prop} {X : Nat → zz_M → Prop} {f : Nat → Nat × Nat} {S L : Nat → Nat → Int} {P : Nat → Nat → Option Nat} {h_ : Nat} (h : zsh ((2, f), S, L, P) h_ = (1, 15) ∧ (∀ b1 : Nat, zpt ((2, f), S, L, P) h_ 1 = some b1 → zsh ((2, f), S, L, P) h_ = (1, 15) ∧ (∀ b2 : Nat, zpt ((2, f), S, L, P) h_ 1 = some b2 → (∃ q_3 p_3 : Nat, P 103 0 = some q_3 ∧ (q_3 = 204 ∨ q_3 = 108) ∧ S 103 1 = (p_3 : Int) ∧ p_3 < 2 ∧ scV (cx S q_3) ∧ (1200 ≤ b2 ∧ b2 ≤ 1204) ∧ (Q (some (vi (fcX (cx S q_3) p_3 (b2 - 1200)))) ((2, f), S, L, P)))) ∧ (zpt ((2, f), S, L, P) h_ 1 = none → (False))) ∧ (zpt ((2, f), S, L, P) h_ 1 = none → zsh ((2, f), S, L, P) h_ = (1, 15) ∧ (Q (some (vi (S h_ 0))) ((2, f), S, L, P)))) : zz_J zpX17_in (zz_ret Q X 0 0) 0 [some (vr h_), some (vr 103)] [] ((2, f), S, L, P) (0, 0) := zz_J.go [] 400 h

theorem zmX17_in (l : Launch) (hl : l.stackTraces = false) : mm_Spec l yX17_in (ws_ yX17_in cX17_in 2 (some .int)) (mm_rm 3 0 0) (zE zX17_in) := by
  refine zz_Met.J hl (by decide) (fun C G hnh => ztX17_in G hnh) ?_
  rintro as ⟨⟨t_, f⟩, S, L, P⟩ Q X h
  unfold zX17_in at h
  split at h
  rotate_left
  · exact h.elim
  rename_i h_ s
  obtain ⟨e1_, e2_, h⟩ := mm_and2 h (fun q => q)
  cases mm_beq e1_
  cases mm_beq e2_
  try dsimp only at h
  refine ⟨rfl, ?_⟩
  obtain ⟨g, q, p, lo, hi, ⟨h2, hf, hg⟩, hs, hr⟩ := h
  replace h2 := h2.le
  have hz : zsh ((2, f), S, L, P) h_ = (1, 15) := (zsh_hi h2).trans hf
  have hx : zpt ((2, f), S, L, P) h_ 1 = P h_ 1 := zpt_hi h2
  refine zwX17_in_0 ⟨hz, fun b e => ⟨hz, fun b2 e2 => ?_, fun e2 => ?_⟩, fun e => ⟨hz, ?_⟩⟩
  · rw [hx] at e2
    rcases hg with ⟨a, -, -⟩ | ⟨j, hj, a, c⟩
    · rw [a] at e2
      cases e2
    · rw [a] at e2
      cases e2
      obtain ⟨s1, s2, s3, s4, s5⟩ := hs
      refine ⟨q, p, s1, s2, s3, s4, s5, by omega, ?_⟩
      rw [Nat.add_sub_cancel_left]
      subst c
      exact hr
  · rw [e] at e2
    cases e2
  · rw [hx] at e
    rcases hg with ⟨-, -, c⟩ | ⟨j, hj, a, -⟩
    · subst c
      exact hr
    · rw [a] at e
      cases e
def zJ2_sizeh : zz_Sp := fun as M Q X => match as with
  | [.inr (.inr (some h_))] => zsh M h_ = (1, 17) ∧ Q (some (vi (M.2.1 h_ 2))) M
  | _ => False

def zpJ2_sizeh : zz_P := [(0, zo_ald 1 0), (1, zo_getp 4 17 0 2), (4, zo_iret)]
theorem ztJ2_sizeh {C : mm_C} (G : mm_G C RJ2 cJ2_size (some .int) 1 (mm_rm 1 0 0)) (hnh : mm_nh C) : zz_OKs C zpJ2_sizeh :=
  ⟨zz_of (ok_aload_n G dJ2_size_0 rfl rfl) (z_ald _ _),
   zz_of (ok_get G (nx := 4) (ci := 17) (kd := 0) (k := 2) (RJ2, TJ2, 3) rfl (by decide) rfl q158 dJ2_size_1 rfl) (z_getp _ _ _ _),
   zz_of (ok_iret G dJ2_size_4) (z_iret), trivial⟩

theorem zwJ2_sizeh_0 {Q : Option zv → zz_M → Prop} {X : Nat → zz_M → Prop} {M : zz_M} {h_ : Nat} (h : zsh M h_ = (1, 17) ∧ (Q (some (vi (M.2.1 h_ 2))) M)) : zz_J zpJ2_sizeh (zz_ret Q X 0 0) 0 [some (vr h_)] [] M (0, 0) := zz_J.go [] 400 h

theorem zmJ2_sizeh (l : Launch) (hl : l.stackTraces = false) : mm_Spec l yJ2_size (ws_ yJ2_size cJ2_size 1 (some .int)) (mm_rm 1 0 0) (zE zJ2_sizeh) := by
  refine zz_Met.J hl (by decide) (fun C G hnh => ztJ2_sizeh G hnh) ?_
  rintro as M Q X h
  unfold zJ2_sizeh at h
  split at h
  rotate_left
  · exact h.elim
  rename_i h_
  refine ⟨rfl, ?_⟩
  exact zwJ2_sizeh_0 h
