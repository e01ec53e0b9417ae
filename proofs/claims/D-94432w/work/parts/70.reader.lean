/-! ===== the component's reader: what it passes ===== -/
set_option maxRecDepth 100000
/-- a byte as the component keeps it -/
def cby (v : Int) : Int := if v < 128 then v else v - 256
/-- at and begin are set -/
def rS (S : Nat → Nat → Int) (a b : Nat) : Nat → Nat → Int := fun h k => if h = 101 ∧ k = 3 then (a : Int) else if h = 101 ∧ k = 4 then (b : Int) else S h k
theorem rS_rS (S : Nat → Nat → Int) (a b a' b' : Nat) : rS (rS S a b) a' b' = rS S a' b' := by
  funext h k
  unfold rS
  grind
theorem rS_3 (S : Nat → Nat → Int) (a b : Nat) : rS S a b 101 3 = a := rfl
theorem rS_4 (S : Nat → Nat → Int) (a b : Nat) : rS S a b 101 4 = b := rfl
theorem rS_o (S : Nat → Nat → Int) (a b : Nat) {h : Nat} (e : h ≠ 101) : rS S a b h = S h := by
  funext k
  unfold rS
  rw [if_neg (fun q => e q.1), if_neg (fun q => e q.1)]
theorem rS_k (S : Nat → Nat → Int) (a b : Nat) {k : Nat} (e1 : k ≠ 3) (e2 : k ≠ 4) : rS S a b 101 k = S 101 k := by
  unfold rS
  rw [if_neg (fun q => e1 q.2), if_neg (fun q => e2 q.2)]
theorem rS_id (S : Nat → Nat → Int) {a b : Nat} (h1 : S 101 3 = a) (h2 : S 101 4 = b) : rS S a b = S := by
  funext h k
  unfold rS
  grind
theorem rS_u3 (S : Nat → Nat → Int) (a b a' : Nat) : mm_up (rS S a b) 101 3 a' = rS S a' b := by
  funext h k
  simp only [up_eq]
  unfold rS
  grind
theorem rS_u4 (S : Nat → Nat → Int) (a b b' : Nat) : mm_up (rS S a b) 101 4 b' = rS S a b' := by
  funext h k
  simp only [up_eq]
  unfold rS
  grind
/-- the tape that is read: n bytes -/
def qT (S : Nat → Nat → Int) (tx : Nat → Int) (n : Nat) : Prop := n ≤ 400 ∧ S 101 2 = n ∧ ∀ k, k < n → (0 ≤ tx k ∧ tx k ≤ 255) ∧ S 102 k = cby (tx k)
theorem qT.r {S : Nat → Nat → Int} {tx : Nat → Int} {n : Nat} (h : qT S tx n) (a b : Nat) : qT (rS S a b) tx n := by
  refine ⟨h.1, h.2.1, fun k hk => ?_⟩
  rw [rS_o S a b (by decide)]
  exact h.2.2 k hk
theorem cby_b {v : Int} (h : 0 ≤ v ∧ v ≤ 255) : -128 ≤ cby v ∧ cby v ≤ 127 := by
  unfold cby
  split <;> omega
theorem cby_e {v c : Int} (h : 0 ≤ v ∧ v ≤ 255) (hc : 0 ≤ c ∧ c ≤ 127) : cby v = c ↔ v = c := by
  unfold cby
  split <;> omega
theorem cby_i {v lo hi : Int} (h : 0 ≤ v ∧ v ≤ 255) (hl : 0 ≤ lo) (hh : hi ≤ 127) : (lo ≤ cby v ∧ cby v ≤ hi) ↔ (lo ≤ v ∧ v ≤ hi) := by
  unfold cby
  split <;> omega
theorem cby_d {v : Int} (h : v ≤ 127) : cby v = v := by
  unfold cby
  rw [if_pos (by omega)]
def zX4_cut : zz_Sp := fun as M Q X => match as with
  | [.inr (.inr (some h_)), .inl n] => bif Nat.beq h_ 101 && Nat.beq M.1.1 2 then (R32 n ∧ R32 (M.2.1 101 1) ∧ (¬ (0 ≤ n ∧ n ≤ M.2.1 101 1) → Q (some (vi 0)) ((2, M.1.2), M.2.1, M.2.2.1, M.2.2.2)) ∧ ((0 ≤ n ∧ n ≤ M.2.1 101 1) → Q (some (vi 1)) ((2, M.1.2), mm_up M.2.1 101 1 n, M.2.2.1, M.2.2.2))) else False
  | _ => False

def zpX4_cut : zz_P := [(0, zo_ild 1 1), (1, zo_iflt false 4 12), (4, zo_ild 5 1), (5, zo_ald 6 0), (6, zo_get 9 3 0 1), (9, zo_cle false false 12 14), (12, zo_c 13 (vi 0)), (13, zo_zret true), (14, zo_ald 15 0), (15, zo_ild 16 1), (16, zo_puti 19 3 1), (19, zo_c 20 (vi 1)), (20, zo_zret true)]
theorem ztX4_cut {C : mm_C} (G : mm_G C RX4 cX4_cut (some .boolean) 2 (mm_rm 1 0 0)) (hnh : mm_nh C) : zz_OKs C zpX4_cut :=
  ⟨zz_of (ok_iload_n G dX4_cut_0 rfl rfl) (z_ild _ _),
   zz_of (ok_iflt G dX4_cut_1 rfl rfl) (z_iflt _ _ _),
   zz_of (ok_iload_n G dX4_cut_4 rfl rfl) (z_ild _ _),
   zz_of (ok_aload_n G dX4_cut_5 rfl rfl) (z_ald _ _),
   zz_of (ok_get G (nx := 9) (ci := 3) (kd := 0) (k := 1) (RX4, TX4, 7) rfl (by decide) rfl q273 dX4_cut_6 rfl) (z_get _ _ _ _),
   zz_of (ok_cle G dX4_cut_9 rfl rfl) (z_cle _ _ _ _),
   zz_of (ok_iconst G (v := 0) dX4_cut_12 (by decide) rfl) (z_cn 13 0),
   zz_of (ok_zret G dX4_cut_13) (z_zret _),
   zz_of (ok_aload_n G dX4_cut_14 rfl rfl) (z_ald _ _),
   zz_of (ok_iload_n G dX4_cut_15 rfl rfl) (z_ild _ _),
   zz_of (ok_puti G (nx := 19) (idx := 19) (ci := 3) (k := 1) (RX4, TX4, 7) rfl (by decide) rfl (mm_pw G (ci := 3) (k := 1) (RX4, TX4, 7) rfl (by decide) rfl q273 dX4_cut_16) rfl) (z_puti _ _ _),
   zz_of (ok_iconst G (v := 1) dX4_cut_19 (by decide) rfl) (z_cn 20 1),
   zz_of (ok_zret G dX4_cut_20) (z_zret _), trivial⟩

theorem zwX4_cut_0 {Q : Option zv → zz_M → Prop} {X : Nat → zz_M → Prop} {f : Nat → Nat × Nat} {S L : Nat → Nat → Int} {P : Nat → Nat → Option Nat} {n : Int} (h : R32 n ∧ ((n < 0 → Q (some (vi 0)) ((2, f), S, L, P)) ∧ (¬ n < 0 → R32 n ∧ (R32 (S 101 1) ∧ ((n ≤ (S 101 1) → Q (some (vi 1)) ((2, f), mm_up S 101 1 n, L, P)) ∧ (¬ n ≤ (S 101 1) → Q (some (vi 0)) ((2, f), S, L, P))))))) : zz_J zpX4_cut (zz_ret Q X 0 0) 0 [some (vr 101), some (vi n)] [] ((2, f), S, L, P) (0, 0) := zz_J.go [] 400 h

theorem zmX4_cut (l : Launch) (hl : l.stackTraces = false) : mm_Spec l yX4_cut (ws_ yX4_cut cX4_cut 2 (some .boolean)) (mm_rm 1 0 0) (zE zX4_cut) := by
  refine zz_Met.J hl (by decide) (fun C G hnh => ztX4_cut G hnh) ?_
  rintro as ⟨⟨t_, f⟩, S, L, P⟩ Q X h
  unfold zX4_cut at h
  split at h
  rotate_left
  · exact h.elim
  rename_i h_ n
  obtain ⟨e1_, e2_, h⟩ := mm_and2 h (fun q => q)
  cases mm_beq e1_
  cases mm_beq e2_
  try dsimp only at h
  refine ⟨rfl, ?_⟩
  obtain ⟨h1, h2, q1, q2⟩ := h
  refine zwX4_cut_0 ?_
  (repeat' (first | omega | exact q1 (by omega) | exact q2 (by omega) | apply And.intro | intro _)) <;> omega
def zX4_begins : zz_Sp := fun as M Q X => match as with
  | [.inr (.inr (some h_))] => bif Nat.beq h_ 101 && Nat.beq M.1.1 2 then (Q none ((2, M.1.2), mm_up (mm_up (mm_up (mm_up M.2.1 101 2 (M.2.1 101 1)) 101 1 0) 101 3 0) 101 6 0, M.2.2.1, M.2.2.2)) else False
  | _ => False

def zpX4_begins : zz_P := [(0, zo_ald 1 0), (1, zo_ald 2 0), (2, zo_get 5 3 0 1), (5, zo_puti 8 3 2), (8, zo_ald 9 0), (9, zo_c 10 (vi 0)), (10, zo_puti 13 3 1), (13, zo_ald 14 0), (14, zo_c 15 (vi 0)), (15, zo_puti 18 3 3), (18, zo_ald 19 0), (19, zo_c 20 (vi 0)), (20, zo_puti 23 3 6), (23, zo_vret)]
theorem ztX4_begins {C : mm_C} (G : mm_G C RX4 cX4_begins none 1 (mm_rm 1 0 0)) (hnh : mm_nh C) : zz_OKs C zpX4_begins :=
  ⟨zz_of (ok_aload_n G dX4_begins_0 rfl rfl) (z_ald _ _),
   zz_of (ok_aload_n G dX4_begins_1 rfl rfl) (z_ald _ _),
   zz_of (ok_get G (nx := 5) (ci := 3) (kd := 0) (k := 1) (RX4, TX4, 7) rfl (by decide) rfl q273 dX4_begins_2 rfl) (z_get _ _ _ _),
   zz_of (ok_puti G (nx := 8) (idx := 22) (ci := 3) (k := 2) (RX4, TX4, 7) rfl (by decide) rfl (mm_pw G (ci := 3) (k := 2) (RX4, TX4, 7) rfl (by decide) rfl q274 dX4_begins_5) rfl) (z_puti _ _ _),
   zz_of (ok_aload_n G dX4_begins_8 rfl rfl) (z_ald _ _),
   zz_of (ok_iconst G (v := 0) dX4_begins_9 (by decide) rfl) (z_cn 10 0),
   zz_of (ok_puti G (nx := 13) (idx := 19) (ci := 3) (k := 1) (RX4, TX4, 7) rfl (by decide) rfl (mm_pw G (ci := 3) (k := 1) (RX4, TX4, 7) rfl (by decide) rfl q273 dX4_begins_10) rfl) (z_puti _ _ _),
   zz_of (ok_aload_n G dX4_begins_13 rfl rfl) (z_ald _ _),
   zz_of (ok_iconst G (v := 0) dX4_begins_14 (by decide) rfl) (z_cn 15 0),
   zz_of (ok_puti G (nx := 18) (idx := 25) (ci := 3) (k := 3) (RX4, TX4, 7) rfl (by decide) rfl (mm_pw G (ci := 3) (k := 3) (RX4, TX4, 7) rfl (by decide) rfl q276 dX4_begins_15) rfl) (z_puti _ _ _),
   zz_of (ok_aload_n G dX4_begins_18 rfl rfl) (z_ald _ _),
   zz_of (ok_iconst G (v := 0) dX4_begins_19 (by decide) rfl) (z_cn 20 0),
   zz_of (ok_puti G (nx := 23) (idx := 28) (ci := 3) (k := 6) (RX4, TX4, 7) rfl (by decide) rfl (mm_pw G (ci := 3) (k := 6) (RX4, TX4, 7) rfl (by decide) rfl q281 dX4_begins_20) rfl) (z_puti _ _ _),
   zz_of (ok_vret G dX4_begins_23) (z_vret), trivial⟩

theorem zwX4_begins_0 {Q : Option zv → zz_M → Prop} {X : Nat → zz_M → Prop} {f : Nat → Nat × Nat} {S L : Nat → Nat → Int} {P : Nat → Nat → Option Nat}  (h : Q none ((2, f), mm_up (mm_up (mm_up (mm_up S 101 2 (S 101 1)) 101 1 0) 101 3 0) 101 6 0, L, P)) : zz_J zpX4_begins (zz_ret Q X 0 0) 0 [some (vr 101)] [] ((2, f), S, L, P) (0, 0) := zz_J.go [] 400 h

theorem zmX4_begins (l : Launch) (hl : l.stackTraces = false) : mm_Spec l yX4_begins (ws_ yX4_begins cX4_begins 1 none) (mm_rm 1 0 0) (zE zX4_begins) := by
  refine zz_Met.J hl (by decide) (fun C G hnh => ztX4_begins G hnh) ?_
  rintro as ⟨⟨t_, f⟩, S, L, P⟩ Q X h
  unfold zX4_begins at h
  split at h
  rotate_left
  · exact h.elim
  rename_i h_
  obtain ⟨e1_, e2_, h⟩ := mm_and2 h (fun q => q)
  cases mm_beq e1_
  cases mm_beq e2_
  try dsimp only at h
  refine ⟨rfl, ?_⟩
  exact zwX4_begins_0 h
def zX4_byteAt : zz_Sp := fun as M Q X => match as with
  | [.inr (.inr (some h_)), .inl k] => bif Nat.beq h_ 101 && Nat.beq M.1.1 2 then (∃ (tx_ : Nat → Int) (n_ i_ : Nat), qT M.2.1 tx_ n_ ∧ k = (i_ : Int) ∧ i_ ≤ n_ ∧ Q (some (vi (if i_ < n_ then cby (tx_ i_) else -1))) ((2, M.1.2), M.2.1, M.2.2.1, M.2.2.2)) else False
  | _ => False

def zpX4_byteAt : zz_P := [(0, zo_ild 1 1), (1, zo_ald 2 0), (2, zo_get 5 3 0 2), (5, zo_cge false false 8 17), (8, zo_ald 9 0), (9, zo_get 12 3 2 0), (12, zo_ild 13 1), (13, zo_bald 14), (14, zo_goto 18), (17, zo_c 18 (vi (-1))), (18, zo_iret)]
theorem ztX4_byteAt {C : mm_C} (G : mm_G C RX4 cX4_byteAt (some .int) 2 (mm_rm 1 0 0)) (hnh : mm_nh C) : zz_OKs C zpX4_byteAt :=
  ⟨zz_of (ok_iload_n G dX4_byteAt_0 rfl rfl) (z_ild _ _),
   zz_of (ok_aload_n G dX4_byteAt_1 rfl rfl) (z_ald _ _),
   zz_of (ok_get G (nx := 5) (ci := 3) (kd := 0) (k := 2) (RX4, TX4, 7) rfl (by decide) rfl q274 dX4_byteAt_2 rfl) (z_get _ _ _ _),
   zz_of (ok_cge G dX4_byteAt_5 rfl rfl) (z_cge _ _ _ _),
   zz_of (ok_aload_n G dX4_byteAt_8 rfl rfl) (z_ald _ _),
   zz_of (ok_get G (nx := 12) (ci := 3) (kd := 2) (k := 0) (RX4, TX4, 7) rfl (by decide) rfl q271 dX4_byteAt_9 rfl) (z_get _ _ _ _),
   zz_of (ok_iload_n G dX4_byteAt_12 rfl rfl) (z_ild _ _),
   zz_of (ok_bald G dX4_byteAt_13 rfl) (z_bald _),
   zz_of (ok_goto G dX4_byteAt_14 rfl) (z_goto _),
   zz_of (ok_iconst G (v := (zI (-1))) dX4_byteAt_17 (by decide) rfl) (z_cz 18 (-1)),
   zz_of (ok_iret G dX4_byteAt_18) (z_iret), trivial⟩

theorem zwX4_byteAt_0 {Q : Option zv → zz_M → Prop} {X : Nat → zz_M → Prop} {f : Nat → Nat × Nat} {S L : Nat → Nat → Int} {P : Nat → Nat → Option Nat} {k : Int} (h : R32 k ∧ (R32 (S 101 2) ∧ (((S 101 2) ≤ k → Q (some (vi (-1))) ((2, f), S, L, P)) ∧ (¬ (S 101 2) ≤ k → (0 ≤ k ∧ k < 400) ∧ (Q (some (vi (S 102 k.toNat))) ((2, f), S, L, P)))))) : zz_J zpX4_byteAt (zz_ret Q X 0 0) 0 [some (vr 101), some (vi k)] [] ((2, f), S, L, P) (0, 0) := zz_J.go [] 400 h

theorem zmX4_byteAt (l : Launch) (hl : l.stackTraces = false) : mm_Spec l yX4_byteAt (ws_ yX4_byteAt cX4_byteAt 2 (some .int)) (mm_rm 1 0 0) (zE zX4_byteAt) := by
  refine zz_Met.J hl (by decide) (fun C G hnh => ztX4_byteAt G hnh) ?_
  rintro as ⟨⟨t_, f⟩, S, L, P⟩ Q X h
  unfold zX4_byteAt at h
  split at h
  rotate_left
  · exact h.elim
  rename_i h_ k
  obtain ⟨e1_, e2_, h⟩ := mm_and2 h (fun q => q)
  cases mm_beq e1_
  cases mm_beq e2_
  try dsimp only at h
  refine ⟨rfl, ?_⟩
  obtain ⟨tx, n, i, ht, rfl, hi, hq⟩ := h
  have e2 := ht.2.1
  have hn := ht.1
  refine zwX4_byteAt_0 ?_
  rw [e2]
  refine ⟨by omega, by omega, fun c => ?_, fun c => ⟨by omega, ?_⟩⟩
  · rw [if_neg (by omega)] at hq
    exact hq
  · rw [if_pos (by omega)] at hq
    have := (ht.2.2 i (by omega)).2
    rw [Int.toNat_natCast, this]
    exact hq
def zX4_blanks : zz_Sp := fun as M Q X => match as with
  | [.inr (.inr (some h_))] => bif Nat.beq h_ 101 && Nat.beq M.1.1 2 then (∃ (tx_ : Nat → Int) (n_ a_ b_ : Nat), qT M.2.1 tx_ n_ ∧ M.2.1 101 3 = (a_ : Int) ∧ a_ ≤ n_ ∧ (rn (qB tx_) n_ a_ = b_ ∧ Q none ((2, M.1.2), rS M.2.1 b_ b_, M.2.2.1, M.2.2.2))) else False
  | _ => False

def zpX4_blanks : zz_P := [(0, zo_ald 1 0), (1, zo_ald 2 0), (2, zo_get 5 3 0 3), (5, zo_callv 8 2 3 zX4_byteAt), (8, zo_c 10 (vi 32)), (10, zo_cne false true 13 26), (13, zo_ald 14 0), (14, zo_dup 15), (15, zo_get 18 3 0 3), (18, zo_c 19 (vi 1)), (19, zo_iadd 20), (20, zo_puti 23 3 3), (23, zo_goto 0), (26, zo_ald 27 0), (27, zo_ald 28 0), (28, zo_get 31 3 0 3), (31, zo_puti 34 3 4), (34, zo_vret)]
theorem ztX4_blanks {C : mm_C} (G : mm_G C RX4 cX4_blanks none 1 (mm_rm 2 0 0)) (hnh : mm_nh C) : zz_OKs C zpX4_blanks :=
  ⟨zz_of (ok_aload_n G dX4_blanks_0 rfl rfl) (z_ald _ _),
   zz_of (ok_aload_n G dX4_blanks_1 rfl rfl) (z_ald _ _),
   zz_of (ok_get G (nx := 5) (ci := 3) (kd := 0) (k := 3) (RX4, TX4, 7) rfl (by decide) rfl q276 dX4_blanks_2 rfl) (z_get _ _ _ _),
   zz_of (ok_callv G hnh (zmX4_byteAt _ G.hst) rfl rfl (RX4, TX4, 7) rfl q621 q623 qs2 q88 q624 (by decide +kernel) ⟨by decide, by decide⟩ dX4_blanks_5 rfl) (z_callv _ _ _ _),
   zz_of (ok_bipush G (v := 32) dX4_blanks_8 (by decide) rfl) (z_cn 10 32),
   zz_of (ok_cne G dX4_blanks_10 rfl rfl) (z_cne _ _ _ _),
   zz_of (ok_aload_n G dX4_blanks_13 rfl rfl) (z_ald _ _),
   zz_of (ok_dup G dX4_blanks_14 rfl) (z_dup _),
   zz_of (ok_get G (nx := 18) (ci := 3) (kd := 0) (k := 3) (RX4, TX4, 7) rfl (by decide) rfl q276 dX4_blanks_15 rfl) (z_get _ _ _ _),
   zz_of (ok_iconst G (v := 1) dX4_blanks_18 (by decide) rfl) (z_cn 19 1),
   zz_of (ok_iadd G dX4_blanks_19 rfl) (z_iadd _),
   zz_of (ok_puti G (nx := 23) (idx := 25) (ci := 3) (k := 3) (RX4, TX4, 7) rfl (by decide) rfl (mm_pw G (ci := 3) (k := 3) (RX4, TX4, 7) rfl (by decide) rfl q276 dX4_blanks_20) rfl) (z_puti _ _ _),
   zz_of (ok_goto G dX4_blanks_23 rfl) (z_goto _),
   zz_of (ok_aload_n G dX4_blanks_26 rfl rfl) (z_ald _ _),
   zz_of (ok_aload_n G dX4_blanks_27 rfl rfl) (z_ald _ _),
   zz_of (ok_get G (nx := 31) (ci := 3) (kd := 0) (k := 3) (RX4, TX4, 7) rfl (by decide) rfl q276 dX4_blanks_28 rfl) (z_get _ _ _ _),
   zz_of (ok_puti G (nx := 34) (idx := 35) (ci := 3) (k := 4) (RX4, TX4, 7) rfl (by decide) rfl (mm_pw G (ci := 3) (k := 4) (RX4, TX4, 7) rfl (by decide) rfl q277 dX4_blanks_31) rfl) (z_puti _ _ _),
   zz_of (ok_vret G dX4_blanks_34) (z_vret), trivial⟩

theorem zwX4_blanks_0 {Q : Option zv → zz_M → Prop} {X : Nat → zz_M → Prop} {f : Nat → Nat × Nat} {S L : Nat → Nat → Int} {P : Nat → Nat → Option Nat}  (h : (∃ (tx_1 : Nat → Int) (n_1 i_1 : Nat), qT S tx_1 n_1 ∧ (S 101 3) = (i_1 : Int) ∧ i_1 ≤ n_1 ∧ (R32 (if i_1 < n_1 then cby (tx_1 i_1) else -1) ∧ ((¬ (if i_1 < n_1 then cby (tx_1 i_1) else -1) = 32 → Q none ((2, f), mm_up S 101 4 (S 101 3), L, P)) ∧ ((if i_1 < n_1 then cby (tx_1 i_1) else -1) = 32 → zz_J zpX4_blanks (zz_ret Q X 0 0) 0 [some (vr 101)] [] ((2, f), mm_up S 101 3 ((S 101 3) + 1), L, P) (0, 0)))))) : zz_J zpX4_blanks (zz_ret Q X 0 0) 0 [some (vr 101)] [] ((2, f), S, L, P) (0, 0) := zz_J.go [(0, [])] 400 h

theorem zmX4_blanks (l : Launch) (hl : l.stackTraces = false) : mm_Spec l yX4_blanks (ws_ yX4_blanks cX4_blanks 1 none) (mm_rm 2 0 0) (zE zX4_blanks) := by
  refine zz_Met.J hl (by decide) (fun C G hnh => ztX4_blanks G hnh) ?_
  rintro as ⟨⟨t_, f⟩, S, L, P⟩ Q X h
  unfold zX4_blanks at h
  split at h
  rotate_left
  · exact h.elim
  rename_i h_
  obtain ⟨e1_, e2_, h⟩ := mm_and2 h (fun q => q)
  cases mm_beq e1_
  cases mm_beq e2_
  try dsimp only at h
  refine ⟨rfl, ?_⟩
  obtain ⟨tx, n, a0, b0, ht, ha, hn, hq⟩ := h
  have up : ∀ a b : Nat, mm_up (mm_up S 101 3 a) 101 4 b = rS S a b := fun a b => by
    funext h k
    simp only [up_eq]
    unfold rS
    grind
  have lp : ∀ (m a : Nat) (S' : Nat → Nat → Int), n - a ≤ m → a ≤ n → rn (qB tx) n a = rn (qB tx) n a0 → S' = mm_up S 101 3 a → zz_J zpX4_blanks (zz_ret Q X 0 0) 0 [some (vr 101)] [] ((2, f), S', L, P) (0, 0) := by
    intro m
    induction m with
    | zero =>
      intro a S' hm h2 hr e
      subst e
      have ht' : qT (mm_up S 101 3 a) tx n := ⟨ht.1, ht.2.1, ht.2.2⟩
      have ea : a = n := by omega
      have er : rn (qB tx) n a = a := rn_f (fun c => by omega)
      refine zwX4_blanks_0 ⟨tx, n, a, ht', rfl, h2, ?_⟩
      rw [if_neg (by omega)]
      refine ⟨by decide, fun _ => ?_, fun c => absurd c (by decide)⟩
      show Q none ((2, f), mm_up (mm_up S 101 3 a) 101 4 a, L, P)
      rw [up]
      have eb : a = b0 := by rw [← hq.1, ← hr, er]
      rw [eb]
      exact hq.2
    | succ m ih =>
      intro a S' hm h2 hr e
      subst e
      have ht' : qT (mm_up S 101 3 a) tx n := ⟨ht.1, ht.2.1, ht.2.2⟩
      refine zwX4_blanks_0 ⟨tx, n, a, ht', rfl, h2, ?_⟩
      by_cases hn2 : a < n
      · have hb := (ht.2.2 a hn2).1
        have := cby_b hb
        rw [if_pos hn2]
        refine ⟨by omega, fun c => ?_, fun c => ?_⟩
        · have er : rn (qB tx) n a = a := rn_f (fun _ => by
            unfold qB
            exact decide_eq_false (fun e => c ((cby_e hb (by decide)).mpr e)))
          show Q none ((2, f), mm_up (mm_up S 101 3 a) 101 4 a, L, P)
          rw [up]
          have eb : a = b0 := by rw [← hq.1, ← hr, er]
          rw [eb]
          exact hq.2
        · have er : rn (qB tx) n a = rn (qB tx) n (a + 1) := rn_t hn2 (by
            unfold qB
            exact decide_eq_true ((cby_e hb (by decide)).mp c))
          refine ih (a + 1) _ (by omega) (by omega) (by rw [← er]; exact hr) ?_
          funext h k
          simp only [up_eq]
          grind
      · have er : rn (qB tx) n a = a := rn_f (fun c => by omega)
        rw [if_neg hn2]
        refine ⟨by decide, fun _ => ?_, fun c => absurd c (by decide)⟩
        show Q none ((2, f), mm_up (mm_up S 101 3 a) 101 4 a, L, P)
        rw [up]
        have eb : a = b0 := by rw [← hq.1, ← hr, er]
        rw [eb]
        exact hq.2
  exact lp _ a0 S (Nat.le_refl _) hn rfl (by funext h k; simp only [up_eq]; grind)
def zX4_isOver : zz_Sp := fun as M Q X => match as with
  | [.inr (.inr (some h_))] => bif Nat.beq h_ 101 && Nat.beq M.1.1 2 then (∃ (tx_ : Nat → Int) (n_ a_ b_ : Nat), qT M.2.1 tx_ n_ ∧ M.2.1 101 3 = (a_ : Int) ∧ a_ ≤ n_ ∧ (rn (qB tx_) n_ a_ = b_ ∧ (b_ = n_ → Q (some (vi 1)) ((2, M.1.2), rS M.2.1 b_ b_, M.2.2.1, M.2.2.2)) ∧ (b_ ≠ n_ → Q (some (vi 0)) ((2, M.1.2), rS M.2.1 b_ b_, M.2.2.1, M.2.2.2)))) else False
  | _ => False

def zpX4_isOver : zz_P := [(0, zo_ald 1 0), (1, zo_callv 4 1 3 zX4_blanks), (4, zo_ald 5 0), (5, zo_get 8 3 0 3), (8, zo_ald 9 0), (9, zo_get 12 3 0 2), (12, zo_cne false false 15 19), (15, zo_c 16 (vi 1)), (16, zo_goto 20), (19, zo_c 20 (vi 0)), (20, zo_zret true)]
theorem ztX4_isOver {C : mm_C} (G : mm_G C RX4 cX4_isOver (some .boolean) 1 (mm_rm 3 0 0)) (hnh : mm_nh C) : zz_OKs C zpX4_isOver :=
  ⟨zz_of (ok_aload_n G dX4_isOver_0 rfl rfl) (z_ald _ _),
   zz_of (ok_callv G hnh (zmX4_blanks _ G.hst) rfl rfl (RX4, TX4, 7) rfl q617 q618 q619 q88 q620 (by decide +kernel) ⟨by decide, by decide⟩ dX4_isOver_1 rfl) (z_callv _ _ _ _),
   zz_of (ok_aload_n G dX4_isOver_4 rfl rfl) (z_ald _ _),
   zz_of (ok_get G (nx := 8) (ci := 3) (kd := 0) (k := 3) (RX4, TX4, 7) rfl (by decide) rfl q276 dX4_isOver_5 rfl) (z_get _ _ _ _),
   zz_of (ok_aload_n G dX4_isOver_8 rfl rfl) (z_ald _ _),
   zz_of (ok_get G (nx := 12) (ci := 3) (kd := 0) (k := 2) (RX4, TX4, 7) rfl (by decide) rfl q274 dX4_isOver_9 rfl) (z_get _ _ _ _),
   zz_of (ok_cne G dX4_isOver_12 rfl rfl) (z_cne _ _ _ _),
   zz_of (ok_iconst G (v := 1) dX4_isOver_15 (by decide) rfl) (z_cn 16 1),
   zz_of (ok_goto G dX4_isOver_16 rfl) (z_goto _),
   zz_of (ok_iconst G (v := 0) dX4_isOver_19 (by decide) rfl) (z_cn 20 0),
   zz_of (ok_zret G dX4_isOver_20) (z_zret _), trivial⟩

theorem zwX4_isOver_0 {Q : Option zv → zz_M → Prop} {X : Nat → zz_M → Prop} {f : Nat → Nat × Nat} {S L : Nat → Nat → Int} {P : Nat → Nat → Option Nat}  (h : (∃ (tx_1 : Nat → Int) (n_1 a_1 b_1 : Nat), qT S tx_1 n_1 ∧ S 101 3 = (a_1 : Int) ∧ a_1 ≤ n_1 ∧ (rn (qB tx_1) n_1 a_1 = b_1 ∧ (R32 ((rS S b_1 b_1) 101 3) ∧ (R32 ((rS S b_1 b_1) 101 2) ∧ ((¬ ((rS S b_1 b_1) 101 3) = ((rS S b_1 b_1) 101 2) → Q (some (vi 0)) ((2, f), rS S b_1 b_1, L, P)) ∧ (((rS S b_1 b_1) 101 3) = ((rS S b_1 b_1) 101 2) → Q (some (vi 1)) ((2, f), rS S b_1 b_1, L, P)))))))) : zz_J zpX4_isOver (zz_ret Q X 0 0) 0 [some (vr 101)] [] ((2, f), S, L, P) (0, 0) := zz_J.go [] 400 h

theorem zmX4_isOver (l : Launch) (hl : l.stackTraces = false) : mm_Spec l yX4_isOver (ws_ yX4_isOver cX4_isOver 1 (some .boolean)) (mm_rm 3 0 0) (zE zX4_isOver) := by
  refine zz_Met.J hl (by decide) (fun C G hnh => ztX4_isOver G hnh) ?_
  rintro as ⟨⟨t_, f⟩, S, L, P⟩ Q X h
  unfold zX4_isOver at h
  split at h
  rotate_left
  · exact h.elim
  rename_i h_
  obtain ⟨e1_, e2_, h⟩ := mm_and2 h (fun q => q)
  cases mm_beq e1_
  cases mm_beq e2_
  try dsimp only at h
  refine ⟨rfl, ?_⟩
  obtain ⟨tx, n, a, b, ht, ha, hn, hb, q1, q2⟩ := h
  have hn4 := ht.1
  have e2 : S 101 2 = n := ht.2.1
  have hle : b ≤ n := by rw [← hb]; exact rn_le hn
  refine zwX4_isOver_0 ⟨tx, n, a, b, ht, ha, hn, hb, ?_⟩
  rw [rS_3, rS_k S b b (by decide) (by decide), e2]
  exact ⟨by omega, by omega, fun c => q2 (by omega), fun c => q1 (by omega)⟩
def zX4_sign : zz_Sp := fun as M Q X => match as with
  | [.inr (.inr (some h_)), .inl c] => bif Nat.beq h_ 101 && Nat.beq M.1.1 2 then ((0 ≤ c ∧ c ≤ 127) ∧ ∃ (tx_ : Nat → Int) (n_ a_ b_ : Nat), qT M.2.1 tx_ n_ ∧ M.2.1 101 3 = (a_ : Int) ∧ a_ ≤ n_ ∧ (rn (qB tx_) n_ a_ = b_ ∧ (isSg tx_ n_ b_ c = true → Q (some (vi 1)) ((2, M.1.2), rS M.2.1 (b_ + 1) b_, M.2.2.1, M.2.2.2)) ∧ (isSg tx_ n_ b_ c = false → Q (some (vi 0)) ((2, M.1.2), rS M.2.1 b_ b_, M.2.2.1, M.2.2.2)))) else False
  | _ => False

def zpX4_sign : zz_P := [(0, zo_ald 1 0), (1, zo_callv 4 1 3 zX4_blanks), (4, zo_ald 5 0), (5, zo_ald 6 0), (6, zo_get 9 3 0 3), (9, zo_callv 12 2 3 zX4_byteAt), (12, zo_ild 13 1), (13, zo_ceq false false 16 18), (16, zo_c 17 (vi 0)), (17, zo_zret true), (18, zo_ald 19 0), (19, zo_dup 20), (20, zo_get 23 3 0 3), (23, zo_c 24 (vi 1)), (24, zo_iadd 25), (25, zo_puti 28 3 3), (28, zo_c 29 (vi 1)), (29, zo_zret true)]
theorem ztX4_sign {C : mm_C} (G : mm_G C RX4 cX4_sign (some .boolean) 2 (mm_rm 3 0 0)) (hnh : mm_nh C) : zz_OKs C zpX4_sign :=
  ⟨zz_of (ok_aload_n G dX4_sign_0 rfl rfl) (z_ald _ _),
   zz_of (ok_callv G hnh (zmX4_blanks _ G.hst) rfl rfl (RX4, TX4, 7) rfl q617 q618 q619 q88 q620 (by decide +kernel) ⟨by decide, by decide⟩ dX4_sign_1 rfl) (z_callv _ _ _ _),
   zz_of (ok_aload_n G dX4_sign_4 rfl rfl) (z_ald _ _),
   zz_of (ok_aload_n G dX4_sign_5 rfl rfl) (z_ald _ _),
   zz_of (ok_get G (nx := 9) (ci := 3) (kd := 0) (k := 3) (RX4, TX4, 7) rfl (by decide) rfl q276 dX4_sign_6 rfl) (z_get _ _ _ _),
   zz_of (ok_callv G hnh (zmX4_byteAt _ G.hst) rfl rfl (RX4, TX4, 7) rfl q621 q623 qs2 q88 q624 (by decide +kernel) ⟨by decide, by decide⟩ dX4_sign_9 rfl) (z_callv _ _ _ _),
   zz_of (ok_iload_n G dX4_sign_12 rfl rfl) (z_ild _ _),
   zz_of (ok_ceq G dX4_sign_13 rfl rfl) (z_ceq _ _ _ _),
   zz_of (ok_iconst G (v := 0) dX4_sign_16 (by decide) rfl) (z_cn 17 0),
   zz_of (ok_zret G dX4_sign_17) (z_zret _),
   zz_of (ok_aload_n G dX4_sign_18 rfl rfl) (z_ald _ _),
   zz_of (ok_dup G dX4_sign_19 rfl) (z_dup _),
   zz_of (ok_get G (nx := 23) (ci := 3) (kd := 0) (k := 3) (RX4, TX4, 7) rfl (by decide) rfl q276 dX4_sign_20 rfl) (z_get _ _ _ _),
   zz_of (ok_iconst G (v := 1) dX4_sign_23 (by decide) rfl) (z_cn 24 1),
   zz_of (ok_iadd G dX4_sign_24 rfl) (z_iadd _),
   zz_of (ok_puti G (nx := 28) (idx := 25) (ci := 3) (k := 3) (RX4, TX4, 7) rfl (by decide) rfl (mm_pw G (ci := 3) (k := 3) (RX4, TX4, 7) rfl (by decide) rfl q276 dX4_sign_25) rfl) (z_puti _ _ _),
   zz_of (ok_iconst G (v := 1) dX4_sign_28 (by decide) rfl) (z_cn 29 1),
   zz_of (ok_zret G dX4_sign_29) (z_zret _), trivial⟩

theorem zwX4_sign_0 {Q : Option zv → zz_M → Prop} {X : Nat → zz_M → Prop} {f : Nat → Nat × Nat} {S L : Nat → Nat → Int} {P : Nat → Nat → Option Nat} {c : Int} (h : (∃ (tx_1 : Nat → Int) (n_1 a_1 b_1 : Nat), qT S tx_1 n_1 ∧ S 101 3 = (a_1 : Int) ∧ a_1 ≤ n_1 ∧ (rn (qB tx_1) n_1 a_1 = b_1 ∧ ((∃ (tx_2 : Nat → Int) (n_2 i_2 : Nat), qT (rS S b_1 b_1) tx_2 n_2 ∧ ((rS S b_1 b_1) 101 3) = (i_2 : Int) ∧ i_2 ≤ n_2 ∧ (R32 (if i_2 < n_2 then cby (tx_2 i_2) else -1) ∧ (R32 c ∧ (((if i_2 < n_2 then cby (tx_2 i_2) else -1) = c → Q (some (vi 1)) ((2, f), mm_up (rS S b_1 b_1) 101 3 (((rS S b_1 b_1) 101 3) + 1), L, P)) ∧ (¬ (if i_2 < n_2 then cby (tx_2 i_2) else -1) = c → Q (some (vi 0)) ((2, f), rS S b_1 b_1, L, P)))))))))) : zz_J zpX4_sign (zz_ret Q X 0 0) 0 [some (vr 101), some (vi c)] [] ((2, f), S, L, P) (0, 0) := zz_J.go [] 400 h

theorem zmX4_sign (l : Launch) (hl : l.stackTraces = false) : mm_Spec l yX4_sign (ws_ yX4_sign cX4_sign 2 (some .boolean)) (mm_rm 3 0 0) (zE zX4_sign) := by
  refine zz_Met.J hl (by decide) (fun C G hnh => ztX4_sign G hnh) ?_
  rintro as ⟨⟨t_, f⟩, S, L, P⟩ Q X h
  unfold zX4_sign at h
  split at h
  rotate_left
  · exact h.elim
  rename_i h_ c
  obtain ⟨e1_, e2_, h⟩ := mm_and2 h (fun q => q)
  cases mm_beq e1_
  cases mm_beq e2_
  try dsimp only at h
  refine ⟨rfl, ?_⟩
  obtain ⟨hc, tx, n, a, b, ht, ha, hn, hb, q1, q2⟩ := h
  have hn4 := ht.1
  have hle : b ≤ n := by rw [← hb]; exact rn_le hn
  have hv : (if b < n then cby (tx b) else -1) = c ↔ isSg tx n b c = true := by
    unfold isSg
    by_cases h : b < n
    · rw [if_pos h, cby_e (ht.2.2 b h).1 hc]
      simp [h]
    · rw [if_neg h]
      simp [h]
      omega
  have hb8 : -128 ≤ (if b < n then cby (tx b) else -1) ∧ (if b < n then cby (tx b) else -1) ≤ 127 := by
    split
    · exact cby_b (ht.2.2 b (by assumption)).1
    · decide
  refine zwX4_sign_0 ⟨tx, n, a, b, ht, ha, hn, hb, tx, n, b, ht.r b b, rfl, hle, ?_⟩
  refine ⟨by omega, by omega, fun e => ?_, fun e => ?_⟩
  · have k := q1 (hv.mp e)
    have e3 : mm_up (rS S b b) 101 3 (rS S b b 101 3 + 1) = rS S (b + 1) b := rS_u3 S b b (b + 1)
    rw [e3]
    exact k
  · refine q2 ?_
    cases hh : isSg tx n b c
    · rfl
    · exact absurd (hv.mpr hh) e
def zX4_isFigure : zz_Sp := fun as M Q X => match as with
  | [.inr (.inr (some h_))] => bif Nat.beq h_ 101 && Nat.beq M.1.1 2 then (∃ (tx_ : Nat → Int) (n_ a_ b_ : Nat), qT M.2.1 tx_ n_ ∧ M.2.1 101 3 = (a_ : Int) ∧ a_ ≤ n_ ∧ (rn (qB tx_) n_ a_ = b_ ∧ ((b_ < n_ ∧ qD tx_ b_ = true) → Q (some (vi 1)) ((2, M.1.2), rS M.2.1 b_ b_, M.2.2.1, M.2.2.2)) ∧ (¬ (b_ < n_ ∧ qD tx_ b_ = true) → Q (some (vi 0)) ((2, M.1.2), rS M.2.1 b_ b_, M.2.2.1, M.2.2.2)))) else False
  | _ => False

def zpX4_isFigure : zz_P := [(0, zo_ald 1 0), (1, zo_callv 4 1 3 zX4_blanks), (4, zo_ald 5 0), (5, zo_ald 6 0), (6, zo_get 9 3 0 3), (9, zo_callv 12 2 3 zX4_byteAt), (12, zo_c 14 (vi 48)), (14, zo_c 16 (vi 57)), (16, zo_calls 19 3 zX1_in), (19, zo_zret true)]
theorem ztX4_isFigure {C : mm_C} (G : mm_G C RX4 cX4_isFigure (some .boolean) 1 (mm_rm 3 0 0)) (hnh : mm_nh C) : zz_OKs C zpX4_isFigure :=
  ⟨zz_of (ok_aload_n G dX4_isFigure_0 rfl rfl) (z_ald _ _),
   zz_of (ok_callv G hnh (zmX4_blanks _ G.hst) rfl rfl (RX4, TX4, 7) rfl q617 q618 q619 q88 q620 (by decide +kernel) ⟨by decide, by decide⟩ dX4_isFigure_1 rfl) (z_callv _ _ _ _),
   zz_of (ok_aload_n G dX4_isFigure_4 rfl rfl) (z_ald _ _),
   zz_of (ok_aload_n G dX4_isFigure_5 rfl rfl) (z_ald _ _),
   zz_of (ok_get G (nx := 9) (ci := 3) (kd := 0) (k := 3) (RX4, TX4, 7) rfl (by decide) rfl q276 dX4_isFigure_6 rfl) (z_get _ _ _ _),
   zz_of (ok_callv G hnh (zmX4_byteAt _ G.hst) rfl rfl (RX4, TX4, 7) rfl q621 q623 qs2 q88 q624 (by decide +kernel) ⟨by decide, by decide⟩ dX4_isFigure_9 rfl) (z_callv _ _ _ _),
   zz_of (ok_bipush G (v := 48) dX4_isFigure_12 (by decide) rfl) (z_cn 14 48),
   zz_of (ok_bipush G (v := 57) dX4_isFigure_14 (by decide) rfl) (z_cn 16 57),
   zz_of (ok_callsN G hnh (zmX1_in _ G.hst) rfl rfl q633 q634 q82 q635 (by decide +kernel) ⟨by decide, by decide⟩ dX4_isFigure_16 rfl) (z_calls _ _ _),
   zz_of (ok_zret G dX4_isFigure_19) (z_zret _), trivial⟩

theorem zwX4_isFigure_0 {Q : Option zv → zz_M → Prop} {X : Nat → zz_M → Prop} {f : Nat → Nat × Nat} {S L : Nat → Nat → Int} {P : Nat → Nat → Option Nat}  (h : (∃ (tx_1 : Nat → Int) (n_1 a_1 b_1 : Nat), qT S tx_1 n_1 ∧ S 101 3 = (a_1 : Int) ∧ a_1 ≤ n_1 ∧ (rn (qB tx_1) n_1 a_1 = b_1 ∧ ((∃ (tx_2 : Nat → Int) (n_2 i_2 : Nat), qT (rS S b_1 b_1) tx_2 n_2 ∧ ((rS S b_1 b_1) 101 3) = (i_2 : Int) ∧ i_2 ≤ n_2 ∧ ((R32 (if i_2 < n_2 then cby (tx_2 i_2) else -1) ∧ R32 (48 : Int) ∧ R32 (57 : Int) ∧ (((48 : Int) ≤ (if i_2 < n_2 then cby (tx_2 i_2) else -1) ∧ (if i_2 < n_2 then cby (tx_2 i_2) else -1) ≤ (57 : Int)) → (Q (some (vi 1)) ((2, f), rS S b_1 b_1, L, P))) ∧ (¬ ((48 : Int) ≤ (if i_2 < n_2 then cby (tx_2 i_2) else -1) ∧ (if i_2 < n_2 then cby (tx_2 i_2) else -1) ≤ (57 : Int)) → (Q (some (vi 0)) ((2, f), rS S b_1 b_1, L, P)))))))))) : zz_J zpX4_isFigure (zz_ret Q X 0 0) 0 [some (vr 101)] [] ((2, f), S, L, P) (0, 0) := zz_J.go [] 400 h

theorem zmX4_isFigure (l : Launch) (hl : l.stackTraces = false) : mm_Spec l yX4_isFigure (ws_ yX4_isFigure cX4_isFigure 1 (some .boolean)) (mm_rm 3 0 0) (zE zX4_isFigure) := by
  refine zz_Met.J hl (by decide) (fun C G hnh => ztX4_isFigure G hnh) ?_
  rintro as ⟨⟨t_, f⟩, S, L, P⟩ Q X h
  unfold zX4_isFigure at h
  split at h
  rotate_left
  · exact h.elim
  rename_i h_
  obtain ⟨e1_, e2_, h⟩ := mm_and2 h (fun q => q)
  cases mm_beq e1_
  cases mm_beq e2_
  try dsimp only at h
  refine ⟨rfl, ?_⟩
  obtain ⟨tx, n, a, b, ht, ha, hn, hb, q1, q2⟩ := h
  have hn4 := ht.1
  have hle : b ≤ n := by rw [← hb]; exact rn_le hn
  have hv : (48 ≤ (if b < n then cby (tx b) else -1) ∧ (if b < n then cby (tx b) else -1) ≤ 57) ↔ (b < n ∧ qD tx b = true) := by
    unfold qD
    by_cases h : b < n
    · rw [if_pos h, cby_i (ht.2.2 b h).1 (by decide) (by decide)]
      simp [h]
    · rw [if_neg h]
      simp [h]
  have hb8 : -128 ≤ (if b < n then cby (tx b) else -1) ∧ (if b < n then cby (tx b) else -1) ≤ 127 := by
    split
    · exact cby_b (ht.2.2 b (by assumption)).1
    · decide
  refine zwX4_isFigure_0 ⟨tx, n, a, b, ht, ha, hn, hb, tx, n, b, ht.r b b, rfl, hle, ?_⟩
  exact ⟨by omega, by decide, by decide, fun e => q1 (hv.mp e), fun e => q2 (fun q => e (hv.mpr q))⟩
def zX4_comesUp : zz_Sp := fun as M Q X => match as with
  | [.inr (.inr (some h_))] => bif Nat.beq h_ 101 && Nat.beq M.1.1 2 then (Q none ((2, M.1.2), mm_up M.2.1 101 6 (M.2.1 101 6 - 1), M.2.2.1, M.2.2.2)) else False
  | _ => False

def zpX4_comesUp : zz_P := [(0, zo_ald 1 0), (1, zo_dup 2), (2, zo_get 5 3 0 6), (5, zo_c 6 (vi 1)), (6, zo_isub 7), (7, zo_puti 10 3 6), (10, zo_vret)]
theorem ztX4_comesUp {C : mm_C} (G : mm_G C RX4 cX4_comesUp none 1 (mm_rm 1 0 0)) (hnh : mm_nh C) : zz_OKs C zpX4_comesUp :=
  ⟨zz_of (ok_aload_n G dX4_comesUp_0 rfl rfl) (z_ald _ _),
   zz_of (ok_dup G dX4_comesUp_1 rfl) (z_dup _),
   zz_of (ok_get G (nx := 5) (ci := 3) (kd := 0) (k := 6) (RX4, TX4, 7) rfl (by decide) rfl q281 dX4_comesUp_2 rfl) (z_get _ _ _ _),
   zz_of (ok_iconst G (v := 1) dX4_comesUp_5 (by decide) rfl) (z_cn 6 1),
   zz_of (ok_isub G dX4_comesUp_6 rfl) (z_isub _),
   zz_of (ok_puti G (nx := 10) (idx := 28) (ci := 3) (k := 6) (RX4, TX4, 7) rfl (by decide) rfl (mm_pw G (ci := 3) (k := 6) (RX4, TX4, 7) rfl (by decide) rfl q281 dX4_comesUp_7) rfl) (z_puti _ _ _),
   zz_of (ok_vret G dX4_comesUp_10) (z_vret), trivial⟩

theorem zwX4_comesUp_0 {Q : Option zv → zz_M → Prop} {X : Nat → zz_M → Prop} {f : Nat → Nat × Nat} {S L : Nat → Nat → Int} {P : Nat → Nat → Option Nat}  (h : Q none ((2, f), mm_up S 101 6 ((S 101 6) - 1), L, P)) : zz_J zpX4_comesUp (zz_ret Q X 0 0) 0 [some (vr 101)] [] ((2, f), S, L, P) (0, 0) := zz_J.go [] 400 h

theorem zmX4_comesUp (l : Launch) (hl : l.stackTraces = false) : mm_Spec l yX4_comesUp (ws_ yX4_comesUp cX4_comesUp 1 none) (mm_rm 1 0 0) (zE zX4_comesUp) := by
  refine zz_Met.J hl (by decide) (fun C G hnh => ztX4_comesUp G hnh) ?_
  rintro as ⟨⟨t_, f⟩, S, L, P⟩ Q X h
  unfold zX4_comesUp at h
  split at h
  rotate_left
  · exact h.elim
  rename_i h_
  obtain ⟨e1_, e2_, h⟩ := mm_and2 h (fun q => q)
  cases mm_beq e1_
  cases mm_beq e2_
  try dsimp only at h
  refine ⟨rfl, ?_⟩
  exact zwX4_comesUp_0 h
def zX1_end : zz_Sp := fun as M Q X => match as with
  | [.inr (.inr (some h_)), .inl n] => bif Nat.beq h_ 100 && Nat.beq M.1.1 2 then (R32 n ∧ R32 (M.2.1 101 1) ∧ (¬ (0 ≤ n ∧ n ≤ M.2.1 101 1) → Q (some (vi 0)) ((2, M.1.2), M.2.1, M.2.2.1, M.2.2.2)) ∧ ((0 ≤ n ∧ n ≤ M.2.1 101 1) → Q (some (vi 1)) ((2, M.1.2), mm_up M.2.1 101 1 n, M.2.2.1, M.2.2.2))) else False
  | _ => False

def zpX1_end : zz_P := [(0, zo_ald 1 0), (1, zo_get 4 0 2 2), (4, zo_ild 5 1), (5, zo_callv 8 2 3 zX4_cut), (8, zo_zret true)]
theorem ztX1_end {C : mm_C} (G : mm_G C RX1 cX1_end (some .boolean) 2 (mm_rm 2 0 0)) (hnh : mm_nh C) : zz_OKs C zpX1_end :=
  ⟨zz_of (ok_aload_n G dX1_end_0 rfl rfl) (z_ald _ _),
   zz_of (ok_get G (nx := 4) (ci := 0) (kd := 2) (k := 2) (RX1, TX1, 19) rfl (by decide) rfl q404 dX1_end_1 rfl) (z_get _ _ _ _),
   zz_of (ok_iload_n G dX1_end_4 rfl rfl) (z_ild _ _),
   zz_of (ok_callv G hnh (zmX4_cut _ G.hst) rfl rfl (RX4, TX4, 7) rfl q481 q482 q483 q88 q484 (by decide +kernel) ⟨by decide, by decide⟩ dX1_end_5 rfl) (z_callv _ _ _ _),
   zz_of (ok_zret G dX1_end_8) (z_zret _), trivial⟩

theorem zwX1_end_0 {Q : Option zv → zz_M → Prop} {X : Nat → zz_M → Prop} {f : Nat → Nat × Nat} {S L : Nat → Nat → Int} {P : Nat → Nat → Option Nat} {n : Int} (h : (R32 n ∧ R32 (S 101 1) ∧ (¬ (0 ≤ n ∧ n ≤ S 101 1) → (Q (some (vi 0)) ((2, f), S, L, P))) ∧ ((0 ≤ n ∧ n ≤ S 101 1) → (Q (some (vi 1)) ((2, f), mm_up S 101 1 n, L, P))))) : zz_J zpX1_end (zz_ret Q X 0 0) 0 [some (vr 100), some (vi n)] [] ((2, f), S, L, P) (0, 0) := zz_J.go [] 400 h

theorem zmX1_end (l : Launch) (hl : l.stackTraces = false) : mm_Spec l yX1_end (ws_ yX1_end cX1_end 2 (some .boolean)) (mm_rm 2 0 0) (zE zX1_end) := by
  refine zz_Met.J hl (by decide) (fun C G hnh => ztX1_end G hnh) ?_
  rintro as ⟨⟨t_, f⟩, S, L, P⟩ Q X h
  unfold zX1_end at h
  split at h
  rotate_left
  · exact h.elim
  rename_i h_ n
  obtain ⟨e1_, e2_, h⟩ := mm_and2 h (fun q => q)
  cases mm_beq e1_
  cases mm_beq e2_
  try dsimp only at h
  refine ⟨rfl, ?_⟩
  exact zwX1_end_0 h
