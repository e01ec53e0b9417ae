/-! ===== the component's entries that make nothing: refusals ===== -/
set_option maxRecDepth 100000
def zX1_there : zz_Sp := fun as M Q X => match as with
  | [.inl k, .inl n] => R32 k ∧ (-1000 ≤ n ∧ n ≤ 1000) ∧ ((0 ≤ k ∧ k < n) → Q none M) ∧ (¬ (0 ≤ k ∧ k < n) → X 3 M)
  | _ => False

def zpX1_there : zz_P := [(0, zo_ild 1 0), (1, zo_c 2 (vi 0)), (2, zo_ild 3 1), (3, zo_c 4 (vi 1)), (4, zo_isub 5), (5, zo_calls 8 3 zX1_in), (8, zo_zifne 11 19), (11, zo_thr0L (mm_rm 6 1 6) 3), (14, zo_dup 15), (15, zo_bad), (18, zo_athr 20 0), (19, zo_vret)]
theorem ztX1_there {C : mm_C} (G : mm_G C RX1 cX1_there none 2 (mm_rm 6 1 6)) (hnh : mm_nh C) : zz_OKs C zpX1_there :=
  ⟨zz_of (ok_iload_n G dX1_there_0 rfl rfl) (z_ild _ _),
   zz_of (ok_iconst G (v := 0) dX1_there_1 (by decide) rfl) (z_cn 2 0),
   zz_of (ok_iload_n G dX1_there_2 rfl rfl) (z_ild _ _),
   zz_of (ok_iconst G (v := 1) dX1_there_3 (by decide) rfl) (z_cn 4 1),
   zz_of (ok_isub G dX1_there_4 rfl) (z_isub _),
   zz_of (ok_calls G hnh (zmX1_in _ G.hst) rfl rfl q1326 q634 q82 q635 (by decide +kernel) ⟨by decide, by decide⟩ dX1_there_5 rfl) (z_calls _ _ _),
   zz_of (ok_ifne G dX1_there_8 rfl rfl) (z_zifne _ _),
   zz_of (th_X1_IndexOutOfBoundsException G (hnh.q 18) dX1_there_11 dX1_there_14 dX1_there_15 dX1_there_18) (z_thr0L _ _),
   zz_of (ok_dup G dX1_there_14 rfl) (z_dup _),
   zz_of (ok_bad) (z_bad),
   zz_of (ok_athr G (ci := 20) (i := 0) (RX10, TX10, 6) rfl rfl (hnh.q 18) dX1_there_18) (z_athr _ _),
   zz_of (ok_vret G dX1_there_19) (z_vret), trivial⟩

theorem zwX1_there_0 {Q : Option zv → zz_M → Prop} {X : Nat → zz_M → Prop} {M : zz_M} {k : Int} {n : Int} (h : (R32 k ∧ R32 (0 : Int) ∧ R32 (n - 1) ∧ (((0 : Int) ≤ k ∧ k ≤ (n - 1)) → (Q none M)) ∧ (¬ ((0 : Int) ≤ k ∧ k ≤ (n - 1)) → (X 3 M)))) : zz_J zpX1_there (zz_ret Q X 1 6) 0 [some (vi k), some (vi n)] [] M (0, 0) := zz_J.go [] 400 h

theorem zmX1_there (l : Launch) (hl : l.stackTraces = false) : mm_Spec l yX1_there (ws_ yX1_there cX1_there 2 none) (mm_rm 6 1 6) (zE zX1_there) := by
  refine zz_Met.J hl (by decide) (fun C G hnh => ztX1_there G hnh) ?_
  rintro as M Q X h
  unfold zX1_there at h
  split at h
  rotate_left
  · exact h.elim
  rename_i k n
  refine ⟨rfl, ?_⟩
  obtain ⟨h1, h2, q1, q2⟩ := h
  refine zwX1_there_0 ?_
  (repeat' (first | omega | exact q1 (by omega) | exact q2 (by omega) | apply And.intro | intro _)) <;> omega
def zX1_player : zz_Sp := fun as M Q X => match as with
  | [.inl k] => R32 k ∧ ((0 ≤ k ∧ k < 2) → Q none M) ∧ (¬ (0 ≤ k ∧ k < 2) → X 3 M)
  | _ => False

def zpX1_player : zz_P := [(0, zo_ild 1 0), (1, zo_c 2 (vi 2)), (2, zo_csL (mm_rm 7 1 6) 5 2 1 6 zX1_there), (5, zo_vret)]
theorem ztX1_player {C : mm_C} (G : mm_G C RX1 cX1_player none 1 (mm_rm 7 1 6)) (hnh : mm_nh C) : zz_OKs C zpX1_player :=
  ⟨zz_of (ok_iload_n G dX1_player_0 rfl rfl) (z_ild _ _),
   zz_of (ok_iconst G (v := 2) dX1_player_1 (by decide) rfl) (z_cn 2 2),
   zz_of (ok_calsF G (hnh.q 2) (zmX1_there _ G.hst) q1323 q1324 q82 q1325 (by decide +kernel) ⟨Nat.le_of_ble_eq_true rfl, Nat.le_of_ble_eq_true rfl⟩ dX1_player_2 rfl) (z_csL _ _ _ _ _ _),
   zz_of (ok_vret G dX1_player_5) (z_vret), trivial⟩

theorem zwX1_player_0 {Q : Option zv → zz_M → Prop} {X : Nat → zz_M → Prop} {M : zz_M} {k : Int} (h : (R32 k ∧ (-1000 ≤ (2 : Int) ∧ (2 : Int) ≤ 1000) ∧ ((0 ≤ k ∧ k < (2 : Int)) → (Q none M)) ∧ (¬ (0 ≤ k ∧ k < (2 : Int)) → X 3 M))) : zz_J zpX1_player (zz_ret Q X 1 6) 0 [some (vi k)] [] M (0, 0) := zz_J.go [] 400 h

theorem zmX1_player (l : Launch) (hl : l.stackTraces = false) : mm_Spec l yX1_player (ws_ yX1_player cX1_player 1 none) (mm_rm 7 1 6) (zE zX1_player) := by
  refine zz_Met.J hl (by decide) (fun C G hnh => ztX1_player G hnh) ?_
  rintro as M Q X h
  unfold zX1_player at h
  split at h
  rotate_left
  · exact h.elim
  rename_i k
  refine ⟨rfl, ?_⟩
  obtain ⟨h1, q1, q2⟩ := h
  exact zwX1_player_0 ⟨h1, by decide, q1, q2⟩
def zX1_demand : zz_Sp := fun as M Q X => match as with
  | [.inl b] => (b = 1 → Q none M) ∧ (b = 0 → X 1 M) ∧ (b = 0 ∨ b = 1)
  | _ => False

def zpX1_demand : zz_P := [(0, zo_ild 1 0), (1, zo_ifne false 4 12), (4, zo_thr0L (mm_rm 6 1 6) 1), (7, zo_dup 8), (8, zo_bad), (11, zo_athr 20 0), (12, zo_vret)]
theorem ztX1_demand {C : mm_C} (G : mm_G C RX1 cX1_demand none 1 (mm_rm 6 1 6)) (hnh : mm_nh C) : zz_OKs C zpX1_demand :=
  ⟨zz_of (ok_iload_n G dX1_demand_0 rfl rfl) (z_ild _ _),
   zz_of (ok_ifne G dX1_demand_1 rfl rfl) (z_ifne _ _ _),
   zz_of (th_X1_IllegalArgumentException G (hnh.q 11) dX1_demand_4 dX1_demand_7 dX1_demand_8 dX1_demand_11) (z_thr0L _ _),
   zz_of (ok_dup G dX1_demand_7 rfl) (z_dup _),
   zz_of (ok_bad) (z_bad),
   zz_of (ok_athr G (ci := 20) (i := 0) (RX10, TX10, 6) rfl rfl (hnh.q 11) dX1_demand_11) (z_athr _ _),
   zz_of (ok_vret G dX1_demand_12) (z_vret), trivial⟩

theorem zwX1_demand_0 {Q : Option zv → zz_M → Prop} {X : Nat → zz_M → Prop} {M : zz_M} {b : Int} (h : R32 b ∧ ((¬ b = 0 → Q none M) ∧ (b = 0 → X 1 M))) : zz_J zpX1_demand (zz_ret Q X 1 6) 0 [some (vi b)] [] M (0, 0) := zz_J.go [] 400 h

theorem zmX1_demand (l : Launch) (hl : l.stackTraces = false) : mm_Spec l yX1_demand (ws_ yX1_demand cX1_demand 1 none) (mm_rm 6 1 6) (zE zX1_demand) := by
  refine zz_Met.J hl (by decide) (fun C G hnh => ztX1_demand G hnh) ?_
  rintro as M Q X h
  unfold zX1_demand at h
  split at h
  rotate_left
  · exact h.elim
  rename_i b
  refine ⟨rfl, ?_⟩
  obtain ⟨q1, q2, h⟩ := h
  refine zwX1_demand_0 ?_
  (repeat' (first | omega | exact q1 (by omega) | exact q2 (by omega) | apply And.intro | intro _)) <;> omega
def zX1_asked : zz_Sp := fun as M Q X => match as with
  | [.inl k, .inl n] => R32 k ∧ (0 ≤ n ∧ n ≤ 1000) ∧ ((0 ≤ k ∧ k ≤ n) → Q none M) ∧ (¬ (0 ≤ k ∧ k ≤ n) → X 4 M)
  | _ => False

def zpX1_asked : zz_P := [(0, zo_ild 1 0), (1, zo_c 2 (vi 0)), (2, zo_ild 3 1), (3, zo_calls 6 3 zX1_in), (6, zo_zifne 9 17), (9, zo_thr0L (mm_rm 6 1 6) 4), (12, zo_dup 13), (13, zo_bad), (16, zo_athr 20 0), (17, zo_vret)]
theorem ztX1_asked {C : mm_C} (G : mm_G C RX1 cX1_asked none 2 (mm_rm 6 1 6)) (hnh : mm_nh C) : zz_OKs C zpX1_asked :=
  ⟨zz_of (ok_iload_n G dX1_asked_0 rfl rfl) (z_ild _ _),
   zz_of (ok_iconst G (v := 0) dX1_asked_1 (by decide) rfl) (z_cn 2 0),
   zz_of (ok_iload_n G dX1_asked_2 rfl rfl) (z_ild _ _),
   zz_of (ok_calls G hnh (zmX1_in _ G.hst) rfl rfl q1326 q634 q82 q635 (by decide +kernel) ⟨by decide, by decide⟩ dX1_asked_3 rfl) (z_calls _ _ _),
   zz_of (ok_ifne G dX1_asked_6 rfl rfl) (z_zifne _ _),
   zz_of (th_X1_NoSuchElementException G (hnh.q 16) dX1_asked_9 dX1_asked_12 dX1_asked_13 dX1_asked_16) (z_thr0L _ _),
   zz_of (ok_dup G dX1_asked_12 rfl) (z_dup _),
   zz_of (ok_bad) (z_bad),
   zz_of (ok_athr G (ci := 20) (i := 0) (RX10, TX10, 6) rfl rfl (hnh.q 16) dX1_asked_16) (z_athr _ _),
   zz_of (ok_vret G dX1_asked_17) (z_vret), trivial⟩

theorem zwX1_asked_0 {Q : Option zv → zz_M → Prop} {X : Nat → zz_M → Prop} {M : zz_M} {k : Int} {n : Int} (h : (R32 k ∧ R32 (0 : Int) ∧ R32 n ∧ (((0 : Int) ≤ k ∧ k ≤ n) → (Q none M)) ∧ (¬ ((0 : Int) ≤ k ∧ k ≤ n) → (X 4 M)))) : zz_J zpX1_asked (zz_ret Q X 1 6) 0 [some (vi k), some (vi n)] [] M (0, 0) := zz_J.go [] 400 h

theorem zmX1_asked (l : Launch) (hl : l.stackTraces = false) : mm_Spec l yX1_asked (ws_ yX1_asked cX1_asked 2 none) (mm_rm 6 1 6) (zE zX1_asked) := by
  refine zz_Met.J hl (by decide) (fun C G hnh => ztX1_asked G hnh) ?_
  rintro as M Q X h
  unfold zX1_asked at h
  split at h
  rotate_left
  · exact h.elim
  rename_i k n
  refine ⟨rfl, ?_⟩
  obtain ⟨h1, h2, q1, q2⟩ := h
  refine zwX1_asked_0 ?_
  (repeat' (first | omega | exact q1 (by omega) | exact q2 (by omega) | apply And.intro | intro _)) <;> omega
def zX1_some : zz_Sp := fun as M Q X => match as with
  | [.inl n] => R32 n ∧ ((0 ≤ n ∧ n ≤ 30) → Q none M) ∧ (¬ (0 ≤ n ∧ n ≤ 30) → X 1 M)
  | _ => False

def zpX1_some : zz_P := [(0, zo_ild 1 0), (1, zo_c 2 (vi 0)), (2, zo_c 4 (vi 30)), (4, zo_calls 7 3 zX1_in), (7, zo_csL (mm_rm 7 1 6) 10 1 1 6 zX1_demand), (10, zo_vret)]
theorem ztX1_some {C : mm_C} (G : mm_G C RX1 cX1_some none 1 (mm_rm 7 1 6)) (hnh : mm_nh C) : zz_OKs C zpX1_some :=
  ⟨zz_of (ok_iload_n G dX1_some_0 rfl rfl) (z_ild _ _),
   zz_of (ok_iconst G (v := 0) dX1_some_1 (by decide) rfl) (z_cn 2 0),
   zz_of (ok_bipush G (v := 30) dX1_some_2 (by decide) rfl) (z_cn 4 30),
   zz_of (ok_calls G hnh (zmX1_in _ G.hst) rfl rfl q1326 q634 q82 q635 (by decide +kernel) ⟨by decide, by decide⟩ dX1_some_4 rfl) (z_calls _ _ _),
   zz_of (ok_calsF G (hnh.q 7) (zmX1_demand _ G.hst) q1474 q1475 q82 q1476 (by decide +kernel) ⟨Nat.le_of_ble_eq_true rfl, Nat.le_of_ble_eq_true rfl⟩ dX1_some_7 rfl) (z_csL _ _ _ _ _ _),
   zz_of (ok_vret G dX1_some_10) (z_vret), trivial⟩

theorem zwX1_some_0 {Q : Option zv → zz_M → Prop} {X : Nat → zz_M → Prop} {M : zz_M} {n : Int} (h : (R32 n ∧ R32 (0 : Int) ∧ R32 (30 : Int) ∧ (((0 : Int) ≤ n ∧ n ≤ (30 : Int)) → ((((1 : Int) = 1 → (Q none M)) ∧ ((1 : Int) = 0 → X 1 M) ∧ ((1 : Int) = 0 ∨ (1 : Int) = 1)))) ∧ (¬ ((0 : Int) ≤ n ∧ n ≤ (30 : Int)) → ((((0 : Int) = 1 → (Q none M)) ∧ ((0 : Int) = 0 → X 1 M) ∧ ((0 : Int) = 0 ∨ (0 : Int) = 1)))))) : zz_J zpX1_some (zz_ret Q X 1 6) 0 [some (vi n)] [] M (0, 0) := zz_J.go [] 400 h

theorem zmX1_some (l : Launch) (hl : l.stackTraces = false) : mm_Spec l yX1_some (ws_ yX1_some cX1_some 1 none) (mm_rm 7 1 6) (zE zX1_some) := by
  refine zz_Met.J hl (by decide) (fun C G hnh => ztX1_some G hnh) ?_
  rintro as M Q X h
  unfold zX1_some at h
  split at h
  rotate_left
  · exact h.elim
  rename_i n
  refine ⟨rfl, ?_⟩
  obtain ⟨h1, q1, q2⟩ := h
  refine zwX1_some_0 ?_
  (repeat' (first | omega | exact q1 (by omega) | exact q2 (by omega) | apply And.intro | intro _)) <;> omega
def zX1_goesYet : zz_Sp := fun as M Q X => match as with
  | [.inr (.inr (some h_))] => bif Nat.beq h_ 100 && Nat.beq M.1.1 2 then (scb (cx M.2.1 204) ∧ R32 (M.2.1 200 1) ∧ (ovR (M.2.1 200 1) (cx M.2.1 204) = false → Q none ((2, M.1.2), M.2.1, M.2.2.1, M.2.2.2)) ∧ (ovR (M.2.1 200 1) (cx M.2.1 204) = true → X 5 ((2, M.1.2), M.2.1, M.2.2.1, M.2.2.2))) else False
  | _ => False

def zpX1_goesYet : zz_P := [(0, zo_ald 1 0), (1, zo_get 4 0 2 0), (4, zo_get 7 1 2 9), (7, zo_callv 10 1 2 zX3_isOver_204), (10, zo_zifeq 13 21), (13, zo_thr0L (mm_rm 6 1 6) 5), (16, zo_dup 17), (17, zo_bad), (20, zo_athr 20 0), (21, zo_vret)]
theorem ztX1_goesYet {C : mm_C} (G : mm_G C RX1 cX1_goesYet none 1 (mm_rm 6 1 6)) (hnh : mm_nh C) : zz_OKs C zpX1_goesYet :=
  ⟨zz_of (ok_aload_n G dX1_goesYet_0 rfl rfl) (z_ald _ _),
   zz_of (ok_get G (nx := 4) (ci := 0) (kd := 2) (k := 0) (RX1, TX1, 19) rfl (by decide) rfl q399 dX1_goesYet_1 rfl) (z_get _ _ _ _),
   zz_of (ok_getN G (nx := 7) (ci := 1) (kd := 2) (k := 9) (RX2, TX2, 11) rfl (by decide) rfl q240 dX1_goesYet_4 rfl) (z_get _ _ _ _),
   zz_of (ok_callv G hnh (zmX3_isOver_204 _ G.hst) rfl rfl (RX3, TX3, 7) rfl q1522 q1523 q1524 q87 q1525 (by decide +kernel) ⟨by decide, by decide⟩ dX1_goesYet_7 rfl) (z_callv _ _ _ _),
   zz_of (ok_ifeq G dX1_goesYet_10 rfl rfl) (z_zifeq _ _),
   zz_of (th_X1_IllegalStateException G (hnh.q 20) dX1_goesYet_13 dX1_goesYet_16 dX1_goesYet_17 dX1_goesYet_20) (z_thr0L _ _),
   zz_of (ok_dup G dX1_goesYet_16 rfl) (z_dup _),
   zz_of (ok_bad) (z_bad),
   zz_of (ok_athr G (ci := 20) (i := 0) (RX10, TX10, 6) rfl rfl (hnh.q 20) dX1_goesYet_20) (z_athr _ _),
   zz_of (ok_vret G dX1_goesYet_21) (z_vret), trivial⟩

theorem zwX1_goesYet_0 {Q : Option zv → zz_M → Prop} {X : Nat → zz_M → Prop} {f : Nat → Nat × Nat} {S L : Nat → Nat → Int} {P : Nat → Nat → Option Nat}  (h : (scb (cx S 204) ∧ R32 (S 200 1) ∧ (ovR (S 200 1) (cx S 204) = true → (X 5 ((2, f), S, L, P))) ∧ (ovR (S 200 1) (cx S 204) = false → (Q none ((2, f), S, L, P))))) : zz_J zpX1_goesYet (zz_ret Q X 1 6) 0 [some (vr 100)] [] ((2, f), S, L, P) (0, 0) := zz_J.go [] 400 h

theorem zmX1_goesYet (l : Launch) (hl : l.stackTraces = false) : mm_Spec l yX1_goesYet (ws_ yX1_goesYet cX1_goesYet 1 none) (mm_rm 6 1 6) (zE zX1_goesYet) := by
  refine zz_Met.J hl (by decide) (fun C G hnh => ztX1_goesYet G hnh) ?_
  rintro as ⟨⟨t_, f⟩, S, L, P⟩ Q X h
  unfold zX1_goesYet at h
  split at h
  rotate_left
  · exact h.elim
  rename_i h_
  obtain ⟨e1_, e2_, h⟩ := mm_and2 h (fun q => q)
  cases mm_beq e1_
  cases mm_beq e2_
  try dsimp only at h
  refine ⟨rfl, ?_⟩
  obtain ⟨hb, h1, q1, q2⟩ := h
  exact zwX1_goesYet_0 ⟨hb, h1, fun c => q2 c, fun c => q1 c⟩
def zJ2_size : zz_Sp := fun as M Q X => match as with
  | [.inr (.inr (some h_))] => bif Nat.beq h_ 202 && Nat.beq M.1.1 2 then (Q (some (vi (M.2.1 202 2))) ((2, M.1.2), M.2.1, M.2.2.1, M.2.2.2)) else False
  | _ => False

def zpJ2_size : zz_P := [(0, zo_ald 1 0), (1, zo_get 4 17 0 2), (4, zo_iret)]
theorem ztJ2_size {C : mm_C} (G : mm_G C RJ2 cJ2_size (some .int) 1 (mm_rm 1 0 0)) (hnh : mm_nh C) : zz_OKs C zpJ2_size :=
  ⟨zz_of (ok_aload_n G dJ2_size_0 rfl rfl) (z_ald _ _),
   zz_of (ok_get G (nx := 4) (ci := 17) (kd := 0) (k := 2) (RJ2, TJ2, 3) rfl (by decide) rfl q158 dJ2_size_1 rfl) (z_get _ _ _ _),
   zz_of (ok_iret G dJ2_size_4) (z_iret), trivial⟩

theorem zwJ2_size_0 {Q : Option zv → zz_M → Prop} {X : Nat → zz_M → Prop} {f : Nat → Nat × Nat} {S L : Nat → Nat → Int} {P : Nat → Nat → Option Nat}  (h : Q (some (vi (S 202 2))) ((2, f), S, L, P)) : zz_J zpJ2_size (zz_ret Q X 0 0) 0 [some (vr 202)] [] ((2, f), S, L, P) (0, 0) := zz_J.go [] 400 h

theorem zmJ2_size (l : Launch) (hl : l.stackTraces = false) : mm_Spec l yJ2_size (ws_ yJ2_size cJ2_size 1 (some .int)) (mm_rm 1 0 0) (zE zJ2_size) := by
  refine zz_Met.J hl (by decide) (fun C G hnh => ztJ2_size G hnh) ?_
  rintro as ⟨⟨t_, f⟩, S, L, P⟩ Q X h
  unfold zJ2_size at h
  split at h
  rotate_left
  · exact h.elim
  rename_i h_
  obtain ⟨e1_, e2_, h⟩ := mm_and2 h (fun q => q)
  cases mm_beq e1_
  cases mm_beq e2_
  try dsimp only at h
  refine ⟨rfl, ?_⟩
  exact zwJ2_size_0 h
/-- what of the court is told: the same in both -/
def wRel (S : Nat → Nat → Int) (w : Nat → Int) : Prop := wsc S w ∧ S 200 0 = w 192 ∧ S 202 2 = w 193 ∧ S 203 0 = w 199 ∧ S 203 1 = w 200 ∧ (∀ i k : Nat, i < 16 → k < 12 → S (210 + i) k = w (12 * i + k))
theorem row_at {f : Nat → Nat × Nat} {S L : Nat → Nat → Int} {P : Nat → Nat → Option Nat} {n : Nat} (h : n < 16) : zpt ((2, f), S, L, P) 201 n = some (210 + n) := by
  have : ∀ n, n < 16 → zpt ((2, f), S, L, P) 201 n = some (210 + n) := by
    intro n h
    have e : n = 0 ∨ n = 1 ∨ n = 2 ∨ n = 3 ∨ n = 4 ∨ n = 5 ∨ n = 6 ∨ n = 7 ∨ n = 8 ∨ n = 9 ∨ n = 10 ∨ n = 11 ∨ n = 12 ∨ n = 13 ∨ n = 14 ∨ n = 15 := by omega
    rcases e with e | e | e | e | e | e | e | e | e | e | e | e | e | e | e | e <;> subst e <;> rfl
  exact this n h
theorem row_sh {f : Nat → Nat × Nat} {S L : Nat → Nat → Int} {P : Nat → Nat → Option Nat} {n : Nat} (h : n < 16) : zsh ((2, f), S, L, P) (210 + n) = (2, 12) := by
  have e : n = 0 ∨ n = 1 ∨ n = 2 ∨ n = 3 ∨ n = 4 ∨ n = 5 ∨ n = 6 ∨ n = 7 ∨ n = 8 ∨ n = 9 ∨ n = 10 ∨ n = 11 ∨ n = 12 ∨ n = 13 ∨ n = 14 ∨ n = 15 := by omega
  rcases e with e | e | e | e | e | e | e | e | e | e | e | e | e | e | e | e <;> subst e <;> rfl
/-- a row of the chances, by its number -/
theorem row_go {f : Nat → Nat × Nat} {S L : Nat → Nat → Int} {P : Nat → Nat → Option Nat} {i : Int} {G : Nat → Prop} {G0 : Prop} (h0 : 0 ≤ i) (h1 : i < 16) (h : G (210 + i.toNat)) : ∃ t_ n_ : Nat, zsh ((2, f), S, L, P) 201 = (t_, n_) ∧ (t_ = 6 ∨ t_ = 7 ∨ t_ = 8) ∧ (n_ : Int) ≤ 2147483647 ∧ (0 ≤ i ∧ i < (n_ : Int)) ∧ (∀ b : Nat, zpt ((2, f), S, L, P) 201 i.toNat = some b → G b) ∧ (zpt ((2, f), S, L, P) 201 i.toNat = none → G0) := by
  refine ⟨6, 16, rfl, Or.inl rfl, by decide, ⟨h0, h1⟩, fun b e => ?_, fun e => ?_⟩
  · rw [row_at (by omega)] at e
    cases e
    exact h
  · rw [row_at (by omega)] at e
    cases e
def zX1_look : zz_Sp := fun as M Q X => match as with
  | [.inr (.inr (some h_)), .inl s, .inl hz, .inl wh] => bif Nat.beq h_ 100 && Nat.beq M.1.1 2 then (R32 s ∧ R32 hz ∧ R32 wh ∧ (lkT s hz wh = 1 → X 3 ((2, M.1.2), M.2.1, M.2.2.1, M.2.2.2)) ∧ (lkT s hz wh = 2 → X 4 ((2, M.1.2), M.2.1, M.2.2.1, M.2.2.2)) ∧ (lkT s hz wh = 0 → Q (some (vi (M.2.1 (210 + (4 * s + hz).toNat) wh.toNat))) ((2, M.1.2), M.2.1, M.2.2.1, M.2.2.2))) else False
  | _ => False

def zpX1_look : zz_P := [(0, zo_ild 1 1), (1, zo_c 2 (vi 4)), (2, zo_csL (mm_rm 8 3 18) 5 2 1 6 zX1_there), (5, zo_ild 6 2), (6, zo_c 7 (vi 4)), (7, zo_csL (mm_rm 8 3 18) 10 2 1 6 zX1_there), (10, zo_ild 11 3), (11, zo_c 13 (vi 11)), (13, zo_csL (mm_rm 8 3 18) 16 2 1 6 zX1_asked), (16, zo_ald 17 0), (17, zo_get 20 0 2 0), (20, zo_get 23 1 2 6), (23, zo_c 24 (vi 4)), (24, zo_ild 25 1), (25, zo_imul 26), (26, zo_ild 27 2), (27, zo_iadd 28), (28, zo_aald 29), (29, zo_ild 30 3), (30, zo_ialp 31), (31, zo_iret)]
theorem ztX1_look {C : mm_C} (G : mm_G C RX1 cX1_look (some .int) 4 (mm_rm 8 3 18)) (hnh : mm_nh C) : zz_OKs C zpX1_look :=
  ⟨zz_of (ok_iload_n G dX1_look_0 rfl rfl) (z_ild _ _),
   zz_of (ok_iconst G (v := 4) dX1_look_1 (by decide) rfl) (z_cn 2 4),
   zz_of (ok_calsF G (hnh.q 2) (zmX1_there _ G.hst) q1323 q1324 q82 q1325 (by decide +kernel) ⟨Nat.le_of_ble_eq_true rfl, Nat.le_of_ble_eq_true rfl⟩ dX1_look_2 rfl) (z_csL _ _ _ _ _ _),
   zz_of (ok_iload_n G dX1_look_5 rfl rfl) (z_ild _ _),
   zz_of (ok_iconst G (v := 4) dX1_look_6 (by decide) rfl) (z_cn 7 4),
   zz_of (ok_calsF G (hnh.q 7) (zmX1_there _ G.hst) q1323 q1324 q82 q1325 (by decide +kernel) ⟨Nat.le_of_ble_eq_true rfl, Nat.le_of_ble_eq_true rfl⟩ dX1_look_7 rfl) (z_csL _ _ _ _ _ _),
   zz_of (ok_iload_n G dX1_look_10 rfl rfl) (z_ild _ _),
   zz_of (ok_bipush G (v := 11) dX1_look_11 (by decide) rfl) (z_cn 13 11),
   zz_of (ok_calsF G (hnh.q 13) (zmX1_asked _ G.hst) q1342 q1343 q82 q1344 (by decide +kernel) ⟨Nat.le_of_ble_eq_true rfl, Nat.le_of_ble_eq_true rfl⟩ dX1_look_13 rfl) (z_csL _ _ _ _ _ _),
   zz_of (ok_aload_n G dX1_look_16 rfl rfl) (z_ald _ _),
   zz_of (ok_get G (nx := 20) (ci := 0) (kd := 2) (k := 0) (RX1, TX1, 19) rfl (by decide) rfl q399 dX1_look_17 rfl) (z_get _ _ _ _),
   zz_of (ok_getN G (nx := 23) (ci := 1) (kd := 2) (k := 6) (RX2, TX2, 11) rfl (by decide) rfl q234 dX1_look_20 rfl) (z_get _ _ _ _),
   zz_of (ok_iconst G (v := 4) dX1_look_23 (by decide) rfl) (z_cn 24 4),
   zz_of (ok_iload_n G dX1_look_24 rfl rfl) (z_ild _ _),
   zz_of (ok_imul G dX1_look_25 rfl) (z_imul _),
   zz_of (ok_iload_n G dX1_look_26 rfl rfl) (z_ild _ _),
   zz_of (ok_iadd G dX1_look_27 rfl) (z_iadd _),
   zz_of (ok_aald G dX1_look_28 rfl) (z_aald _),
   zz_of (ok_iload_n G dX1_look_29 rfl rfl) (z_ild _ _),
   zz_of (ok_iald G dX1_look_30 rfl) (z_ialp _),
   zz_of (ok_iret G dX1_look_31) (z_iret), trivial⟩

theorem zwX1_look_0 {Q : Option zv → zz_M → Prop} {X : Nat → zz_M → Prop} {f : Nat → Nat × Nat} {S L : Nat → Nat → Int} {P : Nat → Nat → Option Nat} {s : Int} {hz : Int} {wh : Int} (h : (R32 s ∧ (-1000 ≤ (4 : Int) ∧ (4 : Int) ≤ 1000) ∧ ((0 ≤ s ∧ s < (4 : Int)) → ((R32 hz ∧ (-1000 ≤ (4 : Int) ∧ (4 : Int) ≤ 1000) ∧ ((0 ≤ hz ∧ hz < (4 : Int)) → ((R32 wh ∧ (0 ≤ (11 : Int) ∧ (11 : Int) ≤ 1000) ∧ ((0 ≤ wh ∧ wh ≤ (11 : Int)) → (∃ t_ n_ : Nat, zsh ((2, f), S, L, P) 201 = (t_, n_) ∧ (t_ = 6 ∨ t_ = 7 ∨ t_ = 8) ∧ (n_ : Int) ≤ 2147483647 ∧ (0 ≤ ((4 * s) + hz) ∧ ((4 * s) + hz) < (n_ : Int)) ∧ (∀ b4 : Nat, zpt ((2, f), S, L, P) 201 (((4 * s) + hz).toNat) = some b4 → ∃ n_ : Nat, zsh ((2, f), S, L, P) b4 = (2, n_) ∧ (n_ : Int) ≤ 2147483647 ∧ (0 ≤ wh ∧ wh < (n_ : Int)) ∧ (Q (some (vi (S b4 wh.toNat))) ((2, f), S, L, P))) ∧ (zpt ((2, f), S, L, P) 201 (((4 * s) + hz).toNat) = none → False))) ∧ (¬ (0 ≤ wh ∧ wh ≤ (11 : Int)) → X 4 ((2, f), S, L, P))))) ∧ (¬ (0 ≤ hz ∧ hz < (4 : Int)) → X 3 ((2, f), S, L, P))))) ∧ (¬ (0 ≤ s ∧ s < (4 : Int)) → X 3 ((2, f), S, L, P)))) : zz_J zpX1_look (zz_ret Q X 3 18) 0 [some (vr 100), some (vi s), some (vi hz), some (vi wh)] [] ((2, f), S, L, P) (0, 0) := zz_J.go [] 400 h

theorem zmX1_look (l : Launch) (hl : l.stackTraces = false) : mm_Spec l yX1_look (ws_ yX1_look cX1_look 4 (some .int)) (mm_rm 8 3 18) (zE zX1_look) := by
  refine zz_Met.J hl (by decide) (fun C G hnh => ztX1_look G hnh) ?_
  rintro as ⟨⟨t_, f⟩, S, L, P⟩ Q X h
  unfold zX1_look at h
  split at h
  rotate_left
  · exact h.elim
  rename_i h_ s hz wh
  obtain ⟨e1_, e2_, h⟩ := mm_and2 h (fun q => q)
  cases mm_beq e1_
  cases mm_beq e2_
  try dsimp only at h
  refine ⟨rfl, ?_⟩
  obtain ⟨h1, h2, h3, q1, q2, q3⟩ := h
  unfold lkT at q1 q2 q3
  refine zwX1_look_0 ⟨h1, by decide, fun c1 => ⟨h2, by decide, fun c2 => ⟨h3, by decide, fun c3 => ?_, fun c => q2 ?_⟩, fun c => q1 ?_⟩, fun c => q1 ?_⟩
  · refine row_go (i := 4 * s + hz) (by omega) (by omega) ⟨12, row_sh (by omega), by decide, ⟨by omega, by omega⟩, q3 ?_⟩
    rw [if_neg (by omega), if_neg (by omega)]
  · rw [if_neg (by omega), if_pos (by omega)]
  · rw [if_pos (by omega)]
  · rw [if_pos (by omega)]
