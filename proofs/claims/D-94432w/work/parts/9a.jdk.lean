/-! ===== the JDK: lists that grow ===== -/
set_option maxRecDepth 100000
def zJ0_init : zz_Sp := fun as M Q X => match as with
  | [.inr (.inr (some h_))] => Q none M
  | _ => False

def zpJ0_init : zz_P := [(0, zo_ald 1 0), (1, zo_oi 4), (4, zo_vret)]
theorem ztJ0_init {C : mm_C} (G : mm_G C RJ0 cJ0_init none 1 (mm_rm 1 0 0)) (hnh : mm_nh C) (hin : (c_t C).name = "<init>") : zz_OKs C zpJ0_init :=
  ⟨zz_of (ok_aload_n G dJ0_init_0 rfl rfl) (z_ald _ _),
   zz_of (ok_oi G q154 q133 q134 ⟨Nat.le_of_ble_eq_true rfl, Nat.le_of_ble_eq_true rfl⟩ dJ0_init_1 rfl) (z_oi _),
   zz_of (ok_vret G dJ0_init_4) (z_vret), trivial⟩

theorem zwJ0_init_0 {Q : Option zv → zz_M → Prop} {X : Nat → zz_M → Prop} {M : zz_M} {h_ : Nat} (h : Q none M) : zz_J zpJ0_init (zz_ret Q X 0 0) 0 [some (vr h_)] [] M (0, 0) := zz_J.go [] 400 h

theorem zmJ0_init (l : Launch) (hl : l.stackTraces = false) : mm_Spec l yJ0_init (ws_ yJ0_init cJ0_init 1 none) (mm_rm 1 0 0) (zE zJ0_init) := by
  refine zz_Met.JN hl (by decide) rfl (fun C G hnh hin => ztJ0_init G hnh hin) ?_
  rintro as M Q X h
  unfold zJ0_init at h
  split at h
  rotate_left
  · exact h.elim
  rename_i h_
  refine ⟨rfl, ?_⟩
  exact zwJ0_init_0 h
def zJ1_init : zz_Sp := fun as M Q X => match as with
  | [.inr (.inr (some h_))] => zsh M h_ = (1, 17) ∧ Q none ((M.1.1, M.1.2), mm_up M.2.1 h_ 0 0, M.2.2.1, M.2.2.2)
  | _ => False

def zpJ1_init : zz_P := [(0, zo_ald 1 0), (1, zo_ciL (mm_rm 2 0 0) 4 1 0 0 zJ0_init), (4, zo_ald 5 0), (5, zo_c 6 (vi 0)), (6, zo_putip 9 17 0), (9, zo_vret)]
theorem ztJ1_init {C : mm_C} (G : mm_G C RJ1 cJ1_init none 1 (mm_rm 2 0 0)) (hnh : mm_nh C) (hin : (c_t C).name = "<init>") : zz_OKs C zpJ1_init :=
  ⟨zz_of (ok_aload_n G dJ1_init_0 rfl rfl) (z_ald _ _),
   zz_of (ok_caliF G (hnh.q 1) (zmJ0_init _ G.hst) q151 q152 q84 q153 rfl (by decide +kernel) ⟨Nat.le_of_ble_eq_true rfl, Nat.le_of_ble_eq_true rfl⟩ dJ1_init_1 rfl) (z_ciL _ _ _ _ _ _),
   zz_of (ok_aload_n G dJ1_init_4 rfl rfl) (z_ald _ _),
   zz_of (ok_iconst G (v := 0) dJ1_init_5 (by decide) rfl) (z_cn 6 0),
   zz_of (ok_puti G (nx := 9) (idx := 7) (ci := 17) (k := 0) (RJ2, TJ2, 3) rfl (by decide) rfl (mm_pw G (ci := 17) (k := 0) (RJ2, TJ2, 3) rfl (by decide) rfl q159 dJ1_init_6) rfl) (z_putip _ _ _),
   zz_of (ok_vret G dJ1_init_9) (z_vret), trivial⟩

theorem zwJ1_init_0 {Q : Option zv → zz_M → Prop} {X : Nat → zz_M → Prop} {M : zz_M} {h_ : Nat} (h : ((zsh M h_ = (1, 17) ∧ (Q none ((M.1.1, M.1.2), mm_up M.2.1 h_ 0 0, M.2.2.1, M.2.2.2))))) : zz_J zpJ1_init (zz_ret Q X 0 0) 0 [some (vr h_)] [] M (0, 0) := zz_J.go [] 400 h

theorem zmJ1_init (l : Launch) (hl : l.stackTraces = false) : mm_Spec l yJ1_init (ws_ yJ1_init cJ1_init 1 none) (mm_rm 2 0 0) (zE zJ1_init) := by
  refine zz_Met.JN hl (by decide) rfl (fun C G hnh hin => ztJ1_init G hnh hin) ?_
  rintro as M Q X h
  unfold zJ1_init at h
  split at h
  rotate_left
  · exact h.elim
  rename_i h_
  refine ⟨rfl, ?_⟩
  exact zwJ1_init_0 h
def zJ2_init : zz_Sp := fun as M Q X => match as with
  | [.inr (.inr (some h_))] => zsh M h_ = (1, 17) ∧ zfx M.1.1 h_ 1 = false ∧ Q none ((M.1.1, M.1.2), mm_up M.2.1 h_ 0 0, M.2.2.1, mm_up M.2.2.2 h_ 1 (some 1300))
  | _ => False

def zpJ2_init : zz_P := [(0, zo_ald 1 0), (1, zo_ciL (mm_rm 3 0 0) 4 1 0 0 zJ1_init), (4, zo_ald 5 0), (5, zo_c 8 (vr 1300)), (8, zo_putrp 11 17 1), (11, zo_vret)]
theorem ztJ2_init {C : mm_C} (G : mm_G C RJ2 cJ2_init none 1 (mm_rm 3 0 0)) (hnh : mm_nh C) (hin : (c_t C).name = "<init>") : zz_OKs C zpJ2_init :=
  ⟨zz_of (ok_aload_n G dJ2_init_0 rfl rfl) (z_ald _ _),
   zz_of (ok_caliF G (hnh.q 1) (zmJ1_init _ G.hst) q148 q149 q85 q150 rfl (by decide +kernel) ⟨Nat.le_of_ble_eq_true rfl, Nat.le_of_ble_eq_true rfl⟩ dJ2_init_1 rfl) (z_ciL _ _ _ _ _ _),
   zz_of (ok_aload_n G dJ2_init_4 rfl rfl) (z_ald _ _),
   zz_of (ok_gs G (c := "java/util/ArrayList") (n := "DEFAULTCAPACITY_EMPTY_ELEMENTDATA") (d := "[Ljava/lang/Object;") (by decide +kernel) q155 dJ2_init_5 rfl) (z_cr 8 1300),
   zz_of (ok_putr G (nx := 11) (idx := 9) (ci := 17) (k := 1) (RJ2, TJ2, 3) rfl (by decide) rfl (mm_pw G (ci := 17) (k := 1) (RJ2, TJ2, 3) rfl (by decide) rfl q157 dJ2_init_8) rfl) (z_putrp _ _ _),
   zz_of (ok_vret G dJ2_init_11) (z_vret), trivial⟩

theorem zwJ2_init_0 {Q : Option zv → zz_M → Prop} {X : Nat → zz_M → Prop} {M : zz_M} {h_ : Nat} (h : (zsh M h_ = (1, 17) ∧ (zsh ((M.1.1, M.1.2), mm_up M.2.1 h_ 0 0, M.2.2.1, M.2.2.2) h_ = (1, 17) ∧ (zfx (((M.1.1, M.1.2), mm_up M.2.1 h_ 0 0, M.2.2.1, M.2.2.2).1.1) h_ 1 = false ∧ (Q none ((M.1.1, M.1.2), mm_up M.2.1 h_ 0 0, M.2.2.1, mm_up M.2.2.2 h_ 1 (some 1300))))))) : zz_J zpJ2_init (zz_ret Q X 0 0) 0 [some (vr h_)] [] M (0, 0) := zz_J.go [] 400 h

theorem zmJ2_init (l : Launch) (hl : l.stackTraces = false) : mm_Spec l yJ2_init (ws_ yJ2_init cJ2_init 1 none) (mm_rm 3 0 0) (zE zJ2_init) := by
  refine zz_Met.JN hl (by decide) rfl (fun C G hnh hin => ztJ2_init G hnh hin) ?_
  rintro as M Q X h
  unfold zJ2_init at h
  split at h
  rotate_left
  · exact h.elim
  rename_i h_
  refine ⟨rfl, ?_⟩
  obtain ⟨h1, h2, hq⟩ := h
  exact zwJ2_init_0 ⟨h1, h1, h2, hq⟩
def zJ5_newLength : zz_Sp := fun as M Q X => match as with
  | [.inl a, .inl m, .inl p] => (0 ≤ a ∧ a ≤ 1000000) ∧ (0 ≤ m ∧ m ≤ 1000000) ∧ (0 ≤ p ∧ p ≤ 1000000) ∧ 0 < a + m ∧ (m ≤ p → Q (some (vi (a + p))) M) ∧ (p < m → Q (some (vi (a + m))) M)
  | _ => False

def zpJ5_newLength : zz_P := [(0, zo_ild 1 0), (1, zo_ild 2 1), (2, zo_ild 3 2), (3, zo_calls 6 2 zJ4_max), (6, zo_iadd 7), (7, zo_ist 8 3), (8, zo_c 9 (vi 0)), (9, zo_ild 10 3), (10, zo_cge true false 13 21), (13, zo_ild 14 3), (14, zo_c 16 (vi 2147483639)), (16, zo_cgt false true 19 21), (19, zo_ild 20 3), (20, zo_iret), (21, zo_ild 22 0), (22, zo_ild 23 1), (23, zo_bad), (26, zo_iret)]
theorem ztJ5_newLength {C : mm_C} (G : mm_G C RJ5 cJ5_newLength (some .int) 4 (mm_rm 2 0 0)) (hnh : mm_nh C) : zz_OKs C zpJ5_newLength :=
  ⟨zz_of (ok_iload_n G dJ5_newLength_0 rfl rfl) (z_ild _ _),
   zz_of (ok_iload_n G dJ5_newLength_1 rfl rfl) (z_ild _ _),
   zz_of (ok_iload_n G dJ5_newLength_2 rfl rfl) (z_ild _ _),
   zz_of (ok_calls G hnh (zmJ4_max _ G.hst) rfl rfl q569 q570 q96 q571 (by decide +kernel) ⟨by decide, by decide⟩ dJ5_newLength_3 rfl) (z_calls _ _ _),
   zz_of (ok_iadd G dJ5_newLength_6 rfl) (z_iadd _),
   zz_of (ok_istore_n G dJ5_newLength_7 rfl rfl (by decide)) (z_ist _ _),
   zz_of (ok_iconst G (v := 0) dJ5_newLength_8 (by decide) rfl) (z_cn 9 0),
   zz_of (ok_iload_n G dJ5_newLength_9 rfl rfl) (z_ild _ _),
   zz_of (ok_cge G dJ5_newLength_10 rfl rfl) (z_cge _ _ _ _),
   zz_of (ok_iload_n G dJ5_newLength_13 rfl rfl) (z_ild _ _),
   zz_of (ok_ldc G (v := 2147483639) q572 dJ5_newLength_14 rfl) (z_cn 16 2147483639),
   zz_of (ok_cgt G dJ5_newLength_16 rfl rfl) (z_cgt _ _ _ _),
   zz_of (ok_iload_n G dJ5_newLength_19 rfl rfl) (z_ild _ _),
   zz_of (ok_iret G dJ5_newLength_20) (z_iret),
   zz_of (ok_iload_n G dJ5_newLength_21 rfl rfl) (z_ild _ _),
   zz_of (ok_iload_n G dJ5_newLength_22 rfl rfl) (z_ild _ _),
   zz_of (ok_bad) (z_bad),
   zz_of (ok_iret G dJ5_newLength_26) (z_iret), trivial⟩

theorem zwJ5_newLength_0 {Q : Option zv → zz_M → Prop} {X : Nat → zz_M → Prop} {M : zz_M} {a : Int} {m : Int} {p : Int} (h : (R32 m ∧ R32 p ∧ (p ≤ m → (R32 (a + m) ∧ (((a + m) ≤ (0 : Int) → False) ∧ (¬ (a + m) ≤ (0 : Int) → R32 (a + m) ∧ ((2147483639 < (a + m) → False) ∧ (¬ 2147483639 < (a + m) → Q (some (vi (a + m))) M)))))) ∧ (¬ p ≤ m → (R32 (a + p) ∧ (((a + p) ≤ (0 : Int) → False) ∧ (¬ (a + p) ≤ (0 : Int) → R32 (a + p) ∧ ((2147483639 < (a + p) → False) ∧ (¬ 2147483639 < (a + p) → Q (some (vi (a + p))) M)))))))) : zz_J zpJ5_newLength (zz_ret Q X 0 0) 0 [some (vi a), some (vi m), some (vi p), none] [] M (0, 0) := zz_J.go [] 400 h

theorem zmJ5_newLength (l : Launch) (hl : l.stackTraces = false) : mm_Spec l yJ5_newLength (ws_ yJ5_newLength cJ5_newLength 4 (some .int)) (mm_rm 2 0 0) (zE zJ5_newLength) := by
  refine zz_Met.J hl (by decide) (fun C G hnh => ztJ5_newLength G hnh) ?_
  rintro as M Q X h
  unfold zJ5_newLength at h
  split at h
  rotate_left
  · exact h.elim
  rename_i a m p
  refine ⟨rfl, ?_⟩
  obtain ⟨h1, h2, h3, h4, q1, q2⟩ := h
  refine zwJ5_newLength_0 ⟨by omega, by omega, fun c => ⟨by omega, fun d => by omega, fun d => ⟨by omega, fun e => by omega, fun e => ?_⟩⟩, fun c => ⟨by omega, fun d => by omega, fun d => ⟨by omega, fun e => by omega, fun e => q1 (by omega)⟩⟩⟩
  by_cases e2 : m = p
  · subst e2
    exact q1 (by omega)
  · exact q2 (by omega)
theorem zsh_al {M : zz_M} {b x : Nat} {r : Nat × Nat} {S L : Nat → Nat → Int} {P : Nat → Nat → Option Nat} (h0 : zfs M.1.1 b = false) : zsh ((M.1.1, zrw M.1.2 b r), S, L, P) x = if x = b then r else zsh M x := by
  unfold zsh
  by_cases e : x = b
  · subst e
    rw [if_pos rfl]
    show (bif zfs M.1.1 x then zfS M.1.1 x else zrw M.1.2 x r x) = r
    rw [h0]
    exact zrw_s _ _ _
  · rw [if_neg e]
    show (bif zfs M.1.1 x then zfS M.1.1 x else zrw M.1.2 b r x) = _
    rw [zrw_n _ _ e]
theorem zpt_al {M : zz_M} {b x k : Nat} {r : Nat → Option Nat} {f : Nat → Nat × Nat} {S L : Nat → Nat → Int} (e : x ≠ b) : zpt ((M.1.1, f), S, L, zrw M.2.2.2 b r) x k = zpt M x k := by
  unfold zpt
  show (bif zfx M.1.1 x k then zfp M.1.1 x k else zrw M.2.2.2 b r x k) = _
  rw [zrw_n _ _ e]
theorem zpt_o {M : zz_M} {x k : Nat} (h : zfx M.1.1 x k = false) : zpt M x k = M.2.2.2 x k := by
  unfold zpt
  rw [h]
  rfl
def zJ3_copyOf_2 (c_ s_ : Nat) : zz_Sp := fun as M Q X => match as with
  | [.inr (.inr (some a)), .inl n, .inr (.inr (some cl))] => ∃ b_ m_ : Nat, zfree M b_ ∧ (zsh M a = (7, m_) ∨ zsh M a = (23, m_) ∧ m_ = 0) ∧ m_ ≤ 1000000 ∧ cl = 1303 ∧ (0 ≤ n ∧ n ≤ 1000000) ∧ (1 ≤ c_ ∧ n.toNat ≤ s_) ∧ (∀ i x : Nat, i < m_ → (i : Int) < n → zpt M a i = some x → ∃ ci : Nat, zsh M x = (1, ci) ∧ mm_mem mm_obs ci = true) ∧ (∀ P_ : Nat → Nat → Option Nat, (∀ j, j ≠ b_ → P_ j = M.2.2.2 j) → (∀ i : Nat, i < m_ → (i : Int) < n → P_ b_ i = zpt M a i) → Q (some (vr b_)) ((M.1.1, zrw M.1.2 b_ (7, n.toNat)), zrw M.2.1 b_ (fun _ => 0), zrw M.2.2.1 b_ (fun _ => 0), P_))
  | _ => False

def zpJ3_copyOf_2 (c_ s_ : Nat) : zz_P := [(0, zo_ald 1 2), (1, zo_c 3 (vr 1303)), (3, zo_acne 6 13), (6, zo_ild 7 1), (7, zo_newa (mm_rm 4 c_ s_) 10 7 4), (10, zo_goto 24), (13, zo_ald 14 2), (14, zo_bad), (24, zo_ast 25 3), (25, zo_ald 26 0), (26, zo_c 27 (vi 0)), (27, zo_ald 28 3), (28, zo_c 29 (vi 0)), (29, zo_ald 30 0), (30, zo_alenp 31), (31, zo_ild 32 1), (32, zo_calls 35 2 zJ4_min), (35, zo_acpq 38 mm_obs), (38, zo_ald 39 3), (39, zo_aret)]
theorem ztJ3_copyOf_2 (c_ s_ : Nat) {C : mm_C} (G : mm_G C RJ3 cJ3_copyOf_2 (some (.array (.object "java/lang/Object"))) 4 (mm_rm 4 c_ s_)) (hnh : mm_nh C) : zz_OKs C (zpJ3_copyOf_2 c_ s_) :=
  ⟨zz_of (ok_aload_n G dJ3_copyOf_2_0 rfl rfl) (z_ald _ _),
   zz_of (ok_ldcM G q555 dJ3_copyOf_2_1 rfl) (z_cr 3 1303),
   zz_of (ok_acne G dJ3_copyOf_2_3 rfl rfl) (z_acne _ _),
   zz_of (ok_iload_n G dJ3_copyOf_2_6 rfl rfl) (z_ild _ _),
   zz_of (ok_anew G (t := 7) q557 q556 rfl (Or.inl rfl) dJ3_copyOf_2_7 rfl) (z_newa _ _ _ _),
   zz_of (ok_goto G dJ3_copyOf_2_10 rfl) (z_goto _),
   zz_of (ok_aload_n G dJ3_copyOf_2_13 rfl rfl) (z_ald _ _),
   zz_of (ok_bad) (z_bad),
   zz_of (ok_astore_n G dJ3_copyOf_2_24 rfl rfl (by decide)) (z_ast _ _),
   zz_of (ok_aload_n G dJ3_copyOf_2_25 rfl rfl) (z_ald _ _),
   zz_of (ok_iconst G (v := 0) dJ3_copyOf_2_26 (by decide) rfl) (z_cn 27 0),
   zz_of (ok_aload_n G dJ3_copyOf_2_27 rfl rfl) (z_ald _ _),
   zz_of (ok_iconst G (v := 0) dJ3_copyOf_2_28 (by decide) rfl) (z_cn 29 0),
   zz_of (ok_aload_n G dJ3_copyOf_2_29 rfl rfl) (z_ald _ _),
   zz_of (ok_alen G dJ3_copyOf_2_30 rfl) (z_alenp _),
   zz_of (ok_iload_n G dJ3_copyOf_2_31 rfl rfl) (z_ild _ _),
   zz_of (ok_calls G hnh (zmJ4_min _ G.hst) rfl rfl q558 q559 q96 q560 (by decide +kernel) ⟨Nat.le_of_ble_eq_true rfl, Nat.le_of_ble_eq_true rfl⟩ dJ3_copyOf_2_32 rfl) (z_calls _ _ _),
   zz_of (ok_acpq G mm_obs_ok q561 q501 q500 q94 ⟨Nat.le_of_ble_eq_true rfl, Nat.le_of_ble_eq_true rfl⟩ dJ3_copyOf_2_35 rfl) (z_acpq _ _),
   zz_of (ok_aload_n G dJ3_copyOf_2_38 rfl rfl) (z_ald _ _),
   zz_of (ok_aret G (Or.inr ⟨_, rfl⟩) dJ3_copyOf_2_39) (z_aret), trivial⟩

theorem zwJ3_copyOf_2_0 {Q : Option zv → zz_M → Prop} {X : Nat → zz_M → Prop} {M : zz_M} {c_ s_ : Nat} {a : Nat} {n : Int} {cl : Nat} (h : ((cl : Nat) = 1303 → ∃ h1_ : Nat, zfree M h1_ ∧ (0 ≤ n ∧ n < 2147483648 ∧ n.toNat * 4 ≤ 536870912) ∧ (0 + 1 ≤ c_ ∧ 0 + n.toNat ≤ s_) ∧ (∃ (t_ n2 : Nat), zsh ((M.1.1, zrw M.1.2 h1_ (7, n.toNat)), zrw M.2.1 h1_ (fun _ => 0), zrw M.2.2.1 h1_ (fun _ => 0), zrw M.2.2.2 h1_ (fun _ => none)) a = (t_, n2) ∧ (2 ≤ t_ % 16 ∧ t_ % 16 ≤ 8 ∧ t_ ≤ 31) ∧ ((R32 (n2 : Int) ∧ R32 n ∧ ((n2 : Int) ≤ n → (∃ a_ b_ : Nat, (zsh ((M.1.1, zrw M.1.2 h1_ (7, n.toNat)), zrw M.2.1 h1_ (fun _ => 0), zrw M.2.2.1 h1_ (fun _ => 0), zrw M.2.2.2 h1_ (fun _ => none)) a = (7, a_) ∨ zsh ((M.1.1, zrw M.1.2 h1_ (7, n.toNat)), zrw M.2.1 h1_ (fun _ => 0), zrw M.2.2.1 h1_ (fun _ => 0), zrw M.2.2.2 h1_ (fun _ => none)) a = (23, a_) ∧ a_ = 0) ∧ zsh ((M.1.1, zrw M.1.2 h1_ (7, n.toNat)), zrw M.2.1 h1_ (fun _ => 0), zrw M.2.2.1 h1_ (fun _ => 0), zrw M.2.2.2 h1_ (fun _ => none)) h1_ = (7, b_) ∧ (a_ ≤ 2147483647 ∧ b_ ≤ 2147483647) ∧ (a : Nat) ≠ h1_ ∧ zfs ((M.1.1, zrw M.1.2 h1_ (7, n.toNat)), zrw M.2.1 h1_ (fun _ => 0), zrw M.2.2.1 h1_ (fun _ => 0), zrw M.2.2.2 h1_ (fun _ => none)).1.1 h1_ = false ∧ (0 ≤ (0 : Int) ∧ 0 ≤ (0 : Int) ∧ 0 ≤ (n2 : Int)) ∧ (0 : Int) + (n2 : Int) ≤ (a_ : Int) ∧ (0 : Int) + (n2 : Int) ≤ (b_ : Int) ∧ (∀ i : Nat, i < (n2 : Int).toNat → ∀ c : Nat, zpt ((M.1.1, zrw M.1.2 h1_ (7, n.toNat)), zrw M.2.1 h1_ (fun _ => 0), zrw M.2.2.1 h1_ (fun _ => 0), zrw M.2.2.2 h1_ (fun _ => none)) a ((0 : Int).toNat + i) = some c → ∃ ci : Nat, zsh ((M.1.1, zrw M.1.2 h1_ (7, n.toNat)), zrw M.2.1 h1_ (fun _ => 0), zrw M.2.2.1 h1_ (fun _ => 0), zrw M.2.2.2 h1_ (fun _ => none)) c = (1, ci) ∧ mm_mem mm_obs ci = true) ∧ ((1 ≤ c_ ∧ 0 + n.toNat ≤ s_) ∧ (Q (some (vr h1_)) ((M.1.1, zrw M.1.2 h1_ (7, n.toNat)), zrw M.2.1 h1_ (fun _ => 0), zrw M.2.2.1 h1_ (fun _ => 0), zrw (zrw M.2.2.2 h1_ (fun _ => none)) h1_ (va_cpy (zpt ((M.1.1, zrw M.1.2 h1_ (7, n.toNat)), zrw M.2.1 h1_ (fun _ => 0), zrw M.2.2.1 h1_ (fun _ => 0), zrw M.2.2.2 h1_ (fun _ => none)) a) ((zrw M.2.2.2 h1_ (fun _ => none)) h1_) (0 : Int).toNat (0 : Int).toNat (n2 : Int).toNat)))))) ∧ (¬ (n2 : Int) ≤ n → (∃ a_ b_ : Nat, (zsh ((M.1.1, zrw M.1.2 h1_ (7, n.toNat)), zrw M.2.1 h1_ (fun _ => 0), zrw M.2.2.1 h1_ (fun _ => 0), zrw M.2.2.2 h1_ (fun _ => none)) a = (7, a_) ∨ zsh ((M.1.1, zrw M.1.2 h1_ (7, n.toNat)), zrw M.2.1 h1_ (fun _ => 0), zrw M.2.2.1 h1_ (fun _ => 0), zrw M.2.2.2 h1_ (fun _ => none)) a = (23, a_) ∧ a_ = 0) ∧ zsh ((M.1.1, zrw M.1.2 h1_ (7, n.toNat)), zrw M.2.1 h1_ (fun _ => 0), zrw M.2.2.1 h1_ (fun _ => 0), zrw M.2.2.2 h1_ (fun _ => none)) h1_ = (7, b_) ∧ (a_ ≤ 2147483647 ∧ b_ ≤ 2147483647) ∧ (a : Nat) ≠ h1_ ∧ zfs ((M.1.1, zrw M.1.2 h1_ (7, n.toNat)), zrw M.2.1 h1_ (fun _ => 0), zrw M.2.2.1 h1_ (fun _ => 0), zrw M.2.2.2 h1_ (fun _ => none)).1.1 h1_ = false ∧ (0 ≤ (0 : Int) ∧ 0 ≤ (0 : Int) ∧ 0 ≤ n) ∧ (0 : Int) + n ≤ (a_ : Int) ∧ (0 : Int) + n ≤ (b_ : Int) ∧ (∀ i : Nat, i < n.toNat → ∀ c : Nat, zpt ((M.1.1, zrw M.1.2 h1_ (7, n.toNat)), zrw M.2.1 h1_ (fun _ => 0), zrw M.2.2.1 h1_ (fun _ => 0), zrw M.2.2.2 h1_ (fun _ => none)) a ((0 : Int).toNat + i) = some c → ∃ ci : Nat, zsh ((M.1.1, zrw M.1.2 h1_ (7, n.toNat)), zrw M.2.1 h1_ (fun _ => 0), zrw M.2.2.1 h1_ (fun _ => 0), zrw M.2.2.2 h1_ (fun _ => none)) c = (1, ci) ∧ mm_mem mm_obs ci = true) ∧ ((1 ≤ c_ ∧ 0 + n.toNat ≤ s_) ∧ (Q (some (vr h1_)) ((M.1.1, zrw M.1.2 h1_ (7, n.toNat)), zrw M.2.1 h1_ (fun _ => 0), zrw M.2.2.1 h1_ (fun _ => 0), zrw (zrw M.2.2.2 h1_ (fun _ => none)) h1_ (va_cpy (zpt ((M.1.1, zrw M.1.2 h1_ (7, n.toNat)), zrw M.2.1 h1_ (fun _ => 0), zrw M.2.2.1 h1_ (fun _ => 0), zrw M.2.2.2 h1_ (fun _ => none)) a) ((zrw M.2.2.2 h1_ (fun _ => none)) h1_) (0 : Int).toNat (0 : Int).toNat n.toNat)))))))))) ∧ ((cl : Nat) ≠ 1303 → (((zsh M cl).1 ≤ 15 ∧ (zsh M 1303).1 ≤ 47) ∨ ((zsh M 1303).1 ≤ 15 ∧ (zsh M cl).1 ≤ 47)) ∧ (False))) : zz_J (zpJ3_copyOf_2 c_ s_) (zz_retP Q X c_ s_) 0 [some (vr a), some (vi n), some (vr cl), none] [] M (0, 0) := zz_J.go [] 400 h

theorem zmJ3_copyOf_2 (l : Launch) (hl : l.stackTraces = false) (c_ s_ : Nat) : mm_Spec l yJ3_copyOf_2 (ws_ yJ3_copyOf_2 cJ3_copyOf_2 4 (some (.array (.object "java/lang/Object")))) (mm_rm 4 c_ s_) (zE (zJ3_copyOf_2 c_ s_)) := by
  refine zz_Met.J hl (by decide) (fun C G hnh => ztJ3_copyOf_2 c_ s_ G hnh) ?_
  rintro as M Q X h
  unfold zJ3_copyOf_2 at h
  split at h
  rotate_left
  · exact h.elim
  rename_i a n cl
  refine ⟨rfl, ?_⟩
  refine zz_retP_J ?_
  obtain ⟨b, m, hb, ha, hm, rfl, hn, hc, hel, hq⟩ := h
  have nb : a ≠ b := by
    rintro rfl
    have := hb.e
    rw [show (eM M).1 a = zsh M a from rfl] at this
    rcases ha with ha | ⟨ha, -⟩ <;> rw [ha] at this <;> cases this
  have ha' : zsh ((M.1.1, zrw M.1.2 b (7, n.toNat)), zrw M.2.1 b (fun _ => 0), zrw M.2.2.1 b (fun _ => 0), zrw M.2.2.2 b (fun _ => none)) a = (7, m) ∨ zsh ((M.1.1, zrw M.1.2 b (7, n.toNat)), zrw M.2.1 b (fun _ => 0), zrw M.2.2.1 b (fun _ => 0), zrw M.2.2.2 b (fun _ => none)) a = (23, m) ∧ m = 0 := by
    rw [zsh_al hb.1, if_neg nb]
    exact ha
  obtain ⟨t, ht, ht2⟩ : ∃ t : Nat, zsh ((M.1.1, zrw M.1.2 b (7, n.toNat)), zrw M.2.1 b (fun _ => 0), zrw M.2.2.1 b (fun _ => 0), zrw M.2.2.2 b (fun _ => none)) a = (t, m) ∧ (t = 7 ∨ t = 23) := by
    rcases ha' with e | ⟨e, -⟩
    · exact ⟨7, e, Or.inl rfl⟩
    · exact ⟨23, e, Or.inr rfl⟩
  have nx : ∀ x ci : Nat, zsh M x = (1, ci) → x ≠ b := by
    rintro x ci hx rfl
    have := hb.e
    rw [show (eM M).1 x = zsh M x from rfl, hx] at this
    cases this
  have key : ∀ k : Nat, (∀ i : Nat, i < m → (i : Int) < n → i < k) → (∀ i, i < k → i < m) → Q (some (vr b)) ((M.1.1, zrw M.1.2 b (7, n.toNat)), zrw M.2.1 b (fun _ => 0), zrw M.2.2.1 b (fun _ => 0), zrw (zrw M.2.2.2 b (fun _ => none)) b (va_cpy (zpt ((M.1.1, zrw M.1.2 b (7, n.toNat)), zrw M.2.1 b (fun _ => 0), zrw M.2.2.1 b (fun _ => 0), zrw M.2.2.2 b (fun _ => none)) a) ((zrw M.2.2.2 b (fun _ => none)) b) 0 0 k)) := by
    intro k hk1 hk2
    refine hq _ (fun j hj => by rw [zrw_n _ _ hj, zrw_n _ _ hj]) (fun i hi1 hi2 => ?_)
    rw [zrw_s]
    unfold va_cpy
    rw [if_pos ⟨Nat.zero_le _, by have := hk1 i hi1 hi2; omega⟩, zpt_al nb]
    congr 1
    omega
  have cas : ∀ i : Nat, i < m → (i : Int) < n → ∀ c : Nat, zpt ((M.1.1, zrw M.1.2 b (7, n.toNat)), zrw M.2.1 b (fun _ => 0), zrw M.2.2.1 b (fun _ => 0), zrw M.2.2.2 b (fun _ => none)) a ((0 : Int).toNat + i) = some c → ∃ ci : Nat, zsh ((M.1.1, zrw M.1.2 b (7, n.toNat)), zrw M.2.1 b (fun _ => 0), zrw M.2.2.1 b (fun _ => 0), zrw M.2.2.2 b (fun _ => none)) c = (1, ci) ∧ mm_mem mm_obs ci = true := by
    intro i hi hi2 c hc2
    rw [zpt_al nb, show (0 : Int).toNat + i = i by omega] at hc2
    obtain ⟨ci, h1, h2⟩ := hel i c hi hi2 hc2
    exact ⟨ci, by rw [zsh_al hb.1, if_neg (nx c ci h1)]; exact h1, h2⟩
  refine zwJ3_copyOf_2_0 ⟨fun _ => ⟨b, hb, by omega, by omega, t, m, ht, by omega, by omega, by omega, fun c => ?_, fun c => ?_⟩, fun c => absurd rfl c⟩
  · refine ⟨m, n.toNat, ha', by rw [zsh_al hb.1, if_pos rfl], by omega, nb, hb.1, by omega, by omega, by omega, fun i hi => cas i (by omega) (by omega), ?_⟩
    rw [Int.toNat_natCast]
    exact ⟨by omega, key m (fun i h1 _ => h1) (fun i h => h)⟩
  · refine ⟨m, n.toNat, ha', by rw [zsh_al hb.1, if_pos rfl], by omega, nb, hb.1, by omega, by omega, by omega, fun i hi => cas i (by omega) (by omega), ?_⟩
    exact ⟨by omega, key n.toNat (fun i _ h => by omega) (fun i h => by omega)⟩
def zJ3_copyOf (c_ s_ : Nat) : zz_Sp := fun as M Q X => match as with
  | [.inr (.inr (some a)), .inl n] => ∃ b_ m_ : Nat, zfree M b_ ∧ (zsh M a = (7, m_) ∨ zsh M a = (23, m_) ∧ m_ = 0) ∧ m_ ≤ 1000000 ∧ (0 ≤ n ∧ n ≤ 1000000) ∧ (1 ≤ c_ ∧ n.toNat ≤ s_) ∧ (∀ i x : Nat, i < m_ → (i : Int) < n → zpt M a i = some x → ∃ ci : Nat, zsh M x = (1, ci) ∧ mm_mem mm_obs ci = true) ∧ (∀ P_ : Nat → Nat → Option Nat, (∀ j, j ≠ b_ → P_ j = M.2.2.2 j) → (∀ i : Nat, i < m_ → (i : Int) < n → P_ b_ i = zpt M a i) → Q (some (vr b_)) ((M.1.1, zrw M.1.2 b_ (7, n.toNat)), zrw M.2.1 b_ (fun _ => 0), zrw M.2.2.1 b_ (fun _ => 0), P_))
  | _ => False

def zpJ3_copyOf (c_ s_ : Nat) : zz_P := [(0, zo_ald 1 0), (1, zo_ild 2 1), (2, zo_ald 3 0), (3, zo_getc 6), (6, zo_csG (mm_rm 5 c_ s_) 9 3 zJ3_copyOf_2), (9, zo_aret)]
theorem ztJ3_copyOf (c_ s_ : Nat) {C : mm_C} (G : mm_G C RJ3 cJ3_copyOf (some (.array (.object "java/lang/Object"))) 2 (mm_rm 5 c_ s_)) (hnh : mm_nh C) : zz_OKs C (zpJ3_copyOf c_ s_) :=
  ⟨zz_of (ok_aload_n G dJ3_copyOf_0 rfl rfl) (z_ald _ _),
   zz_of (ok_iload_n G dJ3_copyOf_1 rfl rfl) (z_ild _ _),
   zz_of (ok_aload_n G dJ3_copyOf_2 rfl rfl) (z_ald _ _),
   zz_of (ok_getc G q519 q2268 q520 q551 ⟨Nat.le_of_ble_eq_true rfl, Nat.le_of_ble_eq_true rfl⟩ dJ3_copyOf_3 rfl) (z_getc _),
   zz_of (ok_cals G (hnh.q 6) (zmJ3_copyOf_2 _ G.hst) q552 q553 q95 q554 (by decide +kernel) ⟨Nat.le_of_ble_eq_true rfl, Nat.le_of_ble_eq_true rfl⟩ dJ3_copyOf_6 rfl) (z_csG _ _ _ _),
   zz_of (ok_aret G (Or.inr ⟨_, rfl⟩) dJ3_copyOf_9) (z_aret), trivial⟩

theorem zwJ3_copyOf_0 {Q : Option zv → zz_M → Prop} {X : Nat → zz_M → Prop} {M : zz_M} {c_ s_ : Nat} {a : Nat} {n : Int} (h : (∃ n_ : Nat, zsh M a = (7, n_) ∨ zsh M a = (23, n_)) ∧ (∃ c1 s1 : Nat, (0 + c1 ≤ c_ ∧ 0 + s1 ≤ s_) ∧ (∃ b_2 m_2 : Nat, zfree M b_2 ∧ (zsh M a = (7, m_2) ∨ zsh M a = (23, m_2) ∧ m_2 = 0) ∧ m_2 ≤ 1000000 ∧ 1303 = 1303 ∧ (0 ≤ n ∧ n ≤ 1000000) ∧ (1 ≤ c1 ∧ n.toNat ≤ s1) ∧ (∀ i x : Nat, i < m_2 → (i : Int) < n → zpt M a i = some x → ∃ ci : Nat, zsh M x = (1, ci) ∧ mm_mem mm_obs ci = true) ∧ (∀ P_2 : Nat → Nat → Option Nat, (∀ j, j ≠ b_2 → P_2 j = M.2.2.2 j) → (∀ i : Nat, i < m_2 → (i : Int) < n → P_2 b_2 i = zpt M a i) → ((0 + c1 ≤ c_ ∧ 0 + s1 ≤ s_) ∧ (Q (some (vr b_2)) ((M.1.1, zrw M.1.2 b_2 (7, n.toNat)), zrw M.2.1 b_2 (fun _ => 0), zrw M.2.2.1 b_2 (fun _ => 0), P_2))))))) : zz_J (zpJ3_copyOf c_ s_) (zz_retP Q X c_ s_) 0 [some (vr a), some (vi n)] [] M (0, 0) := zz_J.go [] 400 h

theorem zmJ3_copyOf (l : Launch) (hl : l.stackTraces = false) (c_ s_ : Nat) : mm_Spec l yJ3_copyOf (ws_ yJ3_copyOf cJ3_copyOf 2 (some (.array (.object "java/lang/Object")))) (mm_rm 5 c_ s_) (zE (zJ3_copyOf c_ s_)) := by
  refine zz_Met.J hl (by decide) (fun C G hnh => ztJ3_copyOf c_ s_ G hnh) ?_
  rintro as M Q X h
  unfold zJ3_copyOf at h
  split at h
  rotate_left
  · exact h.elim
  rename_i a n
  refine ⟨rfl, ?_⟩
  refine zz_retP_J ?_
  obtain ⟨b, m, hb, ha, hm, hn, hc, hel, hq⟩ := h
  exact zwJ3_copyOf_0 ⟨⟨m, ha.imp id fun e => e.1⟩, c_, s_, by omega, b, m, hb, ha, hm, rfl, hn, hc, hel, fun P h1 h2 => ⟨by omega, hq P h1 h2⟩⟩
theorem zshr_1 {x : Int} (h0 : 0 ≤ x) (h1 : x < 2147483648) : zshr x 1 = x / 2 := by
  unfold zshr
  show (zI x >>> (zI 1 &&& 31)).toBitVec.toInt = _
  rw [Int32.toBitVec_shiftRight]
  show ((zI x).toBitVec.sshiftRight 1).toInt = _
  rw [BitVec.toInt_sshiftRight]
  show (zI x).toInt >>> 1 = _
  rw [zI_toInt (by omega) h1]
  exact Int.shiftRight_eq_div_pow x 1
def zJ2_grow (c_ s_ : Nat) : zz_Sp := fun as M Q X => match as with
  | [.inr (.inr (some h_)), .inl n] => ∃ b_ k_ a_ m_ : Nat, zsh M h_ = (1, 17) ∧ zfx M.1.1 h_ 1 = false ∧ zfree M b_ ∧ zpt M h_ 1 = some a_ ∧ ((a_ = 1300 ∧ m_ = 0 ∧ zsh M a_ = (23, 0) ∧ (0 < n ∧ n ≤ 10) ∧ k_ = 10) ∨ (zsh M a_ = (7, m_) ∧ 0 < m_ ∧ n = (m_ : Int) + 1 ∧ k_ = m_ + (if m_ / 2 = 0 then 1 else m_ / 2))) ∧ m_ ≤ 400000 ∧ (∀ i x : Nat, i < m_ → zpt M a_ i = some x → ∃ ci : Nat, zsh M x = (1, ci) ∧ mm_mem mm_obs ci = true) ∧ (1 ≤ c_ ∧ k_ ≤ s_) ∧ (∀ P_ : Nat → Nat → Option Nat, (∀ j, j ≠ b_ → j ≠ h_ → P_ j = M.2.2.2 j) → (∀ i, i ≠ 1 → P_ h_ i = M.2.2.2 h_ i) → P_ h_ 1 = some b_ → (∀ i : Nat, i < m_ → P_ b_ i = zpt M a_ i) → Q (some (vr b_)) ((M.1.1, zrw M.1.2 b_ (7, k_)), zrw M.2.1 b_ (fun _ => 0), zrw M.2.2.1 b_ (fun _ => 0), P_))
  | _ => False

def zpJ2_grow (c_ s_ : Nat) : zz_P := [(0, zo_ald 1 0), (1, zo_getq 4 17 1), (4, zo_alenp 5), (5, zo_ist 6 2), (6, zo_ild 7 2), (7, zo_ifgt false 10 20), (10, zo_ald 11 0), (11, zo_getq 14 17 1), (14, zo_c 17 (vr 1300)), (17, zo_aceq 20 45), (20, zo_ild 21 2), (21, zo_ild 22 1), (22, zo_ild 23 2), (23, zo_isub 24), (24, zo_ild 25 2), (25, zo_c 26 (vi 1)), (26, zo_ishr 27), (27, zo_calls 30 3 zJ5_newLength), (30, zo_ist 31 3), (31, zo_ald 32 0), (32, zo_ald 33 0), (33, zo_getq 36 17 1), (36, zo_ild 37 3), (37, zo_csG (mm_rm 6 c_ s_) 40 2 zJ3_copyOf), (40, zo_dup_x1 41), (41, zo_putrp 44 17 1), (44, zo_aret), (45, zo_ald 46 0), (46, zo_c 48 (vi 10)), (48, zo_ild 49 1), (49, zo_calls 52 2 zJ4_max), (52, zo_newa (mm_rm 6 c_ s_) 55 7 4), (55, zo_dup_x1 56), (56, zo_putrp 59 17 1), (59, zo_aret)]
theorem ztJ2_grow (c_ s_ : Nat) {C : mm_C} (G : mm_G C RJ2 cJ2_grow (some (.array (.object "java/lang/Object"))) 4 (mm_rm 6 c_ s_)) (hnh : mm_nh C) : zz_OKs C (zpJ2_grow c_ s_) :=
  ⟨zz_of (ok_aload_n G dJ2_grow_0 rfl rfl) (z_ald _ _),
   zz_of (ok_get G (nx := 4) (ci := 17) (kd := 2) (k := 1) (RJ2, TJ2, 3) rfl (by decide) rfl q157 dJ2_grow_1 rfl) (z_getq _ _ _),
   zz_of (ok_alen G dJ2_grow_4 rfl) (z_alenp _),
   zz_of (ok_istore_n G dJ2_grow_5 rfl rfl (by decide)) (z_ist _ _),
   zz_of (ok_iload_n G dJ2_grow_6 rfl rfl) (z_ild _ _),
   zz_of (ok_ifgt G dJ2_grow_7 rfl rfl) (z_ifgt _ _ _),
   zz_of (ok_aload_n G dJ2_grow_10 rfl rfl) (z_ald _ _),
   zz_of (ok_get G (nx := 14) (ci := 17) (kd := 2) (k := 1) (RJ2, TJ2, 3) rfl (by decide) rfl q157 dJ2_grow_11 rfl) (z_getq _ _ _),
   zz_of (ok_gs G (c := "java/util/ArrayList") (n := "DEFAULTCAPACITY_EMPTY_ELEMENTDATA") (d := "[Ljava/lang/Object;") (by decide +kernel) q155 dJ2_grow_14 rfl) (z_cr 17 1300),
   zz_of (ok_aceq G dJ2_grow_17 rfl rfl) (z_aceq _ _),
   zz_of (ok_iload_n G dJ2_grow_20 rfl rfl) (z_ild _ _),
   zz_of (ok_iload_n G dJ2_grow_21 rfl rfl) (z_ild _ _),
   zz_of (ok_iload_n G dJ2_grow_22 rfl rfl) (z_ild _ _),
   zz_of (ok_isub G dJ2_grow_23 rfl) (z_isub _),
   zz_of (ok_iload_n G dJ2_grow_24 rfl rfl) (z_ild _ _),
   zz_of (ok_iconst G (v := 1) dJ2_grow_25 (by decide) rfl) (z_cn 26 1),
   zz_of (ok_ishr G dJ2_grow_26 rfl) (z_ishr _),
   zz_of (ok_calls G hnh (zmJ5_newLength _ G.hst) rfl rfl q566 q567 q97 q568 (by decide +kernel) ⟨Nat.le_of_ble_eq_true rfl, Nat.le_of_ble_eq_true rfl⟩ dJ2_grow_27 rfl) (z_calls _ _ _),
   zz_of (ok_istore_n G dJ2_grow_30 rfl rfl (by decide)) (z_ist _ _),
   zz_of (ok_aload_n G dJ2_grow_31 rfl rfl) (z_ald _ _),
   zz_of (ok_aload_n G dJ2_grow_32 rfl rfl) (z_ald _ _),
   zz_of (ok_get G (nx := 36) (ci := 17) (kd := 2) (k := 1) (RJ2, TJ2, 3) rfl (by decide) rfl q157 dJ2_grow_33 rfl) (z_getq _ _ _),
   zz_of (ok_iload_n G dJ2_grow_36 rfl rfl) (z_ild _ _),
   zz_of (ok_cals G (hnh.q 37) (zmJ3_copyOf _ G.hst) q516 q517 q95 q518 (by decide +kernel) ⟨Nat.le_of_ble_eq_true rfl, Nat.le_of_ble_eq_true rfl⟩ dJ2_grow_37 rfl) (z_csG _ _ _ _),
   zz_of (ok_dup_x1 G dJ2_grow_40 rfl) (z_dup_x1 _),
   zz_of (ok_putr G (nx := 44) (idx := 9) (ci := 17) (k := 1) (RJ2, TJ2, 3) rfl (by decide) rfl (mm_pw G (ci := 17) (k := 1) (RJ2, TJ2, 3) rfl (by decide) rfl q157 dJ2_grow_41) rfl) (z_putrp _ _ _),
   zz_of (ok_aret G (Or.inr ⟨_, rfl⟩) dJ2_grow_44) (z_aret),
   zz_of (ok_aload_n G dJ2_grow_45 rfl rfl) (z_ald _ _),
   zz_of (ok_bipush G (v := 10) dJ2_grow_46 (by decide) rfl) (z_cn 48 10),
   zz_of (ok_iload_n G dJ2_grow_48 rfl rfl) (z_ild _ _),
   zz_of (ok_calls G hnh (zmJ4_max _ G.hst) rfl rfl q576 q570 q96 q571 (by decide +kernel) ⟨Nat.le_of_ble_eq_true rfl, Nat.le_of_ble_eq_true rfl⟩ dJ2_grow_49 rfl) (z_calls _ _ _),
   zz_of (ok_anew G (t := 7) q577 q556 rfl (Or.inl rfl) dJ2_grow_52 rfl) (z_newa _ _ _ _),
   zz_of (ok_dup_x1 G dJ2_grow_55 rfl) (z_dup_x1 _),
   zz_of (ok_putr G (nx := 59) (idx := 9) (ci := 17) (k := 1) (RJ2, TJ2, 3) rfl (by decide) rfl (mm_pw G (ci := 17) (k := 1) (RJ2, TJ2, 3) rfl (by decide) rfl q157 dJ2_grow_56) rfl) (z_putrp _ _ _),
   zz_of (ok_aret G (Or.inr ⟨_, rfl⟩) dJ2_grow_59) (z_aret), trivial⟩

theorem zwJ2_grow_0 {Q : Option zv → zz_M → Prop} {X : Nat → zz_M → Prop} {M : zz_M} {c_ s_ : Nat} {n : Int} {h_ : Nat} (h : zsh M h_ = (1, 17) ∧ (∀ b1 : Nat, zpt M h_ 1 = some b1 → ∃ (t_ n2 : Nat), zsh M b1 = (t_, n2) ∧ (2 ≤ t_ % 16 ∧ t_ % 16 ≤ 8 ∧ t_ ≤ 31) ∧ (R32 (n2 : Int) ∧ ((0 < (n2 : Int) → zz_J (zpJ2_grow c_ s_) (zz_retP Q X c_ s_) 20 [some (vr h_), some (vi n), some (vi (n2 : Int)), none] [] M (0, 0)) ∧ (¬ 0 < (n2 : Int) → zsh M h_ = (1, 17) ∧ (∀ b3 : Nat, zpt M h_ 1 = some b3 → ((b3 : Nat) = 1300 → (R32 (10 : Int) ∧ R32 n ∧ (n ≤ (10 : Int) → (∃ h5_ : Nat, zfree M h5_ ∧ (0 ≤ (10 : Int) ∧ (10 : Int) < 2147483648 ∧ (10 : Int).toNat * 4 ≤ 536870912) ∧ (0 + 1 ≤ c_ ∧ 0 + ((10 : Int).toNat) ≤ s_) ∧ (zsh ((M.1.1, zrw M.1.2 h5_ (7, (10 : Int).toNat)), zrw M.2.1 h5_ (fun _ => 0), zrw M.2.2.1 h5_ (fun _ => 0), zrw M.2.2.2 h5_ (fun _ => none)) h_ = (1, 17) ∧ (zfx (((M.1.1, zrw M.1.2 h5_ (7, (10 : Int).toNat)), zrw M.2.1 h5_ (fun _ => 0), zrw M.2.2.1 h5_ (fun _ => 0), zrw M.2.2.2 h5_ (fun _ => none)).1.1) h_ 1 = false ∧ ((1 ≤ c_ ∧ 0 + ((10 : Int).toNat) ≤ s_) ∧ (Q (some (vr h5_)) ((M.1.1, zrw M.1.2 h5_ (7, (10 : Int).toNat)), zrw M.2.1 h5_ (fun _ => 0), zrw M.2.2.1 h5_ (fun _ => 0), mm_up (zrw M.2.2.2 h5_ (fun _ => none)) h_ 1 (some h5_)))))))) ∧ (¬ n ≤ (10 : Int) → (∃ h6_ : Nat, zfree M h6_ ∧ (0 ≤ n ∧ n < 2147483648 ∧ n.toNat * 4 ≤ 536870912) ∧ (0 + 1 ≤ c_ ∧ 0 + n.toNat ≤ s_) ∧ (zsh ((M.1.1, zrw M.1.2 h6_ (7, n.toNat)), zrw M.2.1 h6_ (fun _ => 0), zrw M.2.2.1 h6_ (fun _ => 0), zrw M.2.2.2 h6_ (fun _ => none)) h_ = (1, 17) ∧ (zfx (((M.1.1, zrw M.1.2 h6_ (7, n.toNat)), zrw M.2.1 h6_ (fun _ => 0), zrw M.2.2.1 h6_ (fun _ => 0), zrw M.2.2.2 h6_ (fun _ => none)).1.1) h_ 1 = false ∧ ((1 ≤ c_ ∧ 0 + n.toNat ≤ s_) ∧ (Q (some (vr h6_)) ((M.1.1, zrw M.1.2 h6_ (7, n.toNat)), zrw M.2.1 h6_ (fun _ => 0), zrw M.2.2.1 h6_ (fun _ => 0), mm_up (zrw M.2.2.2 h6_ (fun _ => none)) h_ 1 (some h6_)))))))))) ∧ ((b3 : Nat) ≠ 1300 → (((zsh M b3).1 ≤ 15 ∧ (zsh M 1300).1 ≤ 47) ∨ ((zsh M 1300).1 ≤ 15 ∧ (zsh M b3).1 ≤ 47)) ∧ (zz_J (zpJ2_grow c_ s_) (zz_retP Q X c_ s_) 20 [some (vr h_), some (vi n), some (vi (n2 : Int)), none] [] M (0, 0)))) ∧ (zpt M h_ 1 = none → False))))) ∧ (zpt M h_ 1 = none → False)) : zz_J (zpJ2_grow c_ s_) (zz_retP Q X c_ s_) 0 [some (vr h_), some (vi n), none, none] [] M (0, 0) := zz_J.go [(20, [3])] 400 h
theorem zwJ2_grow_20 {Q : Option zv → zz_M → Prop} {X : Nat → zz_M → Prop} {M : zz_M} {c_ s_ : Nat} {h0 : Nat} {x1 : Int} {x2 : Int} (h : ((0 ≤ x2 ∧ x2 ≤ 1000000) ∧ (0 ≤ (x1 - x2) ∧ (x1 - x2) ≤ 1000000) ∧ (0 ≤ (zshr x2 1) ∧ (zshr x2 1) ≤ 1000000) ∧ 0 < x2 + (x1 - x2) ∧ ((x1 - x2) ≤ (zshr x2 1) → (zsh M h0 = (1, 17) ∧ (∀ b2 : Nat, zpt M h0 1 = some b2 → ∃ c3 s3 : Nat, (0 + c3 ≤ c_ ∧ 0 + s3 ≤ s_) ∧ (∃ b_4 m_4 : Nat, zfree M b_4 ∧ (zsh M b2 = (7, m_4) ∨ zsh M b2 = (23, m_4) ∧ m_4 = 0) ∧ m_4 ≤ 1000000 ∧ (0 ≤ (x2 + (zshr x2 1)) ∧ (x2 + (zshr x2 1)) ≤ 1000000) ∧ (1 ≤ c3 ∧ (x2 + (zshr x2 1)).toNat ≤ s3) ∧ (∀ i x : Nat, i < m_4 → (i : Int) < (x2 + (zshr x2 1)) → zpt M b2 i = some x → ∃ ci : Nat, zsh M x = (1, ci) ∧ mm_mem mm_obs ci = true) ∧ (∀ P_4 : Nat → Nat → Option Nat, (∀ j, j ≠ b_4 → P_4 j = M.2.2.2 j) → (∀ i : Nat, i < m_4 → (i : Int) < (x2 + (zshr x2 1)) → P_4 b_4 i = zpt M b2 i) → (zsh ((M.1.1, zrw M.1.2 b_4 (7, (x2 + (zshr x2 1)).toNat)), zrw M.2.1 b_4 (fun _ => 0), zrw M.2.2.1 b_4 (fun _ => 0), P_4) h0 = (1, 17) ∧ (zfx (((M.1.1, zrw M.1.2 b_4 (7, (x2 + (zshr x2 1)).toNat)), zrw M.2.1 b_4 (fun _ => 0), zrw M.2.2.1 b_4 (fun _ => 0), P_4).1.1) h0 1 = false ∧ ((0 + c3 ≤ c_ ∧ 0 + s3 ≤ s_) ∧ (Q (some (vr b_4)) ((M.1.1, zrw M.1.2 b_4 (7, (x2 + (zshr x2 1)).toNat)), zrw M.2.1 b_4 (fun _ => 0), zrw M.2.2.1 b_4 (fun _ => 0), mm_up P_4 h0 1 (some b_4))))))))) ∧ (zpt M h0 1 = none → ∃ c5 s5 : Nat, (0 + c5 ≤ c_ ∧ 0 + s5 ≤ s_) ∧ (False)))) ∧ ((zshr x2 1) < (x1 - x2) → (zsh M h0 = (1, 17) ∧ (∀ b7 : Nat, zpt M h0 1 = some b7 → ∃ c8 s8 : Nat, (0 + c8 ≤ c_ ∧ 0 + s8 ≤ s_) ∧ (∃ b_9 m_9 : Nat, zfree M b_9 ∧ (zsh M b7 = (7, m_9) ∨ zsh M b7 = (23, m_9) ∧ m_9 = 0) ∧ m_9 ≤ 1000000 ∧ (0 ≤ (x2 + (x1 - x2)) ∧ (x2 + (x1 - x2)) ≤ 1000000) ∧ (1 ≤ c8 ∧ (x2 + (x1 - x2)).toNat ≤ s8) ∧ (∀ i x : Nat, i < m_9 → (i : Int) < (x2 + (x1 - x2)) → zpt M b7 i = some x → ∃ ci : Nat, zsh M x = (1, ci) ∧ mm_mem mm_obs ci = true) ∧ (∀ P_9 : Nat → Nat → Option Nat, (∀ j, j ≠ b_9 → P_9 j = M.2.2.2 j) → (∀ i : Nat, i < m_9 → (i : Int) < (x2 + (x1 - x2)) → P_9 b_9 i = zpt M b7 i) → (zsh ((M.1.1, zrw M.1.2 b_9 (7, (x2 + (x1 - x2)).toNat)), zrw M.2.1 b_9 (fun _ => 0), zrw M.2.2.1 b_9 (fun _ => 0), P_9) h0 = (1, 17) ∧ (zfx (((M.1.1, zrw M.1.2 b_9 (7, (x2 + (x1 - x2)).toNat)), zrw M.2.1 b_9 (fun _ => 0), zrw M.2.2.1 b_9 (fun _ => 0), P_9).1.1) h0 1 = false ∧ ((0 + c8 ≤ c_ ∧ 0 + s8 ≤ s_) ∧ (Q (some (vr b_9)) ((M.1.1, zrw M.1.2 b_9 (7, (x2 + (x1 - x2)).toNat)), zrw M.2.1 b_9 (fun _ => 0), zrw M.2.2.1 b_9 (fun _ => 0), mm_up P_9 h0 1 (some b_9))))))))) ∧ (zpt M h0 1 = none → ∃ c10 s10 : Nat, (0 + c10 ≤ c_ ∧ 0 + s10 ≤ s_) ∧ (False)))))) : zz_J (zpJ2_grow c_ s_) (zz_retP Q X c_ s_) 20 [some (vr h0), some (vi x1), some (vi x2), none] [] M (0, 0) := zz_J.go [(20, [3])] 400 h

theorem zfree_ne {M : zz_M} {b x : Nat} {r : Nat × Nat} (hb : zfree M b) (hx : zsh M x = r) (hr : r.1 ≠ 0) : x ≠ b := by
  rintro rfl
  have := hb.e
  rw [show (eM M).1 x = zsh M x from rfl, hx] at this
  exact hr this
theorem zmJ2_grow (l : Launch) (hl : l.stackTraces = false) (c_ s_ : Nat) : mm_Spec l yJ2_grow (ws_ yJ2_grow cJ2_grow 4 (some (.array (.object "java/lang/Object")))) (mm_rm 6 c_ s_) (zE (zJ2_grow c_ s_)) := by
  refine zz_Met.J hl (by decide) (fun C G hnh => ztJ2_grow c_ s_ G hnh) ?_
  rintro as M Q X h
  unfold zJ2_grow at h
  split at h
  rotate_left
  · exact h.elim
  rename_i h_ n
  refine ⟨rfl, ?_⟩
  refine zz_retP_J ?_
  obtain ⟨b, k, a, m, hz, hx, hb, hp, hcase, hm, hel, hc, hq⟩ := h
  have nh : h_ ≠ b := zfree_ne hb hz (by decide)
  have sh' : ∀ (r : Nat × Nat) (S L : Nat → Nat → Int) (P : Nat → Nat → Option Nat), zsh ((M.1.1, zrw M.1.2 b r), S, L, P) h_ = (1, 17) := fun r S L P => by rw [zsh_al hb.1, if_neg nh]; exact hz
  rcases hcase with ⟨ea, em, hza, hn, ek⟩ | ⟨hza, hm0, hn, ek⟩
  · subst ea
    subst em
    subst ek
    have fin : Q (some (vr b)) ((M.1.1, zrw M.1.2 b (7, 10)), zrw M.2.1 b (fun _ => 0), zrw M.2.2.1 b (fun _ => 0), mm_up (zrw M.2.2.2 b (fun _ => none)) h_ 1 (some b)) := by
      refine hq _ (fun j h1 h2 => ?_) (fun i hi => ?_) ?_ (fun i hi => absurd hi (Nat.not_lt_zero _))
      · funext x
        rw [up_eq, if_neg (fun e => h2 e.1), zrw_n _ _ h1]
      · rw [up_eq, if_neg (fun e => hi e.2), zrw_n _ _ nh]
      · rw [up_eq, if_pos ⟨rfl, rfl⟩]
    refine zwJ2_grow_0 (q_go hz hp ⟨23, 0, hza, by decide, by decide, fun c => absurd c (by decide), fun _ => q_go hz hp ⟨fun _ => ⟨by decide, by omega, fun _ => ⟨b, hb, by decide, ⟨by omega, ?_⟩, sh' _ _ _ _, hx, by omega, fin⟩, fun c => absurd hn.2 c⟩, fun c => absurd rfl c⟩⟩)
    show 0 + 10 ≤ s_
    omega
  · have e2 := zshr_1 (x := (m : Int)) (by omega) (by omega)
    have fin : ∀ P_6 : Nat → Nat → Option Nat, (∀ j, j ≠ b → P_6 j = M.2.2.2 j) → (∀ i : Nat, i < m → (i : Int) < (k : Int) → P_6 b i = zpt M a i) → Q (some (vr b)) ((M.1.1, zrw M.1.2 b (7, k)), zrw M.2.1 b (fun _ => 0), zrw M.2.2.1 b (fun _ => 0), mm_up P_6 h_ 1 (some b)) := fun P_6 h1 h2 => by
      refine hq _ (fun j k1 k2 => ?_) (fun i hi => ?_) ?_ (fun i hi => ?_)
      · funext x
        rw [up_eq, if_neg (fun e => k2 e.1), h1 j k1]
      · rw [up_eq, if_neg (fun e => hi e.2), h1 _ nh]
      · rw [up_eq, if_pos ⟨rfl, rfl⟩]
      · rw [up_eq, if_neg (fun e => nh e.1.symm)]
        exact h2 i hi (by rw [ek]; omega)
    have t20 : zz_J (zpJ2_grow c_ s_) (zz_retP Q X c_ s_) 20 [some (vr h_), some (vi n), some (vi (m : Int)), none] [] M (0, 0) := by
      refine zwJ2_grow_20 ⟨by omega, by omega, by rw [e2]; omega, by omega, fun c => ?_, fun c => ?_⟩
      · rw [e2] at c ⊢
        have ek2 : (m : Int) + m / 2 = (k : Int) := by
          rw [ek, if_neg (by omega)]
          omega
        rw [ek2, Int.toNat_natCast]
        exact q_go hz hp ⟨c_, s_, by omega, b, m, hb, Or.inl hza, by omega, by omega, hc, fun i x h1 _ => hel i x h1, fun P_6 h1 h2 => ⟨sh' _ _ _ _, hx, by omega, fin P_6 h1 h2⟩⟩
      · rw [e2] at c
        have ek2 : (m : Int) + (n - m) = (k : Int) := by
          rw [ek, if_pos (by omega)]
          omega
        rw [ek2, Int.toNat_natCast]
        exact q_go hz hp ⟨c_, s_, by omega, b, m, hb, Or.inl hza, by omega, by omega, hc, fun i x h1 _ => hel i x h1, fun P_6 h1 h2 => ⟨sh' _ _ _ _, hx, by omega, fin P_6 h1 h2⟩⟩
    refine zwJ2_grow_0 (q_go hz hp ⟨7, m, hza, by decide, by omega, fun _ => t20, fun c => absurd (by omega) c⟩)
def zJ2_grow_2 (c_ s_ : Nat) : zz_Sp := fun as M Q X => match as with
  | [.inr (.inr (some h_))] => ∃ b_ k_ a_ m_ : Nat, zsh M h_ = (1, 17) ∧ zfx M.1.1 h_ 1 = false ∧ M.2.1 h_ 2 = (m_ : Int) ∧ zfree M b_ ∧ zpt M h_ 1 = some a_ ∧ ((a_ = 1300 ∧ m_ = 0 ∧ zsh M a_ = (23, 0) ∧ k_ = 10) ∨ (zsh M a_ = (7, m_) ∧ 0 < m_ ∧ k_ = m_ + (if m_ / 2 = 0 then 1 else m_ / 2))) ∧ m_ ≤ 400000 ∧ (∀ i x : Nat, i < m_ → zpt M a_ i = some x → ∃ ci : Nat, zsh M x = (1, ci) ∧ mm_mem mm_obs ci = true) ∧ (1 ≤ c_ ∧ k_ ≤ s_) ∧ (∀ P_ : Nat → Nat → Option Nat, (∀ j, j ≠ b_ → j ≠ h_ → P_ j = M.2.2.2 j) → (∀ i, i ≠ 1 → P_ h_ i = M.2.2.2 h_ i) → P_ h_ 1 = some b_ → (∀ i : Nat, i < m_ → P_ b_ i = zpt M a_ i) → Q (some (vr b_)) ((M.1.1, zrw M.1.2 b_ (7, k_)), zrw M.2.1 b_ (fun _ => 0), zrw M.2.2.1 b_ (fun _ => 0), P_))
  | _ => False

def zpJ2_grow_2 (c_ s_ : Nat) : zz_P := [(0, zo_ald 1 0), (1, zo_ald 2 0), (2, zo_getp 5 17 0 2), (5, zo_c 6 (vi 1)), (6, zo_iadd 7), (7, zo_cvGp (mm_rm 7 c_ s_) 10 2 17 zJ2_grow), (10, zo_aret)]
theorem ztJ2_grow_2 (c_ s_ : Nat) {C : mm_C} (G : mm_G C RJ2 cJ2_grow_2 (some (.array (.object "java/lang/Object"))) 1 (mm_rm 7 c_ s_)) (hnh : mm_nh C) : zz_OKs C (zpJ2_grow_2 c_ s_) :=
  ⟨zz_of (ok_aload_n G dJ2_grow_2_0 rfl rfl) (z_ald _ _),
   zz_of (ok_aload_n G dJ2_grow_2_1 rfl rfl) (z_ald _ _),
   zz_of (ok_get G (nx := 5) (ci := 17) (kd := 0) (k := 2) (RJ2, TJ2, 3) rfl (by decide) rfl q158 dJ2_grow_2_2 rfl) (z_getp _ _ _ _),
   zz_of (ok_iconst G (v := 1) dJ2_grow_2_5 (by decide) rfl) (z_cn 6 1),
   zz_of (ok_iadd G dJ2_grow_2_6 rfl) (z_iadd _),
   zz_of (ok_calv G (hnh.q 7) (zmJ2_grow _ G.hst) (RJ2, TJ2, 3) rfl q562 q564 qs0 q86 q565 (by decide +kernel) ⟨Nat.le_of_ble_eq_true rfl, Nat.le_of_ble_eq_true rfl⟩ dJ2_grow_2_7 rfl) (z_cvGp _ _ _ _ _),
   zz_of (ok_aret G (Or.inr ⟨_, rfl⟩) dJ2_grow_2_10) (z_aret), trivial⟩

theorem zwJ2_grow_2_0 {Q : Option zv → zz_M → Prop} {X : Nat → zz_M → Prop} {M : zz_M} {c_ s_ : Nat} {h_ : Nat} (h : zsh M h_ = (1, 17) ∧ ((zsh M h_ = (1, 17) ∨ zsh M h_ = (17, 17)) ∧ ∃ c1 s1 : Nat, (0 + c1 ≤ c_ ∧ 0 + s1 ≤ s_) ∧ (∃ b_2 k_2 a_2 m_2 : Nat, zsh M h_ = (1, 17) ∧ zfx M.1.1 h_ 1 = false ∧ zfree M b_2 ∧ zpt M h_ 1 = some a_2 ∧ ((a_2 = 1300 ∧ m_2 = 0 ∧ zsh M a_2 = (23, 0) ∧ (0 < ((M.2.1 h_ 2) + 1) ∧ ((M.2.1 h_ 2) + 1) ≤ 10) ∧ k_2 = 10) ∨ (zsh M a_2 = (7, m_2) ∧ 0 < m_2 ∧ ((M.2.1 h_ 2) + 1) = (m_2 : Int) + 1 ∧ k_2 = m_2 + (if m_2 / 2 = 0 then 1 else m_2 / 2))) ∧ m_2 ≤ 400000 ∧ (∀ i x : Nat, i < m_2 → zpt M a_2 i = some x → ∃ ci : Nat, zsh M x = (1, ci) ∧ mm_mem mm_obs ci = true) ∧ (1 ≤ c1 ∧ k_2 ≤ s1) ∧ (∀ P_2 : Nat → Nat → Option Nat, (∀ j, j ≠ b_2 → j ≠ h_ → P_2 j = M.2.2.2 j) → (∀ i, i ≠ 1 → P_2 h_ i = M.2.2.2 h_ i) → P_2 h_ 1 = some b_2 → (∀ i : Nat, i < m_2 → P_2 b_2 i = zpt M a_2 i) → ((0 + c1 ≤ c_ ∧ 0 + s1 ≤ s_) ∧ (Q (some (vr b_2)) ((M.1.1, zrw M.1.2 b_2 (7, k_2)), zrw M.2.1 b_2 (fun _ => 0), zrw M.2.2.1 b_2 (fun _ => 0), P_2))))))) : zz_J (zpJ2_grow_2 c_ s_) (zz_retP Q X c_ s_) 0 [some (vr h_)] [] M (0, 0) := zz_J.go [] 400 h

theorem zmJ2_grow_2 (l : Launch) (hl : l.stackTraces = false) (c_ s_ : Nat) : mm_Spec l yJ2_grow_2 (ws_ yJ2_grow_2 cJ2_grow_2 1 (some (.array (.object "java/lang/Object")))) (mm_rm 7 c_ s_) (zE (zJ2_grow_2 c_ s_)) := by
  refine zz_Met.J hl (by decide) (fun C G hnh => ztJ2_grow_2 c_ s_ G hnh) ?_
  rintro as M Q X h
  unfold zJ2_grow_2 at h
  split at h
  rotate_left
  · exact h.elim
  rename_i h_
  refine ⟨rfl, ?_⟩
  refine zz_retP_J ?_
  obtain ⟨b, k, a, m, hz, hx, hsz, hb, hp, hcase, hm, hel, hc, hq⟩ := h
  refine zwJ2_grow_2_0 ⟨hz, Or.inl hz, c_, s_, by omega, b, k, a, m, hz, hx, hb, hp, ?_, hm, hel, hc, fun P h1 h2 h3 h4 => ⟨by omega, hq P h1 h2 h3 h4⟩⟩
  rw [hsz]
  rcases hcase with ⟨e1, e2, e3, e4⟩ | ⟨e1, e2, e3⟩
  · exact Or.inl ⟨e1, e2, e3, by omega, e4⟩
  · exact Or.inr ⟨e1, e2, rfl, e3⟩
/-- a list that may take one more: its row a of m places, n of them taken -/
def lsR (M : zz_M) (h a m n : Nat) : Prop := zsh M h = (1, 17) ∧ zfx M.1.1 h 1 = false ∧ M.2.1 h 2 = (n : Int) ∧ zpt M h 1 = some a ∧ n ≤ m ∧ m ≤ 400000 ∧ ((a = 1300 ∧ m = 0 ∧ zsh M a = (23, 0)) ∨ (zsh M a = (7, m) ∧ 0 < m ∧ zfs M.1.1 a = false)) ∧ ∀ i x : Nat, i < n → zpt M a i = some x → ∃ ci : Nat, zsh M x = (1, ci) ∧ mm_mem mm_obs ci = true
/-- the room of its next row -/
def lsN (m : Nat) : Nat := if m = 0 then 10 else m + (if m / 2 = 0 then 1 else m / 2)
def zJ2_add_2 (c_ s_ : Nat) : zz_Sp := fun as M Q X => match as with
  | [.inr (.inr (some h_)), .inr (.inr (some e)), .inr (.inr (some a)), .inl n] => ∃ b_ m_ n_ ci_ : Nat, lsR M h_ a m_ n_ ∧ n = (n_ : Int) ∧ (zsh M e = (1, ci_) ∧ mm_mem mm_obs ci_ = true) ∧ (n_ < m_ → (∀ (S_ : Nat → Nat → Int) (P_ : Nat → Nat → Option Nat), (∀ j k, ¬ (j = h_ ∧ k = 2) → S_ j k = M.2.1 j k) → S_ h_ 2 = (n_ : Int) + 1 → (∀ j k, ¬ (j = a ∧ k = n_) → P_ j k = M.2.2.2 j k) → P_ a n_ = some e → Q none ((M.1.1, M.1.2), S_, M.2.2.1, P_))) ∧ (n_ = m_ → zfree M b_ ∧ (1 ≤ c_ ∧ lsN m_ ≤ s_) ∧ (∀ (S_ : Nat → Nat → Int) (P_ : Nat → Nat → Option Nat), (∀ j k, ¬ (j = h_ ∧ k = 2) → j ≠ b_ → S_ j k = M.2.1 j k) → S_ h_ 2 = (n_ : Int) + 1 → (∀ j k, j ≠ b_ → ¬ (j = h_ ∧ k = 1) → P_ j k = M.2.2.2 j k) → P_ h_ 1 = some b_ → (∀ i : Nat, i < m_ → P_ b_ i = zpt M a i) → P_ b_ n_ = some e → Q none ((M.1.1, zrw M.1.2 b_ (7, lsN m_)), S_, zrw M.2.2.1 b_ (fun _ => 0), P_)))
  | _ => False

def zpJ2_add_2 (c_ s_ : Nat) : zz_P := [(0, zo_ild 1 3), (1, zo_ald 2 2), (2, zo_alenp 3), (3, zo_cne false false 6 11), (6, zo_ald 7 0), (7, zo_cvGp (mm_rm 8 c_ s_) 10 1 17 zJ2_grow_2), (10, zo_ast 11 2), (11, zo_ald 12 2), (12, zo_ild 13 3), (13, zo_ald 14 1), (14, zo_aast 15 mm_obs), (15, zo_ald 16 0), (16, zo_ild 17 3), (17, zo_c 18 (vi 1)), (18, zo_iadd 19), (19, zo_putip 22 17 2), (22, zo_vret)]
theorem ztJ2_add_2 (c_ s_ : Nat) {C : mm_C} (G : mm_G C RJ2 cJ2_add_2 none 4 (mm_rm 8 c_ s_)) (hnh : mm_nh C) : zz_OKs C (zpJ2_add_2 c_ s_) :=
  ⟨zz_of (ok_iload_n G dJ2_add_2_0 rfl rfl) (z_ild _ _),
   zz_of (ok_aload_n G dJ2_add_2_1 rfl rfl) (z_ald _ _),
   zz_of (ok_alen G dJ2_add_2_2 rfl) (z_alenp _),
   zz_of (ok_cne G dJ2_add_2_3 rfl rfl) (z_cne _ _ _ _),
   zz_of (ok_aload_n G dJ2_add_2_6 rfl rfl) (z_ald _ _),
   zz_of (ok_calv G (hnh.q 7) (zmJ2_grow_2 _ G.hst) (RJ2, TJ2, 3) rfl q1264 q1266 qs16 q86 q1267 (by decide +kernel) ⟨Nat.le_of_ble_eq_true rfl, Nat.le_of_ble_eq_true rfl⟩ dJ2_add_2_7 rfl) (z_cvGp _ _ _ _ _),
   zz_of (ok_astore_n G dJ2_add_2_10 rfl rfl (by decide)) (z_ast _ _),
   zz_of (ok_aload_n G dJ2_add_2_11 rfl rfl) (z_ald _ _),
   zz_of (ok_iload_n G dJ2_add_2_12 rfl rfl) (z_ild _ _),
   zz_of (ok_aload_n G dJ2_add_2_13 rfl rfl) (z_ald _ _),
   zz_of (ok_aast G mm_obs_ok dJ2_add_2_14 rfl) (z_aast _ _),
   zz_of (ok_aload_n G dJ2_add_2_15 rfl rfl) (z_ald _ _),
   zz_of (ok_iload_n G dJ2_add_2_16 rfl rfl) (z_ild _ _),
   zz_of (ok_iconst G (v := 1) dJ2_add_2_17 (by decide) rfl) (z_cn 18 1),
   zz_of (ok_iadd G dJ2_add_2_18 rfl) (z_iadd _),
   zz_of (ok_puti G (nx := 22) (idx := 48) (ci := 17) (k := 2) (RJ2, TJ2, 3) rfl (by decide) rfl (mm_pw G (ci := 17) (k := 2) (RJ2, TJ2, 3) rfl (by decide) rfl q158 dJ2_add_2_19) rfl) (z_putip _ _ _),
   zz_of (ok_vret G dJ2_add_2_22) (z_vret), trivial⟩

theorem zwJ2_add_2_0 {Q : Option zv → zz_M → Prop} {X : Nat → zz_M → Prop} {M : zz_M} {c_ s_ : Nat} {e : Nat} {a : Nat} {n : Int} {h_ : Nat} (h : ∃ (t_ n1 : Nat), zsh M a = (t_, n1) ∧ (2 ≤ t_ % 16 ∧ t_ % 16 ≤ 8 ∧ t_ ≤ 31) ∧ (R32 n ∧ (R32 (n1 : Int) ∧ ((¬ n = (n1 : Int) → ∃ n_ ci_ : Nat, zsh M a = (7, n_) ∧ (zsh M e = (1, ci_) ∧ mm_mem mm_obs ci_ = true) ∧ zfs M.1.1 a = false ∧ n_ ≤ 2147483647 ∧ (0 ≤ n ∧ n < (n_ : Int)) ∧ (zsh ((M.1.1, M.1.2), M.2.1, M.2.2.1, mm_up M.2.2.2 a n.toNat (some e)) h_ = (1, 17) ∧ ((0 ≤ c_ ∧ 0 ≤ s_) ∧ (Q none ((M.1.1, M.1.2), mm_up M.2.1 h_ 2 (n + 1), M.2.2.1, mm_up M.2.2.2 a n.toNat (some e)))))) ∧ (n = (n1 : Int) → (zsh M h_ = (1, 17) ∨ zsh M h_ = (17, 17)) ∧ ∃ c2 s2 : Nat, (0 + c2 ≤ c_ ∧ 0 + s2 ≤ s_) ∧ (∃ b_3 k_3 a_3 m_3 : Nat, zsh M h_ = (1, 17) ∧ zfx M.1.1 h_ 1 = false ∧ M.2.1 h_ 2 = (m_3 : Int) ∧ zfree M b_3 ∧ zpt M h_ 1 = some a_3 ∧ ((a_3 = 1300 ∧ m_3 = 0 ∧ zsh M a_3 = (23, 0) ∧ k_3 = 10) ∨ (zsh M a_3 = (7, m_3) ∧ 0 < m_3 ∧ k_3 = m_3 + (if m_3 / 2 = 0 then 1 else m_3 / 2))) ∧ m_3 ≤ 400000 ∧ (∀ i x : Nat, i < m_3 → zpt M a_3 i = some x → ∃ ci : Nat, zsh M x = (1, ci) ∧ mm_mem mm_obs ci = true) ∧ (1 ≤ c2 ∧ k_3 ≤ s2) ∧ (∀ P_3 : Nat → Nat → Option Nat, (∀ j, j ≠ b_3 → j ≠ h_ → P_3 j = M.2.2.2 j) → (∀ i, i ≠ 1 → P_3 h_ i = M.2.2.2 h_ i) → P_3 h_ 1 = some b_3 → (∀ i : Nat, i < m_3 → P_3 b_3 i = zpt M a_3 i) → (∃ n_ ci_ : Nat, zsh ((M.1.1, zrw M.1.2 b_3 (7, k_3)), zrw M.2.1 b_3 (fun _ => 0), zrw M.2.2.1 b_3 (fun _ => 0), P_3) b_3 = (7, n_) ∧ (zsh ((M.1.1, zrw M.1.2 b_3 (7, k_3)), zrw M.2.1 b_3 (fun _ => 0), zrw M.2.2.1 b_3 (fun _ => 0), P_3) e = (1, ci_) ∧ mm_mem mm_obs ci_ = true) ∧ zfs ((M.1.1, zrw M.1.2 b_3 (7, k_3)), zrw M.2.1 b_3 (fun _ => 0), zrw M.2.2.1 b_3 (fun _ => 0), P_3).1.1 b_3 = false ∧ n_ ≤ 2147483647 ∧ (0 ≤ n ∧ n < (n_ : Int)) ∧ (zsh ((M.1.1, zrw M.1.2 b_3 (7, k_3)), zrw M.2.1 b_3 (fun _ => 0), zrw M.2.2.1 b_3 (fun _ => 0), mm_up P_3 b_3 n.toNat (some e)) h_ = (1, 17) ∧ ((0 + c2 ≤ c_ ∧ 0 + s2 ≤ s_) ∧ (Q none ((M.1.1, zrw M.1.2 b_3 (7, k_3)), mm_up (zrw M.2.1 b_3 (fun _ => 0)) h_ 2 (n + 1), zrw M.2.2.1 b_3 (fun _ => 0), mm_up P_3 b_3 n.toNat (some e))))))))))))) : zz_J (zpJ2_add_2 c_ s_) (zz_retP Q X c_ s_) 0 [some (vr h_), some (vr e), some (vr a), some (vi n)] [] M (0, 0) := zz_J.go [] 400 h

theorem zmJ2_add_2 (l : Launch) (hl : l.stackTraces = false) (c_ s_ : Nat) : mm_Spec l yJ2_add_2 (ws_ yJ2_add_2 cJ2_add_2 4 none) (mm_rm 8 c_ s_) (zE (zJ2_add_2 c_ s_)) := by
  refine zz_Met.J hl (by decide) (fun C G hnh => ztJ2_add_2 c_ s_ G hnh) ?_
  rintro as M Q X h
  unfold zJ2_add_2 at h
  split at h
  rotate_left
  · exact h.elim
  rename_i h_ e a n
  refine ⟨rfl, ?_⟩
  refine zz_retP_J ?_
  obtain ⟨b, m, k, ci, ⟨hz, hx, hsz, hp, hnm, hm, hcase, hel⟩, rfl, hci, q1, q2⟩ := h
  by_cases hk : k < m
  · obtain ⟨ha, h0, hf⟩ : zsh M a = (7, m) ∧ 0 < m ∧ zfs M.1.1 a = false := by
      rcases hcase with ⟨-, e, -⟩ | e
      · omega
      · exact e
    refine zwJ2_add_2_0 ⟨7, m, ha, by decide, by omega, by omega, fun c => ⟨m, ci, ha, hci, hf, by omega, by omega, hz, ?_⟩, fun c => absurd c (by omega)⟩
    rw [Int.toNat_natCast]
    refine ⟨by omega, q1 hk _ _ (fun j x hj => ?_) ?_ (fun j x hj => ?_) ?_⟩
    · rw [up_eq, if_neg hj]
    · rw [up_eq, if_pos ⟨rfl, rfl⟩]
    · rw [up_eq, if_neg hj]
    · rw [up_eq, if_pos ⟨rfl, rfl⟩]
  · have em : k = m := by omega
    subst em
    obtain ⟨hb, hc, hq⟩ := q2 rfl
    have nh : h_ ≠ b := zfree_ne hb hz (by decide)
    have ne : e ≠ b := zfree_ne hb hci.1 (by show (1 : Nat) ≠ 0; decide)
    obtain ⟨t, ht, ht2⟩ : ∃ t : Nat, zsh M a = (t, k) ∧ (t = 7 ∨ t = 23) := by
      rcases hcase with ⟨-, e0, e1⟩ | ⟨e0, -⟩
      · rw [e0]
        exact ⟨23, e1, Or.inr rfl⟩
      · exact ⟨7, e0, Or.inl rfl⟩
    refine zwJ2_add_2_0 ⟨t, k, ht, by omega, by omega, by omega, fun c => absurd rfl c, fun _ => ⟨Or.inl hz, c_, s_, by omega, b, lsN k, a, k, hz, hx, hsz, hb, hp, ?_, hm, hel, hc, fun P3 p1 p2 p3 p4 => ⟨lsN k, ci, by rw [zsh_al hb.1, if_pos rfl], ⟨by rw [zsh_al hb.1, if_neg ne]; exact hci.1, hci.2⟩, hb.1, ?_, ?_, by rw [zsh_al hb.1, if_neg nh]; exact hz, ?_⟩⟩⟩
    · unfold lsN
      rcases hcase with ⟨e0, e1, e2⟩ | ⟨e0, e1, -⟩
      · exact Or.inl ⟨e0, e1, by rw [e2], by rw [if_pos e1]⟩
      · exact Or.inr ⟨e0, e1, by rw [if_neg (by omega)]⟩
    · unfold lsN
      split
      · omega
      · split <;> omega
    · unfold lsN
      split
      · omega
      · split <;> omega
    · rw [Int.toNat_natCast]
      refine ⟨by omega, hq _ _ (fun j x h1 h2 => ?_) ?_ (fun j x h1 h2 => ?_) ?_ (fun i hi => ?_) ?_⟩
      · rw [up_eq, if_neg h1, zrw_n _ _ h2]
      · rw [up_eq, if_pos ⟨rfl, rfl⟩]
      · rw [up_eq, if_neg (fun e => h1 e.1)]
        by_cases ej : j = h_
        · subst ej
          exact p2 x (fun e => h2 ⟨rfl, e⟩)
        · rw [p1 j h1 ej]
      · rw [up_eq, if_neg (fun e => nh e.1)]
        exact p3
      · rw [up_eq, if_neg (fun e => by omega)]
        exact p4 i hi
      · rw [up_eq, if_pos ⟨rfl, rfl⟩]
def zJ2_add (c_ s_ : Nat) : zz_Sp := fun as M Q X => match as with
  | [.inr (.inr (some h_)), .inr (.inr (some e))] => ∃ a_ b_ m_ n_ ci_ : Nat, lsR M h_ a_ m_ n_ ∧ (zsh M e = (1, ci_) ∧ mm_mem mm_obs ci_ = true) ∧ (n_ < m_ → (∀ (S_ : Nat → Nat → Int) (P_ : Nat → Nat → Option Nat), (∀ j k, ¬ (j = h_ ∧ (k = 0 ∨ k = 2)) → S_ j k = M.2.1 j k) → S_ h_ 2 = (n_ : Int) + 1 → (∀ j k, ¬ (j = a_ ∧ k = n_) → P_ j k = M.2.2.2 j k) → P_ a_ n_ = some e → Q (some (vi 1)) ((M.1.1, M.1.2), S_, M.2.2.1, P_))) ∧ (n_ = m_ → zfree M b_ ∧ (1 ≤ c_ ∧ lsN m_ ≤ s_) ∧ (∀ (S_ : Nat → Nat → Int) (P_ : Nat → Nat → Option Nat), (∀ j k, ¬ (j = h_ ∧ (k = 0 ∨ k = 2)) → j ≠ b_ → S_ j k = M.2.1 j k) → S_ h_ 2 = (n_ : Int) + 1 → (∀ j k, j ≠ b_ → ¬ (j = h_ ∧ k = 1) → P_ j k = M.2.2.2 j k) → P_ h_ 1 = some b_ → (∀ i : Nat, i < m_ → P_ b_ i = zpt M a_ i) → P_ b_ n_ = some e → Q (some (vi 1)) ((M.1.1, zrw M.1.2 b_ (7, lsN m_)), S_, zrw M.2.2.1 b_ (fun _ => 0), P_)))
  | _ => False

def zpJ2_add (c_ s_ : Nat) : zz_P := [(0, zo_ald 1 0), (1, zo_dup 2), (2, zo_getp 5 17 0 0), (5, zo_c 6 (vi 1)), (6, zo_iadd 7), (7, zo_putip 10 17 0), (10, zo_ald 11 0), (11, zo_ald 12 1), (12, zo_ald 13 0), (13, zo_getq 16 17 1), (16, zo_ald 17 0), (17, zo_getp 20 17 0 2), (20, zo_cvGp (mm_rm 9 c_ s_) 23 4 17 zJ2_add_2), (23, zo_c 24 (vi 1)), (24, zo_zret true)]
theorem ztJ2_add (c_ s_ : Nat) {C : mm_C} (G : mm_G C RJ2 cJ2_add (some .boolean) 2 (mm_rm 9 c_ s_)) (hnh : mm_nh C) : zz_OKs C (zpJ2_add c_ s_) :=
  ⟨zz_of (ok_aload_n G dJ2_add_0 rfl rfl) (z_ald _ _),
   zz_of (ok_dup G dJ2_add_1 rfl) (z_dup _),
   zz_of (ok_getS G (nx := 5) (ci := 17) (kd := 0) (k := 0) (RJ2, TJ2, 3) rfl (by decide) rfl q160 q161 dJ2_add_2 rfl) (z_getp _ _ _ _),
   zz_of (ok_iconst G (v := 1) dJ2_add_5 (by decide) rfl) (z_cn 6 1),
   zz_of (ok_iadd G dJ2_add_6 rfl) (z_iadd _),
   zz_of (ok_puti G (nx := 10) (idx := 63) (ci := 17) (k := 0) (RJ2, TJ2, 3) rfl (by decide) rfl (mm_pwS G (ci := 17) (k := 0) (RJ2, TJ2, 3) rfl (by decide) rfl q160 q161 dJ2_add_7) rfl) (z_putip _ _ _),
   zz_of (ok_aload_n G dJ2_add_10 rfl rfl) (z_ald _ _),
   zz_of (ok_aload_n G dJ2_add_11 rfl rfl) (z_ald _ _),
   zz_of (ok_aload_n G dJ2_add_12 rfl rfl) (z_ald _ _),
   zz_of (ok_get G (nx := 16) (ci := 17) (kd := 2) (k := 1) (RJ2, TJ2, 3) rfl (by decide) rfl q157 dJ2_add_13 rfl) (z_getq _ _ _),
   zz_of (ok_aload_n G dJ2_add_16 rfl rfl) (z_ald _ _),
   zz_of (ok_get G (nx := 20) (ci := 17) (kd := 0) (k := 2) (RJ2, TJ2, 3) rfl (by decide) rfl q158 dJ2_add_17 rfl) (z_getp _ _ _ _),
   zz_of (ok_calv G (hnh.q 20) (zmJ2_add_2 _ G.hst) (RJ2, TJ2, 3) rfl q1260 q1262 qs15 q86 q1263 (by decide +kernel) ⟨Nat.le_of_ble_eq_true rfl, Nat.le_of_ble_eq_true rfl⟩ dJ2_add_20 rfl) (z_cvGp _ _ _ _ _),
   zz_of (ok_iconst G (v := 1) dJ2_add_23 (by decide) rfl) (z_cn 24 1),
   zz_of (ok_zret G dJ2_add_24) (z_zret _), trivial⟩

theorem zwJ2_add_0 {Q : Option zv → zz_M → Prop} {X : Nat → zz_M → Prop} {M : zz_M} {c_ s_ : Nat} {e : Nat} {h_ : Nat} (h : zsh M h_ = (1, 17) ∧ (zsh M h_ = (1, 17) ∧ (zsh ((M.1.1, M.1.2), mm_up M.2.1 h_ 0 ((M.2.1 h_ 0) + 1), M.2.2.1, M.2.2.2) h_ = (1, 17) ∧ (∀ b1 : Nat, zpt ((M.1.1, M.1.2), mm_up M.2.1 h_ 0 ((M.2.1 h_ 0) + 1), M.2.2.1, M.2.2.2) h_ 1 = some b1 → zsh ((M.1.1, M.1.2), mm_up M.2.1 h_ 0 ((M.2.1 h_ 0) + 1), M.2.2.1, M.2.2.2) h_ = (1, 17) ∧ ((zsh ((M.1.1, M.1.2), mm_up M.2.1 h_ 0 ((M.2.1 h_ 0) + 1), M.2.2.1, M.2.2.2) h_ = (1, 17) ∨ zsh ((M.1.1, M.1.2), mm_up M.2.1 h_ 0 ((M.2.1 h_ 0) + 1), M.2.2.1, M.2.2.2) h_ = (17, 17)) ∧ ∃ c2 s2 : Nat, (0 + c2 ≤ c_ ∧ 0 + s2 ≤ s_) ∧ (∃ b_3 m_3 n_3 ci_3 : Nat, lsR ((M.1.1, M.1.2), mm_up M.2.1 h_ 0 ((M.2.1 h_ 0) + 1), M.2.2.1, M.2.2.2) h_ b1 m_3 n_3 ∧ ((mm_up M.2.1 h_ 0 ((M.2.1 h_ 0) + 1)) h_ 2) = (n_3 : Int) ∧ (zsh ((M.1.1, M.1.2), mm_up M.2.1 h_ 0 ((M.2.1 h_ 0) + 1), M.2.2.1, M.2.2.2) e = (1, ci_3) ∧ mm_mem mm_obs ci_3 = true) ∧ (n_3 < m_3 → (∀ (S_3 : Nat → Nat → Int) (P_3 : Nat → Nat → Option Nat), (∀ j k, ¬ (j = h_ ∧ k = 2) → S_3 j k = (mm_up M.2.1 h_ 0 ((M.2.1 h_ 0) + 1)) j k) → S_3 h_ 2 = (n_3 : Int) + 1 → (∀ j k, ¬ (j = b1 ∧ k = n_3) → P_3 j k = M.2.2.2 j k) → P_3 b1 n_3 = some e → ((0 + c2 ≤ c_ ∧ 0 + s2 ≤ s_) ∧ (Q (some (vi 1)) ((M.1.1, M.1.2), S_3, M.2.2.1, P_3))))) ∧ (n_3 = m_3 → zfree ((M.1.1, M.1.2), mm_up M.2.1 h_ 0 ((M.2.1 h_ 0) + 1), M.2.2.1, M.2.2.2) b_3 ∧ (1 ≤ c2 ∧ lsN m_3 ≤ s2) ∧ (∀ (S_3 : Nat → Nat → Int) (P_3 : Nat → Nat → Option Nat), (∀ j k, ¬ (j = h_ ∧ k = 2) → j ≠ b_3 → S_3 j k = (mm_up M.2.1 h_ 0 ((M.2.1 h_ 0) + 1)) j k) → S_3 h_ 2 = (n_3 : Int) + 1 → (∀ j k, j ≠ b_3 → ¬ (j = h_ ∧ k = 1) → P_3 j k = M.2.2.2 j k) → P_3 h_ 1 = some b_3 → (∀ i : Nat, i < m_3 → P_3 b_3 i = zpt ((M.1.1, M.1.2), mm_up M.2.1 h_ 0 ((M.2.1 h_ 0) + 1), M.2.2.1, M.2.2.2) b1 i) → P_3 b_3 n_3 = some e → ((0 + c2 ≤ c_ ∧ 0 + s2 ≤ s_) ∧ (Q (some (vi 1)) ((M.1.1, zrw M.1.2 b_3 (7, lsN m_3)), S_3, zrw M.2.2.1 b_3 (fun _ => 0), P_3)))))))) ∧ (zpt ((M.1.1, M.1.2), mm_up M.2.1 h_ 0 ((M.2.1 h_ 0) + 1), M.2.2.1, M.2.2.2) h_ 1 = none → zsh ((M.1.1, M.1.2), mm_up M.2.1 h_ 0 ((M.2.1 h_ 0) + 1), M.2.2.1, M.2.2.2) h_ = (1, 17) ∧ ((zsh ((M.1.1, M.1.2), mm_up M.2.1 h_ 0 ((M.2.1 h_ 0) + 1), M.2.2.1, M.2.2.2) h_ = (1, 17) ∨ zsh ((M.1.1, M.1.2), mm_up M.2.1 h_ 0 ((M.2.1 h_ 0) + 1), M.2.2.1, M.2.2.2) h_ = (17, 17)) ∧ ∃ c4 s4 : Nat, (0 + c4 ≤ c_ ∧ 0 + s4 ≤ s_) ∧ (False)))))) : zz_J (zpJ2_add c_ s_) (zz_retP Q X c_ s_) 0 [some (vr h_), some (vr e)] [] M (0, 0) := zz_J.go [] 400 h

theorem zmJ2_add (l : Launch) (hl : l.stackTraces = false) (c_ s_ : Nat) : mm_Spec l yJ2_add (ws_ yJ2_add cJ2_add 2 (some .boolean)) (mm_rm 9 c_ s_) (zE (zJ2_add c_ s_)) := by
  refine zz_Met.J hl (by decide) (fun C G hnh => ztJ2_add c_ s_ G hnh) ?_
  rintro as M Q X h
  unfold zJ2_add at h
  split at h
  rotate_left
  · exact h.elim
  rename_i h_ e
  refine ⟨rfl, ?_⟩
  refine zz_retP_J ?_
  obtain ⟨a, b, m, k, ci, ⟨hz, hx, hsz, hp, hnm, hm, hcase, hel⟩, hci, q1, q2⟩ := h
  have s2 : ∀ v : Int, mm_up M.2.1 h_ 0 v h_ 2 = M.2.1 h_ 2 := fun v => by rw [up_eq, if_neg (by omega)]
  refine zwJ2_add_0 ⟨hz, hz, hz, (q_go hz hp ⟨hz, Or.inl hz, c_, s_, by omega, b, m, k, ci, ⟨hz, hx, (s2 _).trans hsz, hp, hnm, hm, hcase, hel⟩, (s2 _).trans hsz, hci, fun c S3 P3 e1 e2 e3 e4 => ⟨by omega, q1 c S3 P3 (fun j x hj => ?_) e2 e3 e4⟩, fun c => ?_⟩ : _ ∧ _ ∧ _).2⟩
  · rw [e1 j x (fun e => hj ⟨e.1, Or.inr e.2⟩), up_eq, if_neg (fun e => hj ⟨e.1, Or.inl e.2⟩)]
  · obtain ⟨hb, hc, hq⟩ := q2 c
    refine ⟨hb, hc, fun S3 P3 e1 e2 e3 e4 e5 e6 => ⟨by omega, hq S3 P3 (fun j x hj hb2 => ?_) e2 e3 e4 e5 e6⟩⟩
    rw [e1 j x (fun e => hj ⟨e.1, Or.inr e.2⟩) hb2, up_eq, if_neg (fun e => hj ⟨e.1, Or.inl e.2⟩)]
