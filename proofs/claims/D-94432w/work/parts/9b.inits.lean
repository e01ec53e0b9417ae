/-! ===== constructors of rules' parts ===== -/
set_option maxRecDepth 100000
def zX17_init : zz_Sp := fun as M Q X => match as with
  | [.inr (.inr (some h_)), .inl n, .inr (.inr fact)] => zsh M h_ = (1, 15) ∧ zfx M.1.1 h_ 1 = false ∧ Q none ((M.1.1, M.1.2), mm_up M.2.1 h_ 0 n, M.2.2.1, mm_up M.2.2.2 h_ 1 fact)
  | _ => False

def zpX17_init : zz_P := [(0, zo_ald 1 0), (1, zo_oi 4), (4, zo_ald 5 0), (5, zo_ild 6 1), (6, zo_putip 9 15 0), (9, zo_ald 10 0), (10, zo_ald 11 2), (11, zo_putrp 14 15 1), (14, zo_vret)]
theorem ztX17_init {C : mm_C} (G : mm_G C RX17 cX17_init none 3 (mm_rm 2 0 0)) (hnh : mm_nh C) (hin : (c_t C).name = "<init>") : zz_OKs C zpX17_init :=
  ⟨zz_of (ok_aload_n G dX17_init_0 rfl rfl) (z_ald _ _),
   zz_of (ok_oi G q1233 q133 q134 ⟨Nat.le_of_ble_eq_true rfl, Nat.le_of_ble_eq_true rfl⟩ dX17_init_1 rfl) (z_oi _),
   zz_of (ok_aload_n G dX17_init_4 rfl rfl) (z_ald _ _),
   zz_of (ok_iload_n G dX17_init_5 rfl rfl) (z_ild _ _),
   zz_of (ok_puti G (nx := 9) (idx := 7) (ci := 15) (k := 0) (RX17, TX17, 2) rfl (by decide) rfl (mm_pwF G (ci := 15) (k := 0) (RX17, TX17, 2) rfl (by decide) rfl hin rfl q1234 dX17_init_6) rfl) (z_putip _ _ _),
   zz_of (ok_aload_n G dX17_init_9 rfl rfl) (z_ald _ _),
   zz_of (ok_aload_n G dX17_init_10 rfl rfl) (z_ald _ _),
   zz_of (ok_putr G (nx := 14) (idx := 13) (ci := 15) (k := 1) (RX17, TX17, 2) rfl (by decide) rfl (mm_pwF G (ci := 15) (k := 1) (RX17, TX17, 2) rfl (by decide) rfl hin rfl q1235 dX17_init_11) rfl) (z_putrp _ _ _),
   zz_of (ok_vret G dX17_init_14) (z_vret), trivial⟩

theorem zwX17_init_0 {Q : Option zv → zz_M → Prop} {X : Nat → zz_M → Prop} {M : zz_M} {n : Int} {fact : Option Nat} {h_ : Nat} (h : zsh M h_ = (1, 15) ∧ (zsh ((M.1.1, M.1.2), mm_up M.2.1 h_ 0 n, M.2.2.1, M.2.2.2) h_ = (1, 15) ∧ (zfx (((M.1.1, M.1.2), mm_up M.2.1 h_ 0 n, M.2.2.1, M.2.2.2).1.1) h_ 1 = false ∧ (Q none ((M.1.1, M.1.2), mm_up M.2.1 h_ 0 n, M.2.2.1, mm_up M.2.2.2 h_ 1 fact))))) : zz_J zpX17_init (zz_ret Q X 0 0) 0 [some (vr h_), some (vi n), some (.inr (.inr fact))] [] M (0, 0) := zz_J.go [] 400 h

theorem zmX17_init (l : Launch) (hl : l.stackTraces = false) : mm_Spec l yX17_init (ws_ yX17_init cX17_init 3 none) (mm_rm 2 0 0) (zE zX17_init) := by
  refine zz_Met.JN hl (by decide) rfl (fun C G hnh hin => ztX17_init G hnh hin) ?_
  rintro as M Q X h
  unfold zX17_init at h
  split at h
  rotate_left
  · exact h.elim
  rename_i h_ n fact
  refine ⟨rfl, ?_⟩
  obtain ⟨h1, h2, hq⟩ := h
  exact zwX17_init_0 ⟨h1, h1, h2, hq⟩
def zX12_init : zz_Sp := fun as M Q X => match as with
  | [.inr (.inr (some h_)), .inl n, .inr (.inr c)] => zsh M h_ = (1, 10) ∧ zfx M.1.1 h_ 1 = false ∧ Q none ((M.1.1, M.1.2), mm_up M.2.1 h_ 0 n, M.2.2.1, mm_up M.2.2.2 h_ 1 c)
  | _ => False

def zpX12_init : zz_P := [(0, zo_ald 1 0), (1, zo_oi 4), (4, zo_ald 5 0), (5, zo_ild 6 1), (6, zo_putip 9 10 0), (9, zo_ald 10 0), (10, zo_ald 11 2), (11, zo_putrp 14 10 1), (14, zo_vret)]
theorem ztX12_init {C : mm_C} (G : mm_G C RX12 cX12_init none 3 (mm_rm 2 0 0)) (hnh : mm_nh C) (hin : (c_t C).name = "<init>") : zz_OKs C zpX12_init :=
  ⟨zz_of (ok_aload_n G dX12_init_0 rfl rfl) (z_ald _ _),
   zz_of (ok_oi G q1286 q133 q134 ⟨Nat.le_of_ble_eq_true rfl, Nat.le_of_ble_eq_true rfl⟩ dX12_init_1 rfl) (z_oi _),
   zz_of (ok_aload_n G dX12_init_4 rfl rfl) (z_ald _ _),
   zz_of (ok_iload_n G dX12_init_5 rfl rfl) (z_ild _ _),
   zz_of (ok_puti G (nx := 9) (idx := 7) (ci := 10) (k := 0) (RX12, TX12, 2) rfl (by decide) rfl (mm_pwF G (ci := 10) (k := 0) (RX12, TX12, 2) rfl (by decide) rfl hin rfl q1287 dX12_init_6) rfl) (z_putip _ _ _),
   zz_of (ok_aload_n G dX12_init_9 rfl rfl) (z_ald _ _),
   zz_of (ok_aload_n G dX12_init_10 rfl rfl) (z_ald _ _),
   zz_of (ok_putr G (nx := 14) (idx := 13) (ci := 10) (k := 1) (RX12, TX12, 2) rfl (by decide) rfl (mm_pwF G (ci := 10) (k := 1) (RX12, TX12, 2) rfl (by decide) rfl hin rfl q1289 dX12_init_11) rfl) (z_putrp _ _ _),
   zz_of (ok_vret G dX12_init_14) (z_vret), trivial⟩

theorem zwX12_init_0 {Q : Option zv → zz_M → Prop} {X : Nat → zz_M → Prop} {M : zz_M} {n : Int} {c : Option Nat} {h_ : Nat} (h : zsh M h_ = (1, 10) ∧ (zsh ((M.1.1, M.1.2), mm_up M.2.1 h_ 0 n, M.2.2.1, M.2.2.2) h_ = (1, 10) ∧ (zfx (((M.1.1, M.1.2), mm_up M.2.1 h_ 0 n, M.2.2.1, M.2.2.2).1.1) h_ 1 = false ∧ (Q none ((M.1.1, M.1.2), mm_up M.2.1 h_ 0 n, M.2.2.1, mm_up M.2.2.2 h_ 1 c))))) : zz_J zpX12_init (zz_ret Q X 0 0) 0 [some (vr h_), some (vi n), some (.inr (.inr c))] [] M (0, 0) := zz_J.go [] 400 h

theorem zmX12_init (l : Launch) (hl : l.stackTraces = false) : mm_Spec l yX12_init (ws_ yX12_init cX12_init 3 none) (mm_rm 2 0 0) (zE zX12_init) := by
  refine zz_Met.JN hl (by decide) rfl (fun C G hnh hin => ztX12_init G hnh hin) ?_
  rintro as M Q X h
  unfold zX12_init at h
  split at h
  rotate_left
  · exact h.elim
  rename_i h_ n c
  refine ⟨rfl, ?_⟩
  obtain ⟨h1, h2, hq⟩ := h
  exact zwX12_init_0 ⟨h1, h1, h2, hq⟩
def zX14_init : zz_Sp := fun as M Q X => match as with
  | [.inr (.inr (some h_)), .inr (.inr (some a))] => zsh M h_ = (1, 12) ∧ zfx M.1.1 h_ 0 = false ∧ Q none ((M.1.1, M.1.2), M.2.1, M.2.2.1, mm_up M.2.2.2 h_ 0 (some a))
  | _ => False

def zpX14_init : zz_P := [(0, zo_ald 1 0), (1, zo_oi 4), (4, zo_ald 5 0), (5, zo_ald 6 1), (6, zo_putrp 9 12 0), (9, zo_vret)]
theorem ztX14_init {C : mm_C} (G : mm_G C RX14 cX14_init none 2 (mm_rm 2 0 0)) (hnh : mm_nh C) (hin : (c_t C).name = "<init>") : zz_OKs C zpX14_init :=
  ⟨zz_of (ok_aload_n G dX14_init_0 rfl rfl) (z_ald _ _),
   zz_of (ok_oi G q1186 q133 q134 ⟨Nat.le_of_ble_eq_true rfl, Nat.le_of_ble_eq_true rfl⟩ dX14_init_1 rfl) (z_oi _),
   zz_of (ok_aload_n G dX14_init_4 rfl rfl) (z_ald _ _),
   zz_of (ok_aload_n G dX14_init_5 rfl rfl) (z_ald _ _),
   zz_of (ok_putr G (nx := 9) (idx := 7) (ci := 12) (k := 0) (RX14, TX14, 1) rfl (by decide) rfl (mm_pwF G (ci := 12) (k := 0) (RX14, TX14, 1) rfl (by decide) rfl hin rfl q1187 dX14_init_6) rfl) (z_putrp _ _ _),
   zz_of (ok_vret G dX14_init_9) (z_vret), trivial⟩

theorem zwX14_init_0 {Q : Option zv → zz_M → Prop} {X : Nat → zz_M → Prop} {M : zz_M} {a : Nat} {h_ : Nat} (h : zsh M h_ = (1, 12) ∧ (zfx M.1.1 h_ 0 = false ∧ (Q none ((M.1.1, M.1.2), M.2.1, M.2.2.1, mm_up M.2.2.2 h_ 0 (some a))))) : zz_J zpX14_init (zz_ret Q X 0 0) 0 [some (vr h_), some (vr a)] [] M (0, 0) := zz_J.go [] 400 h

theorem zmX14_init (l : Launch) (hl : l.stackTraces = false) : mm_Spec l yX14_init (ws_ yX14_init cX14_init 2 none) (mm_rm 2 0 0) (zE zX14_init) := by
  refine zz_Met.JN hl (by decide) rfl (fun C G hnh hin => ztX14_init G hnh hin) ?_
  rintro as M Q X h
  unfold zX14_init at h
  split at h
  rotate_left
  · exact h.elim
  rename_i h_ a
  refine ⟨rfl, ?_⟩
  obtain ⟨h1, h2, hq⟩ := h
  exact zwX14_init_0 ⟨h1, h2, hq⟩
def zX15_init : zz_Sp := fun as M Q X => match as with
  | [.inr (.inr (some h_)), .inl b] => zsh M h_ = (1, 13) ∧ (b = 0 ∨ b = 1) ∧ Q none ((M.1.1, M.1.2), mm_up M.2.1 h_ 0 b, M.2.2.1, M.2.2.2)
  | _ => False

def zpX15_init : zz_P := [(0, zo_ald 1 0), (1, zo_oi 4), (4, zo_ald 5 0), (5, zo_ild 6 1), (6, zo_putzp false 9 13 0), (9, zo_vret)]
theorem ztX15_init {C : mm_C} (G : mm_G C RX15 cX15_init none 2 (mm_rm 2 0 0)) (hnh : mm_nh C) (hin : (c_t C).name = "<init>") : zz_OKs C zpX15_init :=
  ⟨zz_of (ok_aload_n G dX15_init_0 rfl rfl) (z_ald _ _),
   zz_of (ok_oi G q1197 q133 q134 ⟨Nat.le_of_ble_eq_true rfl, Nat.le_of_ble_eq_true rfl⟩ dX15_init_1 rfl) (z_oi _),
   zz_of (ok_aload_n G dX15_init_4 rfl rfl) (z_ald _ _),
   zz_of (ok_iload_n G dX15_init_5 rfl rfl) (z_ild _ _),
   zz_of (ok_putz G (nx := 9) (idx := 7) (ci := 13) (k := 0) (RX15, TX15, 1) rfl (by decide) rfl (mm_pwF G (ci := 13) (k := 0) (RX15, TX15, 1) rfl (by decide) rfl hin rfl q1198 dX15_init_6) rfl) (z_putzp _ _ _ _),
   zz_of (ok_vret G dX15_init_9) (z_vret), trivial⟩

theorem zwX15_init_0 {Q : Option zv → zz_M → Prop} {X : Nat → zz_M → Prop} {M : zz_M} {b : Int} {h_ : Nat} (h : zsh M h_ = (1, 13) ∧ ((b = 0 ∨ b = 1) ∧ (Q none ((M.1.1, M.1.2), mm_up M.2.1 h_ 0 b, M.2.2.1, M.2.2.2)))) : zz_J zpX15_init (zz_ret Q X 0 0) 0 [some (vr h_), some (vi b)] [] M (0, 0) := zz_J.go [] 400 h

theorem zmX15_init (l : Launch) (hl : l.stackTraces = false) : mm_Spec l yX15_init (ws_ yX15_init cX15_init 2 none) (mm_rm 2 0 0) (zE zX15_init) := by
  refine zz_Met.JN hl (by decide) rfl (fun C G hnh hin => ztX15_init G hnh hin) ?_
  rintro as M Q X h
  unfold zX15_init at h
  split at h
  rotate_left
  · exact h.elim
  rename_i h_ b
  refine ⟨rfl, ?_⟩
  obtain ⟨h1, h2, hq⟩ := h
  exact zwX15_init_0 ⟨h1, h2, hq⟩
def zX19_init : zz_Sp := fun as M Q X => match as with
  | [.inr (.inr (some h_)), .inr (.inr (some a)), .inr (.inr (some b))] => zsh M h_ = (1, 16) ∧ zfx M.1.1 h_ 0 = false ∧ zfx M.1.1 h_ 1 = false ∧ Q none ((M.1.1, M.1.2), M.2.1, M.2.2.1, mm_up (mm_up M.2.2.2 h_ 0 (some a)) h_ 1 (some b))
  | _ => False

def zpX19_init : zz_P := [(0, zo_ald 1 0), (1, zo_oi 4), (4, zo_ald 5 0), (5, zo_ald 6 1), (6, zo_putrp 9 16 0), (9, zo_ald 10 0), (10, zo_ald 11 2), (11, zo_putrp 14 16 1), (14, zo_vret)]
theorem ztX19_init {C : mm_C} (G : mm_G C RX19 cX19_init none 3 (mm_rm 2 0 0)) (hnh : mm_nh C) (hin : (c_t C).name = "<init>") : zz_OKs C zpX19_init :=
  ⟨zz_of (ok_aload_n G dX19_init_0 rfl rfl) (z_ald _ _),
   zz_of (ok_oi G q1273 q133 q134 ⟨Nat.le_of_ble_eq_true rfl, Nat.le_of_ble_eq_true rfl⟩ dX19_init_1 rfl) (z_oi _),
   zz_of (ok_aload_n G dX19_init_4 rfl rfl) (z_ald _ _),
   zz_of (ok_aload_n G dX19_init_5 rfl rfl) (z_ald _ _),
   zz_of (ok_putr G (nx := 9) (idx := 7) (ci := 16) (k := 0) (RX19, TX19, 2) rfl (by decide) rfl (mm_pwF G (ci := 16) (k := 0) (RX19, TX19, 2) rfl (by decide) rfl hin rfl q1274 dX19_init_6) rfl) (z_putrp _ _ _),
   zz_of (ok_aload_n G dX19_init_9 rfl rfl) (z_ald _ _),
   zz_of (ok_aload_n G dX19_init_10 rfl rfl) (z_ald _ _),
   zz_of (ok_putr G (nx := 14) (idx := 13) (ci := 16) (k := 1) (RX19, TX19, 2) rfl (by decide) rfl (mm_pwF G (ci := 16) (k := 1) (RX19, TX19, 2) rfl (by decide) rfl hin rfl q1275 dX19_init_11) rfl) (z_putrp _ _ _),
   zz_of (ok_vret G dX19_init_14) (z_vret), trivial⟩

theorem zwX19_init_0 {Q : Option zv → zz_M → Prop} {X : Nat → zz_M → Prop} {M : zz_M} {a : Nat} {b : Nat} {h_ : Nat} (h : zsh M h_ = (1, 16) ∧ (zfx M.1.1 h_ 0 = false ∧ (zsh ((M.1.1, M.1.2), M.2.1, M.2.2.1, mm_up M.2.2.2 h_ 0 (some a)) h_ = (1, 16) ∧ (zfx (((M.1.1, M.1.2), M.2.1, M.2.2.1, mm_up M.2.2.2 h_ 0 (some a)).1.1) h_ 1 = false ∧ (Q none ((M.1.1, M.1.2), M.2.1, M.2.2.1, mm_up (mm_up M.2.2.2 h_ 0 (some a)) h_ 1 (some b))))))) : zz_J zpX19_init (zz_ret Q X 0 0) 0 [some (vr h_), some (vr a), some (vr b)] [] M (0, 0) := zz_J.go [] 400 h

theorem zmX19_init (l : Launch) (hl : l.stackTraces = false) : mm_Spec l yX19_init (ws_ yX19_init cX19_init 3 none) (mm_rm 2 0 0) (zE zX19_init) := by
  refine zz_Met.JN hl (by decide) rfl (fun C G hnh hin => ztX19_init G hnh hin) ?_
  rintro as M Q X h
  unfold zX19_init at h
  split at h
  rotate_left
  · exact h.elim
  rename_i h_ a b
  refine ⟨rfl, ?_⟩
  obtain ⟨h1, h2, h3, hq⟩ := h
  exact zwX19_init_0 ⟨h1, h2, h1, h3, hq⟩
def zX16_init : zz_Sp := fun as M Q X => match as with
  | [.inr (.inr (some h_))] => ∃ b_ : Nat, zsh M h_ = (1, 14) ∧ zfx M.1.1 h_ 0 = false ∧ zfree M b_ ∧ (∀ (S_ : Nat → Nat → Int) (P_ : Nat → Nat → Option Nat), (∀ j, j ≠ b_ → S_ j = M.2.1 j) → (∀ j k, j ≠ b_ → ¬ (j = h_ ∧ k = 0) → P_ j k = M.2.2.2 j k) → S_ b_ 2 = 0 → P_ b_ 1 = some 1300 → P_ h_ 0 = some b_ → Q none ((M.1.1, zrw M.1.2 b_ (1, 17)), S_, zrw M.2.2.1 b_ (fun _ => 0), P_))
  | _ => False

def zpX16_init : zz_P := [(0, zo_ald 1 0), (1, zo_oi 4), (4, zo_ald 5 0), (5, zo_new (mm_rm 4 1 3) 8 17 3), (8, zo_dup 9), (9, zo_ciL (mm_rm 4 1 3) 12 1 0 0 zJ2_init), (12, zo_putrp 15 14 0), (15, zo_vret)]
theorem ztX16_init {C : mm_C} (G : mm_G C RX16 cX16_init none 1 (mm_rm 4 1 3)) (hnh : mm_nh C) (hin : (c_t C).name = "<init>") : zz_OKs C zpX16_init :=
  ⟨zz_of (ok_aload_n G dX16_init_0 rfl rfl) (z_ald _ _),
   zz_of (ok_oi G q1212 q133 q134 ⟨Nat.le_of_ble_eq_true rfl, Nat.le_of_ble_eq_true rfl⟩ dX16_init_1 rfl) (z_oi _),
   zz_of (ok_aload_n G dX16_init_4 rfl rfl) (z_ald _ _),
   zz_of (ok_new G (ci := 17) (RJ2, TJ2, 3) rfl rfl q1213 q144 q86 (by decide) dX16_init_5 rfl) (z_new _ _ _ _),
   zz_of (ok_dup G dX16_init_8 rfl) (z_dup _),
   zz_of (ok_caliF G (hnh.q 9) (zmJ2_init _ G.hst) q1214 q146 q86 q147 rfl (by decide +kernel) ⟨Nat.le_of_ble_eq_true rfl, Nat.le_of_ble_eq_true rfl⟩ dX16_init_9 rfl) (z_ciL _ _ _ _ _ _),
   zz_of (ok_putr G (nx := 15) (idx := 10) (ci := 14) (k := 0) (RX16, TX16, 1) rfl (by decide) rfl (mm_pwF G (ci := 14) (k := 0) (RX16, TX16, 1) rfl (by decide) rfl hin rfl q1215 dX16_init_12) rfl) (z_putrp _ _ _),
   zz_of (ok_vret G dX16_init_15) (z_vret), trivial⟩

theorem zwX16_init_0 {Q : Option zv → zz_M → Prop} {X : Nat → zz_M → Prop} {M : zz_M} {h_ : Nat} (h : ∃ h1_ : Nat, zfree M h1_ ∧ (0 + 1 ≤ 1 ∧ 0 + 3 ≤ 3) ∧ ((zsh ((M.1.1, zrw M.1.2 h1_ (1, 17)), zrw M.2.1 h1_ (fun _ => 0), zrw M.2.2.1 h1_ (fun _ => 0), zrw M.2.2.2 h1_ (fun _ => none)) h1_ = (1, 17) ∧ zfx ((M.1.1, zrw M.1.2 h1_ (1, 17)), zrw M.2.1 h1_ (fun _ => 0), zrw M.2.2.1 h1_ (fun _ => 0), zrw M.2.2.2 h1_ (fun _ => none)).1.1 h1_ 1 = false ∧ (zsh ((M.1.1, zrw M.1.2 h1_ (1, 17)), mm_up (zrw M.2.1 h1_ (fun _ => 0)) h1_ 0 0, zrw M.2.2.1 h1_ (fun _ => 0), mm_up (zrw M.2.2.2 h1_ (fun _ => none)) h1_ 1 (some 1300)) h_ = (1, 14) ∧ (zfx (((M.1.1, zrw M.1.2 h1_ (1, 17)), mm_up (zrw M.2.1 h1_ (fun _ => 0)) h1_ 0 0, zrw M.2.2.1 h1_ (fun _ => 0), mm_up (zrw M.2.2.2 h1_ (fun _ => none)) h1_ 1 (some 1300)).1.1) h_ 0 = false ∧ (Q none ((M.1.1, zrw M.1.2 h1_ (1, 17)), mm_up (zrw M.2.1 h1_ (fun _ => 0)) h1_ 0 0, zrw M.2.2.1 h1_ (fun _ => 0), mm_up (mm_up (zrw M.2.2.2 h1_ (fun _ => none)) h1_ 1 (some 1300)) h_ 0 (some h1_)))))))) : zz_J zpX16_init (zz_ret Q X 1 3) 0 [some (vr h_)] [] M (0, 0) := zz_J.go [] 400 h

theorem zmX16_init (l : Launch) (hl : l.stackTraces = false) : mm_Spec l yX16_init (ws_ yX16_init cX16_init 1 none) (mm_rm 4 1 3) (zE zX16_init) := by
  refine zz_Met.JN hl (by decide) rfl (fun C G hnh hin => ztX16_init G hnh hin) ?_
  rintro as M Q X h
  unfold zX16_init at h
  split at h
  rotate_left
  · exact h.elim
  rename_i h_
  refine ⟨rfl, ?_⟩
  obtain ⟨b, h1, h2, hb, hq⟩ := h
  have nh : h_ ≠ b := zfree_ne hb h1 (by decide)
  refine zwX16_init_0 ⟨b, hb, by decide, by rw [zsh_al hb.1, if_pos rfl], zfx_of hb.1 1, by rw [zsh_al hb.1, if_neg nh]; exact h1, h2, ?_⟩
  refine hq _ _ (fun j hj => ?_) (fun j k hj hk => ?_) ?_ ?_ ?_
  · funext k
    rw [up_eq, if_neg (fun e => hj e.1), zrw_n _ _ hj]
  · rw [up_eq, if_neg hk, up_eq, if_neg (fun e => hj e.1), zrw_n _ _ hj]
  · rw [up_eq, if_neg (by omega), zrw_s]
  · rw [up_eq, if_neg (fun e => nh e.1.symm), up_eq, if_pos ⟨rfl, rfl⟩]
  · rw [up_eq, if_pos ⟨rfl, rfl⟩]
def zX11_init : zz_Sp := fun as M Q X => match as with
  | [.inr (.inr (some h_))] => ∃ b_ : Nat, zsh M h_ = (1, 9) ∧ zfx M.1.1 h_ 0 = false ∧ zfree M b_ ∧ (∀ (S_ : Nat → Nat → Int) (P_ : Nat → Nat → Option Nat), (∀ j, j ≠ b_ → S_ j = M.2.1 j) → (∀ j k, j ≠ b_ → ¬ (j = h_ ∧ k = 0) → P_ j k = M.2.2.2 j k) → S_ b_ 2 = 0 → P_ b_ 1 = some 1300 → P_ h_ 0 = some b_ → Q none ((M.1.1, zrw M.1.2 b_ (1, 17)), S_, zrw M.2.2.1 b_ (fun _ => 0), P_))
  | _ => False

def zpX11_init : zz_P := [(0, zo_ald 1 0), (1, zo_oi 4), (4, zo_ald 5 0), (5, zo_new (mm_rm 4 1 3) 8 17 3), (8, zo_dup 9), (9, zo_ciL (mm_rm 4 1 3) 12 1 0 0 zJ2_init), (12, zo_putrp 15 9 0), (15, zo_vret)]
theorem ztX11_init {C : mm_C} (G : mm_G C RX11 cX11_init none 1 (mm_rm 4 1 3)) (hnh : mm_nh C) (hin : (c_t C).name = "<init>") : zz_OKs C zpX11_init :=
  ⟨zz_of (ok_aload_n G dX11_init_0 rfl rfl) (z_ald _ _),
   zz_of (ok_oi G q1122 q133 q134 ⟨Nat.le_of_ble_eq_true rfl, Nat.le_of_ble_eq_true rfl⟩ dX11_init_1 rfl) (z_oi _),
   zz_of (ok_aload_n G dX11_init_4 rfl rfl) (z_ald _ _),
   zz_of (ok_new G (ci := 17) (RJ2, TJ2, 3) rfl rfl q1123 q144 q86 (by decide) dX11_init_5 rfl) (z_new _ _ _ _),
   zz_of (ok_dup G dX11_init_8 rfl) (z_dup _),
   zz_of (ok_caliF G (hnh.q 9) (zmJ2_init _ G.hst) q1124 q146 q86 q147 rfl (by decide +kernel) ⟨Nat.le_of_ble_eq_true rfl, Nat.le_of_ble_eq_true rfl⟩ dX11_init_9 rfl) (z_ciL _ _ _ _ _ _),
   zz_of (ok_putr G (nx := 15) (idx := 10) (ci := 9) (k := 0) (RX11, TX11, 1) rfl (by decide) rfl (mm_pwF G (ci := 9) (k := 0) (RX11, TX11, 1) rfl (by decide) rfl hin rfl q1125 dX11_init_12) rfl) (z_putrp _ _ _),
   zz_of (ok_vret G dX11_init_15) (z_vret), trivial⟩

theorem zwX11_init_0 {Q : Option zv → zz_M → Prop} {X : Nat → zz_M → Prop} {M : zz_M} {h_ : Nat} (h : ∃ h1_ : Nat, zfree M h1_ ∧ (0 + 1 ≤ 1 ∧ 0 + 3 ≤ 3) ∧ ((zsh ((M.1.1, zrw M.1.2 h1_ (1, 17)), zrw M.2.1 h1_ (fun _ => 0), zrw M.2.2.1 h1_ (fun _ => 0), zrw M.2.2.2 h1_ (fun _ => none)) h1_ = (1, 17) ∧ zfx ((M.1.1, zrw M.1.2 h1_ (1, 17)), zrw M.2.1 h1_ (fun _ => 0), zrw M.2.2.1 h1_ (fun _ => 0), zrw M.2.2.2 h1_ (fun _ => none)).1.1 h1_ 1 = false ∧ (zsh ((M.1.1, zrw M.1.2 h1_ (1, 17)), mm_up (zrw M.2.1 h1_ (fun _ => 0)) h1_ 0 0, zrw M.2.2.1 h1_ (fun _ => 0), mm_up (zrw M.2.2.2 h1_ (fun _ => none)) h1_ 1 (some 1300)) h_ = (1, 9) ∧ (zfx (((M.1.1, zrw M.1.2 h1_ (1, 17)), mm_up (zrw M.2.1 h1_ (fun _ => 0)) h1_ 0 0, zrw M.2.2.1 h1_ (fun _ => 0), mm_up (zrw M.2.2.2 h1_ (fun _ => none)) h1_ 1 (some 1300)).1.1) h_ 0 = false ∧ (Q none ((M.1.1, zrw M.1.2 h1_ (1, 17)), mm_up (zrw M.2.1 h1_ (fun _ => 0)) h1_ 0 0, zrw M.2.2.1 h1_ (fun _ => 0), mm_up (mm_up (zrw M.2.2.2 h1_ (fun _ => none)) h1_ 1 (some 1300)) h_ 0 (some h1_)))))))) : zz_J zpX11_init (zz_ret Q X 1 3) 0 [some (vr h_)] [] M (0, 0) := zz_J.go [] 400 h

theorem zmX11_init (l : Launch) (hl : l.stackTraces = false) : mm_Spec l yX11_init (ws_ yX11_init cX11_init 1 none) (mm_rm 4 1 3) (zE zX11_init) := by
  refine zz_Met.JN hl (by decide) rfl (fun C G hnh hin => ztX11_init G hnh hin) ?_
  rintro as M Q X h
  unfold zX11_init at h
  split at h
  rotate_left
  · exact h.elim
  rename_i h_
  refine ⟨rfl, ?_⟩
  obtain ⟨b, h1, h2, hb, hq⟩ := h
  have nh : h_ ≠ b := zfree_ne hb h1 (by decide)
  refine zwX11_init_0 ⟨b, hb, by decide, by rw [zsh_al hb.1, if_pos rfl], zfx_of hb.1 1, by rw [zsh_al hb.1, if_neg nh]; exact h1, h2, ?_⟩
  refine hq _ _ (fun j hj => ?_) (fun j k hj hk => ?_) ?_ ?_ ?_
  · funext k
    rw [up_eq, if_neg (fun e => hj e.1), zrw_n _ _ hj]
  · rw [up_eq, if_neg hk, up_eq, if_neg (fun e => hj e.1), zrw_n _ _ hj]
  · rw [up_eq, if_neg (by omega), zrw_s]
  · rw [up_eq, if_neg (fun e => nh e.1.symm), up_eq, if_pos ⟨rfl, rfl⟩]
  · rw [up_eq, if_pos ⟨rfl, rfl⟩]
def zX13_init : zz_Sp := fun as M Q X => match as with
  | [.inr (.inr (some h_)), .inl b] => ∃ b_ : Nat, zsh M h_ = (1, 11) ∧ (b = 0 ∨ b = 1) ∧ zfx M.1.1 h_ 1 = false ∧ zfree M b_ ∧ (∀ (S_ : Nat → Nat → Int) (P_ : Nat → Nat → Option Nat), (∀ j k, j ≠ b_ → ¬ (j = h_ ∧ k = 0) → S_ j k = M.2.1 j k) → S_ h_ 0 = b → (∀ j k, j ≠ b_ → ¬ (j = h_ ∧ k = 1) → P_ j k = M.2.2.2 j k) → S_ b_ 2 = 0 → P_ b_ 1 = some 1300 → P_ h_ 1 = some b_ → Q none ((M.1.1, zrw M.1.2 b_ (1, 17)), S_, zrw M.2.2.1 b_ (fun _ => 0), P_))
  | _ => False

def zpX13_init : zz_P := [(0, zo_ald 1 0), (1, zo_oi 4), (4, zo_ald 5 0), (5, zo_new (mm_rm 4 1 3) 8 17 3), (8, zo_dup 9), (9, zo_ciL (mm_rm 4 1 3) 12 1 0 0 zJ2_init), (12, zo_putrp 15 11 1), (15, zo_ald 16 0), (16, zo_ild 17 1), (17, zo_putzp false 20 11 0), (20, zo_vret)]
theorem ztX13_init {C : mm_C} (G : mm_G C RX13 cX13_init none 2 (mm_rm 4 1 3)) (hnh : mm_nh C) (hin : (c_t C).name = "<init>") : zz_OKs C zpX13_init :=
  ⟨zz_of (ok_aload_n G dX13_init_0 rfl rfl) (z_ald _ _),
   zz_of (ok_oi G q1153 q133 q134 ⟨Nat.le_of_ble_eq_true rfl, Nat.le_of_ble_eq_true rfl⟩ dX13_init_1 rfl) (z_oi _),
   zz_of (ok_aload_n G dX13_init_4 rfl rfl) (z_ald _ _),
   zz_of (ok_new G (ci := 17) (RJ2, TJ2, 3) rfl rfl q1154 q144 q86 (by decide) dX13_init_5 rfl) (z_new _ _ _ _),
   zz_of (ok_dup G dX13_init_8 rfl) (z_dup _),
   zz_of (ok_caliF G (hnh.q 9) (zmJ2_init _ G.hst) q1155 q146 q86 q147 rfl (by decide +kernel) ⟨Nat.le_of_ble_eq_true rfl, Nat.le_of_ble_eq_true rfl⟩ dX13_init_9 rfl) (z_ciL _ _ _ _ _ _),
   zz_of (ok_putr G (nx := 15) (idx := 10) (ci := 11) (k := 1) (RX13, TX13, 2) rfl (by decide) rfl (mm_pwF G (ci := 11) (k := 1) (RX13, TX13, 2) rfl (by decide) rfl hin rfl q1157 dX13_init_12) rfl) (z_putrp _ _ _),
   zz_of (ok_aload_n G dX13_init_15 rfl rfl) (z_ald _ _),
   zz_of (ok_iload_n G dX13_init_16 rfl rfl) (z_ild _ _),
   zz_of (ok_putz G (nx := 20) (idx := 16) (ci := 11) (k := 0) (RX13, TX13, 2) rfl (by decide) rfl (mm_pwF G (ci := 11) (k := 0) (RX13, TX13, 2) rfl (by decide) rfl hin rfl q1156 dX13_init_17) rfl) (z_putzp _ _ _ _),
   zz_of (ok_vret G dX13_init_20) (z_vret), trivial⟩

theorem zwX13_init_0 {Q : Option zv → zz_M → Prop} {X : Nat → zz_M → Prop} {M : zz_M} {b : Int} {h_ : Nat} (h : ∃ h1_ : Nat, zfree M h1_ ∧ (0 + 1 ≤ 1 ∧ 0 + 3 ≤ 3) ∧ ((zsh ((M.1.1, zrw M.1.2 h1_ (1, 17)), zrw M.2.1 h1_ (fun _ => 0), zrw M.2.2.1 h1_ (fun _ => 0), zrw M.2.2.2 h1_ (fun _ => none)) h1_ = (1, 17) ∧ zfx ((M.1.1, zrw M.1.2 h1_ (1, 17)), zrw M.2.1 h1_ (fun _ => 0), zrw M.2.2.1 h1_ (fun _ => 0), zrw M.2.2.2 h1_ (fun _ => none)).1.1 h1_ 1 = false ∧ (zsh ((M.1.1, zrw M.1.2 h1_ (1, 17)), mm_up (zrw M.2.1 h1_ (fun _ => 0)) h1_ 0 0, zrw M.2.2.1 h1_ (fun _ => 0), mm_up (zrw M.2.2.2 h1_ (fun _ => none)) h1_ 1 (some 1300)) h_ = (1, 11) ∧ (zfx (((M.1.1, zrw M.1.2 h1_ (1, 17)), mm_up (zrw M.2.1 h1_ (fun _ => 0)) h1_ 0 0, zrw M.2.2.1 h1_ (fun _ => 0), mm_up (zrw M.2.2.2 h1_ (fun _ => none)) h1_ 1 (some 1300)).1.1) h_ 1 = false ∧ (zsh ((M.1.1, zrw M.1.2 h1_ (1, 17)), mm_up (zrw M.2.1 h1_ (fun _ => 0)) h1_ 0 0, zrw M.2.2.1 h1_ (fun _ => 0), mm_up (mm_up (zrw M.2.2.2 h1_ (fun _ => none)) h1_ 1 (some 1300)) h_ 1 (some h1_)) h_ = (1, 11) ∧ ((b = 0 ∨ b = 1) ∧ (Q none ((M.1.1, zrw M.1.2 h1_ (1, 17)), mm_up (mm_up (zrw M.2.1 h1_ (fun _ => 0)) h1_ 0 0) h_ 0 b, zrw M.2.2.1 h1_ (fun _ => 0), mm_up (mm_up (zrw M.2.2.2 h1_ (fun _ => none)) h1_ 1 (some 1300)) h_ 1 (some h1_)))))))))) : zz_J zpX13_init (zz_ret Q X 1 3) 0 [some (vr h_), some (vi b)] [] M (0, 0) := zz_J.go [] 400 h

theorem zmX13_init (l : Launch) (hl : l.stackTraces = false) : mm_Spec l yX13_init (ws_ yX13_init cX13_init 2 none) (mm_rm 4 1 3) (zE zX13_init) := by
  refine zz_Met.JN hl (by decide) rfl (fun C G hnh hin => ztX13_init G hnh hin) ?_
  rintro as M Q X h
  unfold zX13_init at h
  split at h
  rotate_left
  · exact h.elim
  rename_i h_ b
  refine ⟨rfl, ?_⟩
  obtain ⟨c, h1, h01, h2, hb, hq⟩ := h
  have nh : h_ ≠ c := zfree_ne hb h1 (by decide)
  refine zwX13_init_0 ⟨c, hb, by decide, by rw [zsh_al hb.1, if_pos rfl], zfx_of hb.1 1, by rw [zsh_al hb.1, if_neg nh]; exact h1, h2, by rw [zsh_al hb.1, if_neg nh]; exact h1, h01, ?_⟩
  refine hq _ _ (fun j k hj hk => ?_) ?_ (fun j k hj hk => ?_) ?_ ?_ ?_
  · rw [up_eq, if_neg hk, up_eq, if_neg (fun e => hj e.1), zrw_n _ _ hj]
  · rw [up_eq, if_pos ⟨rfl, rfl⟩]
  · rw [up_eq, if_neg hk, up_eq, if_neg (fun e => hj e.1), zrw_n _ _ hj]
  · rw [up_eq, if_neg (by omega), up_eq, if_neg (by omega), zrw_s]
  · rw [up_eq, if_neg (fun e => nh e.1.symm), up_eq, if_pos ⟨rfl, rfl⟩]
  · rw [up_eq, if_pos ⟨rfl, rfl⟩]
