/-! ===== the component is made ===== -/
set_option maxRecDepth 100000
def zX4_init : zz_Sp := fun as M Q X => match as with
  | [.inr (.inr (some h_))] => (zsh M h_ = (1, 3) ∧ ∀ k, zfx M.1.1 h_ k = false) ∧ zfree M (h_ + 1) ∧ Q none ((M.1.1, zrw M.1.2 (h_ + 1) (4, 400)), mm_up (zrw M.2.1 (h_ + 1) (fun _ => 0)) h_ 5 (-1), zrw M.2.2.1 (h_ + 1) (fun _ => 0), mm_up (zrw M.2.2.2 (h_ + 1) (fun _ => none)) h_ 0 (some (h_ + 1)))
  | _ => False

def zpX4_init : zz_P := [(0, zo_ald 1 0), (1, zo_oi 4), (4, zo_ald 5 0), (5, zo_c 8 (vi 400)), (8, zo_newa (mm_rm 1 1 400) 10 4 1), (10, zo_putrp 13 3 0), (13, zo_ald 14 0), (14, zo_c 15 (vi (-1))), (15, zo_putip 18 3 5), (18, zo_vret)]
theorem ztX4_init {C : mm_C} (G : mm_G C RX4 cX4_init none 1 (mm_rm 1 1 400)) (hnh : mm_nh C) (hin : (c_t C).name = "<init>") : zz_OKs C zpX4_init :=
  ⟨zz_of (ok_aload_n G dX4_init_0 rfl rfl) (z_ald _ _),
   zz_of (ok_oi G q270 q133 q134 ⟨Nat.le_of_ble_eq_true rfl, Nat.le_of_ble_eq_true rfl⟩ dX4_init_1 rfl) (z_oi _),
   zz_of (ok_aload_n G dX4_init_4 rfl rfl) (z_ald _ _),
   zz_of (ok_sipush G (v := 400) dX4_init_5 (by decide) rfl) (z_cn 8 400),
   zz_of (ok_newa G (t := 4) (ty := .byte) rfl rfl q297 rfl (by decide) (by decide) (fun h => h) (fun M h n j ad => by rw [mm_al_ea]; rfl) dX4_init_8 rfl) (z_newa _ _ _ _),
   zz_of (ok_putr G (nx := 13) (idx := 9) (ci := 3) (k := 0) (RX4, TX4, 7) rfl (by decide) rfl (mm_pwF G (ci := 3) (k := 0) (RX4, TX4, 7) rfl (by decide) rfl hin rfl q271 dX4_init_10) rfl) (z_putrp _ _ _),
   zz_of (ok_aload_n G dX4_init_13 rfl rfl) (z_ald _ _),
   zz_of (ok_iconst G (v := (zI (-1))) dX4_init_14 (by decide) rfl) (z_cz 15 (-1)),
   zz_of (ok_puti G (nx := 18) (idx := 15) (ci := 3) (k := 5) (RX4, TX4, 7) rfl (by decide) rfl (mm_pw G (ci := 3) (k := 5) (RX4, TX4, 7) rfl (by decide) rfl q279 dX4_init_15) rfl) (z_putip _ _ _),
   zz_of (ok_vret G dX4_init_18) (z_vret), trivial⟩

theorem zwX4_init_0 {Q : Option zv → zz_M → Prop} {X : Nat → zz_M → Prop} {M : zz_M} {h_ : Nat} (h : ∃ h1_ : Nat, zfree M h1_ ∧ (0 ≤ (400 : Int) ∧ (400 : Int) < 2147483648 ∧ 400 * 1 ≤ 536870912) ∧ (0 + 1 ≤ 1 ∧ 0 + (400) ≤ 400) ∧ (zsh ((M.1.1, zrw M.1.2 h1_ (4, 400)), zrw M.2.1 h1_ (fun _ => 0), zrw M.2.2.1 h1_ (fun _ => 0), zrw M.2.2.2 h1_ (fun _ => none)) h_ = (1, 3) ∧ (zfx (((M.1.1, zrw M.1.2 h1_ (4, 400)), zrw M.2.1 h1_ (fun _ => 0), zrw M.2.2.1 h1_ (fun _ => 0), zrw M.2.2.2 h1_ (fun _ => none)).1.1) h_ 0 = false ∧ (zsh ((M.1.1, zrw M.1.2 h1_ (4, 400)), zrw M.2.1 h1_ (fun _ => 0), zrw M.2.2.1 h1_ (fun _ => 0), mm_up (zrw M.2.2.2 h1_ (fun _ => none)) h_ 0 (some h1_)) h_ = (1, 3) ∧ ((1 ≤ 1 ∧ 0 + (400) ≤ 400) ∧ (Q none ((M.1.1, zrw M.1.2 h1_ (4, 400)), mm_up (zrw M.2.1 h1_ (fun _ => 0)) h_ 5 (-1), zrw M.2.2.1 h1_ (fun _ => 0), mm_up (zrw M.2.2.2 h1_ (fun _ => none)) h_ 0 (some h1_)))))))) : zz_J zpX4_init (zz_retP Q X 1 400) 0 [some (vr h_)] [] M (0, 0) := zz_J.go [] 400 h

theorem zmX4_init (l : Launch) (hl : l.stackTraces = false) : mm_Spec l yX4_init (ws_ yX4_init cX4_init 1 none) (mm_rm 1 1 400) (zE zX4_init) := by
  refine zz_Met.JN hl (by decide) rfl (fun C G hnh hin => ztX4_init G hnh hin) ?_
  rintro as M Q X h
  unfold zX4_init at h
  split at h
  rotate_left
  · exact h.elim
  rename_i h_
  refine ⟨rfl, ?_⟩
  refine zz_retP_J ?_
  obtain ⟨⟨h1, h2⟩, h3, hq⟩ := h
  exact zwX4_init_0 ⟨h_ + 1, h3, by decide, by decide, zsh_to h1 (zrw_n _ _ (by omega)), h2 0, zsh_to h1 (zrw_n _ _ (by omega)), by decide, hq⟩
def zX5_init : zz_Sp := fun as M Q X => match as with
  | [.inr (.inr (some h_)), .inr (.inr (some x))] => (zsh M h_ = (1, 4) ∧ ∀ k, zfx M.1.1 h_ k = false) ∧ Q none ((M.1.1, M.1.2), M.2.1, M.2.2.1, mm_up M.2.2.2 h_ 2 (some x))
  | _ => False

def zpX5_init : zz_P := [(0, zo_ald 1 0), (1, zo_ald 2 1), (2, zo_putrp 5 4 2), (5, zo_ald 6 0), (6, zo_oi 9), (9, zo_vret)]
theorem ztX5_init {C : mm_C} (G : mm_G C RX5 cX5_init none 2 (mm_rm 1 0 0)) (hnh : mm_nh C) (hin : (c_t C).name = "<init>") : zz_OKs C zpX5_init :=
  ⟨zz_of (ok_aload_n G dX5_init_0 rfl rfl) (z_ald _ _),
   zz_of (ok_aload_n G dX5_init_1 rfl rfl) (z_ald _ _),
   zz_of (ok_putr G (nx := 5) (idx := 3) (ci := 4) (k := 2) (RX5, TX5, 3) rfl (by decide) rfl (mm_pwF G (ci := 4) (k := 2) (RX5, TX5, 3) rfl (by decide) rfl hin rfl q307 dX5_init_2) rfl) (z_putrp _ _ _),
   zz_of (ok_aload_n G dX5_init_5 rfl rfl) (z_ald _ _),
   zz_of (ok_oi G q303 q133 q134 ⟨Nat.le_of_ble_eq_true rfl, Nat.le_of_ble_eq_true rfl⟩ dX5_init_6 rfl) (z_oi _),
   zz_of (ok_vret G dX5_init_9) (z_vret), trivial⟩

theorem zwX5_init_0 {Q : Option zv → zz_M → Prop} {X : Nat → zz_M → Prop} {M : zz_M} {x : Nat} {h_ : Nat} (h : zsh M h_ = (1, 4) ∧ (zfx M.1.1 h_ 2 = false ∧ (Q none ((M.1.1, M.1.2), M.2.1, M.2.2.1, mm_up M.2.2.2 h_ 2 (some x))))) : zz_J zpX5_init (zz_ret Q X 0 0) 0 [some (vr h_), some (vr x)] [] M (0, 0) := zz_J.go [] 400 h

theorem zmX5_init (l : Launch) (hl : l.stackTraces = false) : mm_Spec l yX5_init (ws_ yX5_init cX5_init 2 none) (mm_rm 1 0 0) (zE zX5_init) := by
  refine zz_Met.JN hl (by decide) rfl (fun C G hnh hin => ztX5_init G hnh hin) ?_
  rintro as M Q X h
  unfold zX5_init at h
  split at h
  rotate_left
  · exact h.elim
  rename_i h_ x
  refine ⟨rfl, ?_⟩
  obtain ⟨⟨h1, h2⟩, hq⟩ := h
  exact zwX5_init_0 ⟨h1, h2 2, hq⟩
def zX6_init : zz_Sp := fun as M Q X => match as with
  | [.inr (.inr (some h_)), .inr (.inr (some x))] => (zsh M h_ = (1, 5) ∧ ∀ k, zfx M.1.1 h_ k = false) ∧ (∀ i, 1 ≤ i → i ≤ 3 → zfree M (h_ + i)) ∧ Q none ((M.1.1, zrw (zrw (zrw (M.1.2) (h_ + 1) (2, 15488)) (h_ + 2) (2, 15488)) (h_ + 3) (2, 4)), mm_up (zrw (zrw (zrw (M.2.1) (h_ + 1) (fun _ => 0)) (h_ + 2) (fun _ => 0)) (h_ + 3) (fun _ => 0)) h_ 3 (-1), zrw (zrw (zrw (M.2.2.1) (h_ + 1) (fun _ => 0)) (h_ + 2) (fun _ => 0)) (h_ + 3) (fun _ => 0), mm_up (zrw (mm_up (zrw (mm_up (zrw (mm_up M.2.2.2 h_ 4 (some x)) (h_ + 1) (fun _ => none)) h_ 0 (some (h_ + 1))) (h_ + 2) (fun _ => none)) h_ 1 (some (h_ + 2))) (h_ + 3) (fun _ => none)) h_ 2 (some (h_ + 3)))
  | _ => False

def zpX6_init : zz_P := [(0, zo_ald 1 0), (1, zo_ald 2 1), (2, zo_putrp 5 5 4), (5, zo_ald 6 0), (6, zo_oi 9), (9, zo_ald 10 0), (10, zo_c 13 (vi 15488)), (13, zo_newa (mm_rm 1 3 30980) 15 2 4), (15, zo_putrp 18 5 0), (18, zo_ald 19 0), (19, zo_c 22 (vi 15488)), (22, zo_newa (mm_rm 1 3 30980) 24 2 4), (24, zo_putrp 27 5 1), (27, zo_ald 28 0), (28, zo_c 29 (vi 4)), (29, zo_newa (mm_rm 1 3 30980) 31 2 4), (31, zo_putrp 34 5 2), (34, zo_ald 35 0), (35, zo_c 36 (vi (-1))), (36, zo_putip 39 5 3), (39, zo_vret)]
theorem ztX6_init {C : mm_C} (G : mm_G C RX6 cX6_init none 2 (mm_rm 1 3 30980)) (hnh : mm_nh C) (hin : (c_t C).name = "<init>") : zz_OKs C zpX6_init :=
  ⟨zz_of (ok_aload_n G dX6_init_0 rfl rfl) (z_ald _ _),
   zz_of (ok_aload_n G dX6_init_1 rfl rfl) (z_ald _ _),
   zz_of (ok_putr G (nx := 5) (idx := 3) (ci := 5) (k := 4) (RX6, TX6, 5) rfl (by decide) rfl (mm_pwF G (ci := 5) (k := 4) (RX6, TX6, 5) rfl (by decide) rfl hin rfl q330 dX6_init_2) rfl) (z_putrp _ _ _),
   zz_of (ok_aload_n G dX6_init_5 rfl rfl) (z_ald _ _),
   zz_of (ok_oi G q323 q133 q134 ⟨Nat.le_of_ble_eq_true rfl, Nat.le_of_ble_eq_true rfl⟩ dX6_init_6 rfl) (z_oi _),
   zz_of (ok_aload_n G dX6_init_9 rfl rfl) (z_ald _ _),
   zz_of (ok_sipush G (v := 15488) dX6_init_10 (by decide) rfl) (z_cn 13 15488),
   zz_of (ok_newa G (t := 2) (ty := .int) rfl rfl q169 rfl (by decide) (by decide) (fun h => h) (fun M h n j ad => by rw [mm_al_ea]; rfl) dX6_init_13 rfl) (z_newa _ _ _ _),
   zz_of (ok_putr G (nx := 18) (idx := 15) (ci := 5) (k := 0) (RX6, TX6, 5) rfl (by decide) rfl (mm_pw G (ci := 5) (k := 0) (RX6, TX6, 5) rfl (by decide) rfl q324 dX6_init_15) rfl) (z_putrp _ _ _),
   zz_of (ok_aload_n G dX6_init_18 rfl rfl) (z_ald _ _),
   zz_of (ok_sipush G (v := 15488) dX6_init_19 (by decide) rfl) (z_cn 22 15488),
   zz_of (ok_newa G (t := 2) (ty := .int) rfl rfl q169 rfl (by decide) (by decide) (fun h => h) (fun M h n j ad => by rw [mm_al_ea]; rfl) dX6_init_22 rfl) (z_newa _ _ _ _),
   zz_of (ok_putr G (nx := 27) (idx := 19) (ci := 5) (k := 1) (RX6, TX6, 5) rfl (by decide) rfl (mm_pw G (ci := 5) (k := 1) (RX6, TX6, 5) rfl (by decide) rfl q325 dX6_init_24) rfl) (z_putrp _ _ _),
   zz_of (ok_aload_n G dX6_init_27 rfl rfl) (z_ald _ _),
   zz_of (ok_iconst G (v := 4) dX6_init_28 (by decide) rfl) (z_cn 29 4),
   zz_of (ok_newa G (t := 2) (ty := .int) rfl rfl q169 rfl (by decide) (by decide) (fun h => h) (fun M h n j ad => by rw [mm_al_ea]; rfl) dX6_init_29 rfl) (z_newa _ _ _ _),
   zz_of (ok_putr G (nx := 34) (idx := 22) (ci := 5) (k := 2) (RX6, TX6, 5) rfl (by decide) rfl (mm_pwF G (ci := 5) (k := 2) (RX6, TX6, 5) rfl (by decide) rfl hin rfl q326 dX6_init_31) rfl) (z_putrp _ _ _),
   zz_of (ok_aload_n G dX6_init_34 rfl rfl) (z_ald _ _),
   zz_of (ok_iconst G (v := (zI (-1))) dX6_init_35 (by decide) rfl) (z_cz 36 (-1)),
   zz_of (ok_puti G (nx := 39) (idx := 25) (ci := 5) (k := 3) (RX6, TX6, 5) rfl (by decide) rfl (mm_pw G (ci := 5) (k := 3) (RX6, TX6, 5) rfl (by decide) rfl q329 dX6_init_36) rfl) (z_putip _ _ _),
   zz_of (ok_vret G dX6_init_39) (z_vret), trivial⟩

theorem zwX6_init_0 {Q : Option zv → zz_M → Prop} {X : Nat → zz_M → Prop} {M : zz_M} {x : Nat} {h_ : Nat} (h : zsh M h_ = (1, 5) ∧ (zfx M.1.1 h_ 4 = false ∧ (∃ h1_ : Nat, zfree ((M.1.1, M.1.2), M.2.1, M.2.2.1, mm_up M.2.2.2 h_ 4 (some x)) h1_ ∧ (0 ≤ (15488 : Int) ∧ (15488 : Int) < 2147483648 ∧ 15488 * 4 ≤ 536870912) ∧ (0 + 1 ≤ 3 ∧ 0 + (15488) ≤ 30980) ∧ (zsh ((M.1.1, zrw M.1.2 h1_ (2, 15488)), zrw M.2.1 h1_ (fun _ => 0), zrw M.2.2.1 h1_ (fun _ => 0), zrw (mm_up M.2.2.2 h_ 4 (some x)) h1_ (fun _ => none)) h_ = (1, 5) ∧ (zfx (((M.1.1, zrw M.1.2 h1_ (2, 15488)), zrw M.2.1 h1_ (fun _ => 0), zrw M.2.2.1 h1_ (fun _ => 0), zrw (mm_up M.2.2.2 h_ 4 (some x)) h1_ (fun _ => none)).1.1) h_ 0 = false ∧ (∃ h2_ : Nat, zfree ((M.1.1, zrw M.1.2 h1_ (2, 15488)), zrw M.2.1 h1_ (fun _ => 0), zrw M.2.2.1 h1_ (fun _ => 0), mm_up (zrw (mm_up M.2.2.2 h_ 4 (some x)) h1_ (fun _ => none)) h_ 0 (some h1_)) h2_ ∧ (0 ≤ (15488 : Int) ∧ (15488 : Int) < 2147483648 ∧ 15488 * 4 ≤ 536870912) ∧ (1 + 1 ≤ 3 ∧ 0 + (15488) + (15488) ≤ 30980) ∧ (zsh ((M.1.1, zrw (zrw M.1.2 h1_ (2, 15488)) h2_ (2, 15488)), zrw (zrw M.2.1 h1_ (fun _ => 0)) h2_ (fun _ => 0), zrw (zrw M.2.2.1 h1_ (fun _ => 0)) h2_ (fun _ => 0), zrw (mm_up (zrw (mm_up M.2.2.2 h_ 4 (some x)) h1_ (fun _ => none)) h_ 0 (some h1_)) h2_ (fun _ => none)) h_ = (1, 5) ∧ (zfx (((M.1.1, zrw (zrw M.1.2 h1_ (2, 15488)) h2_ (2, 15488)), zrw (zrw M.2.1 h1_ (fun _ => 0)) h2_ (fun _ => 0), zrw (zrw M.2.2.1 h1_ (fun _ => 0)) h2_ (fun _ => 0), zrw (mm_up (zrw (mm_up M.2.2.2 h_ 4 (some x)) h1_ (fun _ => none)) h_ 0 (some h1_)) h2_ (fun _ => none)).1.1) h_ 1 = false ∧ (∃ h3_ : Nat, zfree ((M.1.1, zrw (zrw M.1.2 h1_ (2, 15488)) h2_ (2, 15488)), zrw (zrw M.2.1 h1_ (fun _ => 0)) h2_ (fun _ => 0), zrw (zrw M.2.2.1 h1_ (fun _ => 0)) h2_ (fun _ => 0), mm_up (zrw (mm_up (zrw (mm_up M.2.2.2 h_ 4 (some x)) h1_ (fun _ => none)) h_ 0 (some h1_)) h2_ (fun _ => none)) h_ 1 (some h2_)) h3_ ∧ (0 ≤ (4 : Int) ∧ (4 : Int) < 2147483648 ∧ 4 * 4 ≤ 536870912) ∧ (2 + 1 ≤ 3 ∧ 0 + (15488) + (15488) + (4) ≤ 30980) ∧ (zsh ((M.1.1, zrw (zrw (zrw M.1.2 h1_ (2, 15488)) h2_ (2, 15488)) h3_ (2, 4)), zrw (zrw (zrw M.2.1 h1_ (fun _ => 0)) h2_ (fun _ => 0)) h3_ (fun _ => 0), zrw (zrw (zrw M.2.2.1 h1_ (fun _ => 0)) h2_ (fun _ => 0)) h3_ (fun _ => 0), zrw (mm_up (zrw (mm_up (zrw (mm_up M.2.2.2 h_ 4 (some x)) h1_ (fun _ => none)) h_ 0 (some h1_)) h2_ (fun _ => none)) h_ 1 (some h2_)) h3_ (fun _ => none)) h_ = (1, 5) ∧ (zfx (((M.1.1, zrw (zrw (zrw M.1.2 h1_ (2, 15488)) h2_ (2, 15488)) h3_ (2, 4)), zrw (zrw (zrw M.2.1 h1_ (fun _ => 0)) h2_ (fun _ => 0)) h3_ (fun _ => 0), zrw (zrw (zrw M.2.2.1 h1_ (fun _ => 0)) h2_ (fun _ => 0)) h3_ (fun _ => 0), zrw (mm_up (zrw (mm_up (zrw (mm_up M.2.2.2 h_ 4 (some x)) h1_ (fun _ => none)) h_ 0 (some h1_)) h2_ (fun _ => none)) h_ 1 (some h2_)) h3_ (fun _ => none)).1.1) h_ 2 = false ∧ (zsh ((M.1.1, zrw (zrw (zrw M.1.2 h1_ (2, 15488)) h2_ (2, 15488)) h3_ (2, 4)), zrw (zrw (zrw M.2.1 h1_ (fun _ => 0)) h2_ (fun _ => 0)) h3_ (fun _ => 0), zrw (zrw (zrw M.2.2.1 h1_ (fun _ => 0)) h2_ (fun _ => 0)) h3_ (fun _ => 0), mm_up (zrw (mm_up (zrw (mm_up (zrw (mm_up M.2.2.2 h_ 4 (some x)) h1_ (fun _ => none)) h_ 0 (some h1_)) h2_ (fun _ => none)) h_ 1 (some h2_)) h3_ (fun _ => none)) h_ 2 (some h3_)) h_ = (1, 5) ∧ ((3 ≤ 3 ∧ 0 + (15488) + (15488) + (4) ≤ 30980) ∧ (Q none ((M.1.1, zrw (zrw (zrw M.1.2 h1_ (2, 15488)) h2_ (2, 15488)) h3_ (2, 4)), mm_up (zrw (zrw (zrw M.2.1 h1_ (fun _ => 0)) h2_ (fun _ => 0)) h3_ (fun _ => 0)) h_ 3 (-1), zrw (zrw (zrw M.2.2.1 h1_ (fun _ => 0)) h2_ (fun _ => 0)) h3_ (fun _ => 0), mm_up (zrw (mm_up (zrw (mm_up (zrw (mm_up M.2.2.2 h_ 4 (some x)) h1_ (fun _ => none)) h_ 0 (some h1_)) h2_ (fun _ => none)) h_ 1 (some h2_)) h3_ (fun _ => none)) h_ 2 (some h3_)))))))))))))))) : zz_J zpX6_init (zz_retP Q X 3 30980) 0 [some (vr h_), some (vr x)] [] M (0, 0) := zz_J.go [] 400 h

theorem zmX6_init (l : Launch) (hl : l.stackTraces = false) : mm_Spec l yX6_init (ws_ yX6_init cX6_init 2 none) (mm_rm 1 3 30980) (zE zX6_init) := by
  refine zz_Met.JN hl (by decide) rfl (fun C G hnh hin => ztX6_init G hnh hin) ?_
  rintro as M Q X h
  unfold zX6_init at h
  split at h
  rotate_left
  · exact h.elim
  rename_i h_ x
  refine ⟨rfl, ?_⟩
  refine zz_retP_J ?_
  obtain ⟨⟨h1, h2⟩, hfr, hq⟩ := h
  exact zwX6_init_0 ⟨h1, h2 4, h_ + 1, zfree_eq (hfr 1 (by decide) (by decide)) rfl rfl, by decide, by decide, zsh_to h1 (by (try dsimp only); rw [zrw_n _ _ (by omega)]), h2 0, h_ + 2, zfree_eq (hfr 2 (by decide) (by decide)) rfl (by (try dsimp only); rw [zrw_n _ _ (by omega)]), by decide, by decide, zsh_to h1 (by (try dsimp only); rw [zrw_n _ _ (by omega), zrw_n _ _ (by omega)]), h2 1, h_ + 3, zfree_eq (hfr 3 (by decide) (by decide)) rfl (by (try dsimp only); rw [zrw_n _ _ (by omega), zrw_n _ _ (by omega)]), by decide, by decide, zsh_to h1 (by (try dsimp only); rw [zrw_n _ _ (by omega), zrw_n _ _ (by omega), zrw_n _ _ (by omega)]), h2 2, zsh_to h1 (by (try dsimp only); rw [zrw_n _ _ (by omega), zrw_n _ _ (by omega), zrw_n _ _ (by omega)]), by decide, hq⟩
def zX7_init : zz_Sp := fun as M Q X => match as with
  | [.inr (.inr (some h_)), .inr (.inr (some x))] => (zsh M h_ = (1, 6) ∧ ∀ k, zfx M.1.1 h_ k = false) ∧ (∀ i, 1 ≤ i → i ≤ 2 → zfree M (h_ + i)) ∧ Q none ((M.1.1, zrw (zrw (M.1.2) (h_ + 1) (2, 15488)) (h_ + 2) (2, 15488)), zrw (zrw (M.2.1) (h_ + 1) (fun _ => 0)) (h_ + 2) (fun _ => 0), zrw (zrw (M.2.2.1) (h_ + 1) (fun _ => 0)) (h_ + 2) (fun _ => 0), mm_up (zrw (mm_up (zrw (mm_up M.2.2.2 h_ 3 (some x)) (h_ + 1) (fun _ => none)) h_ 0 (some (h_ + 1))) (h_ + 2) (fun _ => none)) h_ 1 (some (h_ + 2)))
  | _ => False

def zpX7_init : zz_P := [(0, zo_ald 1 0), (1, zo_ald 2 1), (2, zo_putrp 5 6 3), (5, zo_ald 6 0), (6, zo_oi 9), (9, zo_ald 10 0), (10, zo_c 13 (vi 15488)), (13, zo_newa (mm_rm 1 2 30976) 15 2 4), (15, zo_putrp 18 6 0), (18, zo_ald 19 0), (19, zo_c 22 (vi 15488)), (22, zo_newa (mm_rm 1 2 30976) 24 2 4), (24, zo_putrp 27 6 1), (27, zo_vret)]
theorem ztX7_init {C : mm_C} (G : mm_G C RX7 cX7_init none 2 (mm_rm 1 2 30976)) (hnh : mm_nh C) (hin : (c_t C).name = "<init>") : zz_OKs C zpX7_init :=
  ⟨zz_of (ok_aload_n G dX7_init_0 rfl rfl) (z_ald _ _),
   zz_of (ok_aload_n G dX7_init_1 rfl rfl) (z_ald _ _),
   zz_of (ok_putr G (nx := 5) (idx := 3) (ci := 6) (k := 3) (RX7, TX7, 4) rfl (by decide) rfl (mm_pwF G (ci := 6) (k := 3) (RX7, TX7, 4) rfl (by decide) rfl hin rfl q353 dX7_init_2) rfl) (z_putrp _ _ _),
   zz_of (ok_aload_n G dX7_init_5 rfl rfl) (z_ald _ _),
   zz_of (ok_oi G q348 q133 q134 ⟨Nat.le_of_ble_eq_true rfl, Nat.le_of_ble_eq_true rfl⟩ dX7_init_6 rfl) (z_oi _),
   zz_of (ok_aload_n G dX7_init_9 rfl rfl) (z_ald _ _),
   zz_of (ok_sipush G (v := 15488) dX7_init_10 (by decide) rfl) (z_cn 13 15488),
   zz_of (ok_newa G (t := 2) (ty := .int) rfl rfl q169 rfl (by decide) (by decide) (fun h => h) (fun M h n j ad => by rw [mm_al_ea]; rfl) dX7_init_13 rfl) (z_newa _ _ _ _),
   zz_of (ok_putr G (nx := 18) (idx := 15) (ci := 6) (k := 0) (RX7, TX7, 4) rfl (by decide) rfl (mm_pw G (ci := 6) (k := 0) (RX7, TX7, 4) rfl (by decide) rfl q349 dX7_init_15) rfl) (z_putrp _ _ _),
   zz_of (ok_aload_n G dX7_init_18 rfl rfl) (z_ald _ _),
   zz_of (ok_sipush G (v := 15488) dX7_init_19 (by decide) rfl) (z_cn 22 15488),
   zz_of (ok_newa G (t := 2) (ty := .int) rfl rfl q169 rfl (by decide) (by decide) (fun h => h) (fun M h n j ad => by rw [mm_al_ea]; rfl) dX7_init_22 rfl) (z_newa _ _ _ _),
   zz_of (ok_putr G (nx := 27) (idx := 19) (ci := 6) (k := 1) (RX7, TX7, 4) rfl (by decide) rfl (mm_pw G (ci := 6) (k := 1) (RX7, TX7, 4) rfl (by decide) rfl q350 dX7_init_24) rfl) (z_putrp _ _ _),
   zz_of (ok_vret G dX7_init_27) (z_vret), trivial⟩

theorem zwX7_init_0 {Q : Option zv → zz_M → Prop} {X : Nat → zz_M → Prop} {M : zz_M} {x : Nat} {h_ : Nat} (h : zsh M h_ = (1, 6) ∧ (zfx M.1.1 h_ 3 = false ∧ (∃ h1_ : Nat, zfree ((M.1.1, M.1.2), M.2.1, M.2.2.1, mm_up M.2.2.2 h_ 3 (some x)) h1_ ∧ (0 ≤ (15488 : Int) ∧ (15488 : Int) < 2147483648 ∧ 15488 * 4 ≤ 536870912) ∧ (0 + 1 ≤ 2 ∧ 0 + (15488) ≤ 30976) ∧ (zsh ((M.1.1, zrw M.1.2 h1_ (2, 15488)), zrw M.2.1 h1_ (fun _ => 0), zrw M.2.2.1 h1_ (fun _ => 0), zrw (mm_up M.2.2.2 h_ 3 (some x)) h1_ (fun _ => none)) h_ = (1, 6) ∧ (zfx (((M.1.1, zrw M.1.2 h1_ (2, 15488)), zrw M.2.1 h1_ (fun _ => 0), zrw M.2.2.1 h1_ (fun _ => 0), zrw (mm_up M.2.2.2 h_ 3 (some x)) h1_ (fun _ => none)).1.1) h_ 0 = false ∧ (∃ h2_ : Nat, zfree ((M.1.1, zrw M.1.2 h1_ (2, 15488)), zrw M.2.1 h1_ (fun _ => 0), zrw M.2.2.1 h1_ (fun _ => 0), mm_up (zrw (mm_up M.2.2.2 h_ 3 (some x)) h1_ (fun _ => none)) h_ 0 (some h1_)) h2_ ∧ (0 ≤ (15488 : Int) ∧ (15488 : Int) < 2147483648 ∧ 15488 * 4 ≤ 536870912) ∧ (1 + 1 ≤ 2 ∧ 0 + (15488) + (15488) ≤ 30976) ∧ (zsh ((M.1.1, zrw (zrw M.1.2 h1_ (2, 15488)) h2_ (2, 15488)), zrw (zrw M.2.1 h1_ (fun _ => 0)) h2_ (fun _ => 0), zrw (zrw M.2.2.1 h1_ (fun _ => 0)) h2_ (fun _ => 0), zrw (mm_up (zrw (mm_up M.2.2.2 h_ 3 (some x)) h1_ (fun _ => none)) h_ 0 (some h1_)) h2_ (fun _ => none)) h_ = (1, 6) ∧ (zfx (((M.1.1, zrw (zrw M.1.2 h1_ (2, 15488)) h2_ (2, 15488)), zrw (zrw M.2.1 h1_ (fun _ => 0)) h2_ (fun _ => 0), zrw (zrw M.2.2.1 h1_ (fun _ => 0)) h2_ (fun _ => 0), zrw (mm_up (zrw (mm_up M.2.2.2 h_ 3 (some x)) h1_ (fun _ => none)) h_ 0 (some h1_)) h2_ (fun _ => none)).1.1) h_ 1 = false ∧ ((2 ≤ 2 ∧ 0 + (15488) + (15488) ≤ 30976) ∧ (Q none ((M.1.1, zrw (zrw M.1.2 h1_ (2, 15488)) h2_ (2, 15488)), zrw (zrw M.2.1 h1_ (fun _ => 0)) h2_ (fun _ => 0), zrw (zrw M.2.2.1 h1_ (fun _ => 0)) h2_ (fun _ => 0), mm_up (zrw (mm_up (zrw (mm_up M.2.2.2 h_ 3 (some x)) h1_ (fun _ => none)) h_ 0 (some h1_)) h2_ (fun _ => none)) h_ 1 (some h2_)))))))))))) : zz_J zpX7_init (zz_retP Q X 2 30976) 0 [some (vr h_), some (vr x)] [] M (0, 0) := zz_J.go [] 400 h

theorem zmX7_init (l : Launch) (hl : l.stackTraces = false) : mm_Spec l yX7_init (ws_ yX7_init cX7_init 2 none) (mm_rm 1 2 30976) (zE zX7_init) := by
  refine zz_Met.JN hl (by decide) rfl (fun C G hnh hin => ztX7_init G hnh hin) ?_
  rintro as M Q X h
  unfold zX7_init at h
  split at h
  rotate_left
  · exact h.elim
  rename_i h_ x
  refine ⟨rfl, ?_⟩
  refine zz_retP_J ?_
  obtain ⟨⟨h1, h2⟩, hfr, hq⟩ := h
  exact zwX7_init_0 ⟨h1, h2 3, h_ + 1, zfree_eq (hfr 1 (by decide) (by decide)) rfl rfl, by decide, by decide, zsh_to h1 (by (try dsimp only); rw [zrw_n _ _ (by omega)]), h2 0, h_ + 2, zfree_eq (hfr 2 (by decide) (by decide)) rfl (by (try dsimp only); rw [zrw_n _ _ (by omega)]), by decide, by decide, zsh_to h1 (by (try dsimp only); rw [zrw_n _ _ (by omega), zrw_n _ _ (by omega)]), h2 1, by decide, hq⟩
def zX8_init : zz_Sp := fun as M Q X => match as with
  | [.inr (.inr (some h_)), .inr (.inr (some x))] => (zsh M h_ = (1, 7) ∧ ∀ k, zfx M.1.1 h_ k = false) ∧ (∀ i, 1 ≤ i → i ≤ 6 → zfree M (h_ + i)) ∧ Q none ((M.1.1, zrw (zrw (zrw (zrw (zrw (zrw (M.1.2) (h_ + 1) (2, 4096)) (h_ + 2) (2, 4096)) (h_ + 3) (2, 4096)) (h_ + 4) (2, 4096)) (h_ + 5) (3, 4096)) (h_ + 6) (3, 4096)), zrw (zrw (zrw (zrw (zrw (zrw (M.2.1) (h_ + 1) (fun _ => 0)) (h_ + 2) (fun _ => 0)) (h_ + 3) (fun _ => 0)) (h_ + 4) (fun _ => 0)) (h_ + 5) (fun _ => 0)) (h_ + 6) (fun _ => 0), zrw (zrw (zrw (zrw (zrw (zrw (M.2.2.1) (h_ + 1) (fun _ => 0)) (h_ + 2) (fun _ => 0)) (h_ + 3) (fun _ => 0)) (h_ + 4) (fun _ => 0)) (h_ + 5) (fun _ => 0)) (h_ + 6) (fun _ => 0), mm_up (zrw (mm_up (zrw (mm_up (zrw (mm_up (zrw (mm_up (zrw (mm_up (zrw (mm_up M.2.2.2 h_ 8 (some x)) (h_ + 1) (fun _ => none)) h_ 0 (some (h_ + 1))) (h_ + 2) (fun _ => none)) h_ 1 (some (h_ + 2))) (h_ + 3) (fun _ => none)) h_ 2 (some (h_ + 3))) (h_ + 4) (fun _ => none)) h_ 3 (some (h_ + 4))) (h_ + 5) (fun _ => none)) h_ 4 (some (h_ + 5))) (h_ + 6) (fun _ => none)) h_ 5 (some (h_ + 6)))
  | _ => False

def zpX8_init : zz_P := [(0, zo_ald 1 0), (1, zo_ald 2 1), (2, zo_putrp 5 7 8), (5, zo_ald 6 0), (6, zo_oi 9), (9, zo_ald 10 0), (10, zo_c 13 (vi 4096)), (13, zo_newa (mm_rm 1 6 24576) 15 2 4), (15, zo_putrp 18 7 0), (18, zo_ald 19 0), (19, zo_c 22 (vi 4096)), (22, zo_newa (mm_rm 1 6 24576) 24 2 4), (24, zo_putrp 27 7 1), (27, zo_ald 28 0), (28, zo_c 31 (vi 4096)), (31, zo_newa (mm_rm 1 6 24576) 33 2 4), (33, zo_putrp 36 7 2), (36, zo_ald 37 0), (37, zo_c 40 (vi 4096)), (40, zo_newa (mm_rm 1 6 24576) 42 2 4), (42, zo_putrp 45 7 3), (45, zo_ald 46 0), (46, zo_c 49 (vi 4096)), (49, zo_newa (mm_rm 1 6 24576) 51 3 8), (51, zo_putrp 54 7 4), (54, zo_ald 55 0), (55, zo_c 58 (vi 4096)), (58, zo_newa (mm_rm 1 6 24576) 60 3 8), (60, zo_putrp 63 7 5), (63, zo_vret)]
theorem ztX8_init {C : mm_C} (G : mm_G C RX8 cX8_init none 2 (mm_rm 1 6 24576)) (hnh : mm_nh C) (hin : (c_t C).name = "<init>") : zz_OKs C zpX8_init :=
  ⟨zz_of (ok_aload_n G dX8_init_0 rfl rfl) (z_ald _ _),
   zz_of (ok_aload_n G dX8_init_1 rfl rfl) (z_ald _ _),
   zz_of (ok_putr G (nx := 5) (idx := 3) (ci := 7) (k := 8) (RX8, TX8, 9) rfl (by decide) rfl (mm_pwF G (ci := 7) (k := 8) (RX8, TX8, 9) rfl (by decide) rfl hin rfl q378 dX8_init_2) rfl) (z_putrp _ _ _),
   zz_of (ok_aload_n G dX8_init_5 rfl rfl) (z_ald _ _),
   zz_of (ok_oi G q369 q133 q134 ⟨Nat.le_of_ble_eq_true rfl, Nat.le_of_ble_eq_true rfl⟩ dX8_init_6 rfl) (z_oi _),
   zz_of (ok_aload_n G dX8_init_9 rfl rfl) (z_ald _ _),
   zz_of (ok_sipush G (v := 4096) dX8_init_10 (by decide) rfl) (z_cn 13 4096),
   zz_of (ok_newa G (t := 2) (ty := .int) rfl rfl q169 rfl (by decide) (by decide) (fun h => h) (fun M h n j ad => by rw [mm_al_ea]; rfl) dX8_init_13 rfl) (z_newa _ _ _ _),
   zz_of (ok_putr G (nx := 18) (idx := 15) (ci := 7) (k := 0) (RX8, TX8, 9) rfl (by decide) rfl (mm_pwF G (ci := 7) (k := 0) (RX8, TX8, 9) rfl (by decide) rfl hin rfl q370 dX8_init_15) rfl) (z_putrp _ _ _),
   zz_of (ok_aload_n G dX8_init_18 rfl rfl) (z_ald _ _),
   zz_of (ok_sipush G (v := 4096) dX8_init_19 (by decide) rfl) (z_cn 22 4096),
   zz_of (ok_newa G (t := 2) (ty := .int) rfl rfl q169 rfl (by decide) (by decide) (fun h => h) (fun M h n j ad => by rw [mm_al_ea]; rfl) dX8_init_22 rfl) (z_newa _ _ _ _),
   zz_of (ok_putr G (nx := 27) (idx := 19) (ci := 7) (k := 1) (RX8, TX8, 9) rfl (by decide) rfl (mm_pwF G (ci := 7) (k := 1) (RX8, TX8, 9) rfl (by decide) rfl hin rfl q371 dX8_init_24) rfl) (z_putrp _ _ _),
   zz_of (ok_aload_n G dX8_init_27 rfl rfl) (z_ald _ _),
   zz_of (ok_sipush G (v := 4096) dX8_init_28 (by decide) rfl) (z_cn 31 4096),
   zz_of (ok_newa G (t := 2) (ty := .int) rfl rfl q169 rfl (by decide) (by decide) (fun h => h) (fun M h n j ad => by rw [mm_al_ea]; rfl) dX8_init_31 rfl) (z_newa _ _ _ _),
   zz_of (ok_putr G (nx := 36) (idx := 22) (ci := 7) (k := 2) (RX8, TX8, 9) rfl (by decide) rfl (mm_pwF G (ci := 7) (k := 2) (RX8, TX8, 9) rfl (by decide) rfl hin rfl q372 dX8_init_33) rfl) (z_putrp _ _ _),
   zz_of (ok_aload_n G dX8_init_36 rfl rfl) (z_ald _ _),
   zz_of (ok_sipush G (v := 4096) dX8_init_37 (by decide) rfl) (z_cn 40 4096),
   zz_of (ok_newa G (t := 2) (ty := .int) rfl rfl q169 rfl (by decide) (by decide) (fun h => h) (fun M h n j ad => by rw [mm_al_ea]; rfl) dX8_init_40 rfl) (z_newa _ _ _ _),
   zz_of (ok_putr G (nx := 45) (idx := 25) (ci := 7) (k := 3) (RX8, TX8, 9) rfl (by decide) rfl (mm_pwF G (ci := 7) (k := 3) (RX8, TX8, 9) rfl (by decide) rfl hin rfl q373 dX8_init_42) rfl) (z_putrp _ _ _),
   zz_of (ok_aload_n G dX8_init_45 rfl rfl) (z_ald _ _),
   zz_of (ok_sipush G (v := 4096) dX8_init_46 (by decide) rfl) (z_cn 49 4096),
   zz_of (ok_newa G (t := 3) (ty := .long) rfl rfl q398 rfl (by decide) (by decide) (fun h => h) (fun M h n j ad => by rw [mm_al_ea]; rfl) dX8_init_49 rfl) (z_newa _ _ _ _),
   zz_of (ok_putr G (nx := 54) (idx := 28) (ci := 7) (k := 4) (RX8, TX8, 9) rfl (by decide) rfl (mm_pwF G (ci := 7) (k := 4) (RX8, TX8, 9) rfl (by decide) rfl hin rfl q374 dX8_init_51) rfl) (z_putrp _ _ _),
   zz_of (ok_aload_n G dX8_init_54 rfl rfl) (z_ald _ _),
   zz_of (ok_sipush G (v := 4096) dX8_init_55 (by decide) rfl) (z_cn 58 4096),
   zz_of (ok_newa G (t := 3) (ty := .long) rfl rfl q398 rfl (by decide) (by decide) (fun h => h) (fun M h n j ad => by rw [mm_al_ea]; rfl) dX8_init_58 rfl) (z_newa _ _ _ _),
   zz_of (ok_putr G (nx := 63) (idx := 32) (ci := 7) (k := 5) (RX8, TX8, 9) rfl (by decide) rfl (mm_pwF G (ci := 7) (k := 5) (RX8, TX8, 9) rfl (by decide) rfl hin rfl q375 dX8_init_60) rfl) (z_putrp _ _ _),
   zz_of (ok_vret G dX8_init_63) (z_vret), trivial⟩

theorem zwX8_init_0 {Q : Option zv → zz_M → Prop} {X : Nat → zz_M → Prop} {M : zz_M} {x : Nat} {h_ : Nat} (h : zsh M h_ = (1, 7) ∧ (zfx M.1.1 h_ 8 = false ∧ (∃ h1_ : Nat, zfree ((M.1.1, M.1.2), M.2.1, M.2.2.1, mm_up M.2.2.2 h_ 8 (some x)) h1_ ∧ (0 ≤ (4096 : Int) ∧ (4096 : Int) < 2147483648 ∧ 4096 * 4 ≤ 536870912) ∧ (0 + 1 ≤ 6 ∧ 0 + (4096) ≤ 24576) ∧ (zsh ((M.1.1, zrw M.1.2 h1_ (2, 4096)), zrw M.2.1 h1_ (fun _ => 0), zrw M.2.2.1 h1_ (fun _ => 0), zrw (mm_up M.2.2.2 h_ 8 (some x)) h1_ (fun _ => none)) h_ = (1, 7) ∧ (zfx (((M.1.1, zrw M.1.2 h1_ (2, 4096)), zrw M.2.1 h1_ (fun _ => 0), zrw M.2.2.1 h1_ (fun _ => 0), zrw (mm_up M.2.2.2 h_ 8 (some x)) h1_ (fun _ => none)).1.1) h_ 0 = false ∧ (∃ h2_ : Nat, zfree ((M.1.1, zrw M.1.2 h1_ (2, 4096)), zrw M.2.1 h1_ (fun _ => 0), zrw M.2.2.1 h1_ (fun _ => 0), mm_up (zrw (mm_up M.2.2.2 h_ 8 (some x)) h1_ (fun _ => none)) h_ 0 (some h1_)) h2_ ∧ (0 ≤ (4096 : Int) ∧ (4096 : Int) < 2147483648 ∧ 4096 * 4 ≤ 536870912) ∧ (1 + 1 ≤ 6 ∧ 0 + (4096) + (4096) ≤ 24576) ∧ (zsh ((M.1.1, zrw (zrw M.1.2 h1_ (2, 4096)) h2_ (2, 4096)), zrw (zrw M.2.1 h1_ (fun _ => 0)) h2_ (fun _ => 0), zrw (zrw M.2.2.1 h1_ (fun _ => 0)) h2_ (fun _ => 0), zrw (mm_up (zrw (mm_up M.2.2.2 h_ 8 (some x)) h1_ (fun _ => none)) h_ 0 (some h1_)) h2_ (fun _ => none)) h_ = (1, 7) ∧ (zfx (((M.1.1, zrw (zrw M.1.2 h1_ (2, 4096)) h2_ (2, 4096)), zrw (zrw M.2.1 h1_ (fun _ => 0)) h2_ (fun _ => 0), zrw (zrw M.2.2.1 h1_ (fun _ => 0)) h2_ (fun _ => 0), zrw (mm_up (zrw (mm_up M.2.2.2 h_ 8 (some x)) h1_ (fun _ => none)) h_ 0 (some h1_)) h2_ (fun _ => none)).1.1) h_ 1 = false ∧ (∃ h3_ : Nat, zfree ((M.1.1, zrw (zrw M.1.2 h1_ (2, 4096)) h2_ (2, 4096)), zrw (zrw M.2.1 h1_ (fun _ => 0)) h2_ (fun _ => 0), zrw (zrw M.2.2.1 h1_ (fun _ => 0)) h2_ (fun _ => 0), mm_up (zrw (mm_up (zrw (mm_up M.2.2.2 h_ 8 (some x)) h1_ (fun _ => none)) h_ 0 (some h1_)) h2_ (fun _ => none)) h_ 1 (some h2_)) h3_ ∧ (0 ≤ (4096 : Int) ∧ (4096 : Int) < 2147483648 ∧ 4096 * 4 ≤ 536870912) ∧ (2 + 1 ≤ 6 ∧ 0 + (4096) + (4096) + (4096) ≤ 24576) ∧ (zsh ((M.1.1, zrw (zrw (zrw M.1.2 h1_ (2, 4096)) h2_ (2, 4096)) h3_ (2, 4096)), zrw (zrw (zrw M.2.1 h1_ (fun _ => 0)) h2_ (fun _ => 0)) h3_ (fun _ => 0), zrw (zrw (zrw M.2.2.1 h1_ (fun _ => 0)) h2_ (fun _ => 0)) h3_ (fun _ => 0), zrw (mm_up (zrw (mm_up (zrw (mm_up M.2.2.2 h_ 8 (some x)) h1_ (fun _ => none)) h_ 0 (some h1_)) h2_ (fun _ => none)) h_ 1 (some h2_)) h3_ (fun _ => none)) h_ = (1, 7) ∧ (zfx (((M.1.1, zrw (zrw (zrw M.1.2 h1_ (2, 4096)) h2_ (2, 4096)) h3_ (2, 4096)), zrw (zrw (zrw M.2.1 h1_ (fun _ => 0)) h2_ (fun _ => 0)) h3_ (fun _ => 0), zrw (zrw (zrw M.2.2.1 h1_ (fun _ => 0)) h2_ (fun _ => 0)) h3_ (fun _ => 0), zrw (mm_up (zrw (mm_up (zrw (mm_up M.2.2.2 h_ 8 (some x)) h1_ (fun _ => none)) h_ 0 (some h1_)) h2_ (fun _ => none)) h_ 1 (some h2_)) h3_ (fun _ => none)).1.1) h_ 2 = false ∧ (∃ h4_ : Nat, zfree ((M.1.1, zrw (zrw (zrw M.1.2 h1_ (2, 4096)) h2_ (2, 4096)) h3_ (2, 4096)), zrw (zrw (zrw M.2.1 h1_ (fun _ => 0)) h2_ (fun _ => 0)) h3_ (fun _ => 0), zrw (zrw (zrw M.2.2.1 h1_ (fun _ => 0)) h2_ (fun _ => 0)) h3_ (fun _ => 0), mm_up (zrw (mm_up (zrw (mm_up (zrw (mm_up M.2.2.2 h_ 8 (some x)) h1_ (fun _ => none)) h_ 0 (some h1_)) h2_ (fun _ => none)) h_ 1 (some h2_)) h3_ (fun _ => none)) h_ 2 (some h3_)) h4_ ∧ (0 ≤ (4096 : Int) ∧ (4096 : Int) < 2147483648 ∧ 4096 * 4 ≤ 536870912) ∧ (3 + 1 ≤ 6 ∧ 0 + (4096) + (4096) + (4096) + (4096) ≤ 24576) ∧ (zsh ((M.1.1, zrw (zrw (zrw (zrw M.1.2 h1_ (2, 4096)) h2_ (2, 4096)) h3_ (2, 4096)) h4_ (2, 4096)), zrw (zrw (zrw (zrw M.2.1 h1_ (fun _ => 0)) h2_ (fun _ => 0)) h3_ (fun _ => 0)) h4_ (fun _ => 0), zrw (zrw (zrw (zrw M.2.2.1 h1_ (fun _ => 0)) h2_ (fun _ => 0)) h3_ (fun _ => 0)) h4_ (fun _ => 0), zrw (mm_up (zrw (mm_up (zrw (mm_up (zrw (mm_up M.2.2.2 h_ 8 (some x)) h1_ (fun _ => none)) h_ 0 (some h1_)) h2_ (fun _ => none)) h_ 1 (some h2_)) h3_ (fun _ => none)) h_ 2 (some h3_)) h4_ (fun _ => none)) h_ = (1, 7) ∧ (zfx (((M.1.1, zrw (zrw (zrw (zrw M.1.2 h1_ (2, 4096)) h2_ (2, 4096)) h3_ (2, 4096)) h4_ (2, 4096)), zrw (zrw (zrw (zrw M.2.1 h1_ (fun _ => 0)) h2_ (fun _ => 0)) h3_ (fun _ => 0)) h4_ (fun _ => 0), zrw (zrw (zrw (zrw M.2.2.1 h1_ (fun _ => 0)) h2_ (fun _ => 0)) h3_ (fun _ => 0)) h4_ (fun _ => 0), zrw (mm_up (zrw (mm_up (zrw (mm_up (zrw (mm_up M.2.2.2 h_ 8 (some x)) h1_ (fun _ => none)) h_ 0 (some h1_)) h2_ (fun _ => none)) h_ 1 (some h2_)) h3_ (fun _ => none)) h_ 2 (some h3_)) h4_ (fun _ => none)).1.1) h_ 3 = false ∧ (∃ h5_ : Nat, zfree ((M.1.1, zrw (zrw (zrw (zrw M.1.2 h1_ (2, 4096)) h2_ (2, 4096)) h3_ (2, 4096)) h4_ (2, 4096)), zrw (zrw (zrw (zrw M.2.1 h1_ (fun _ => 0)) h2_ (fun _ => 0)) h3_ (fun _ => 0)) h4_ (fun _ => 0), zrw (zrw (zrw (zrw M.2.2.1 h1_ (fun _ => 0)) h2_ (fun _ => 0)) h3_ (fun _ => 0)) h4_ (fun _ => 0), mm_up (zrw (mm_up (zrw (mm_up (zrw (mm_up (zrw (mm_up M.2.2.2 h_ 8 (some x)) h1_ (fun _ => none)) h_ 0 (some h1_)) h2_ (fun _ => none)) h_ 1 (some h2_)) h3_ (fun _ => none)) h_ 2 (some h3_)) h4_ (fun _ => none)) h_ 3 (some h4_)) h5_ ∧ (0 ≤ (4096 : Int) ∧ (4096 : Int) < 2147483648 ∧ 4096 * 8 ≤ 536870912) ∧ (4 + 1 ≤ 6 ∧ 0 + (4096) + (4096) + (4096) + (4096) + (4096) ≤ 24576) ∧ (zsh ((M.1.1, zrw (zrw (zrw (zrw (zrw M.1.2 h1_ (2, 4096)) h2_ (2, 4096)) h3_ (2, 4096)) h4_ (2, 4096)) h5_ (3, 4096)), zrw (zrw (zrw (zrw (zrw M.2.1 h1_ (fun _ => 0)) h2_ (fun _ => 0)) h3_ (fun _ => 0)) h4_ (fun _ => 0)) h5_ (fun _ => 0), zrw (zrw (zrw (zrw (zrw M.2.2.1 h1_ (fun _ => 0)) h2_ (fun _ => 0)) h3_ (fun _ => 0)) h4_ (fun _ => 0)) h5_ (fun _ => 0), zrw (mm_up (zrw (mm_up (zrw (mm_up (zrw (mm_up (zrw (mm_up M.2.2.2 h_ 8 (some x)) h1_ (fun _ => none)) h_ 0 (some h1_)) h2_ (fun _ => none)) h_ 1 (some h2_)) h3_ (fun _ => none)) h_ 2 (some h3_)) h4_ (fun _ => none)) h_ 3 (some h4_)) h5_ (fun _ => none)) h_ = (1, 7) ∧ (zfx (((M.1.1, zrw (zrw (zrw (zrw (zrw M.1.2 h1_ (2, 4096)) h2_ (2, 4096)) h3_ (2, 4096)) h4_ (2, 4096)) h5_ (3, 4096)), zrw (zrw (zrw (zrw (zrw M.2.1 h1_ (fun _ => 0)) h2_ (fun _ => 0)) h3_ (fun _ => 0)) h4_ (fun _ => 0)) h5_ (fun _ => 0), zrw (zrw (zrw (zrw (zrw M.2.2.1 h1_ (fun _ => 0)) h2_ (fun _ => 0)) h3_ (fun _ => 0)) h4_ (fun _ => 0)) h5_ (fun _ => 0), zrw (mm_up (zrw (mm_up (zrw (mm_up (zrw (mm_up (zrw (mm_up M.2.2.2 h_ 8 (some x)) h1_ (fun _ => none)) h_ 0 (some h1_)) h2_ (fun _ => none)) h_ 1 (some h2_)) h3_ (fun _ => none)) h_ 2 (some h3_)) h4_ (fun _ => none)) h_ 3 (some h4_)) h5_ (fun _ => none)).1.1) h_ 4 = false ∧ (∃ h6_ : Nat, zfree ((M.1.1, zrw (zrw (zrw (zrw (zrw M.1.2 h1_ (2, 4096)) h2_ (2, 4096)) h3_ (2, 4096)) h4_ (2, 4096)) h5_ (3, 4096)), zrw (zrw (zrw (zrw (zrw M.2.1 h1_ (fun _ => 0)) h2_ (fun _ => 0)) h3_ (fun _ => 0)) h4_ (fun _ => 0)) h5_ (fun _ => 0), zrw (zrw (zrw (zrw (zrw M.2.2.1 h1_ (fun _ => 0)) h2_ (fun _ => 0)) h3_ (fun _ => 0)) h4_ (fun _ => 0)) h5_ (fun _ => 0), mm_up (zrw (mm_up (zrw (mm_up (zrw (mm_up (zrw (mm_up (zrw (mm_up M.2.2.2 h_ 8 (some x)) h1_ (fun _ => none)) h_ 0 (some h1_)) h2_ (fun _ => none)) h_ 1 (some h2_)) h3_ (fun _ => none)) h_ 2 (some h3_)) h4_ (fun _ => none)) h_ 3 (some h4_)) h5_ (fun _ => none)) h_ 4 (some h5_)) h6_ ∧ (0 ≤ (4096 : Int) ∧ (4096 : Int) < 2147483648 ∧ 4096 * 8 ≤ 536870912) ∧ (5 + 1 ≤ 6 ∧ 0 + (4096) + (4096) + (4096) + (4096) + (4096) + (4096) ≤ 24576) ∧ (zsh ((M.1.1, zrw (zrw (zrw (zrw (zrw (zrw M.1.2 h1_ (2, 4096)) h2_ (2, 4096)) h3_ (2, 4096)) h4_ (2, 4096)) h5_ (3, 4096)) h6_ (3, 4096)), zrw (zrw (zrw (zrw (zrw (zrw M.2.1 h1_ (fun _ => 0)) h2_ (fun _ => 0)) h3_ (fun _ => 0)) h4_ (fun _ => 0)) h5_ (fun _ => 0)) h6_ (fun _ => 0), zrw (zrw (zrw (zrw (zrw (zrw M.2.2.1 h1_ (fun _ => 0)) h2_ (fun _ => 0)) h3_ (fun _ => 0)) h4_ (fun _ => 0)) h5_ (fun _ => 0)) h6_ (fun _ => 0), zrw (mm_up (zrw (mm_up (zrw (mm_up (zrw (mm_up (zrw (mm_up (zrw (mm_up M.2.2.2 h_ 8 (some x)) h1_ (fun _ => none)) h_ 0 (some h1_)) h2_ (fun _ => none)) h_ 1 (some h2_)) h3_ (fun _ => none)) h_ 2 (some h3_)) h4_ (fun _ => none)) h_ 3 (some h4_)) h5_ (fun _ => none)) h_ 4 (some h5_)) h6_ (fun _ => none)) h_ = (1, 7) ∧ (zfx (((M.1.1, zrw (zrw (zrw (zrw (zrw (zrw M.1.2 h1_ (2, 4096)) h2_ (2, 4096)) h3_ (2, 4096)) h4_ (2, 4096)) h5_ (3, 4096)) h6_ (3, 4096)), zrw (zrw (zrw (zrw (zrw (zrw M.2.1 h1_ (fun _ => 0)) h2_ (fun _ => 0)) h3_ (fun _ => 0)) h4_ (fun _ => 0)) h5_ (fun _ => 0)) h6_ (fun _ => 0), zrw (zrw (zrw (zrw (zrw (zrw M.2.2.1 h1_ (fun _ => 0)) h2_ (fun _ => 0)) h3_ (fun _ => 0)) h4_ (fun _ => 0)) h5_ (fun _ => 0)) h6_ (fun _ => 0), zrw (mm_up (zrw (mm_up (zrw (mm_up (zrw (mm_up (zrw (mm_up (zrw (mm_up M.2.2.2 h_ 8 (some x)) h1_ (fun _ => none)) h_ 0 (some h1_)) h2_ (fun _ => none)) h_ 1 (some h2_)) h3_ (fun _ => none)) h_ 2 (some h3_)) h4_ (fun _ => none)) h_ 3 (some h4_)) h5_ (fun _ => none)) h_ 4 (some h5_)) h6_ (fun _ => none)).1.1) h_ 5 = false ∧ ((6 ≤ 6 ∧ 0 + (4096) + (4096) + (4096) + (4096) + (4096) + (4096) ≤ 24576) ∧ (Q none ((M.1.1, zrw (zrw (zrw (zrw (zrw (zrw M.1.2 h1_ (2, 4096)) h2_ (2, 4096)) h3_ (2, 4096)) h4_ (2, 4096)) h5_ (3, 4096)) h6_ (3, 4096)), zrw (zrw (zrw (zrw (zrw (zrw M.2.1 h1_ (fun _ => 0)) h2_ (fun _ => 0)) h3_ (fun _ => 0)) h4_ (fun _ => 0)) h5_ (fun _ => 0)) h6_ (fun _ => 0), zrw (zrw (zrw (zrw (zrw (zrw M.2.2.1 h1_ (fun _ => 0)) h2_ (fun _ => 0)) h3_ (fun _ => 0)) h4_ (fun _ => 0)) h5_ (fun _ => 0)) h6_ (fun _ => 0), mm_up (zrw (mm_up (zrw (mm_up (zrw (mm_up (zrw (mm_up (zrw (mm_up (zrw (mm_up M.2.2.2 h_ 8 (some x)) h1_ (fun _ => none)) h_ 0 (some h1_)) h2_ (fun _ => none)) h_ 1 (some h2_)) h3_ (fun _ => none)) h_ 2 (some h3_)) h4_ (fun _ => none)) h_ 3 (some h4_)) h5_ (fun _ => none)) h_ 4 (some h5_)) h6_ (fun _ => none)) h_ 5 (some h6_)))))))))))))))))))))))) : zz_J zpX8_init (zz_retP Q X 6 24576) 0 [some (vr h_), some (vr x)] [] M (0, 0) := zz_J.go [] 400 h

theorem zmX8_init (l : Launch) (hl : l.stackTraces = false) : mm_Spec l yX8_init (ws_ yX8_init cX8_init 2 none) (mm_rm 1 6 24576) (zE zX8_init) := by
  refine zz_Met.JN hl (by decide) rfl (fun C G hnh hin => ztX8_init G hnh hin) ?_
  rintro as M Q X h
  unfold zX8_init at h
  split at h
  rotate_left
  · exact h.elim
  rename_i h_ x
  refine ⟨rfl, ?_⟩
  refine zz_retP_J ?_
  obtain ⟨⟨h1, h2⟩, hfr, hq⟩ := h
  exact zwX8_init_0 ⟨h1, h2 8, h_ + 1, zfree_eq (hfr 1 (by decide) (by decide)) rfl rfl, by decide, by decide, zsh_to h1 (by (try dsimp only); rw [zrw_n _ _ (by omega)]), h2 0, h_ + 2, zfree_eq (hfr 2 (by decide) (by decide)) rfl (by (try dsimp only); rw [zrw_n _ _ (by omega)]), by decide, by decide, zsh_to h1 (by (try dsimp only); rw [zrw_n _ _ (by omega), zrw_n _ _ (by omega)]), h2 1, h_ + 3, zfree_eq (hfr 3 (by decide) (by decide)) rfl (by (try dsimp only); rw [zrw_n _ _ (by omega), zrw_n _ _ (by omega)]), by decide, by decide, zsh_to h1 (by (try dsimp only); rw [zrw_n _ _ (by omega), zrw_n _ _ (by omega), zrw_n _ _ (by omega)]), h2 2, h_ + 4, zfree_eq (hfr 4 (by decide) (by decide)) rfl (by (try dsimp only); rw [zrw_n _ _ (by omega), zrw_n _ _ (by omega), zrw_n _ _ (by omega)]), by decide, by decide, zsh_to h1 (by (try dsimp only); rw [zrw_n _ _ (by omega), zrw_n _ _ (by omega), zrw_n _ _ (by omega), zrw_n _ _ (by omega)]), h2 3, h_ + 5, zfree_eq (hfr 5 (by decide) (by decide)) rfl (by (try dsimp only); rw [zrw_n _ _ (by omega), zrw_n _ _ (by omega), zrw_n _ _ (by omega), zrw_n _ _ (by omega)]), by decide, by decide, zsh_to h1 (by (try dsimp only); rw [zrw_n _ _ (by omega), zrw_n _ _ (by omega), zrw_n _ _ (by omega), zrw_n _ _ (by omega), zrw_n _ _ (by omega)]), h2 4, h_ + 6, zfree_eq (hfr 6 (by decide) (by decide)) rfl (by (try dsimp only); rw [zrw_n _ _ (by omega), zrw_n _ _ (by omega), zrw_n _ _ (by omega), zrw_n _ _ (by omega), zrw_n _ _ (by omega)]), by decide, by decide, zsh_to h1 (by (try dsimp only); rw [zrw_n _ _ (by omega), zrw_n _ _ (by omega), zrw_n _ _ (by omega), zrw_n _ _ (by omega), zrw_n _ _ (by omega), zrw_n _ _ (by omega)]), h2 5, by decide, hq⟩
def zX3_init_x : zz_Sp := fun as M Q X => match as with
  | [.inr (.inr (some h_)), .inr (.inr (some x))] => (zsh M h_ = (1, 2) ∧ ∀ k, zfx M.1.1 h_ k = false) ∧ (∀ i, 1 ≤ i → i ≤ 3 → zfree M (h_ + i)) ∧ Q none ((M.1.1, zrw (zrw (zrw (M.1.2) (h_ + 1) (2, 2)) (h_ + 2) (2, 2)) (h_ + 3) (2, 2)), zrw (zrw (zrw (M.2.1) (h_ + 1) (fun _ => 0)) (h_ + 2) (fun _ => 0)) (h_ + 3) (fun _ => 0), zrw (zrw (zrw (M.2.2.1) (h_ + 1) (fun _ => 0)) (h_ + 2) (fun _ => 0)) (h_ + 3) (fun _ => 0), mm_up (zrw (mm_up (zrw (mm_up (zrw (mm_up M.2.2.2 h_ 6 (some x)) (h_ + 1) (fun _ => none)) h_ 0 (some (h_ + 1))) (h_ + 2) (fun _ => none)) h_ 1 (some (h_ + 2))) (h_ + 3) (fun _ => none)) h_ 2 (some (h_ + 3)))
  | _ => False

def zpX3_init_x : zz_P := [(0, zo_ald 1 0), (1, zo_ald 2 1), (2, zo_putrp 5 2 6), (5, zo_ald 6 0), (6, zo_oi 9), (9, zo_ald 10 0), (10, zo_c 11 (vi 2)), (11, zo_newa (mm_rm 2 3 6) 13 2 4), (13, zo_putrp 16 2 0), (16, zo_ald 17 0), (17, zo_c 18 (vi 2)), (18, zo_newa (mm_rm 2 3 6) 20 2 4), (20, zo_putrp 23 2 1), (23, zo_ald 24 0), (24, zo_c 25 (vi 2)), (25, zo_newa (mm_rm 2 3 6) 27 2 4), (27, zo_putrp 30 2 2), (30, zo_vret)]
theorem ztX3_init_x {C : mm_C} (G : mm_G C RX3 cX3_init none 2 (mm_rm 2 3 6)) (hnh : mm_nh C) (hin : (c_t C).name = "<init>") : zz_OKs C zpX3_init_x :=
  ⟨zz_of (ok_aload_n G dX3_init_0 rfl rfl) (z_ald _ _),
   zz_of (ok_aload_n G dX3_init_1 rfl rfl) (z_ald _ _),
   zz_of (ok_putr G (nx := 5) (idx := 3) (ci := 2) (k := 6) (RX3, TX3, 7) rfl (by decide) rfl (mm_pwF G (ci := 2) (k := 6) (RX3, TX3, 7) rfl (by decide) rfl hin rfl q198 dX3_init_2) rfl) (z_putrp _ _ _),
   zz_of (ok_aload_n G dX3_init_5 rfl rfl) (z_ald _ _),
   zz_of (ok_oi G q175 q133 q134 ⟨Nat.le_of_ble_eq_true rfl, Nat.le_of_ble_eq_true rfl⟩ dX3_init_6 rfl) (z_oi _),
   zz_of (ok_aload_n G dX3_init_9 rfl rfl) (z_ald _ _),
   zz_of (ok_iconst G (v := 2) dX3_init_10 (by decide) rfl) (z_cn 11 2),
   zz_of (ok_newa G (t := 2) (ty := .int) rfl rfl q169 rfl (by decide) (by decide) (fun h => h) (fun M h n j ad => by rw [mm_al_ea]; rfl) dX3_init_11 rfl) (z_newa _ _ _ _),
   zz_of (ok_putr G (nx := 16) (idx := 15) (ci := 2) (k := 0) (RX3, TX3, 7) rfl (by decide) rfl (mm_pwF G (ci := 2) (k := 0) (RX3, TX3, 7) rfl (by decide) rfl hin rfl q176 dX3_init_13) rfl) (z_putrp _ _ _),
   zz_of (ok_aload_n G dX3_init_16 rfl rfl) (z_ald _ _),
   zz_of (ok_iconst G (v := 2) dX3_init_17 (by decide) rfl) (z_cn 18 2),
   zz_of (ok_newa G (t := 2) (ty := .int) rfl rfl q169 rfl (by decide) (by decide) (fun h => h) (fun M h n j ad => by rw [mm_al_ea]; rfl) dX3_init_18 rfl) (z_newa _ _ _ _),
   zz_of (ok_putr G (nx := 23) (idx := 19) (ci := 2) (k := 1) (RX3, TX3, 7) rfl (by decide) rfl (mm_pwF G (ci := 2) (k := 1) (RX3, TX3, 7) rfl (by decide) rfl hin rfl q180 dX3_init_20) rfl) (z_putrp _ _ _),
   zz_of (ok_aload_n G dX3_init_23 rfl rfl) (z_ald _ _),
   zz_of (ok_iconst G (v := 2) dX3_init_24 (by decide) rfl) (z_cn 25 2),
   zz_of (ok_newa G (t := 2) (ty := .int) rfl rfl q169 rfl (by decide) (by decide) (fun h => h) (fun M h n j ad => by rw [mm_al_ea]; rfl) dX3_init_25 rfl) (z_newa _ _ _ _),
   zz_of (ok_putr G (nx := 30) (idx := 22) (ci := 2) (k := 2) (RX3, TX3, 7) rfl (by decide) rfl (mm_pwF G (ci := 2) (k := 2) (RX3, TX3, 7) rfl (by decide) rfl hin rfl q184 dX3_init_27) rfl) (z_putrp _ _ _),
   zz_of (ok_vret G dX3_init_30) (z_vret), trivial⟩

theorem zwX3_init_x_0 {Q : Option zv → zz_M → Prop} {X : Nat → zz_M → Prop} {M : zz_M} {x : Nat} {h_ : Nat} (h : zsh M h_ = (1, 2) ∧ (zfx M.1.1 h_ 6 = false ∧ (∃ h1_ : Nat, zfree ((M.1.1, M.1.2), M.2.1, M.2.2.1, mm_up M.2.2.2 h_ 6 (some x)) h1_ ∧ (0 ≤ (2 : Int) ∧ (2 : Int) < 2147483648 ∧ 2 * 4 ≤ 536870912) ∧ (0 + 1 ≤ 3 ∧ 0 + (2) ≤ 6) ∧ (zsh ((M.1.1, zrw M.1.2 h1_ (2, 2)), zrw M.2.1 h1_ (fun _ => 0), zrw M.2.2.1 h1_ (fun _ => 0), zrw (mm_up M.2.2.2 h_ 6 (some x)) h1_ (fun _ => none)) h_ = (1, 2) ∧ (zfx (((M.1.1, zrw M.1.2 h1_ (2, 2)), zrw M.2.1 h1_ (fun _ => 0), zrw M.2.2.1 h1_ (fun _ => 0), zrw (mm_up M.2.2.2 h_ 6 (some x)) h1_ (fun _ => none)).1.1) h_ 0 = false ∧ (∃ h2_ : Nat, zfree ((M.1.1, zrw M.1.2 h1_ (2, 2)), zrw M.2.1 h1_ (fun _ => 0), zrw M.2.2.1 h1_ (fun _ => 0), mm_up (zrw (mm_up M.2.2.2 h_ 6 (some x)) h1_ (fun _ => none)) h_ 0 (some h1_)) h2_ ∧ (0 ≤ (2 : Int) ∧ (2 : Int) < 2147483648 ∧ 2 * 4 ≤ 536870912) ∧ (1 + 1 ≤ 3 ∧ 0 + (2) + (2) ≤ 6) ∧ (zsh ((M.1.1, zrw (zrw M.1.2 h1_ (2, 2)) h2_ (2, 2)), zrw (zrw M.2.1 h1_ (fun _ => 0)) h2_ (fun _ => 0), zrw (zrw M.2.2.1 h1_ (fun _ => 0)) h2_ (fun _ => 0), zrw (mm_up (zrw (mm_up M.2.2.2 h_ 6 (some x)) h1_ (fun _ => none)) h_ 0 (some h1_)) h2_ (fun _ => none)) h_ = (1, 2) ∧ (zfx (((M.1.1, zrw (zrw M.1.2 h1_ (2, 2)) h2_ (2, 2)), zrw (zrw M.2.1 h1_ (fun _ => 0)) h2_ (fun _ => 0), zrw (zrw M.2.2.1 h1_ (fun _ => 0)) h2_ (fun _ => 0), zrw (mm_up (zrw (mm_up M.2.2.2 h_ 6 (some x)) h1_ (fun _ => none)) h_ 0 (some h1_)) h2_ (fun _ => none)).1.1) h_ 1 = false ∧ (∃ h3_ : Nat, zfree ((M.1.1, zrw (zrw M.1.2 h1_ (2, 2)) h2_ (2, 2)), zrw (zrw M.2.1 h1_ (fun _ => 0)) h2_ (fun _ => 0), zrw (zrw M.2.2.1 h1_ (fun _ => 0)) h2_ (fun _ => 0), mm_up (zrw (mm_up (zrw (mm_up M.2.2.2 h_ 6 (some x)) h1_ (fun _ => none)) h_ 0 (some h1_)) h2_ (fun _ => none)) h_ 1 (some h2_)) h3_ ∧ (0 ≤ (2 : Int) ∧ (2 : Int) < 2147483648 ∧ 2 * 4 ≤ 536870912) ∧ (2 + 1 ≤ 3 ∧ 0 + (2) + (2) + (2) ≤ 6) ∧ (zsh ((M.1.1, zrw (zrw (zrw M.1.2 h1_ (2, 2)) h2_ (2, 2)) h3_ (2, 2)), zrw (zrw (zrw M.2.1 h1_ (fun _ => 0)) h2_ (fun _ => 0)) h3_ (fun _ => 0), zrw (zrw (zrw M.2.2.1 h1_ (fun _ => 0)) h2_ (fun _ => 0)) h3_ (fun _ => 0), zrw (mm_up (zrw (mm_up (zrw (mm_up M.2.2.2 h_ 6 (some x)) h1_ (fun _ => none)) h_ 0 (some h1_)) h2_ (fun _ => none)) h_ 1 (some h2_)) h3_ (fun _ => none)) h_ = (1, 2) ∧ (zfx (((M.1.1, zrw (zrw (zrw M.1.2 h1_ (2, 2)) h2_ (2, 2)) h3_ (2, 2)), zrw (zrw (zrw M.2.1 h1_ (fun _ => 0)) h2_ (fun _ => 0)) h3_ (fun _ => 0), zrw (zrw (zrw M.2.2.1 h1_ (fun _ => 0)) h2_ (fun _ => 0)) h3_ (fun _ => 0), zrw (mm_up (zrw (mm_up (zrw (mm_up M.2.2.2 h_ 6 (some x)) h1_ (fun _ => none)) h_ 0 (some h1_)) h2_ (fun _ => none)) h_ 1 (some h2_)) h3_ (fun _ => none)).1.1) h_ 2 = false ∧ ((3 ≤ 3 ∧ 0 + (2) + (2) + (2) ≤ 6) ∧ (Q none ((M.1.1, zrw (zrw (zrw M.1.2 h1_ (2, 2)) h2_ (2, 2)) h3_ (2, 2)), zrw (zrw (zrw M.2.1 h1_ (fun _ => 0)) h2_ (fun _ => 0)) h3_ (fun _ => 0), zrw (zrw (zrw M.2.2.1 h1_ (fun _ => 0)) h2_ (fun _ => 0)) h3_ (fun _ => 0), mm_up (zrw (mm_up (zrw (mm_up (zrw (mm_up M.2.2.2 h_ 6 (some x)) h1_ (fun _ => none)) h_ 0 (some h1_)) h2_ (fun _ => none)) h_ 1 (some h2_)) h3_ (fun _ => none)) h_ 2 (some h3_))))))))))))))) : zz_J zpX3_init_x (zz_retP Q X 3 6) 0 [some (vr h_), some (vr x)] [] M (0, 0) := zz_J.go [] 400 h

theorem zmX3_init_x (l : Launch) (hl : l.stackTraces = false) : mm_Spec l yX3_init (ws_ yX3_init cX3_init 2 none) (mm_rm 2 3 6) (zE zX3_init_x) := by
  refine zz_Met.JN hl (by decide) rfl (fun C G hnh hin => ztX3_init_x G hnh hin) ?_
  rintro as M Q X h
  unfold zX3_init_x at h
  split at h
  rotate_left
  · exact h.elim
  rename_i h_ x
  refine ⟨rfl, ?_⟩
  refine zz_retP_J ?_
  obtain ⟨⟨h1, h2⟩, hfr, hq⟩ := h
  exact zwX3_init_x_0 ⟨h1, h2 6, h_ + 1, zfree_eq (hfr 1 (by decide) (by decide)) rfl rfl, by decide, by decide, zsh_to h1 (by (try dsimp only); rw [zrw_n _ _ (by omega)]), h2 0, h_ + 2, zfree_eq (hfr 2 (by decide) (by decide)) rfl (by (try dsimp only); rw [zrw_n _ _ (by omega)]), by decide, by decide, zsh_to h1 (by (try dsimp only); rw [zrw_n _ _ (by omega), zrw_n _ _ (by omega)]), h2 1, h_ + 3, zfree_eq (hfr 3 (by decide) (by decide)) rfl (by (try dsimp only); rw [zrw_n _ _ (by omega), zrw_n _ _ (by omega)]), by decide, by decide, zsh_to h1 (by (try dsimp only); rw [zrw_n _ _ (by omega), zrw_n _ _ (by omega), zrw_n _ _ (by omega)]), h2 2, by decide, hq⟩
