/-! ===== the component's worlds: made ===== -/
set_option maxRecDepth 100000
def zX3_init : zz_Sp := fun as M Q X => match as with
  | [.inr (.inr (some h_)), .inr (.inr (some x))] => (zsh M h_ = (1, 2) ∧ ∀ k, zfx M.1.1 h_ k = false) ∧ (zfree M (h_ + 1) ∧ zfree M (h_ + 2) ∧ zfree M (h_ + 3)) ∧ (∀ (S_ L_ : Nat → Nat → Int) (P_ : Nat → Nat → Option Nat) (f_ : Nat → Nat × Nat), (∀ j, (j < h_ ∨ h_ + 3 < j) → f_ j = M.1.2 j ∧ S_ j = M.2.1 j ∧ L_ j = M.2.2.1 j ∧ P_ j = M.2.2.2 j) → f_ h_ = M.1.2 h_ → (∀ i, 1 ≤ i → i ≤ 3 → f_ (h_ + i) = (2, 2) ∧ ∀ k, S_ (h_ + i) k = 0) → (∀ k, S_ h_ k = M.2.1 h_ k) → (P_ h_ 0 = some (h_ + 1) ∧ P_ h_ 1 = some (h_ + 2) ∧ P_ h_ 2 = some (h_ + 3) ∧ P_ h_ 6 = some x) → Q none ((M.1.1, f_), S_, L_, P_))
  | _ => False

def zpX3_init : zz_P := [(0, zo_ald 1 0), (1, zo_ald 2 1), (2, zo_putrp 5 2 6), (5, zo_ald 6 0), (6, zo_oi 9), (9, zo_ald 10 0), (10, zo_c 11 (vi 2)), (11, zo_newa (mm_rm 2 3 6) 13 2 4), (13, zo_putrp 16 2 0), (16, zo_ald 17 0), (17, zo_c 18 (vi 2)), (18, zo_newa (mm_rm 2 3 6) 20 2 4), (20, zo_putrp 23 2 1), (23, zo_ald 24 0), (24, zo_c 25 (vi 2)), (25, zo_newa (mm_rm 2 3 6) 27 2 4), (27, zo_putrp 30 2 2), (30, zo_vret)]
theorem ztX3_init {C : mm_C} (G : mm_G C RX3 cX3_init none 2 (mm_rm 2 3 6)) (hnh : mm_nh C) (hin : (c_t C).name = "<init>") : zz_OKs C zpX3_init :=
  ⟨zz_of (ok_aload_n G dX3_init_0 rfl rfl) (z_ald _ _),
   zz_of (ok_aload_n G dX3_init_1 rfl rfl) (z_ald _ _),
   zz_of (ok_putr G (nx := 5) (idx := 3) (ci := 2) (k := 6) (RX3, TX3, 7) rfl (by decide) rfl (mm_pwF G (ci := 2) (k := 6) (RX3, TX3, 7) rfl (by decide) rfl hin rfl q198 dX3_init_2) rfl) (z_putrp _ _ _),
   zz_of (ok_aload_n G dX3_init_5 rfl rfl) (z_ald _ _),
   zz_of (ok_oi G q175 q133 q134 ⟨Nat.le_of_ble_eq_true rfl, Nat.le_of_ble_eq_true rfl⟩ dX3_init_6 rfl) (z_oi _),
   zz_of (ok_aload_n G dX3_init_9 rfl rfl) (z_ald _ _),
   zz_of (ok_iconst G (v := 2) dX3_init_10 (by decide) rfl) (z_cn 11 2),
   zz_of (ok_newa G (t := 2) (ty := .int) rfl rfl q169 rfl (by decide) (by decide) (fun h => h) (fun M h n j ad => by rw [mm_al_ea]; rfl) dX3_init_11 rfl) (z_newa _ _ _ _),
   zz_of (ok_putr G (nx := 16) (idx := 15) (ci := 2) (k := 0) (RX3, TX3, 7) rfl (by decide) rfl (mm_pwF G (ci := 2) (k := 0) (RX3, TX3, 7) rfl (by decide) rfl hin rfl q176 dX3_init_13) rfl) (z_putrp _ _ _),
   zz_of (ok_aload_n G dX3_init_16 rfl rfl) (z_ald _ _),
   zz_of (ok_iconst G (v := 2) dX3_init_17 (by decide) rfl) (z_cn 18 2),
   zz_of (ok_newa G (t := 2) (ty := .int) rfl rfl q169 rfl (by decide) (by decide) (fun h => h) (fun M h n j ad => by rw [mm_al_ea]; rfl) dX3_init_18 rfl) (z_newa _ _ _ _),
   zz_of (ok_putr G (nx := 23) (idx := 19) (ci := 2) (k := 1) (RX3, TX3, 7) rfl (by decide) rfl (mm_pwF G (ci := 2) (k := 1) (RX3, TX3, 7) rfl (by decide) rfl hin rfl q180 dX3_init_20) rfl) (z_putrp _ _ _),
   zz_of (ok_aload_n G dX3_init_23 rfl rfl) (z_ald _ _),
   zz_of (ok_iconst G (v := 2) dX3_init_24 (by decide) rfl) (z_cn 25 2),
   zz_of (ok_newa G (t := 2) (ty := .int) rfl rfl q169 rfl (by decide) (by decide) (fun h => h) (fun M h n j ad => by rw [mm_al_ea]; rfl) dX3_init_25 rfl) (z_newa _ _ _ _),
   zz_of (ok_putr G (nx := 30) (idx := 22) (ci := 2) (k := 2) (RX3, TX3, 7) rfl (by decide) rfl (mm_pwF G (ci := 2) (k := 2) (RX3, TX3, 7) rfl (by decide) rfl hin rfl q184 dX3_init_27) rfl) (z_putrp _ _ _),
   zz_of (ok_vret G dX3_init_30) (z_vret), trivial⟩

theorem zwX3_init_0 {Q : Option zv → zz_M → Prop} {X : Nat → zz_M → Prop} {M : zz_M} {x : Nat} {h_ : Nat} (h : zsh M h_ = (1, 2) ∧ (zfx M.1.1 h_ 6 = false ∧ (∃ h1_ : Nat, zfree ((M.1.1, M.1.2), M.2.1, M.2.2.1, mm_up M.2.2.2 h_ 6 (some x)) h1_ ∧ (0 ≤ (2 : Int) ∧ (2 : Int) < 2147483648 ∧ (2 : Int).toNat * 4 ≤ 536870912) ∧ (0 + 1 ≤ 3 ∧ 0 + ((2 : Int).toNat) ≤ 6) ∧ (zsh ((M.1.1, zrw M.1.2 h1_ (2, (2 : Int).toNat)), zrw M.2.1 h1_ (fun _ => 0), zrw M.2.2.1 h1_ (fun _ => 0), zrw (mm_up M.2.2.2 h_ 6 (some x)) h1_ (fun _ => none)) h_ = (1, 2) ∧ (zfx (((M.1.1, zrw M.1.2 h1_ (2, (2 : Int).toNat)), zrw M.2.1 h1_ (fun _ => 0), zrw M.2.2.1 h1_ (fun _ => 0), zrw (mm_up M.2.2.2 h_ 6 (some x)) h1_ (fun _ => none)).1.1) h_ 0 = false ∧ (∃ h2_ : Nat, zfree ((M.1.1, zrw M.1.2 h1_ (2, (2 : Int).toNat)), zrw M.2.1 h1_ (fun _ => 0), zrw M.2.2.1 h1_ (fun _ => 0), mm_up (zrw (mm_up M.2.2.2 h_ 6 (some x)) h1_ (fun _ => none)) h_ 0 (some h1_)) h2_ ∧ (0 ≤ (2 : Int) ∧ (2 : Int) < 2147483648 ∧ (2 : Int).toNat * 4 ≤ 536870912) ∧ (1 + 1 ≤ 3 ∧ 0 + ((2 : Int).toNat) + ((2 : Int).toNat) ≤ 6) ∧ (zsh ((M.1.1, zrw (zrw M.1.2 h1_ (2, (2 : Int).toNat)) h2_ (2, (2 : Int).toNat)), zrw (zrw M.2.1 h1_ (fun _ => 0)) h2_ (fun _ => 0), zrw (zrw M.2.2.1 h1_ (fun _ => 0)) h2_ (fun _ => 0), zrw (mm_up (zrw (mm_up M.2.2.2 h_ 6 (some x)) h1_ (fun _ => none)) h_ 0 (some h1_)) h2_ (fun _ => none)) h_ = (1, 2) ∧ (zfx (((M.1.1, zrw (zrw M.1.2 h1_ (2, (2 : Int).toNat)) h2_ (2, (2 : Int).toNat)), zrw (zrw M.2.1 h1_ (fun _ => 0)) h2_ (fun _ => 0), zrw (zrw M.2.2.1 h1_ (fun _ => 0)) h2_ (fun _ => 0), zrw (mm_up (zrw (mm_up M.2.2.2 h_ 6 (some x)) h1_ (fun _ => none)) h_ 0 (some h1_)) h2_ (fun _ => none)).1.1) h_ 1 = false ∧ (∃ h3_ : Nat, zfree ((M.1.1, zrw (zrw M.1.2 h1_ (2, (2 : Int).toNat)) h2_ (2, (2 : Int).toNat)), zrw (zrw M.2.1 h1_ (fun _ => 0)) h2_ (fun _ => 0), zrw (zrw M.2.2.1 h1_ (fun _ => 0)) h2_ (fun _ => 0), mm_up (zrw (mm_up (zrw (mm_up M.2.2.2 h_ 6 (some x)) h1_ (fun _ => none)) h_ 0 (some h1_)) h2_ (fun _ => none)) h_ 1 (some h2_)) h3_ ∧ (0 ≤ (2 : Int) ∧ (2 : Int) < 2147483648 ∧ (2 : Int).toNat * 4 ≤ 536870912) ∧ (2 + 1 ≤ 3 ∧ 0 + ((2 : Int).toNat) + ((2 : Int).toNat) + ((2 : Int).toNat) ≤ 6) ∧ (zsh ((M.1.1, zrw (zrw (zrw M.1.2 h1_ (2, (2 : Int).toNat)) h2_ (2, (2 : Int).toNat)) h3_ (2, (2 : Int).toNat)), zrw (zrw (zrw M.2.1 h1_ (fun _ => 0)) h2_ (fun _ => 0)) h3_ (fun _ => 0), zrw (zrw (zrw M.2.2.1 h1_ (fun _ => 0)) h2_ (fun _ => 0)) h3_ (fun _ => 0), zrw (mm_up (zrw (mm_up (zrw (mm_up M.2.2.2 h_ 6 (some x)) h1_ (fun _ => none)) h_ 0 (some h1_)) h2_ (fun _ => none)) h_ 1 (some h2_)) h3_ (fun _ => none)) h_ = (1, 2) ∧ (zfx (((M.1.1, zrw (zrw (zrw M.1.2 h1_ (2, (2 : Int).toNat)) h2_ (2, (2 : Int).toNat)) h3_ (2, (2 : Int).toNat)), zrw (zrw (zrw M.2.1 h1_ (fun _ => 0)) h2_ (fun _ => 0)) h3_ (fun _ => 0), zrw (zrw (zrw M.2.2.1 h1_ (fun _ => 0)) h2_ (fun _ => 0)) h3_ (fun _ => 0), zrw (mm_up (zrw (mm_up (zrw (mm_up M.2.2.2 h_ 6 (some x)) h1_ (fun _ => none)) h_ 0 (some h1_)) h2_ (fun _ => none)) h_ 1 (some h2_)) h3_ (fun _ => none)).1.1) h_ 2 = false ∧ ((3 ≤ 3 ∧ 0 + ((2 : Int).toNat) + ((2 : Int).toNat) + ((2 : Int).toNat) ≤ 6) ∧ (Q none ((M.1.1, zrw (zrw (zrw M.1.2 h1_ (2, (2 : Int).toNat)) h2_ (2, (2 : Int).toNat)) h3_ (2, (2 : Int).toNat)), zrw (zrw (zrw M.2.1 h1_ (fun _ => 0)) h2_ (fun _ => 0)) h3_ (fun _ => 0), zrw (zrw (zrw M.2.2.1 h1_ (fun _ => 0)) h2_ (fun _ => 0)) h3_ (fun _ => 0), mm_up (zrw (mm_up (zrw (mm_up (zrw (mm_up M.2.2.2 h_ 6 (some x)) h1_ (fun _ => none)) h_ 0 (some h1_)) h2_ (fun _ => none)) h_ 1 (some h2_)) h3_ (fun _ => none)) h_ 2 (some h3_))))))))))))))) : zz_J zpX3_init (zz_retP Q X 3 6) 0 [some (vr h_), some (vr x)] [] M (0, 0) := zz_J.go [] 400 h

theorem zsh_eq {M M' : zz_M} {x : Nat} (e1 : M'.1.1 = M.1.1) (e2 : M'.1.2 x = M.1.2 x) : zsh M' x = zsh M x := by
  unfold zsh
  rw [e1, e2]
theorem zsh_to {M : zz_M} {f : Nat → Nat × Nat} {S L : Nat → Nat → Int} {P : Nat → Nat → Option Nat} {x : Nat} {r : Nat × Nat} (h : zsh M x = r) (e : f x = M.1.2 x) : zsh ((M.1.1, f), S, L, P) x = r := by
  rw [← h]
  show (bif zfs M.1.1 x then zfS M.1.1 x else f x) = _
  rw [e]
  rfl
theorem zfree_eq {M M' : zz_M} {x : Nat} (h : zfree M x) (e1 : M'.1.1 = M.1.1) (e2 : M'.1.2 x = M.1.2 x) : zfree M' x := ⟨by rw [e1]; exact h.1, by rw [e2]; exact h.2⟩
theorem zmX3_init (l : Launch) (hl : l.stackTraces = false) : mm_Spec l yX3_init (ws_ yX3_init cX3_init 2 none) (mm_rm 2 3 6) (zE zX3_init) := by
  refine zz_Met.JN hl (by decide) rfl (fun C G hnh hin => ztX3_init G hnh hin) ?_
  rintro as M Q X h
  unfold zX3_init at h
  split at h
  rotate_left
  · exact h.elim
  rename_i h_ x
  refine ⟨rfl, ?_⟩
  refine zz_retP_J ?_
  obtain ⟨⟨h1, h2⟩, ⟨f1, f2, f3⟩, hq⟩ := h
  refine zwX3_init_0 ⟨h1, h2 6, h_ + 1, f1, by decide, by decide, ?_, h2 0, h_ + 2, zfree_eq f2 rfl ?_, by decide, by decide, ?_, h2 1, h_ + 3, zfree_eq f3 rfl ?_, by decide, by decide, ?_, h2 2, by decide, hq _ _ _ _ (fun j hj => ⟨?_, ?_, ?_, ?_⟩) ?_ (fun i a b => ?_) (fun k => ?_) ?_⟩
  · refine zsh_to h1 ?_
    rw [zrw_n _ _ (by omega)]
  · show zrw _ _ _ _ = _
    rw [zrw_n _ _ (by omega)]
  · refine zsh_to h1 ?_
    rw [zrw_n _ _ (by omega), zrw_n _ _ (by omega)]
  · show zrw _ _ _ _ = _
    rw [zrw_n _ _ (by omega), zrw_n _ _ (by omega)]
  · refine zsh_to h1 ?_
    rw [zrw_n _ _ (by omega), zrw_n _ _ (by omega), zrw_n _ _ (by omega)]
  · rw [zrw_n _ _ (by omega), zrw_n _ _ (by omega), zrw_n _ _ (by omega)]
  · rw [zrw_n _ _ (by omega), zrw_n _ _ (by omega), zrw_n _ _ (by omega)]
  · rw [zrw_n _ _ (by omega), zrw_n _ _ (by omega), zrw_n _ _ (by omega)]
  · funext k
    rw [up_eq, if_neg (by omega), zrw_n _ _ (by omega), up_eq, if_neg (by omega), zrw_n _ _ (by omega), up_eq, if_neg (by omega), zrw_n _ _ (by omega), up_eq, if_neg (by omega)]
  · rw [zrw_n _ _ (by omega), zrw_n _ _ (by omega), zrw_n _ _ (by omega)]
  · have : i = 1 ∨ i = 2 ∨ i = 3 := by omega
    rcases this with e | e | e <;> subst e
    · rw [zrw_n _ _ (by omega), zrw_n _ _ (by omega), zrw_s]
      refine ⟨rfl, fun k => ?_⟩
      rw [zrw_n _ _ (by omega), zrw_n _ _ (by omega), zrw_s]
    · rw [zrw_n _ _ (by omega), zrw_s]
      refine ⟨rfl, fun k => ?_⟩
      rw [zrw_n _ _ (by omega), zrw_s]
    · rw [zrw_s]
      refine ⟨rfl, fun k => ?_⟩
      rw [zrw_s]
  · rw [zrw_n _ _ (by omega), zrw_n _ _ (by omega), zrw_n _ _ (by omega)]
  · refine ⟨?_, ?_, ?_, ?_⟩
    · rw [up_eq, if_neg (by omega), zrw_n _ _ (by omega), up_eq, if_neg (by omega), zrw_n _ _ (by omega), up_eq, if_pos ⟨rfl, rfl⟩]
    · rw [up_eq, if_neg (by omega), zrw_n _ _ (by omega), up_eq, if_pos ⟨rfl, rfl⟩]
    · rw [up_eq, if_pos ⟨rfl, rfl⟩]
    · rw [up_eq, if_neg (by omega), zrw_n _ _ (by omega), up_eq, if_neg (by omega), zrw_n _ _ (by omega), up_eq, if_neg (by omega), zrw_n _ _ (by omega), up_eq, if_pos ⟨rfl, rfl⟩]
/-- a world's handles and its references -/
def wSh (f : Nat → Nat × Nat) (P : Nat → Nat → Option Nat) (h x : Nat) : Prop :=
  ((f (h + 1) = (6, 16) ∧ (∀ i, i < 16 → f (h + 10 + i) = (2, 12)) ∧ f (h + 2) = (1, 17) ∧ f (h + 3) = (2, 2) ∧ f (h + 4) = (1, 2)) ∧ ∀ i, 5 ≤ i → i ≤ 7 → f (h + i) = (2, 2)) ∧ (P h 6 = some (h + 1) ∧ P h 7 = some (h + 2) ∧ P h 8 = some (h + 3) ∧ P h 9 = some (h + 4) ∧ P h 10 = some x) ∧ (∀ i, i < 16 → P (h + 1) i = some (h + 10 + i)) ∧ (P (h + 4) 0 = some (h + 5) ∧ P (h + 4) 1 = some (h + 6) ∧ P (h + 4) 2 = some (h + 7) ∧ P (h + 4) 6 = some x)
/-- what a new world says -/
def wN0 (S : Nat → Nat → Int) (P : Nat → Nat → Option Nat) (h : Nat) : Prop :=
  (∀ i k, i < 16 → S (h + 10 + i) k = if k < 2 then 50 else 0) ∧ (S (h + 2) 2 = 0 ∧ P (h + 2) 1 = some 1300) ∧ (S (h + 3) 0 = -1 ∧ S (h + 3) 1 = -1) ∧ ∀ i k, 4 ≤ i → i ≤ 7 → S (h + i) k = 0
def zX2_init : zz_Sp := fun as M Q X => match as with
  | [.inr (.inr (some h_)), .inr (.inr (some x))] => (zsh M h_ = (1, 1) ∧ ∀ k, zfx M.1.1 h_ k = false) ∧ (∀ i, 1 ≤ i → i < 26 → i ≠ 8 → i ≠ 9 → zfree M (h_ + i)) ∧ (∀ (S_ L_ : Nat → Nat → Int) (P_ : Nat → Nat → Option Nat) (f_ : Nat → Nat × Nat), (∀ j, (j < h_ ∨ h_ + 25 < j ∨ j = h_ + 8 ∨ j = h_ + 9) → f_ j = M.1.2 j ∧ S_ j = M.2.1 j ∧ L_ j = M.2.2.1 j ∧ P_ j = M.2.2.2 j) → f_ h_ = M.1.2 h_ → (∀ k, S_ h_ k = if k = 1 then 1 else M.2.1 h_ k) → wSh f_ P_ h_ x → wN0 S_ P_ h_ → Q none ((M.1.1, f_), S_, L_, P_))
  | _ => False

def zpX2_init : zz_P := [(0, zo_ald 1 0), (1, zo_ald 2 1), (2, zo_putrp 5 1 10), (5, zo_ald 6 0), (6, zo_oi 9), (9, zo_ald 10 0), (10, zo_c 11 (vi 1)), (11, zo_putip 14 1 1), (14, zo_ald 15 0), (15, zo_c 17 (vi 16)), (17, zo_c 19 (vi 12)), (19, zo_man (mm_rm 4 23 226) 23 9 16 12), (23, zo_putrp 26 1 6), (26, zo_ald 27 0), (27, zo_new (mm_rm 4 23 226) 30 17 3), (30, zo_dup 31), (31, zo_ciF (mm_rm 4 23 226) 34 1 0 0 zJ2_init), (34, zo_putrp 37 1 7), (37, zo_ald 38 0), (38, zo_c 39 (vi 2)), (39, zo_newa (mm_rm 4 23 226) 41 2 4), (41, zo_dup 42), (42, zo_c 43 (vi 0)), (43, zo_c 44 (vi (-1))), (44, zo_iasp 45), (45, zo_dup 46), (46, zo_c 47 (vi 1)), (47, zo_c 48 (vi (-1))), (48, zo_iasp 49), (49, zo_putrp 52 1 8), (52, zo_ald 53 0), (53, zo_new (mm_rm 4 23 226) 56 2 7), (56, zo_dup 57), (57, zo_ald 58 0), (58, zo_getr 61 1 10), (61, zo_ciF (mm_rm 4 23 226) 64 2 3 6 zX3_init), (64, zo_putrp 67 1 9), (67, zo_c 68 (vi 0)), (68, zo_ist 69 2), (69, zo_ild 70 2), (70, zo_c 72 (vi 16)), (72, zo_cge false true 75 101), (75, zo_ald 76 0), (76, zo_getr 79 1 6), (79, zo_ild 80 2), (80, zo_aald 81), (81, zo_c 82 (vi 0)), (82, zo_c 84 (vi 50)), (84, zo_iasp 85), (85, zo_ald 86 0), (86, zo_getr 89 1 6), (89, zo_ild 90 2), (90, zo_aald 91), (91, zo_c 92 (vi 1)), (92, zo_c 94 (vi 50)), (94, zo_iasp 95), (95, zo_inc 98 2 1), (98, zo_goto 69), (101, zo_vret)]
theorem ztX2_init {C : mm_C} (G : mm_G C RX2 cX2_init none 3 (mm_rm 4 23 226)) (hnh : mm_nh C) (hin : (c_t C).name = "<init>") : zz_OKs C zpX2_init :=
  ⟨zz_of (ok_aload_n G dX2_init_0 rfl rfl) (z_ald _ _),
   zz_of (ok_aload_n G dX2_init_1 rfl rfl) (z_ald _ _),
   zz_of (ok_putr G (nx := 5) (idx := 3) (ci := 1) (k := 10) (RX2, TX2, 11) rfl (by decide) rfl (mm_pwF G (ci := 1) (k := 10) (RX2, TX2, 11) rfl (by decide) rfl hin rfl q241 dX2_init_2) rfl) (z_putrp _ _ _),
   zz_of (ok_aload_n G dX2_init_5 rfl rfl) (z_ald _ _),
   zz_of (ok_oi G q140 q133 q134 ⟨Nat.le_of_ble_eq_true rfl, Nat.le_of_ble_eq_true rfl⟩ dX2_init_6 rfl) (z_oi _),
   zz_of (ok_aload_n G dX2_init_9 rfl rfl) (z_ald _ _),
   zz_of (ok_iconst G (v := 1) dX2_init_10 (by decide) rfl) (z_cn 11 1),
   zz_of (ok_puti G (nx := 14) (idx := 15) (ci := 1) (k := 1) (RX2, TX2, 11) rfl (by decide) rfl (mm_pw G (ci := 1) (k := 1) (RX2, TX2, 11) rfl (by decide) rfl q216 dX2_init_11) rfl) (z_putip _ _ _),
   zz_of (ok_aload_n G dX2_init_14 rfl rfl) (z_ald _ _),
   zz_of (ok_bipush G (v := 16) dX2_init_15 (by decide) rfl) (z_cn 17 16),
   zz_of (ok_bipush G (v := 12) dX2_init_17 (by decide) rfl) (z_cn 19 12),
   zz_of (ok_man G (o := 9) (n := 16) (k := 12) (by decide) q141 q142 q169 ⟨by decide, by decide⟩ dX2_init_19 rfl) (z_man _ _ _ _ _ (by decide)),
   zz_of (ok_putr G (nx := 26) (idx := 21) (ci := 1) (k := 6) (RX2, TX2, 11) rfl (by decide) rfl (mm_pwF G (ci := 1) (k := 6) (RX2, TX2, 11) rfl (by decide) rfl hin rfl q231 dX2_init_23) rfl) (z_putrp _ _ _),
   zz_of (ok_aload_n G dX2_init_26 rfl rfl) (z_ald _ _),
   zz_of (ok_new G (ci := 17) (RJ2, TJ2, 3) rfl rfl q143 q144 q86 (by decide) dX2_init_27 rfl) (z_new _ _ _ _),
   zz_of (ok_dup G dX2_init_30 rfl) (z_dup _),
   zz_of (ok_caliF G (hnh.q 31) (zmJ2_init _ G.hst) q145 q146 q86 q147 rfl (by decide +kernel) ⟨Nat.le_of_ble_eq_true rfl, Nat.le_of_ble_eq_true rfl⟩ dX2_init_31 rfl) (z_ciF _ _ _ _ _ _),
   zz_of (ok_putr G (nx := 37) (idx := 27) (ci := 1) (k := 7) (RX2, TX2, 11) rfl (by decide) rfl (mm_pwF G (ci := 1) (k := 7) (RX2, TX2, 11) rfl (by decide) rfl hin rfl q235 dX2_init_34) rfl) (z_putrp _ _ _),
   zz_of (ok_aload_n G dX2_init_37 rfl rfl) (z_ald _ _),
   zz_of (ok_iconst G (v := 2) dX2_init_38 (by decide) rfl) (z_cn 39 2),
   zz_of (ok_newa G (t := 2) (ty := .int) rfl rfl q169 rfl (by decide) (by decide) (fun h => h) (fun M h n j ad => by rw [mm_al_ea]; rfl) dX2_init_39 rfl) (z_newa _ _ _ _),
   zz_of (ok_dup G dX2_init_41 rfl) (z_dup _),
   zz_of (ok_iconst G (v := 0) dX2_init_42 (by decide) rfl) (z_cn 43 0),
   zz_of (ok_iconst G (v := (zI (-1))) dX2_init_43 (by decide) rfl) (z_cz 44 (-1)),
   zz_of (ok_iast G dX2_init_44 rfl) (z_iasp _),
   zz_of (ok_dup G dX2_init_45 rfl) (z_dup _),
   zz_of (ok_iconst G (v := 1) dX2_init_46 (by decide) rfl) (z_cn 47 1),
   zz_of (ok_iconst G (v := (zI (-1))) dX2_init_47 (by decide) rfl) (z_cz 48 (-1)),
   zz_of (ok_iast G dX2_init_48 rfl) (z_iasp _),
   zz_of (ok_putr G (nx := 52) (idx := 31) (ci := 1) (k := 8) (RX2, TX2, 11) rfl (by decide) rfl (mm_pwF G (ci := 1) (k := 8) (RX2, TX2, 11) rfl (by decide) rfl hin rfl q237 dX2_init_49) rfl) (z_putrp _ _ _),
   zz_of (ok_aload_n G dX2_init_52 rfl rfl) (z_ald _ _),
   zz_of (ok_new G (ci := 2) (RX3, TX3, 7) rfl rfl q170 q171 q87 (by decide) dX2_init_53 rfl) (z_new _ _ _ _),
   zz_of (ok_dup G dX2_init_56 rfl) (z_dup _),
   zz_of (ok_aload_n G dX2_init_57 rfl rfl) (z_ald _ _),
   zz_of (ok_get G (nx := 61) (ci := 1) (kd := 2) (k := 10) (RX2, TX2, 11) rfl (by decide) rfl q241 dX2_init_58 rfl) (z_getr _ _ _),
   zz_of (ok_caliNF G (hnh.q 61) (zmX3_init _ G.hst) q172 q173 q87 q174 rfl (by decide +kernel) ⟨Nat.le_of_ble_eq_true rfl, Nat.le_of_ble_eq_true rfl⟩ dX2_init_61 rfl) (z_ciF _ _ _ _ _ _),
   zz_of (ok_putr G (nx := 67) (idx := 40) (ci := 1) (k := 9) (RX2, TX2, 11) rfl (by decide) rfl (mm_pwF G (ci := 1) (k := 9) (RX2, TX2, 11) rfl (by decide) rfl hin rfl q239 dX2_init_64) rfl) (z_putrp _ _ _),
   zz_of (ok_iconst G (v := 0) dX2_init_67 (by decide) rfl) (z_cn 68 0),
   zz_of (ok_istore_n G dX2_init_68 rfl rfl (by decide)) (z_ist _ _),
   zz_of (ok_iload_n G dX2_init_69 rfl rfl) (z_ild _ _),
   zz_of (ok_bipush G (v := 16) dX2_init_70 (by decide) rfl) (z_cn 72 16),
   zz_of (ok_cge G dX2_init_72 rfl rfl) (z_cge _ _ _ _),
   zz_of (ok_aload_n G dX2_init_75 rfl rfl) (z_ald _ _),
   zz_of (ok_get G (nx := 79) (ci := 1) (kd := 2) (k := 6) (RX2, TX2, 11) rfl (by decide) rfl q231 dX2_init_76 rfl) (z_getr _ _ _),
   zz_of (ok_iload_n G dX2_init_79 rfl rfl) (z_ild _ _),
   zz_of (ok_aald G dX2_init_80 rfl) (z_aald _),
   zz_of (ok_iconst G (v := 0) dX2_init_81 (by decide) rfl) (z_cn 82 0),
   zz_of (ok_bipush G (v := 50) dX2_init_82 (by decide) rfl) (z_cn 84 50),
   zz_of (ok_iast G dX2_init_84 rfl) (z_iasp _),
   zz_of (ok_aload_n G dX2_init_85 rfl rfl) (z_ald _ _),
   zz_of (ok_get G (nx := 89) (ci := 1) (kd := 2) (k := 6) (RX2, TX2, 11) rfl (by decide) rfl q231 dX2_init_86 rfl) (z_getr _ _ _),
   zz_of (ok_iload_n G dX2_init_89 rfl rfl) (z_ild _ _),
   zz_of (ok_aald G dX2_init_90 rfl) (z_aald _),
   zz_of (ok_iconst G (v := 1) dX2_init_91 (by decide) rfl) (z_cn 92 1),
   zz_of (ok_bipush G (v := 50) dX2_init_92 (by decide) rfl) (z_cn 94 50),
   zz_of (ok_iast G dX2_init_94 rfl) (z_iasp _),
   zz_of (ok_iinc G (v := 1) dX2_init_95 (by decide) rfl (by decide)) (z_incn 98 2 1),
   zz_of (ok_goto G dX2_init_98 rfl) (z_goto _),
   zz_of (ok_vret G dX2_init_101) (z_vret), trivial⟩

theorem zwX2_init_0 {Q : Option zv → zz_M → Prop} {X : Nat → zz_M → Prop} {M : zz_M} {x : Nat} {h_ : Nat} (h : zsh M h_ = (1, 1) ∧ (zfx M.1.1 h_ 10 = false ∧ (zsh ((M.1.1, M.1.2), M.2.1, M.2.2.1, mm_up M.2.2.2 h_ 10 (some x)) h_ = (1, 1) ∧ (((16 : Int) = ((16 : Nat) : Int) ∧ (12 : Int) = ((12 : Nat) : Int)) ∧ ∃ h1_ : Nat, (zfree ((M.1.1, M.1.2), mm_up M.2.1 h_ 1 1, M.2.2.1, mm_up M.2.2.2 h_ 10 (some x)) h1_ ∧ ∀ i, i < 16 → zfree ((M.1.1, M.1.2), mm_up M.2.1 h_ 1 1, M.2.2.1, mm_up M.2.2.2 h_ 10 (some x)) (h1_ + 9 + i)) ∧ (0 + (1 + 16) ≤ 23 ∧ 0 + (16 + 16 * 12) ≤ 226) ∧ (zsh ((M.1.1, zmuf M.1.2 9 h1_ 16 12), zmuz (mm_up M.2.1 h_ 1 1) 9 h1_ 16, zmuz M.2.2.1 9 h1_ 16, zmup (mm_up M.2.2.2 h_ 10 (some x)) 9 h1_ 16) h_ = (1, 1) ∧ (zfx (((M.1.1, zmuf M.1.2 9 h1_ 16 12), zmuz (mm_up M.2.1 h_ 1 1) 9 h1_ 16, zmuz M.2.2.1 9 h1_ 16, zmup (mm_up M.2.2.2 h_ 10 (some x)) 9 h1_ 16).1.1) h_ 6 = false ∧ (zz_J zpX2_init (zz_retP Q X 23 226) 26 [some (vr h_), none, none] [] ((M.1.1, zmuf M.1.2 9 h1_ 16 12), zmuz (mm_up M.2.1 h_ 1 1) 9 h1_ 16, zmuz M.2.2.1 9 h1_ 16, mm_up (zmup (mm_up M.2.2.2 h_ 10 (some x)) 9 h1_ 16) h_ 6 (some h1_)) (17, 208)))))))) : zz_J zpX2_init (zz_retP Q X 23 226) 0 [some (vr h_), some (vr x), none] [] M (0, 0) := zz_J.go [(26, [1, 2]), (37, [1, 2]), (52, [1, 2]), (69, [1])] 400 h
theorem zwX2_init_26 {Q : Option zv → zz_M → Prop} {X : Nat → zz_M → Prop} {M : zz_M} {u_ v_ : Nat} {h0 : Nat} (h : ∃ h1_ : Nat, zfree M h1_ ∧ (u_ + 1 ≤ 23 ∧ v_ + 3 ≤ 226) ∧ ((u_ + 1 + 0 ≤ 23 ∧ v_ + 3 + 0 ≤ 226) ∧ (zsh ((M.1.1, zrw M.1.2 h1_ (1, 17)), zrw M.2.1 h1_ (fun _ => 0), zrw M.2.2.1 h1_ (fun _ => 0), zrw M.2.2.2 h1_ (fun _ => none)) h1_ = (1, 17) ∧ zfx ((M.1.1, zrw M.1.2 h1_ (1, 17)), zrw M.2.1 h1_ (fun _ => 0), zrw M.2.2.1 h1_ (fun _ => 0), zrw M.2.2.2 h1_ (fun _ => none)).1.1 h1_ 1 = false ∧ (zsh ((M.1.1, zrw M.1.2 h1_ (1, 17)), mm_up (zrw M.2.1 h1_ (fun _ => 0)) h1_ 0 0, zrw M.2.2.1 h1_ (fun _ => 0), mm_up (zrw M.2.2.2 h1_ (fun _ => none)) h1_ 1 (some 1300)) h0 = (1, 1) ∧ (zfx (((M.1.1, zrw M.1.2 h1_ (1, 17)), mm_up (zrw M.2.1 h1_ (fun _ => 0)) h1_ 0 0, zrw M.2.2.1 h1_ (fun _ => 0), mm_up (zrw M.2.2.2 h1_ (fun _ => none)) h1_ 1 (some 1300)).1.1) h0 7 = false ∧ (zz_J zpX2_init (zz_retP Q X 23 226) 37 [some (vr h0), none, none] [] ((M.1.1, zrw M.1.2 h1_ (1, 17)), mm_up (zrw M.2.1 h1_ (fun _ => 0)) h1_ 0 0, zrw M.2.2.1 h1_ (fun _ => 0), mm_up (mm_up (zrw M.2.2.2 h1_ (fun _ => none)) h1_ 1 (some 1300)) h0 7 (some h1_)) (u_ + 1 + 0, v_ + 3 + 0))))))) : zz_J zpX2_init (zz_retP Q X 23 226) 26 [some (vr h0), none, none] [] M (u_, v_) := zz_J.go [(26, [1, 2]), (37, [1, 2]), (52, [1, 2]), (69, [1])] 400 h
theorem zwX2_init_37 {Q : Option zv → zz_M → Prop} {X : Nat → zz_M → Prop} {M : zz_M} {u_ v_ : Nat} {h0 : Nat} (h : ∃ h1_ : Nat, zfree M h1_ ∧ (0 ≤ (2 : Int) ∧ (2 : Int) < 2147483648 ∧ (2 : Int).toNat * 4 ≤ 536870912) ∧ (u_ + 1 ≤ 23 ∧ v_ + ((2 : Int).toNat) ≤ 226) ∧ (∃ n_ : Nat, zsh ((M.1.1, zrw M.1.2 h1_ (2, (2 : Int).toNat)), zrw M.2.1 h1_ (fun _ => 0), zrw M.2.2.1 h1_ (fun _ => 0), zrw M.2.2.2 h1_ (fun _ => none)) h1_ = (2, n_) ∧ (n_ : Int) ≤ 2147483647 ∧ (0 ≤ (0 : Int) ∧ 0 < (n_ : Int)) ∧ (∃ n_ : Nat, zsh ((M.1.1, zrw M.1.2 h1_ (2, (2 : Int).toNat)), mm_up (zrw M.2.1 h1_ (fun _ => 0)) h1_ ((0 : Int).toNat) (-1), zrw M.2.2.1 h1_ (fun _ => 0), zrw M.2.2.2 h1_ (fun _ => none)) h1_ = (2, n_) ∧ (n_ : Int) ≤ 2147483647 ∧ (0 ≤ (1 : Int) ∧ 1 < (n_ : Int)) ∧ (zsh ((M.1.1, zrw M.1.2 h1_ (2, (2 : Int).toNat)), mm_up (mm_up (zrw M.2.1 h1_ (fun _ => 0)) h1_ ((0 : Int).toNat) (-1)) h1_ ((1 : Int).toNat) (-1), zrw M.2.2.1 h1_ (fun _ => 0), zrw M.2.2.2 h1_ (fun _ => none)) h0 = (1, 1) ∧ (zfx (((M.1.1, zrw M.1.2 h1_ (2, (2 : Int).toNat)), mm_up (mm_up (zrw M.2.1 h1_ (fun _ => 0)) h1_ ((0 : Int).toNat) (-1)) h1_ ((1 : Int).toNat) (-1), zrw M.2.2.1 h1_ (fun _ => 0), zrw M.2.2.2 h1_ (fun _ => none)).1.1) h0 8 = false ∧ (zz_J zpX2_init (zz_retP Q X 23 226) 52 [some (vr h0), none, none] [] ((M.1.1, zrw M.1.2 h1_ (2, (2 : Int).toNat)), mm_up (mm_up (zrw M.2.1 h1_ (fun _ => 0)) h1_ ((0 : Int).toNat) (-1)) h1_ ((1 : Int).toNat) (-1), zrw M.2.2.1 h1_ (fun _ => 0), mm_up (zrw M.2.2.2 h1_ (fun _ => none)) h0 8 (some h1_)) (u_ + 1, v_ + ((2 : Int).toNat)))))))) : zz_J zpX2_init (zz_retP Q X 23 226) 37 [some (vr h0), none, none] [] M (u_, v_) := zz_J.go [(26, [1, 2]), (37, [1, 2]), (52, [1, 2]), (69, [1])] 400 h
theorem zwX2_init_52 {Q : Option zv → zz_M → Prop} {X : Nat → zz_M → Prop} {M : zz_M} {u_ v_ : Nat} {h0 : Nat} (h : ∃ h1_ : Nat, zfree M h1_ ∧ (u_ + 1 ≤ 23 ∧ v_ + 7 ≤ 226) ∧ (∃ b2 : Nat, zsh ((M.1.1, zrw M.1.2 h1_ (1, 2)), zrw M.2.1 h1_ (fun _ => 0), zrw M.2.2.1 h1_ (fun _ => 0), zrw M.2.2.2 h1_ (fun _ => none)) h0 = (1, 1) ∧ zpt ((M.1.1, zrw M.1.2 h1_ (1, 2)), zrw M.2.1 h1_ (fun _ => 0), zrw M.2.2.1 h1_ (fun _ => 0), zrw M.2.2.2 h1_ (fun _ => none)) h0 10 = some b2 ∧ ((u_ + 1 + 3 ≤ 23 ∧ v_ + 7 + 6 ≤ 226) ∧ ((zsh ((M.1.1, zrw M.1.2 h1_ (1, 2)), zrw M.2.1 h1_ (fun _ => 0), zrw M.2.2.1 h1_ (fun _ => 0), zrw M.2.2.2 h1_ (fun _ => none)) h1_ = (1, 2) ∧ ∀ k, zfx ((M.1.1, zrw M.1.2 h1_ (1, 2)), zrw M.2.1 h1_ (fun _ => 0), zrw M.2.2.1 h1_ (fun _ => 0), zrw M.2.2.2 h1_ (fun _ => none)).1.1 h1_ k = false) ∧ (zfree ((M.1.1, zrw M.1.2 h1_ (1, 2)), zrw M.2.1 h1_ (fun _ => 0), zrw M.2.2.1 h1_ (fun _ => 0), zrw M.2.2.2 h1_ (fun _ => none)) (h1_ + 1) ∧ zfree ((M.1.1, zrw M.1.2 h1_ (1, 2)), zrw M.2.1 h1_ (fun _ => 0), zrw M.2.2.1 h1_ (fun _ => 0), zrw M.2.2.2 h1_ (fun _ => none)) (h1_ + 2) ∧ zfree ((M.1.1, zrw M.1.2 h1_ (1, 2)), zrw M.2.1 h1_ (fun _ => 0), zrw M.2.2.1 h1_ (fun _ => 0), zrw M.2.2.2 h1_ (fun _ => none)) (h1_ + 3)) ∧ (∀ (S_3 L_3 : Nat → Nat → Int) (P_3 : Nat → Nat → Option Nat) (f_3 : Nat → Nat × Nat), (∀ j, (j < h1_ ∨ h1_ + 3 < j) → f_3 j = (zrw M.1.2 h1_ (1, 2)) j ∧ S_3 j = (zrw M.2.1 h1_ (fun _ => 0)) j ∧ L_3 j = (zrw M.2.2.1 h1_ (fun _ => 0)) j ∧ P_3 j = (zrw M.2.2.2 h1_ (fun _ => none)) j) → f_3 h1_ = (zrw M.1.2 h1_ (1, 2)) h1_ → (∀ i, 1 ≤ i → i ≤ 3 → f_3 (h1_ + i) = (2, 2) ∧ ∀ k, S_3 (h1_ + i) k = 0) → (∀ k, S_3 h1_ k = (zrw M.2.1 h1_ (fun _ => 0)) h1_ k) → (P_3 h1_ 0 = some (h1_ + 1) ∧ P_3 h1_ 1 = some (h1_ + 2) ∧ P_3 h1_ 2 = some (h1_ + 3) ∧ P_3 h1_ 6 = some b2) → (zsh ((M.1.1, f_3), S_3, L_3, P_3) h0 = (1, 1) ∧ (zfx (((M.1.1, f_3), S_3, L_3, P_3).1.1) h0 9 = false ∧ (zz_J zpX2_init (zz_retP Q X 23 226) 69 [some (vr h0), none, some (vi 0)] [] ((M.1.1, f_3), S_3, L_3, mm_up P_3 h0 9 (some h1_)) (u_ + 1 + 3, v_ + 7 + 6))))))))) : zz_J zpX2_init (zz_retP Q X 23 226) 52 [some (vr h0), none, none] [] M (u_, v_) := zz_J.go [(26, [1, 2]), (37, [1, 2]), (52, [1, 2]), (69, [1])] 400 h
theorem zwX2_init_69 {Q : Option zv → zz_M → Prop} {X : Nat → zz_M → Prop} {M : zz_M} {u_ v_ : Nat} {h0 : Nat} {x2 : Int} (h : R32 x2 ∧ ((16 ≤ x2 → (u_ ≤ 23 ∧ v_ ≤ 226) ∧ (Q none M)) ∧ (¬ 16 ≤ x2 → ∃ b1 : Nat, zsh M h0 = (1, 1) ∧ zpt M h0 6 = some b1 ∧ (∃ t_ n_ : Nat, zsh M b1 = (t_, n_) ∧ (t_ = 6 ∨ t_ = 7 ∨ t_ = 8) ∧ (n_ : Int) ≤ 2147483647 ∧ (0 ≤ x2 ∧ x2 < (n_ : Int)) ∧ (∀ b2 : Nat, zpt M b1 x2.toNat = some b2 → ∃ n_ : Nat, zsh M b2 = (2, n_) ∧ (n_ : Int) ≤ 2147483647 ∧ (0 ≤ (0 : Int) ∧ 0 < (n_ : Int)) ∧ (∃ b3 : Nat, zsh ((M.1.1, M.1.2), mm_up M.2.1 b2 ((0 : Int).toNat) 50, M.2.2.1, M.2.2.2) h0 = (1, 1) ∧ zpt ((M.1.1, M.1.2), mm_up M.2.1 b2 ((0 : Int).toNat) 50, M.2.2.1, M.2.2.2) h0 6 = some b3 ∧ (∃ t_ n_ : Nat, zsh ((M.1.1, M.1.2), mm_up M.2.1 b2 ((0 : Int).toNat) 50, M.2.2.1, M.2.2.2) b3 = (t_, n_) ∧ (t_ = 6 ∨ t_ = 7 ∨ t_ = 8) ∧ (n_ : Int) ≤ 2147483647 ∧ (0 ≤ x2 ∧ x2 < (n_ : Int)) ∧ (∀ b4 : Nat, zpt ((M.1.1, M.1.2), mm_up M.2.1 b2 ((0 : Int).toNat) 50, M.2.2.1, M.2.2.2) b3 x2.toNat = some b4 → ∃ n_ : Nat, zsh ((M.1.1, M.1.2), mm_up M.2.1 b2 ((0 : Int).toNat) 50, M.2.2.1, M.2.2.2) b4 = (2, n_) ∧ (n_ : Int) ≤ 2147483647 ∧ (0 ≤ (1 : Int) ∧ 1 < (n_ : Int)) ∧ (zz_J zpX2_init (zz_retP Q X 23 226) 69 [some (vr h0), none, some (vi (x2 + 1))] [] ((M.1.1, M.1.2), mm_up (mm_up M.2.1 b2 ((0 : Int).toNat) 50) b4 ((1 : Int).toNat) 50, M.2.2.1, M.2.2.2) (u_, v_))) ∧ (zpt ((M.1.1, M.1.2), mm_up M.2.1 b2 ((0 : Int).toNat) 50, M.2.2.1, M.2.2.2) b3 x2.toNat = none → False)))) ∧ (zpt M b1 x2.toNat = none → False))))) : zz_J zpX2_init (zz_retP Q X 23 226) 69 [some (vr h0), none, some (vi x2)] [] M (u_, v_) := zz_J.go [(26, [1, 2]), (37, [1, 2]), (52, [1, 2]), (69, [1])] 400 h

theorem zmX2_init (l : Launch) (hl : l.stackTraces = false) : mm_Spec l yX2_init (ws_ yX2_init cX2_init 3 none) (mm_rm 4 23 226) (zE zX2_init) := by
  refine zz_Met.JN hl (by decide) rfl (fun C G hnh hin => ztX2_init G hnh hin) ?_
  rintro as M Q X h
  unfold zX2_init at h
  split at h
  rotate_left
  · exact h.elim
  rename_i h_ x
  refine ⟨rfl, ?_⟩
  refine zz_retP_J ?_
  obtain ⟨⟨h1, h2⟩, hfr, hq⟩ := h
  -- the fields' values, one by one
  have t69 : ∀ (m i : Nat) (S' L' : Nat → Nat → Int) (P' : Nat → Nat → Option Nat) (f' : Nat → Nat × Nat), i + m = 16 → (∀ j, (j < h_ ∨ h_ + 25 < j ∨ j = h_ + 8 ∨ j = h_ + 9) → f' j = M.1.2 j ∧ S' j = M.2.1 j ∧ L' j = M.2.2.1 j ∧ P' j = M.2.2.2 j) → f' h_ = M.1.2 h_ → (∀ k, S' h_ k = if k = 1 then 1 else M.2.1 h_ k) → wSh f' P' h_ x → ((∀ r k, r < 16 → S' (h_ + 10 + r) k = if r < i ∧ k < 2 then 50 else 0) ∧ (S' (h_ + 2) 2 = 0 ∧ P' (h_ + 2) 1 = some 1300) ∧ (S' (h_ + 3) 0 = -1 ∧ S' (h_ + 3) 1 = -1) ∧ ∀ r k, 4 ≤ r → r ≤ 7 → S' (h_ + r) k = 0) → zz_J zpX2_init (zz_retP Q X 23 226) 69 [some (vr h_), none, some (vi (i : Int))] [] ((M.1.1, f'), S', L', P') (23, 226) := by
    intro m
    induction m with
    | zero =>
      intro i S' L' P' f' hi e0 e1 e2 e3 e4
      refine zwX2_init_69 ⟨by omega, fun _ => ⟨by decide, hq S' L' P' f' e0 e1 e2 e3 ⟨fun r k hr => ?_, e4.2⟩⟩, fun c => absurd (show (16 : Int) ≤ (i : Int) by omega) c⟩
      rw [e4.1 r k hr]
      by_cases hk : k < 2
      · rw [if_pos hk, if_pos ⟨by omega, hk⟩]
      · rw [if_neg hk, if_neg (fun c => hk c.2)]
    | succ m ih =>
      intro i S' L' P' f' hi e0 e1 e2 e3 e4
      have zw : ∀ S2 : Nat → Nat → Int, zsh ((M.1.1, f'), S2, L', P') h_ = (1, 1) := fun S2 => zsh_to h1 e1
      have zp : ∀ S2 : Nat → Nat → Int, zpt ((M.1.1, f'), S2, L', P') h_ 6 = some (h_ + 1) := fun S2 => (zpt_o (M := ((M.1.1, f'), S2, L', P')) (h2 6)).trans e3.2.1.1
      have c1 := hfr 1 (by decide) (by decide) (by decide) (by decide)
      have cr := hfr (10 + i) (by omega) (by omega) (by omega) (by omega)
      rw [show h_ + (10 + i) = h_ + 10 + i by omega] at cr
      have z1 : ∀ S2 : Nat → Nat → Int, zsh ((M.1.1, f'), S2, L', P') (h_ + 1) = (6, 16) := fun S2 => (zsh_f (M := ((M.1.1, f'), S2, L', P')) c1.1).trans e3.1.1.1
      have zr : ∀ S2 : Nat → Nat → Int, zsh ((M.1.1, f'), S2, L', P') (h_ + 10 + i) = (2, 12) := fun S2 => (zsh_f (M := ((M.1.1, f'), S2, L', P')) cr.1).trans (e3.1.1.2.1 i (by omega))
      have zq : ∀ S2 : Nat → Nat → Int, zpt ((M.1.1, f'), S2, L', P') (h_ + 1) ((i : Int)).toNat = some (h_ + 10 + i) := fun S2 => by
        rw [Int.toNat_natCast]
        exact (zpt_f (M := ((M.1.1, f'), S2, L', P')) c1.1).trans (e3.2.2.1 i (by omega))
      refine zwX2_init_69 ⟨by omega, fun c => absurd c (by omega), fun _ => ⟨h_ + 1, zw _, zp _, 6, 16, z1 _, Or.inl rfl, by decide, by omega, fun b2 hb2 => ?_, fun hb2 => (by rw [zq] at hb2; cases hb2)⟩⟩
      rw [zq] at hb2
      cases hb2
      refine ⟨12, zr _, by decide, by decide, h_ + 1, zw _, zp _, 6, 16, z1 _, Or.inl rfl, by decide, by omega, fun b4 hb4 => ?_, fun hb4 => (by rw [zq] at hb4; cases hb4)⟩
      rw [zq] at hb4
      cases hb4
      refine ⟨12, zr _, by decide, by decide, ?_⟩
      rw [show (i : Int) + 1 = ((i + 1 : Nat) : Int) by omega]
      have so : ∀ j, j ≠ h_ + 10 + i → mm_up (mm_up S' (h_ + 10 + i) ((0 : Int).toNat) 50) (h_ + 10 + i) ((1 : Int).toNat) 50 j = S' j := fun j hj => by
        funext k
        rw [up_eq, if_neg (fun c => hj c.1), up_eq, if_neg (fun c => hj c.1)]
      refine ih (i + 1) _ L' P' f' (by omega) (fun j hj => ⟨(e0 j hj).1, ?_, (e0 j hj).2.2⟩) e1 (fun k => ?_) e3 ⟨fun r k hr => ?_, ?_, ?_, fun r k a b => ?_⟩
      · rw [so j (by omega)]; exact (e0 j hj).2.1
      · rw [so h_ (by omega)]; exact e2 k
      · by_cases er : r = i
        · subst er
          show mm_up (mm_up S' (h_ + 10 + r) 0 50) (h_ + 10 + r) 1 50 (h_ + 10 + r) k = _
          rw [up_eq, up_eq, e4.1 r k hr]
          by_cases k1 : k = 1
          · rw [if_pos ⟨rfl, k1⟩, if_pos ⟨by omega, by omega⟩]
          · rw [if_neg (fun c => k1 c.2)]
            by_cases k0 : k = 0
            · rw [if_pos ⟨rfl, k0⟩, if_pos ⟨by omega, by omega⟩]
            · rw [if_neg (fun c => k0 c.2), if_neg (by omega), if_neg (by omega)]
        · rw [so _ (by omega), e4.1 r k hr]
          by_cases c : r < i ∧ k < 2
          · rw [if_pos c, if_pos (by omega)]
          · rw [if_neg c, if_neg (by omega)]
      · rw [so _ (by omega)]; exact e4.2.1
      · rw [so _ (by omega)]; exact e4.2.2.1
      · rw [so _ (by omega)]; exact e4.2.2.2 r k a b
  -- the score
  have t52 : ∀ (S' L' : Nat → Nat → Int) (P' : Nat → Nat → Option Nat) (f' : Nat → Nat × Nat), (∀ j, (j < h_ ∨ h_ + 25 < j ∨ j = h_ + 8 ∨ j = h_ + 9 ∨ (h_ + 4 ≤ j ∧ j ≤ h_ + 7)) → f' j = M.1.2 j ∧ S' j = M.2.1 j ∧ L' j = M.2.2.1 j ∧ P' j = M.2.2.2 j) → f' h_ = M.1.2 h_ → (∀ k, S' h_ k = if k = 1 then 1 else M.2.1 h_ k) → ((f' (h_ + 1) = (6, 16) ∧ (∀ i, i < 16 → f' (h_ + 10 + i) = (2, 12)) ∧ f' (h_ + 2) = (1, 17) ∧ f' (h_ + 3) = (2, 2)) ∧ (P' h_ 6 = some (h_ + 1) ∧ P' h_ 7 = some (h_ + 2) ∧ P' h_ 8 = some (h_ + 3) ∧ P' h_ 10 = some x) ∧ ∀ i, i < 16 → P' (h_ + 1) i = some (h_ + 10 + i)) → ((∀ r k, r < 16 → S' (h_ + 10 + r) k = 0) ∧ (S' (h_ + 2) 2 = 0 ∧ P' (h_ + 2) 1 = some 1300) ∧ (S' (h_ + 3) 0 = -1 ∧ S' (h_ + 3) 1 = -1)) → zz_J zpX2_init (zz_retP Q X 23 226) 52 [some (vr h_), none, none] [] ((M.1.1, f'), S', L', P') (19, 213) := by
    intro S' L' P' f' e0 e1 e2 ⟨⟨w1, w2, w3, w4⟩, ⟨p6, p7, p8, p10⟩, pr⟩ ⟨s0, s1, s2⟩
    have fr4 : ∀ i, 4 ≤ i → i ≤ 7 → zfree ((M.1.1, f'), S', L', P') (h_ + i) := fun i a b => zfree_eq (hfr i (by omega) (by omega) (by omega) (by omega)) rfl (e0 _ (by omega)).1
    have f4 := fr4 4 (by decide) (by decide)
    refine zwX2_init_52 ⟨h_ + 4, f4, by decide, x, ?_, ?_, by decide, ⟨?_, fun k => zfx_of f4.1 k⟩, ⟨zfree_eq (fr4 5 (by decide) (by decide)) rfl ?_, zfree_eq (fr4 6 (by decide) (by decide)) rfl ?_, zfree_eq (fr4 7 (by decide) (by decide)) rfl ?_⟩, fun S7 L7 P7 f7 g0 g1 g2 g3 g4 => ⟨?_, h2 9, ?_⟩⟩
    · refine zsh_to (M := ((M.1.1, f'), S', L', P')) (zsh_to h1 e1) ?_
      rw [zrw_n _ _ (by omega)]
    · refine (zpt_o (by exact h2 10)).trans ?_
      show zrw P' (h_ + 4) (fun _ => none) h_ 10 = _
      rw [zrw_n _ _ (by omega)]
      exact p10
    · rw [zsh_al f4.1, if_pos rfl]
    · show zrw _ _ _ _ = _
      rw [zrw_n _ _ (by omega)]
    · show zrw _ _ _ _ = _
      rw [zrw_n _ _ (by omega)]
    · show zrw _ _ _ _ = _
      rw [zrw_n _ _ (by omega)]
    · refine zsh_to (M := ((M.1.1, f'), S', L', P')) (zsh_to h1 e1) ?_
      rw [(g0 h_ (by omega)).1, zrw_n _ _ (by omega)]
    · have G : ∀ j, (j < h_ + 4 ∨ h_ + 7 < j) → f7 j = f' j ∧ S7 j = S' j ∧ L7 j = L' j ∧ P7 j = P' j := fun j hj => by
        obtain ⟨a, b, c, d⟩ := g0 j (by omega)
        rw [zrw_n _ _ (by omega)] at a b c d
        exact ⟨a, b, c, d⟩
      have up : ∀ j, j ≠ h_ → mm_up P7 h_ 9 (some (h_ + 4)) j = P7 j := fun j hj => by
        funext k
        rw [up_eq, if_neg (fun c => hj c.1)]
      have uh : ∀ k, k ≠ 9 → mm_up P7 h_ 9 (some (h_ + 4)) h_ k = P' h_ k := fun k hk => by
        rw [up_eq, if_neg (fun c => hk c.2), (G h_ (by omega)).2.2.2]
      refine t69 16 0 S7 L7 _ f7 rfl (fun j hj => ?_) (by rw [(G h_ (by omega)).1]; exact e1) (fun k => by rw [(G h_ (by omega)).2.1]; exact e2 k) ⟨⟨⟨by rw [(G _ (by omega)).1]; exact w1, fun i hi => by rw [(G _ (by omega)).1]; exact w2 i hi, by rw [(G _ (by omega)).1]; exact w3, by rw [(G _ (by omega)).1]; exact w4, by rw [g1, zrw_s]⟩, fun i a b => ?_⟩, ⟨by rw [uh 6 (by decide)]; exact p6, by rw [uh 7 (by decide)]; exact p7, by rw [uh 8 (by decide)]; exact p8, by rw [up_eq, if_pos ⟨rfl, rfl⟩], by rw [uh 10 (by decide)]; exact p10⟩, fun i hi => by rw [up _ (by omega), (G _ (by omega)).2.2.2]; exact pr i hi, ?_⟩ ⟨fun r k hr => ?_, ?_, ?_, fun r k a b => ?_⟩
      · obtain ⟨a, b, c, d⟩ := G j (by omega)
        obtain ⟨a', b', c', d'⟩ := e0 j (by omega)
        exact ⟨a.trans a', b.trans b', c.trans c', (up j (by omega)).trans (d.trans d')⟩
      · have := (g2 (i - 4) (by omega) (by omega)).1
        rw [show h_ + 4 + (i - 4) = h_ + i by omega] at this
        exact this
      · rw [up _ (by omega)]
        exact g4
      · rw [(G _ (by omega)).2.1, if_neg (by omega)]
        exact s0 r k hr
      · rw [(G _ (by omega)).2.1, up _ (by omega), (G _ (by omega)).2.2.2]
        exact s1
      · rw [(G _ (by omega)).2.1]
        exact s2
      · by_cases e4 : r = 4
        · rw [e4, g3 k, zrw_s]
        · have := (g2 (r - 4) (by omega) (by omega)).2 k
          rw [show h_ + 4 + (r - 4) = h_ + r by omega] at this
          exact this
  -- whose rules
  have t37 : ∀ (S' L' : Nat → Nat → Int) (P' : Nat → Nat → Option Nat) (f' : Nat → Nat × Nat), (∀ j, (j < h_ ∨ h_ + 25 < j ∨ j = h_ + 8 ∨ j = h_ + 9 ∨ (h_ + 3 ≤ j ∧ j ≤ h_ + 7)) → f' j = M.1.2 j ∧ S' j = M.2.1 j ∧ L' j = M.2.2.1 j ∧ P' j = M.2.2.2 j) → f' h_ = M.1.2 h_ → (∀ k, S' h_ k = if k = 1 then 1 else M.2.1 h_ k) → ((f' (h_ + 1) = (6, 16) ∧ (∀ i, i < 16 → f' (h_ + 10 + i) = (2, 12)) ∧ f' (h_ + 2) = (1, 17)) ∧ (P' h_ 6 = some (h_ + 1) ∧ P' h_ 7 = some (h_ + 2) ∧ P' h_ 10 = some x) ∧ ∀ i, i < 16 → P' (h_ + 1) i = some (h_ + 10 + i)) → ((∀ r k, r < 16 → S' (h_ + 10 + r) k = 0) ∧ (S' (h_ + 2) 2 = 0 ∧ P' (h_ + 2) 1 = some 1300)) → zz_J zpX2_init (zz_retP Q X 23 226) 37 [some (vr h_), none, none] [] ((M.1.1, f'), S', L', P') (18, 211) := by
    intro S' L' P' f' e0 e1 e2 ⟨⟨w1, w2, w3⟩, ⟨p6, p7, p10⟩, pr⟩ ⟨s0, s1⟩
    have f3 : zfree ((M.1.1, f'), S', L', P') (h_ + 3) := zfree_eq (hfr 3 (by omega) (by omega) (by omega) (by omega)) rfl (e0 _ (by omega)).1
    have z3 : ∀ (S2 L2 : Nat → Nat → Int) (P2 : Nat → Nat → Option Nat), zsh ((M.1.1, zrw f' (h_ + 3) (2, (2 : Int).toNat)), S2, L2, P2) (h_ + 3) = (2, 2) := fun S2 L2 P2 => (zsh_f (M := ((M.1.1, zrw f' (h_ + 3) (2, (2 : Int).toNat)), S2, L2, P2)) f3.1).trans (zrw_s _ _ _)
    refine zwX2_init_37 (u_ := 18) (v_ := 211) ⟨h_ + 3, f3, by decide, by decide, 2, z3 _ _ _, by decide, by decide, 2, z3 _ _ _, by decide, by decide, ?_, h2 8, ?_⟩
    · refine zsh_to (M := ((M.1.1, f'), S', L', P')) (zsh_to h1 e1) ?_
      rw [zrw_n _ _ (by omega)]
    · have so : ∀ j, j ≠ h_ + 3 → mm_up (mm_up (zrw S' (h_ + 3) (fun _ => 0)) (h_ + 3) ((0 : Int).toNat) (-1)) (h_ + 3) ((1 : Int).toNat) (-1) j = S' j := fun j hj => by
        funext k
        rw [up_eq, if_neg (fun c => hj c.1), up_eq, if_neg (fun c => hj c.1), zrw_n _ _ hj]
      have po : ∀ j, j ≠ h_ → j ≠ h_ + 3 → mm_up (zrw P' (h_ + 3) (fun _ => none)) h_ 8 (some (h_ + 3)) j = P' j := fun j h0 hj => by
        funext k
        rw [up_eq, if_neg (fun c => h0 c.1), zrw_n _ _ hj]
      have ph : ∀ k, k ≠ 8 → mm_up (zrw P' (h_ + 3) (fun _ => none)) h_ 8 (some (h_ + 3)) h_ k = P' h_ k := fun k hk => by
        rw [up_eq, if_neg (fun c => hk c.2), zrw_n _ _ (by omega)]
      refine t52 _ _ _ _ (fun j hj => ?_) (by rw [zrw_n _ _ (by omega)]; exact e1) (fun k => by rw [so _ (by omega)]; exact e2 k) ⟨⟨by rw [zrw_n _ _ (by omega)]; exact w1, fun i hi => by rw [zrw_n _ _ (by omega)]; exact w2 i hi, by rw [zrw_n _ _ (by omega)]; exact w3, zrw_s _ _ _⟩, ⟨by rw [ph 6 (by decide)]; exact p6, by rw [ph 7 (by decide)]; exact p7, by rw [up_eq, if_pos ⟨rfl, rfl⟩], by rw [ph 10 (by decide)]; exact p10⟩, fun i hi => by rw [po _ (by omega) (by omega)]; exact pr i hi⟩ ⟨fun r k hr => by rw [so _ (by omega)]; exact s0 r k hr, by rw [so _ (by omega), po _ (by omega) (by omega)]; exact s1, ?_, ?_⟩
      · obtain ⟨a, b, c, d⟩ := e0 j (by omega)
        rw [zrw_n _ _ (by omega), so _ (by omega), zrw_n _ _ (by omega), po _ (by omega) (by omega)]
        exact ⟨a, b, c, d⟩
      · rw [up_eq, if_neg (fun c => by have := c.2; cases this), up_eq, if_pos ⟨rfl, rfl⟩]
      · rw [up_eq, if_pos ⟨rfl, rfl⟩]
  -- the rules
  have t26 : ∀ (S' L' : Nat → Nat → Int) (P' : Nat → Nat → Option Nat) (f' : Nat → Nat × Nat), (∀ j, (j < h_ ∨ h_ + 25 < j ∨ j = h_ + 8 ∨ j = h_ + 9 ∨ (h_ + 2 ≤ j ∧ j ≤ h_ + 7)) → f' j = M.1.2 j ∧ S' j = M.2.1 j ∧ L' j = M.2.2.1 j ∧ P' j = M.2.2.2 j) → f' h_ = M.1.2 h_ → (∀ k, S' h_ k = if k = 1 then 1 else M.2.1 h_ k) → ((f' (h_ + 1) = (6, 16) ∧ (∀ i, i < 16 → f' (h_ + 10 + i) = (2, 12))) ∧ (P' h_ 6 = some (h_ + 1) ∧ P' h_ 10 = some x) ∧ ∀ i, i < 16 → P' (h_ + 1) i = some (h_ + 10 + i)) → (∀ r k, r < 16 → S' (h_ + 10 + r) k = 0) → zz_J zpX2_init (zz_retP Q X 23 226) 26 [some (vr h_), none, none] [] ((M.1.1, f'), S', L', P') (17, 208) := by
    intro S' L' P' f' e0 e1 e2 ⟨⟨w1, w2⟩, ⟨p6, p10⟩, pr⟩ s0
    have f2 : zfree ((M.1.1, f'), S', L', P') (h_ + 2) := zfree_eq (hfr 2 (by omega) (by omega) (by omega) (by omega)) rfl (e0 _ (by omega)).1
    refine zwX2_init_26 (u_ := 17) (v_ := 208) ⟨h_ + 2, f2, by decide, by decide, ?_, zfx_of f2.1 1, ?_, h2 7, ?_⟩
    · rw [zsh_al f2.1, if_pos rfl]
    · refine zsh_to (M := ((M.1.1, f'), S', L', P')) (zsh_to h1 e1) ?_
      rw [zrw_n _ _ (by omega)]
    · have so : ∀ j, j ≠ h_ + 2 → mm_up (zrw S' (h_ + 2) (fun _ => 0)) (h_ + 2) 0 0 j = S' j := fun j hj => by
        funext k
        rw [up_eq, if_neg (fun c => hj c.1), zrw_n _ _ hj]
      have po : ∀ j, j ≠ h_ → j ≠ h_ + 2 → mm_up (mm_up (zrw P' (h_ + 2) (fun _ => none)) (h_ + 2) 1 (some 1300)) h_ 7 (some (h_ + 2)) j = P' j := fun j h0 hj => by
        funext k
        rw [up_eq, if_neg (fun c => h0 c.1), up_eq, if_neg (fun c => hj c.1), zrw_n _ _ hj]
      have ph : ∀ k, k ≠ 7 → mm_up (mm_up (zrw P' (h_ + 2) (fun _ => none)) (h_ + 2) 1 (some 1300)) h_ 7 (some (h_ + 2)) h_ k = P' h_ k := fun k hk => by
        rw [up_eq, if_neg (fun c => hk c.2), up_eq, if_neg (by omega), zrw_n _ _ (by omega)]
      refine t37 _ _ _ _ (fun j hj => ?_) (by rw [zrw_n _ _ (by omega)]; exact e1) (fun k => by rw [so _ (by omega)]; exact e2 k) ⟨⟨by rw [zrw_n _ _ (by omega)]; exact w1, fun i hi => by rw [zrw_n _ _ (by omega)]; exact w2 i hi, zrw_s _ _ _⟩, ⟨by rw [ph 6 (by decide)]; exact p6, by rw [up_eq, if_pos ⟨rfl, rfl⟩], by rw [ph 10 (by decide)]; exact p10⟩, fun i hi => by rw [po _ (by omega) (by omega)]; exact pr i hi⟩ ⟨fun r k hr => by rw [so _ (by omega)]; exact s0 r k hr, ?_, ?_⟩
      · obtain ⟨a, b, c, d⟩ := e0 j (by omega)
        rw [zrw_n _ _ (by omega), so _ (by omega), zrw_n _ _ (by omega), po _ (by omega) (by omega)]
        exact ⟨a, b, c, d⟩
      · rw [up_eq, if_neg (by omega), zrw_s]
      · rw [up_eq, if_neg (by omega), up_eq, if_pos ⟨rfl, rfl⟩]
  have r1 : ∀ i, i < 16 → zfree M (h_ + 1 + 9 + i) := fun i hi => by
    have := hfr (10 + i) (by omega) (by omega) (by omega) (by omega)
    rw [show h_ + (10 + i) = h_ + 1 + 9 + i by omega] at this
    exact this
  refine zwX2_init_0 ⟨h1, h2 10, h1, ⟨rfl, rfl⟩, h_ + 1, ⟨hfr 1 (by omega) (by omega) (by omega) (by omega), r1⟩, by decide, zsh_to h1 ?_, h2 6, ?_⟩
  · unfold zmuf
    rw [if_neg (by omega), if_neg (by omega)]
  · have so : ∀ j, j ≠ h_ → (j < h_ + 1 ∨ (h_ + 1 < j ∧ j < h_ + 10) ∨ h_ + 25 < j) → zmuz (mm_up M.2.1 h_ 1 1) 9 (h_ + 1) 16 j = M.2.1 j := fun j h0 hj => by
      unfold zmuz
      rw [if_neg (by omega)]
      funext k
      rw [up_eq, if_neg (fun c => h0 c.1)]
    have po : ∀ j, j ≠ h_ → (j < h_ + 1 ∨ (h_ + 1 < j ∧ j < h_ + 10) ∨ h_ + 25 < j) → mm_up (zmup (mm_up M.2.2.2 h_ 10 (some x)) 9 (h_ + 1) 16) h_ 6 (some (h_ + 1)) j = M.2.2.2 j := fun j h0 hj => by
      funext k
      rw [up_eq, if_neg (fun c => h0 c.1)]
      unfold zmup
      rw [if_neg (by omega), if_neg (by omega), up_eq, if_neg (fun c => h0 c.1)]
    refine t26 _ _ _ _ (fun j hj => ⟨?_, so j (by omega) (by omega), ?_, po j (by omega) (by omega)⟩) ?_ (fun k => ?_) ⟨⟨?_, fun i hi => ?_⟩, ⟨?_, ?_⟩, fun i hi => ?_⟩ (fun r k hr => ?_)
    · unfold zmuf
      rw [if_neg (by omega), if_neg (by omega)]
    · unfold zmuz
      rw [if_neg (by omega)]
    · unfold zmuf
      rw [if_neg (by omega), if_neg (by omega)]
    · unfold zmuz
      rw [if_neg (by omega), up_eq]
      by_cases hk : k = 1
      · rw [if_pos ⟨rfl, hk⟩, if_pos hk]
      · rw [if_neg (fun c => hk c.2), if_neg hk]
    · unfold zmuf
      rw [if_pos rfl]
    · unfold zmuf
      rw [if_neg (by omega), if_pos (by omega)]
    · rw [up_eq, if_pos ⟨rfl, rfl⟩]
    · rw [up_eq, if_neg (by omega)]
      unfold zmup
      rw [if_neg (by omega), if_neg (by omega), up_eq, if_pos ⟨rfl, rfl⟩]
    · rw [up_eq, if_neg (by omega)]
      unfold zmup
      rw [if_pos rfl, if_pos hi]
    · unfold zmuz
      rw [if_pos (by omega)]
