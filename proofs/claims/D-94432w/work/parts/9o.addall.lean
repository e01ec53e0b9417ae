/-! ===== the JDK: a list that takes another one ===== -/
set_option maxRecDepth 100000
/-- a list's elements: its row e of m places, n of them taken -/
def lsE (M : zz_M) (c e m n : Nat) : Prop := zsh M c = (1, 17) ∧ zpt M c 1 = some e ∧ M.2.1 c 2 = (n : Int) ∧ (zsh M e = (7, m) ∨ zsh M e = (23, m) ∧ m = 0) ∧ n ≤ m ∧ m ≤ 1000 ∧ ∀ i x : Nat, i < n → zpt M e i = some x → ∃ ci : Nat, zsh M x = (1, ci) ∧ mm_mem mm_obs ci = true
def zJ2_toArray (c_ s_ : Nat) : zz_Sp := fun as M Q X => match as with
  | [.inr (.inr (some h_))] => ∃ b_ m_ e_ n_ : Nat, lsE M h_ e_ m_ n_ ∧ zfree M b_ ∧ (1 ≤ c_ ∧ n_ ≤ s_) ∧ (∀ P_ : Nat → Nat → Option Nat, (∀ j, j ≠ b_ → P_ j = M.2.2.2 j) → (∀ i : Nat, i < n_ → P_ b_ i = zpt M e_ i) → Q (some (vr b_)) ((M.1.1, zrw M.1.2 b_ (7, n_)), zrw M.2.1 b_ (fun _ => 0), zrw M.2.2.1 b_ (fun _ => 0), P_))
  | _ => False

def zpJ2_toArray (c_ s_ : Nat) : zz_P := [(0, zo_ald 1 0), (1, zo_getr 4 17 1), (4, zo_ald 5 0), (5, zo_getp 8 17 0 2), (8, zo_csG (mm_rm 6 c_ s_) 11 2 zJ3_copyOf), (11, zo_aret)]
theorem ztJ2_toArray (c_ s_ : Nat) {C : mm_C} (G : mm_G C RJ2 cJ2_toArray (some (.array (.object "java/lang/Object"))) 1 (mm_rm 6 c_ s_)) (hnh : mm_nh C) : zz_OKs C (zpJ2_toArray c_ s_) :=
  ⟨zz_of (ok_aload_n G dJ2_toArray_0 rfl rfl) (z_ald _ _),
   zz_of (ok_get G (nx := 4) (ci := 17) (kd := 2) (k := 1) (RJ2, TJ2, 3) rfl (by decide) rfl q157 dJ2_toArray_1 rfl) (z_getr _ _ _),
   zz_of (ok_aload_n G dJ2_toArray_4 rfl rfl) (z_ald _ _),
   zz_of (ok_get G (nx := 8) (ci := 17) (kd := 0) (k := 2) (RJ2, TJ2, 3) rfl (by decide) rfl q158 dJ2_toArray_5 rfl) (z_getp _ _ _ _),
   zz_of (ok_cals G (hnh.q 8) (zmJ3_copyOf _ G.hst) q516 q517 q95 q518 (by decide +kernel) ⟨Nat.le_of_ble_eq_true rfl, Nat.le_of_ble_eq_true rfl⟩ dJ2_toArray_8 rfl) (z_csG _ _ _ _),
   zz_of (ok_aret G (Or.inr ⟨_, rfl⟩) dJ2_toArray_11) (z_aret), trivial⟩

theorem zwJ2_toArray_0 {Q : Option zv → zz_M → Prop} {X : Nat → zz_M → Prop} {M : zz_M} {c_ s_ : Nat} {h_ : Nat} (h : ∃ b1 : Nat, zsh M h_ = (1, 17) ∧ zpt M h_ 1 = some b1 ∧ (zsh M h_ = (1, 17) ∧ (∃ c2 s2 : Nat, (0 + c2 ≤ c_ ∧ 0 + s2 ≤ s_) ∧ (∃ b_3 m_3 : Nat, zfree M b_3 ∧ (zsh M b1 = (7, m_3) ∨ zsh M b1 = (23, m_3) ∧ m_3 = 0) ∧ m_3 ≤ 1000000 ∧ (0 ≤ (M.2.1 h_ 2) ∧ (M.2.1 h_ 2) ≤ 1000000) ∧ (1 ≤ c2 ∧ (M.2.1 h_ 2).toNat ≤ s2) ∧ (∀ i x : Nat, i < m_3 → (i : Int) < (M.2.1 h_ 2) → zpt M b1 i = some x → ∃ ci : Nat, zsh M x = (1, ci) ∧ mm_mem mm_obs ci = true) ∧ (∀ P_3 : Nat → Nat → Option Nat, (∀ j, j ≠ b_3 → P_3 j = M.2.2.2 j) → (∀ i : Nat, i < m_3 → (i : Int) < (M.2.1 h_ 2) → P_3 b_3 i = zpt M b1 i) → ((0 + c2 ≤ c_ ∧ 0 + s2 ≤ s_) ∧ (Q (some (vr b_3)) ((M.1.1, zrw M.1.2 b_3 (7, (M.2.1 h_ 2).toNat)), zrw M.2.1 b_3 (fun _ => 0), zrw M.2.2.1 b_3 (fun _ => 0), P_3)))))))) : zz_J (zpJ2_toArray c_ s_) (zz_retP Q X c_ s_) 0 [some (vr h_)] [] M (0, 0) := zz_J.go [] 400 h

theorem zmJ2_toArray (l : Launch) (hl : l.stackTraces = false) (c_ s_ : Nat) : mm_Spec l yJ2_toArray (ws_ yJ2_toArray cJ2_toArray 1 (some (.array (.object "java/lang/Object")))) (mm_rm 6 c_ s_) (zE (zJ2_toArray c_ s_)) := by
  refine zz_Met.J hl (by decide) (fun C G hnh => ztJ2_toArray c_ s_ G hnh) ?_
  rintro as M Q X h
  unfold zJ2_toArray at h
  split at h
  rotate_left
  · exact h.elim
  rename_i h_
  refine ⟨rfl, ?_⟩
  refine zz_retP_J ?_
  obtain ⟨b, m, e, n, ⟨h1, h2, h3, h4, h5, h6, h7⟩, hb, hc, hq⟩ := h
  refine zwJ2_toArray_0 ⟨e, h1, h2, h1, c_, s_, by omega, b, m, hb, h4, by omega, by omega, by rw [h3]; omega, fun i x _ h => h7 i x (by omega), fun P3 e1 e2 => ⟨by omega, ?_⟩⟩
  rw [h3, Int.toNat_natCast]
  exact hq P3 e1 (fun i hi => e2 i (by omega) (by rw [h3]; omega))
def zJ2_addAll (c_ s_ : Nat) : zz_Sp := fun as M Q X => match as with
  | [.inr (.inr (some h_)), .inr (.inr (some c))] => ∃ a_ b_ m_ e_ n_ : Nat, (zsh M h_ = (1, 17) ∧ zfx M.1.1 h_ 1 = false ∧ M.2.1 h_ 2 = 0 ∧ zpt M h_ 1 = some 1300 ∧ zsh M 1300 = (23, 0)) ∧ lsE M c e_ m_ n_ ∧ n_ ≤ 10 ∧ c ≠ h_ ∧ (zfree M a_ ∧ zfree M b_ ∧ a_ ≠ b_) ∧ (2 ≤ c_ ∧ n_ + 10 ≤ s_) ∧ (∀ (S_ L_ : Nat → Nat → Int) (P_ : Nat → Nat → Option Nat) (f_ : Nat → Nat × Nat), (∀ j, j ≠ a_ → j ≠ b_ → f_ j = M.1.2 j ∧ L_ j = M.2.2.1 j) → (∀ j k, j ≠ a_ → j ≠ b_ → ¬ (j = h_ ∧ (k = 0 ∨ k = 2)) → S_ j k = M.2.1 j k) → (∀ j k, j ≠ a_ → j ≠ b_ → ¬ (j = h_ ∧ k = 1) → P_ j k = M.2.2.2 j k) → S_ h_ 2 = (n_ : Int) → f_ a_ = (7, n_) → (n_ = 0 → P_ h_ 1 = M.2.2.2 h_ 1 ∧ f_ b_ = M.1.2 b_ ∧ S_ b_ = M.2.1 b_ ∧ L_ b_ = M.2.2.1 b_ ∧ P_ b_ = M.2.2.2 b_) → (0 < n_ → P_ h_ 1 = some b_ ∧ f_ b_ = (7, 10) ∧ ∀ i : Nat, i < n_ → P_ b_ i = zpt M e_ i) → Q (some (vi 1)) ((M.1.1, f_), S_, L_, P_) ∧ Q (some (vi 0)) ((M.1.1, f_), S_, L_, P_))
  | _ => False

def zpJ2_addAll (c_ s_ : Nat) : zz_P := [(0, zo_ald 1 1), (1, zo_cfG (mm_rm 7 c_ s_) 6 1 17 zJ2_toArray), (6, zo_ast 7 2), (7, zo_ald 8 0), (8, zo_dup 9), (9, zo_getp 12 17 0 0), (12, zo_c 13 (vi 1)), (13, zo_iadd 14), (14, zo_putip 17 17 0), (17, zo_ald 18 2), (18, zo_alenp 19), (19, zo_ist 20 3), (20, zo_ild 21 3), (21, zo_ifne false 24 26), (24, zo_c 25 (vi 0)), (25, zo_zret true), (26, zo_ild 27 3), (27, zo_ald 28 0), (28, zo_getr 31 17 1), (31, zo_dup 32), (32, zo_ast 34 4), (34, zo_alenp 35), (35, zo_ald 36 0), (36, zo_getp 39 17 0 2), (39, zo_dup 40), (40, zo_ist 42 5), (42, zo_isub 43), (43, zo_cle false false 46 56), (46, zo_ald 47 0), (47, zo_ild 49 5), (49, zo_ild 50 3), (50, zo_iadd 51), (51, zo_cvGp (mm_rm 7 c_ s_) 54 2 17 zJ2_grow), (54, zo_ast 56 4), (56, zo_ald 57 2), (57, zo_c 58 (vi 0)), (58, zo_ald 60 4), (60, zo_ild 62 5), (62, zo_ild 63 3), (63, zo_acpq 66 mm_obs), (66, zo_ald 67 0), (67, zo_ild 69 5), (69, zo_ild 70 3), (70, zo_iadd 71), (71, zo_putip 74 17 2), (74, zo_c 75 (vi 1)), (75, zo_zret true)]
theorem ztJ2_addAll (c_ s_ : Nat) {C : mm_C} (G : mm_G C RJ2 cJ2_addAll (some .boolean) 6 (mm_rm 7 c_ s_)) (hnh : mm_nh C) : zz_OKs C (zpJ2_addAll c_ s_) :=
  ⟨zz_of (ok_aload_n G dJ2_addAll_0 rfl rfl) (z_ald _ _),
   zz_of (ok_calf G (hnh.q 1) (zmJ2_toArray _ G.hst) (RJ2, TJ2, 3) rfl q507 q513 q511 q86 q515 (List.Mem.tail _ (List.Mem.tail _ (List.Mem.tail _ (List.Mem.tail _ (List.Mem.head _))))) (by decide +kernel) ⟨Nat.le_of_ble_eq_true rfl, Nat.le_of_ble_eq_true rfl⟩ dJ2_addAll_1 rfl) (z_cfG _ _ _ _ _),
   zz_of (ok_astore_n G dJ2_addAll_6 rfl rfl (by decide)) (z_ast _ _),
   zz_of (ok_aload_n G dJ2_addAll_7 rfl rfl) (z_ald _ _),
   zz_of (ok_dup G dJ2_addAll_8 rfl) (z_dup _),
   zz_of (ok_getS G (nx := 12) (ci := 17) (kd := 0) (k := 0) (RJ2, TJ2, 3) rfl (by decide) rfl q160 q161 dJ2_addAll_9 rfl) (z_getp _ _ _ _),
   zz_of (ok_iconst G (v := 1) dJ2_addAll_12 (by decide) rfl) (z_cn 13 1),
   zz_of (ok_iadd G dJ2_addAll_13 rfl) (z_iadd _),
   zz_of (ok_puti G (nx := 17) (idx := 63) (ci := 17) (k := 0) (RJ2, TJ2, 3) rfl (by decide) rfl (mm_pwS G (ci := 17) (k := 0) (RJ2, TJ2, 3) rfl (by decide) rfl q160 q161 dJ2_addAll_14) rfl) (z_putip _ _ _),
   zz_of (ok_aload_n G dJ2_addAll_17 rfl rfl) (z_ald _ _),
   zz_of (ok_alen G dJ2_addAll_18 rfl) (z_alenp _),
   zz_of (ok_istore_n G dJ2_addAll_19 rfl rfl (by decide)) (z_ist _ _),
   zz_of (ok_iload_n G dJ2_addAll_20 rfl rfl) (z_ild _ _),
   zz_of (ok_ifne G dJ2_addAll_21 rfl rfl) (z_ifne _ _ _),
   zz_of (ok_iconst G (v := 0) dJ2_addAll_24 (by decide) rfl) (z_cn 25 0),
   zz_of (ok_zret G dJ2_addAll_25) (z_zret _),
   zz_of (ok_iload_n G dJ2_addAll_26 rfl rfl) (z_ild _ _),
   zz_of (ok_aload_n G dJ2_addAll_27 rfl rfl) (z_ald _ _),
   zz_of (ok_get G (nx := 31) (ci := 17) (kd := 2) (k := 1) (RJ2, TJ2, 3) rfl (by decide) rfl q157 dJ2_addAll_28 rfl) (z_getr _ _ _),
   zz_of (ok_dup G dJ2_addAll_31 rfl) (z_dup _),
   zz_of (ok_astore G dJ2_addAll_32 rfl (by decide)) (z_ast _ _),
   zz_of (ok_alen G dJ2_addAll_34 rfl) (z_alenp _),
   zz_of (ok_aload_n G dJ2_addAll_35 rfl rfl) (z_ald _ _),
   zz_of (ok_get G (nx := 39) (ci := 17) (kd := 0) (k := 2) (RJ2, TJ2, 3) rfl (by decide) rfl q158 dJ2_addAll_36 rfl) (z_getp _ _ _ _),
   zz_of (ok_dup G dJ2_addAll_39 rfl) (z_dup _),
   zz_of (ok_istore G dJ2_addAll_40 rfl (by decide)) (z_ist _ _),
   zz_of (ok_isub G dJ2_addAll_42 rfl) (z_isub _),
   zz_of (ok_cle G dJ2_addAll_43 rfl rfl) (z_cle _ _ _ _),
   zz_of (ok_aload_n G dJ2_addAll_46 rfl rfl) (z_ald _ _),
   zz_of (ok_iload G dJ2_addAll_47 rfl) (z_ild _ _),
   zz_of (ok_iload_n G dJ2_addAll_49 rfl rfl) (z_ild _ _),
   zz_of (ok_iadd G dJ2_addAll_50 rfl) (z_iadd _),
   zz_of (ok_calv G (hnh.q 51) (zmJ2_grow _ G.hst) (RJ2, TJ2, 3) rfl q562 q564 qs0 q86 q565 (by decide +kernel) ⟨Nat.le_of_ble_eq_true rfl, Nat.le_of_ble_eq_true rfl⟩ dJ2_addAll_51 rfl) (z_cvGp _ _ _ _ _),
   zz_of (ok_astore G dJ2_addAll_54 rfl (by decide)) (z_ast _ _),
   zz_of (ok_aload_n G dJ2_addAll_56 rfl rfl) (z_ald _ _),
   zz_of (ok_iconst G (v := 0) dJ2_addAll_57 (by decide) rfl) (z_cn 58 0),
   zz_of (ok_aload G dJ2_addAll_58 rfl) (z_ald _ _),
   zz_of (ok_iload G dJ2_addAll_60 rfl) (z_ild _ _),
   zz_of (ok_iload_n G dJ2_addAll_62 rfl rfl) (z_ild _ _),
   zz_of (ok_acpq G mm_obs_ok q578 q501 q500 q94 ⟨Nat.le_of_ble_eq_true rfl, Nat.le_of_ble_eq_true rfl⟩ dJ2_addAll_63 rfl) (z_acpq _ _),
   zz_of (ok_aload_n G dJ2_addAll_66 rfl rfl) (z_ald _ _),
   zz_of (ok_iload G dJ2_addAll_67 rfl) (z_ild _ _),
   zz_of (ok_iload_n G dJ2_addAll_69 rfl rfl) (z_ild _ _),
   zz_of (ok_iadd G dJ2_addAll_70 rfl) (z_iadd _),
   zz_of (ok_puti G (nx := 74) (idx := 48) (ci := 17) (k := 2) (RJ2, TJ2, 3) rfl (by decide) rfl (mm_pw G (ci := 17) (k := 2) (RJ2, TJ2, 3) rfl (by decide) rfl q158 dJ2_addAll_71) rfl) (z_putip _ _ _),
   zz_of (ok_iconst G (v := 1) dJ2_addAll_74 (by decide) rfl) (z_cn 75 1),
   zz_of (ok_zret G dJ2_addAll_75) (z_zret _), trivial⟩

theorem zwJ2_addAll_0 {Q : Option zv → zz_M → Prop} {X : Nat → zz_M → Prop} {M : zz_M} {c_ s_ : Nat} {c : Nat} {h_ : Nat} (h : (zsh M c = (1, 17) ∨ zsh M c = (17, 17)) ∧ ∃ c1 s1 : Nat, (0 + c1 ≤ c_ ∧ 0 + s1 ≤ s_) ∧ (∃ b_2 m_2 e_2 n_2 : Nat, lsE M c e_2 m_2 n_2 ∧ zfree M b_2 ∧ (1 ≤ c1 ∧ n_2 ≤ s1) ∧ (∀ P_2 : Nat → Nat → Option Nat, (∀ j, j ≠ b_2 → P_2 j = M.2.2.2 j) → (∀ i : Nat, i < n_2 → P_2 b_2 i = zpt M e_2 i) → (zsh ((M.1.1, zrw M.1.2 b_2 (7, n_2)), zrw M.2.1 b_2 (fun _ => 0), zrw M.2.2.1 b_2 (fun _ => 0), P_2) h_ = (1, 17) ∧ (zsh ((M.1.1, zrw M.1.2 b_2 (7, n_2)), zrw M.2.1 b_2 (fun _ => 0), zrw M.2.2.1 b_2 (fun _ => 0), P_2) h_ = (1, 17) ∧ (∃ (t_ n3 : Nat), zsh ((M.1.1, zrw M.1.2 b_2 (7, n_2)), mm_up (zrw M.2.1 b_2 (fun _ => 0)) h_ 0 (((zrw M.2.1 b_2 (fun _ => 0)) h_ 0) + 1), zrw M.2.2.1 b_2 (fun _ => 0), P_2) b_2 = (t_, n3) ∧ (2 ≤ t_ % 16 ∧ t_ % 16 ≤ 8 ∧ t_ ≤ 31) ∧ (R32 (n3 : Int) ∧ ((¬ (n3 : Int) = 0 → zz_J (zpJ2_addAll c_ s_) (zz_retP Q X c_ s_) 26 [some (vr h_), none, some (vr b_2), some (vi (n3 : Int)), none, none] [] ((M.1.1, zrw M.1.2 b_2 (7, n_2)), mm_up (zrw M.2.1 b_2 (fun _ => 0)) h_ 0 (((zrw M.2.1 b_2 (fun _ => 0)) h_ 0) + 1), zrw M.2.2.1 b_2 (fun _ => 0), P_2) (0 + c1, 0 + s1)) ∧ ((n3 : Int) = 0 → (0 + c1 ≤ c_ ∧ 0 + s1 ≤ s_) ∧ (Q (some (vi 0)) ((M.1.1, zrw M.1.2 b_2 (7, n_2)), mm_up (zrw M.2.1 b_2 (fun _ => 0)) h_ 0 (((zrw M.2.1 b_2 (fun _ => 0)) h_ 0) + 1), zrw M.2.2.1 b_2 (fun _ => 0), P_2))))))))))) : zz_J (zpJ2_addAll c_ s_) (zz_retP Q X c_ s_) 0 [some (vr h_), some (vr c), none, none, none, none] [] M (0, 0) := zz_J.go [(26, [1, 4, 5]), (56, [1])] 400 h
theorem zwJ2_addAll_26 {Q : Option zv → zz_M → Prop} {X : Nat → zz_M → Prop} {M : zz_M} {c_ s_ : Nat} {u_ v_ : Nat} {h0 : Nat} {h2 : Nat} {x3 : Int} (h : ∃ b1 : Nat, zsh M h0 = (1, 17) ∧ zpt M h0 1 = some b1 ∧ (∃ (t_ n2 : Nat), zsh M b1 = (t_, n2) ∧ (2 ≤ t_ % 16 ∧ t_ % 16 ≤ 8 ∧ t_ ≤ 31) ∧ (zsh M h0 = (1, 17) ∧ (R32 x3 ∧ (R32 ((n2 : Int) - (M.2.1 h0 2)) ∧ ((x3 ≤ ((n2 : Int) - (M.2.1 h0 2)) → zz_J (zpJ2_addAll c_ s_) (zz_retP Q X c_ s_) 56 [some (vr h0), none, some (vr h2), some (vi x3), some (vr b1), some (vi (M.2.1 h0 2))] [] M (u_, v_)) ∧ (¬ x3 ≤ ((n2 : Int) - (M.2.1 h0 2)) → (zsh M h0 = (1, 17) ∨ zsh M h0 = (17, 17)) ∧ ∃ c3 s3 : Nat, (u_ + c3 ≤ c_ ∧ v_ + s3 ≤ s_) ∧ (∃ b_4 k_4 a_4 m_4 : Nat, zsh M h0 = (1, 17) ∧ zfx M.1.1 h0 1 = false ∧ zfree M b_4 ∧ zpt M h0 1 = some a_4 ∧ ((a_4 = 1300 ∧ m_4 = 0 ∧ zsh M a_4 = (23, 0) ∧ (0 < ((M.2.1 h0 2) + x3) ∧ ((M.2.1 h0 2) + x3) ≤ 10) ∧ k_4 = 10) ∨ (zsh M a_4 = (7, m_4) ∧ 0 < m_4 ∧ ((M.2.1 h0 2) + x3) = (m_4 : Int) + 1 ∧ k_4 = m_4 + (if m_4 / 2 = 0 then 1 else m_4 / 2))) ∧ m_4 ≤ 400000 ∧ (∀ i x : Nat, i < m_4 → zpt M a_4 i = some x → ∃ ci : Nat, zsh M x = (1, ci) ∧ mm_mem mm_obs ci = true) ∧ (1 ≤ c3 ∧ k_4 ≤ s3) ∧ (∀ P_4 : Nat → Nat → Option Nat, (∀ j, j ≠ b_4 → j ≠ h0 → P_4 j = M.2.2.2 j) → (∀ i, i ≠ 1 → P_4 h0 i = M.2.2.2 h0 i) → P_4 h0 1 = some b_4 → (∀ i : Nat, i < m_4 → P_4 b_4 i = zpt M a_4 i) → (zz_J (zpJ2_addAll c_ s_) (zz_retP Q X c_ s_) 56 [some (vr h0), none, some (vr h2), some (vi x3), some (vr b_4), some (vi (M.2.1 h0 2))] [] ((M.1.1, zrw M.1.2 b_4 (7, k_4)), zrw M.2.1 b_4 (fun _ => 0), zrw M.2.2.1 b_4 (fun _ => 0), P_4) (u_ + c3, v_ + s3))))))))))) : zz_J (zpJ2_addAll c_ s_) (zz_retP Q X c_ s_) 26 [some (vr h0), none, some (vr h2), some (vi x3), none, none] [] M (u_, v_) := zz_J.go [(26, [1, 4, 5]), (56, [1])] 400 h
theorem zwJ2_addAll_56 {Q : Option zv → zz_M → Prop} {X : Nat → zz_M → Prop} {M : zz_M} {c_ s_ : Nat} {u_ v_ : Nat} {h0 : Nat} {h2 : Nat} {x3 : Int} {h4 : Nat} {x5 : Int} (h : ∃ a_ b_ : Nat, (zsh M h2 = (7, a_) ∨ zsh M h2 = (23, a_) ∧ a_ = 0) ∧ zsh M h4 = (7, b_) ∧ (a_ ≤ 2147483647 ∧ b_ ≤ 2147483647) ∧ (h2 : Nat) ≠ h4 ∧ zfs M.1.1 h4 = false ∧ (0 ≤ (0 : Int) ∧ 0 ≤ x5 ∧ 0 ≤ x3) ∧ (0 : Int) + x3 ≤ (a_ : Int) ∧ x5 + x3 ≤ (b_ : Int) ∧ (∀ i : Nat, i < x3.toNat → ∀ c : Nat, zpt M h2 ((0 : Int).toNat + i) = some c → ∃ ci : Nat, zsh M c = (1, ci) ∧ mm_mem mm_obs ci = true) ∧ (zsh ((M.1.1, M.1.2), M.2.1, M.2.2.1, zrw M.2.2.2 h4 (va_cpy (zpt M h2) (M.2.2.2 h4) (0 : Int).toNat x5.toNat x3.toNat)) h0 = (1, 17) ∧ ((u_ ≤ c_ ∧ v_ ≤ s_) ∧ (Q (some (vi 1)) ((M.1.1, M.1.2), mm_up M.2.1 h0 2 (x5 + x3), M.2.2.1, zrw M.2.2.2 h4 (va_cpy (zpt M h2) (M.2.2.2 h4) (0 : Int).toNat x5.toNat x3.toNat)))))) : zz_J (zpJ2_addAll c_ s_) (zz_retP Q X c_ s_) 56 [some (vr h0), none, some (vr h2), some (vi x3), some (vr h4), some (vi x5)] [] M (u_, v_) := zz_J.go [(26, [1, 4, 5]), (56, [1])] 400 h

theorem zmJ2_addAll (l : Launch) (hl : l.stackTraces = false) (c_ s_ : Nat) : mm_Spec l yJ2_addAll (ws_ yJ2_addAll cJ2_addAll 6 (some .boolean)) (mm_rm 7 c_ s_) (zE (zJ2_addAll c_ s_)) := by
  refine zz_Met.J hl (by decide) (fun C G hnh => ztJ2_addAll c_ s_ G hnh) ?_
  rintro as M Q X h
  unfold zJ2_addAll at h
  split at h
  rotate_left
  · exact h.elim
  rename_i h_ c
  refine ⟨rfl, ?_⟩
  refine zz_retP_J ?_
  obtain ⟨a, b, m, e, n, ⟨h1, h2, h3, h4, h5⟩, hl, hn, nc, ⟨ha, hb, nab⟩, hc, hq⟩ := h
  have na : h_ ≠ a := zfree_ne ha h1 (by decide)
  have nb : h_ ≠ b := zfree_ne hb h1 (by decide)
  have xa : 1300 ≠ a := zfree_ne ha h5 (by decide)
  have xb : 1300 ≠ b := zfree_ne hb h5 (by decide)
  have t56 : ∀ (S' L' : Nat → Nat → Int) (P' : Nat → Nat → Option Nat) (f' : Nat → Nat × Nat), zsh ((M.1.1, f'), S', L', P') h_ = (1, 17) → zsh ((M.1.1, f'), S', L', P') a = (7, n) → zsh ((M.1.1, f'), S', L', P') b = (7, 10) → (∀ i x : Nat, i < n → P' a i = some x → ∃ ci : Nat, zsh ((M.1.1, f'), S', L', P') x = (1, ci) ∧ mm_mem mm_obs ci = true) → (∀ P3 : Nat → Nat → Option Nat, (∀ j, j ≠ b → P3 j = P' j) → (∀ i, i < n → P3 b i = P' a i) → Q (some (vi 1)) ((M.1.1, f'), mm_up S' h_ 2 n, L', P3)) → zz_J (zpJ2_addAll c_ s_) (zz_retP Q X c_ s_) 56 [some (vr h_), none, some (vr a), some (vi (n : Int)), some (vr b), some (vi 0)] [] ((M.1.1, f'), S', L', P') (0 + 1 + 1, 0 + n + 10) := by
    intro S' L' P' f' g1 g2 g3 g4 g5
    have za : ∀ i, zpt ((M.1.1, f'), S', L', P') a i = P' a i := fun i => zpt_f (M := ((M.1.1, f'), S', L', P')) ha.1
    refine zwJ2_addAll_56 ⟨n, 10, Or.inl g2, g3, by omega, nab, hb.1, by omega, by omega, by omega, fun i hi c hc2 => ?_, g1, by omega, ?_⟩
    · rw [za] at hc2
      exact g4 _ c (by omega) hc2
    · rw [Int.zero_add]
      refine g5 _ (fun j hj => by rw [zrw_n _ _ hj]) (fun i hi => ?_)
      rw [zrw_s]
      unfold va_cpy
      rw [if_pos (by omega), za]
      congr 1
      omega
  refine zwJ2_addAll_0 ⟨Or.inl hl.1, 1, n, by omega, a, m, e, n, hl, ha, by omega, fun P2 p1 p2 => ?_⟩
  have sh : ∀ (x : Nat) (r : Nat × Nat) (S2 L2 : Nat → Nat → Int) (P2 : Nat → Nat → Option Nat), x ≠ a → zsh M x = r → zsh ((M.1.1, zrw M.1.2 a (7, n)), S2, L2, P2) x = r := fun x r S2 L2 P2 ne hx => by rw [zsh_al ha.1, if_neg ne]; exact hx
  have sa : ∀ (S2 L2 : Nat → Nat → Int) (P2 : Nat → Nat → Option Nat), zsh ((M.1.1, zrw M.1.2 a (7, n)), S2, L2, P2) a = (7, n) := fun S2 L2 P2 => by rw [zsh_al ha.1, if_pos rfl]
  have pe : ∀ i x : Nat, i < n → P2 a i = some x → ∃ ci : Nat, zsh M x = (1, ci) ∧ mm_mem mm_obs ci = true := fun i x hi hx => by
    rw [p2 i hi] at hx
    exact hl.2.2.2.2.2.2 i x hi hx
  refine ⟨sh _ _ _ _ _ na h1, sh _ _ _ _ _ na h1, 7, n, sa _ _ _, by decide, by omega, fun c => ?_, fun c => ⟨by omega, ?_⟩⟩
  · have s0 : (mm_up (zrw M.2.1 a (fun _ => 0)) h_ 0 (((zrw M.2.1 a (fun _ => 0)) h_ 0) + 1)) h_ 2 = 0 := by
      rw [up_eq, if_neg (fun c => by cases c.2), zrw_n _ _ na]
      exact h3
    have ph : P2 h_ 1 = some 1300 := by
      rw [p1 h_ na]
      exact (zpt_o h2).symm.trans h4
    have zh : ∀ (S2 L2 : Nat → Nat → Int), zpt ((M.1.1, zrw M.1.2 a (7, n)), S2, L2, P2) h_ 1 = some 1300 := fun S2 L2 => (zpt_o (by exact h2)).trans ph
    refine zwJ2_addAll_26 ⟨1300, sh _ _ _ _ _ na h1, zh _ _, 23, 0, sh _ _ _ _ _ xa h5, by decide, sh _ _ _ _ _ na h1, by omega, ?_⟩
    rw [show ((M.1.1, zrw M.1.2 a (7, n)), mm_up (zrw M.2.1 a (fun _ => 0)) h_ 0 (((zrw M.2.1 a (fun _ => 0)) h_ 0) + 1), zrw M.2.2.1 a (fun _ => 0), P2).2.1 h_ 2 = 0 from s0]
    refine ⟨by decide, fun c => absurd c (by omega), fun _ => ⟨Or.inl (sh _ _ _ _ _ na h1), 1, 10, by omega, b, 10, 1300, 0, sh _ _ _ _ _ na h1, h2, hb.al (Ne.symm nab), zh _ _, Or.inl ⟨rfl, rfl, sh _ _ _ _ _ xa h5, by omega, rfl⟩, by decide, fun i _ c => absurd c (Nat.not_lt_zero _), by omega, fun P4 q1 q2 q3 q4 => ?_⟩⟩
    have sh2 : ∀ (x : Nat) (r : Nat × Nat) (S2 L2 : Nat → Nat → Int) (P2 : Nat → Nat → Option Nat), x ≠ a → x ≠ b → zsh M x = r → zsh ((M.1.1, zrw (zrw M.1.2 a (7, n)) b (7, 10)), S2, L2, P2) x = r := fun x r S2 L2 P2 ne nb hx => zsh_to hx (by rw [zrw_n _ _ nb, zrw_n _ _ ne])
    have pa : P4 a = P2 a := q1 a nab (Ne.symm na)
    refine t56 _ _ _ _ (sh2 _ _ _ _ _ na nb h1) ((zsh_f (by exact ha.1)).trans (by show zrw (zrw _ _ _) _ _ _ = _; rw [zrw_n _ _ nab, zrw_s])) ((zsh_f (by exact hb.1)).trans (zrw_s _ _ _)) (fun i x hi hx => ?_) (fun P5 r1 r2 => ?_)
    · rw [pa] at hx
      obtain ⟨ci, c1, c2⟩ := pe i x hi hx
      exact ⟨ci, sh2 _ _ _ _ _ (zfree_ne ha c1 (by show (1 : Nat) ≠ 0; decide)) (zfree_ne hb c1 (by show (1 : Nat) ≠ 0; decide)) c1, c2⟩
    · refine (hq _ _ _ _ (fun j k1 k2 => ?_) (fun j k k1 k2 k3 => ?_) (fun j k k1 k2 k3 => ?_) ?_ ?_ (fun c => by omega) (fun _ => ⟨?_, ?_, fun i hi => ?_⟩)).1
      · dsimp only
        rw [zrw_n _ _ k2, zrw_n _ _ k1, zrw_n _ _ k2, zrw_n _ _ k1]
        exact ⟨rfl, rfl⟩
      · dsimp only
        rw [up_eq, if_neg (fun c => k3 ⟨c.1, Or.inr c.2⟩), zrw_n _ _ k2, up_eq, if_neg (fun c => k3 ⟨c.1, Or.inl c.2⟩), zrw_n _ _ k1]
      · rw [r1 j k2]
        by_cases ej : j = h_
        · subst ej
          rw [q2 k (fun c => k3 ⟨rfl, c⟩)]
          dsimp only
          rw [p1 j k1]
        · rw [q1 j k2 ej]
          dsimp only
          rw [p1 j k1]
      · rw [up_eq, if_pos ⟨rfl, rfl⟩]
      · dsimp only
        rw [zrw_n _ _ nab, zrw_s]
      · rw [r1 h_ nb]
        exact q3
      · rw [zrw_s]
      · rw [r2 i hi, pa]
        exact p2 i hi
  · have e0 : n = 0 := by omega
    subst e0
    refine (hq _ _ _ _ (fun j k1 k2 => ?_) (fun j k k1 k2 k3 => ?_) (fun j k k1 k2 k3 => ?_) ?_ ?_ (fun _ => ⟨?_, ?_, ?_, ?_, ?_⟩) (fun c => by omega)).2
    · rw [zrw_n _ _ k1, zrw_n _ _ k1]
      exact ⟨rfl, rfl⟩
    · rw [up_eq, if_neg (fun c => k3 ⟨c.1, Or.inl c.2⟩), zrw_n _ _ k1]
    · rw [p1 j k1]
    · rw [up_eq, if_neg (fun c => by cases c.2), zrw_n _ _ na]
      exact h3
    · rw [zrw_s]
    · rw [p1 h_ na]
    · rw [zrw_n _ _ (Ne.symm nab)]
    · funext k
      rw [up_eq, if_neg (fun c => nb c.1.symm), zrw_n _ _ (Ne.symm nab)]
    · rw [zrw_n _ _ (Ne.symm nab)]
    · rw [p1 b (Ne.symm nab)]
