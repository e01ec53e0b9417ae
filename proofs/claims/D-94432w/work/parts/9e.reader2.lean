/-! ===== the component's reader: words compared, numbers, depth ===== -/
set_option maxRecDepth 100000
abbrev cJ13_init_2 : ByteArray := prog_30_method_5_code
def yJ13_init_2 : MethodName := ⟨RJ13, "<init>", "(Ljava/lang/String;Ljava/lang/Throwable;ZZ)V"⟩
def dkwJ13_init_2_0 : List UInt8 := [42, 43, 44, 29, 21, 4, 183, 0, 16, 177]
abbrev dktJ13_init_2_0 : List UInt8 := dkwJ13_init_2_0 ++ []
theorem dksJ13_init_2_0 : cJ13_init_2.data.toList.drop 0 = dktJ13_init_2_0 := by decide +kernel
theorem dJ13_init_2_0 : decode cJ13_init_2 0 = .ok (.aload_n 0, 1) := dk_42 (dk_at dksJ13_init_2_0 0 rfl rfl)
theorem dJ13_init_2_1 : decode cJ13_init_2 1 = .ok (.aload_n 1, 1) := dk_43 (dk_at dksJ13_init_2_0 1 rfl rfl)
theorem dJ13_init_2_2 : decode cJ13_init_2 2 = .ok (.aload_n 2, 1) := dk_44 (dk_at dksJ13_init_2_0 2 rfl rfl)
theorem dJ13_init_2_3 : decode cJ13_init_2 3 = .ok (.iload_n 3, 1) := dk_29 (dk_at dksJ13_init_2_0 3 rfl rfl)
theorem dJ13_init_2_4 : decode cJ13_init_2 4 = .ok (.iload 4, 2) := dk_21 4 (dk_at dksJ13_init_2_0 4 rfl rfl)
theorem dJ13_init_2_6 : decode cJ13_init_2 6 = .ok (.invokespecial 16, 3) := dk_183 0 16 (dk_at dksJ13_init_2_0 6 rfl rfl)
theorem dJ13_init_2_9 : decode cJ13_init_2 9 = .ok (.return_, 1) := dk_177 (dk_at dksJ13_init_2_0 9 rfl rfl)
/-- the same bytes: those of a made text, of a constant one -/
def eqK (M : zz_M) (a b n m : Nat) : Prop := n = m ∧ ∀ i, i < n → M.2.1 a i = (mm_kI b i).toInt
def zJ10_equals_k : zz_Sp := fun as M Q X => match as with
  | [.inr (.inr (some a)), .inr (.inr (some b))] => ∃ n_ m_ : Nat, zsh M a = (4, n_) ∧ zsh M b = (20, m_) ∧ n_ ≤ 100000 ∧ m_ ≤ 100000 ∧ (∀ i, i < n_ → R32 (M.2.1 a i)) ∧ (eqK M a b n_ m_ → Q (some (vi 1)) M) ∧ (¬ eqK M a b n_ m_ → Q (some (vi 0)) M)
  | _ => False

def zpJ10_equals_k : zz_P := [(0, zo_ald 1 0), (1, zo_alenp 2), (2, zo_ald 3 1), (3, zo_alenp 4), (4, zo_cne false false 7 34), (7, zo_c 8 (vi 0)), (8, zo_ist 9 2), (9, zo_ild 10 2), (10, zo_ald 11 0), (11, zo_alenp 12), (12, zo_cge false false 15 32), (15, zo_ald 16 0), (16, zo_ild 17 2), (17, zo_baldp 18), (18, zo_ald 19 1), (19, zo_ild 20 2), (20, zo_baldk 21), (21, zo_ceq false false 24 26), (24, zo_c 25 (vi 0)), (25, zo_zret true), (26, zo_inc 29 2 1), (29, zo_goto 9), (32, zo_c 33 (vi 1)), (33, zo_zret true), (34, zo_c 35 (vi 0)), (35, zo_zret true)]
theorem ztJ10_equals_k {C : mm_C} (G : mm_G C RJ10 cJ10_equals (some .boolean) 3 (mm_rm 1 0 0)) (hnh : mm_nh C) : zz_OKs C zpJ10_equals_k :=
  ⟨zz_of (ok_aload_n G dJ10_equals_0 rfl rfl) (z_ald _ _),
   zz_of (ok_alen G dJ10_equals_1 rfl) (z_alenp _),
   zz_of (ok_aload_n G dJ10_equals_2 rfl rfl) (z_ald _ _),
   zz_of (ok_alen G dJ10_equals_3 rfl) (z_alenp _),
   zz_of (ok_cne G dJ10_equals_4 rfl rfl) (z_cne _ _ _ _),
   zz_of (ok_iconst G (v := 0) dJ10_equals_7 (by decide) rfl) (z_cn 8 0),
   zz_of (ok_istore_n G dJ10_equals_8 rfl rfl (by decide)) (z_ist _ _),
   zz_of (ok_iload_n G dJ10_equals_9 rfl rfl) (z_ild _ _),
   zz_of (ok_aload_n G dJ10_equals_10 rfl rfl) (z_ald _ _),
   zz_of (ok_alen G dJ10_equals_11 rfl) (z_alenp _),
   zz_of (ok_cge G dJ10_equals_12 rfl rfl) (z_cge _ _ _ _),
   zz_of (ok_aload_n G dJ10_equals_15 rfl rfl) (z_ald _ _),
   zz_of (ok_iload_n G dJ10_equals_16 rfl rfl) (z_ild _ _),
   zz_of (ok_bald G dJ10_equals_17 rfl) (z_baldp _),
   zz_of (ok_aload_n G dJ10_equals_18 rfl rfl) (z_ald _ _),
   zz_of (ok_iload_n G dJ10_equals_19 rfl rfl) (z_ild _ _),
   zz_of (ok_bald G dJ10_equals_20 rfl) (z_baldk _),
   zz_of (ok_ceq G dJ10_equals_21 rfl rfl) (z_ceq _ _ _ _),
   zz_of (ok_iconst G (v := 0) dJ10_equals_24 (by decide) rfl) (z_cn 25 0),
   zz_of (ok_zret G dJ10_equals_25) (z_zret _),
   zz_of (ok_iinc G (v := 1) dJ10_equals_26 (by decide) rfl (by decide)) (z_incn 29 2 1),
   zz_of (ok_goto G dJ10_equals_29 rfl) (z_goto _),
   zz_of (ok_iconst G (v := 1) dJ10_equals_32 (by decide) rfl) (z_cn 33 1),
   zz_of (ok_zret G dJ10_equals_33) (z_zret _),
   zz_of (ok_iconst G (v := 0) dJ10_equals_34 (by decide) rfl) (z_cn 35 0),
   zz_of (ok_zret G dJ10_equals_35) (z_zret _), trivial⟩

theorem zwJ10_equals_k_0 {Q : Option zv → zz_M → Prop} {X : Nat → zz_M → Prop} {M : zz_M} {a : Nat} {b : Nat} (h : ∃ (t_ n1 : Nat), zsh M a = (t_, n1) ∧ (2 ≤ t_ % 16 ∧ t_ % 16 ≤ 8 ∧ t_ ≤ 31) ∧ (∃ (t_ n2 : Nat), zsh M b = (t_, n2) ∧ (2 ≤ t_ % 16 ∧ t_ % 16 ≤ 8 ∧ t_ ≤ 31) ∧ (R32 (n1 : Int) ∧ (R32 (n2 : Int) ∧ ((¬ (n1 : Int) = (n2 : Int) → Q (some (vi 0)) M) ∧ ((n1 : Int) = (n2 : Int) → zz_J zpJ10_equals_k (zz_ret Q X 0 0) 9 [some (vr a), some (vr b), some (vi 0)] [] M (0, 0))))))) : zz_J zpJ10_equals_k (zz_ret Q X 0 0) 0 [some (vr a), some (vr b), none] [] M (0, 0) := zz_J.go [(9, [])] 400 h
theorem zwJ10_equals_k_9 {Q : Option zv → zz_M → Prop} {X : Nat → zz_M → Prop} {M : zz_M} {h0 : Nat} {h1 : Nat} {x2 : Int} (h : ∃ (t_ n1 : Nat), zsh M h0 = (t_, n1) ∧ (2 ≤ t_ % 16 ∧ t_ % 16 ≤ 8 ∧ t_ ≤ 31) ∧ (R32 x2 ∧ (R32 (n1 : Int) ∧ (((n1 : Int) ≤ x2 → Q (some (vi 1)) M) ∧ (¬ (n1 : Int) ≤ x2 → ∃ n_ : Nat, zsh M h0 = (4, n_) ∧ (n_ : Int) ≤ 2147483647 ∧ (0 ≤ x2 ∧ x2 < (n_ : Int)) ∧ (∃ n_ : Nat, zsh M h1 = (20, n_) ∧ (n_ : Int) ≤ 2147483647 ∧ (0 ≤ x2 ∧ x2 < (n_ : Int)) ∧ (R32 (M.2.1 h0 x2.toNat) ∧ (R32 ((mm_kI h1 x2.toNat).toInt) ∧ (((M.2.1 h0 x2.toNat) = ((mm_kI h1 x2.toNat).toInt) → zz_J zpJ10_equals_k (zz_ret Q X 0 0) 9 [some (vr h0), some (vr h1), some (vi (x2 + 1))] [] M (0, 0)) ∧ (¬ (M.2.1 h0 x2.toNat) = ((mm_kI h1 x2.toNat).toInt) → Q (some (vi 0)) M)))))))))) : zz_J zpJ10_equals_k (zz_ret Q X 0 0) 9 [some (vr h0), some (vr h1), some (vi x2)] [] M (0, 0) := zz_J.go [(9, [])] 400 h

theorem zmJ10_equals_k (l : Launch) (hl : l.stackTraces = false) : mm_Spec l yJ10_equals (ws_ yJ10_equals cJ10_equals 3 (some .boolean)) (mm_rm 1 0 0) (zE zJ10_equals_k) := by
  refine zz_Met.J hl (by decide) (fun C G hnh => ztJ10_equals_k G hnh) ?_
  rintro as M Q X h
  unfold zJ10_equals_k at h
  split at h
  rotate_left
  · exact h.elim
  rename_i a b
  refine ⟨rfl, ?_⟩
  obtain ⟨n, m, ha, hb, hn, hm, hr, q1, q0⟩ := h
  have t9 : ∀ j i : Nat, i + j = n → n = m → (∀ k, k < i → M.2.1 a k = (mm_kI b k).toInt) → zz_J zpJ10_equals_k (zz_ret Q X 0 0) 9 [some (vr a), some (vr b), some (vi (i : Int))] [] M (0, 0) := by
    intro j
    induction j with
    | zero =>
      intro i hi he hk
      exact zwJ10_equals_k_9 ⟨4, n, ha, by decide, by omega, by omega, fun _ => q1 ⟨he, fun k hk2 => hk k (by omega)⟩, fun c => absurd (show (n : Int) ≤ (i : Int) by omega) c⟩
    | succ j ih =>
      intro i hi he hk
      refine zwJ10_equals_k_9 ⟨4, n, ha, by decide, by omega, by omega, fun c => absurd c (by omega), fun _ => ⟨n, ha, by omega, by omega, m, hb, by omega, by omega, ?_⟩⟩
      rw [Int.toNat_natCast]
      refine ⟨hr i (by omega), i32_r _, fun e => ?_, fun e => q0 fun c => e (c.2 i (by omega))⟩
      refine ih (i + 1) (by omega) he (fun k hk2 => ?_)
      by_cases ek : k = i
      · rw [ek]; exact e
      · exact hk k (by omega)
  refine zwJ10_equals_k_0 ⟨4, n, ha, by decide, 20, m, hb, by decide, by omega, by omega, fun c => q0 fun e => c (by rw [e.1]), fun c => t9 n 0 (by omega) (by omega) (fun k hk => absurd hk (Nat.not_lt_zero _))⟩
def zJ10_equals_l : zz_Sp := fun as M Q X => match as with
  | [.inr (.inr (some a)), .inr (.inr (some b))] => ∃ n_ m_ : Nat, zsh M b = (4, n_) ∧ zsh M a = (20, m_) ∧ n_ ≤ 100000 ∧ m_ ≤ 100000 ∧ (∀ i, i < n_ → R32 (M.2.1 b i)) ∧ (eqK M b a n_ m_ → Q (some (vi 1)) M) ∧ (¬ eqK M b a n_ m_ → Q (some (vi 0)) M)
  | _ => False

def zpJ10_equals_l : zz_P := [(0, zo_ald 1 0), (1, zo_alenp 2), (2, zo_ald 3 1), (3, zo_alenp 4), (4, zo_cne false false 7 34), (7, zo_c 8 (vi 0)), (8, zo_ist 9 2), (9, zo_ild 10 2), (10, zo_ald 11 0), (11, zo_alenp 12), (12, zo_cge false false 15 32), (15, zo_ald 16 0), (16, zo_ild 17 2), (17, zo_baldk 18), (18, zo_ald 19 1), (19, zo_ild 20 2), (20, zo_baldp 21), (21, zo_ceq false false 24 26), (24, zo_c 25 (vi 0)), (25, zo_zret true), (26, zo_inc 29 2 1), (29, zo_goto 9), (32, zo_c 33 (vi 1)), (33, zo_zret true), (34, zo_c 35 (vi 0)), (35, zo_zret true)]
theorem ztJ10_equals_l {C : mm_C} (G : mm_G C RJ10 cJ10_equals (some .boolean) 3 (mm_rm 1 0 0)) (hnh : mm_nh C) : zz_OKs C zpJ10_equals_l :=
  ⟨zz_of (ok_aload_n G dJ10_equals_0 rfl rfl) (z_ald _ _),
   zz_of (ok_alen G dJ10_equals_1 rfl) (z_alenp _),
   zz_of (ok_aload_n G dJ10_equals_2 rfl rfl) (z_ald _ _),
   zz_of (ok_alen G dJ10_equals_3 rfl) (z_alenp _),
   zz_of (ok_cne G dJ10_equals_4 rfl rfl) (z_cne _ _ _ _),
   zz_of (ok_iconst G (v := 0) dJ10_equals_7 (by decide) rfl) (z_cn 8 0),
   zz_of (ok_istore_n G dJ10_equals_8 rfl rfl (by decide)) (z_ist _ _),
   zz_of (ok_iload_n G dJ10_equals_9 rfl rfl) (z_ild _ _),
   zz_of (ok_aload_n G dJ10_equals_10 rfl rfl) (z_ald _ _),
   zz_of (ok_alen G dJ10_equals_11 rfl) (z_alenp _),
   zz_of (ok_cge G dJ10_equals_12 rfl rfl) (z_cge _ _ _ _),
   zz_of (ok_aload_n G dJ10_equals_15 rfl rfl) (z_ald _ _),
   zz_of (ok_iload_n G dJ10_equals_16 rfl rfl) (z_ild _ _),
   zz_of (ok_bald G dJ10_equals_17 rfl) (z_baldk _),
   zz_of (ok_aload_n G dJ10_equals_18 rfl rfl) (z_ald _ _),
   zz_of (ok_iload_n G dJ10_equals_19 rfl rfl) (z_ild _ _),
   zz_of (ok_bald G dJ10_equals_20 rfl) (z_baldp _),
   zz_of (ok_ceq G dJ10_equals_21 rfl rfl) (z_ceq _ _ _ _),
   zz_of (ok_iconst G (v := 0) dJ10_equals_24 (by decide) rfl) (z_cn 25 0),
   zz_of (ok_zret G dJ10_equals_25) (z_zret _),
   zz_of (ok_iinc G (v := 1) dJ10_equals_26 (by decide) rfl (by decide)) (z_incn 29 2 1),
   zz_of (ok_goto G dJ10_equals_29 rfl) (z_goto _),
   zz_of (ok_iconst G (v := 1) dJ10_equals_32 (by decide) rfl) (z_cn 33 1),
   zz_of (ok_zret G dJ10_equals_33) (z_zret _),
   zz_of (ok_iconst G (v := 0) dJ10_equals_34 (by decide) rfl) (z_cn 35 0),
   zz_of (ok_zret G dJ10_equals_35) (z_zret _), trivial⟩

theorem zwJ10_equals_l_0 {Q : Option zv → zz_M → Prop} {X : Nat → zz_M → Prop} {M : zz_M} {a : Nat} {b : Nat} (h : ∃ (t_ n1 : Nat), zsh M a = (t_, n1) ∧ (2 ≤ t_ % 16 ∧ t_ % 16 ≤ 8 ∧ t_ ≤ 31) ∧ (∃ (t_ n2 : Nat), zsh M b = (t_, n2) ∧ (2 ≤ t_ % 16 ∧ t_ % 16 ≤ 8 ∧ t_ ≤ 31) ∧ (R32 (n1 : Int) ∧ (R32 (n2 : Int) ∧ ((¬ (n1 : Int) = (n2 : Int) → Q (some (vi 0)) M) ∧ ((n1 : Int) = (n2 : Int) → zz_J zpJ10_equals_l (zz_ret Q X 0 0) 9 [some (vr a), some (vr b), some (vi 0)] [] M (0, 0))))))) : zz_J zpJ10_equals_l (zz_ret Q X 0 0) 0 [some (vr a), some (vr b), none] [] M (0, 0) := zz_J.go [(9, [])] 400 h
theorem zwJ10_equals_l_9 {Q : Option zv → zz_M → Prop} {X : Nat → zz_M → Prop} {M : zz_M} {h0 : Nat} {h1 : Nat} {x2 : Int} (h : ∃ (t_ n1 : Nat), zsh M h0 = (t_, n1) ∧ (2 ≤ t_ % 16 ∧ t_ % 16 ≤ 8 ∧ t_ ≤ 31) ∧ (R32 x2 ∧ (R32 (n1 : Int) ∧ (((n1 : Int) ≤ x2 → Q (some (vi 1)) M) ∧ (¬ (n1 : Int) ≤ x2 → ∃ n_ : Nat, zsh M h0 = (20, n_) ∧ (n_ : Int) ≤ 2147483647 ∧ (0 ≤ x2 ∧ x2 < (n_ : Int)) ∧ (∃ n_ : Nat, zsh M h1 = (4, n_) ∧ (n_ : Int) ≤ 2147483647 ∧ (0 ≤ x2 ∧ x2 < (n_ : Int)) ∧ (R32 ((mm_kI h0 x2.toNat).toInt) ∧ (R32 (M.2.1 h1 x2.toNat) ∧ ((((mm_kI h0 x2.toNat).toInt) = (M.2.1 h1 x2.toNat) → zz_J zpJ10_equals_l (zz_ret Q X 0 0) 9 [some (vr h0), some (vr h1), some (vi (x2 + 1))] [] M (0, 0)) ∧ (¬ ((mm_kI h0 x2.toNat).toInt) = (M.2.1 h1 x2.toNat) → Q (some (vi 0)) M)))))))))) : zz_J zpJ10_equals_l (zz_ret Q X 0 0) 9 [some (vr h0), some (vr h1), some (vi x2)] [] M (0, 0) := zz_J.go [(9, [])] 400 h

theorem zmJ10_equals_l (l : Launch) (hl : l.stackTraces = false) : mm_Spec l yJ10_equals (ws_ yJ10_equals cJ10_equals 3 (some .boolean)) (mm_rm 1 0 0) (zE zJ10_equals_l) := by
  refine zz_Met.J hl (by decide) (fun C G hnh => ztJ10_equals_l G hnh) ?_
  rintro as M Q X h
  unfold zJ10_equals_l at h
  split at h
  rotate_left
  · exact h.elim
  rename_i a b
  refine ⟨rfl, ?_⟩
  obtain ⟨n, m, hb, ha, hn, hm, hr, q1, q0⟩ := h
  have t9 : ∀ j i : Nat, i + j = n → n = m → (∀ k, k < i → M.2.1 b k = (mm_kI a k).toInt) → zz_J zpJ10_equals_l (zz_ret Q X 0 0) 9 [some (vr a), some (vr b), some (vi (i : Int))] [] M (0, 0) := by
    intro j
    induction j with
    | zero =>
      intro i hi he hk
      exact zwJ10_equals_l_9 ⟨20, m, ha, by decide, by omega, by omega, fun _ => q1 ⟨he, fun k hk2 => hk k (by omega)⟩, fun c => absurd (show (m : Int) ≤ (i : Int) by omega) c⟩
    | succ j ih =>
      intro i hi he hk
      refine zwJ10_equals_l_9 ⟨20, m, ha, by decide, by omega, by omega, fun c => absurd c (by omega), fun _ => ⟨m, ha, by omega, by omega, n, hb, by omega, by omega, ?_⟩⟩
      rw [Int.toNat_natCast]
      refine ⟨i32_r _, hr i (by omega), fun e => ?_, fun e => q0 fun c => e (c.2 i (by omega)).symm⟩
      refine ih (i + 1) (by omega) he (fun k hk2 => ?_)
      by_cases ek : k = i
      · rw [ek]; exact e.symm
      · exact hk k (by omega)
  refine zwJ10_equals_l_0 ⟨20, m, ha, by decide, 4, n, hb, by decide, by omega, by omega, fun c => q0 fun e => c (by rw [e.1]), fun c => t9 n 0 (by omega) (by omega) (fun k hk => absurd hk (Nat.not_lt_zero _))⟩
theorem kP_txt {h : Nat} (h1 : 1000 ≤ h) (h2 : h < 1018) : mm_kP h 0 = some (h + 100) ∧ (mm_kI h 1).toInt = 0 := by
  obtain ⟨j, rfl⟩ : ∃ j, h = 1000 + j := ⟨h - 1000, by omega⟩
  exact (by decide +kernel : ∀ j : Fin 18, mm_kP (1000 + j.val) 0 = some (1000 + j.val + 100) ∧ (mm_kI (1000 + j.val) 1).toInt = 0) ⟨j, by omega⟩
/-- a made text: its bytes' handle, how many -/
def stK (M : zz_M) (h x n : Nat) : Prop := zsh M h = (1, 19) ∧ zpt M h 0 = some x ∧ M.2.1 h 1 = 0 ∧ zsh M x = (4, n) ∧ n ≤ 100000 ∧ ∀ i, i < n → R32 (M.2.1 x i)
/-- a constant text -/
def ctK (M : zz_M) (h m : Nat) : Prop := 1000 ≤ h ∧ h < 1018 ∧ zsh M h = (17, 19) ∧ zsh M (h + 100) = (20, m) ∧ m ≤ 100000
def zJ8_equals_k : zz_Sp := fun as M Q X => match as with
  | [.inr (.inr (some h_)), .inr (.inr (some b))] => ∃ x_ n_ m_ : Nat, stK M h_ x_ n_ ∧ ctK M b m_ ∧ (eqK M x_ (b + 100) n_ m_ → Q (some (vi 1)) M) ∧ (¬ eqK M x_ (b + 100) n_ m_ → Q (some (vi 0)) M)
  | _ => False

def zpJ8_equals_k : zz_P := [(0, zo_ald 1 0), (1, zo_ald 2 1), (2, zo_acne 5 7), (5, zo_c 6 (vi 1)), (6, zo_zret true), (7, zo_ald 8 1), (8, zo_inst 11 19), (11, zo_ifeq false 14 54), (14, zo_ald 15 1), (15, zo_cast 18 [19]), (18, zo_ast 19 2), (19, zo_c 22 (vi 1)), (22, zo_ifeq false 25 36), (25, zo_ald 26 0), (26, zo_getp 29 19 0 1), (29, zo_ald 30 2), (30, zo_getk 33 19 1), (33, zo_cne false false 36 54), (36, zo_ald 37 0), (37, zo_getq 40 19 0), (40, zo_ald 41 2), (41, zo_getkr 44 19 0), (44, zo_calls 47 2 zJ10_equals_k), (47, zo_zifeq 50 54), (50, zo_c 51 (vi 1)), (51, zo_goto 55), (54, zo_c 55 (vi 0)), (55, zo_zret true)]
theorem ztJ8_equals_k {C : mm_C} (G : mm_G C RJ8 cJ8_equals (some .boolean) 3 (mm_rm 2 0 0)) (hnh : mm_nh C) : zz_OKs C zpJ8_equals_k :=
  ⟨zz_of (ok_aload_n G dJ8_equals_0 rfl rfl) (z_ald _ _),
   zz_of (ok_aload_n G dJ8_equals_1 rfl rfl) (z_ald _ _),
   zz_of (ok_acne G dJ8_equals_2 rfl rfl) (z_acne _ _),
   zz_of (ok_iconst G (v := 1) dJ8_equals_5 (by decide) rfl) (z_cn 6 1),
   zz_of (ok_zret G dJ8_equals_6) (z_zret _),
   zz_of (ok_aload_n G dJ8_equals_7 rfl rfl) (z_ald _ _),
   zz_of (ok_inst G (ci := 19) (RJ8, TJ8, 4) rfl q1049 dJ8_equals_8 rfl) (z_inst _ _),
   zz_of (ok_ifeq G dJ8_equals_11 rfl rfl) (z_ifeq _ _ _),
   zz_of (ok_aload_n G dJ8_equals_14 rfl rfl) (z_ald _ _),
   zz_of (ok_cast G (l := [19]) (fun ci h r e => by
      simp only [List.mem_cons, List.not_mem_nil, or_false] at h
      subst h <;> cases e <;> first | exact Or.inl rfl) q1049 dJ8_equals_15 rfl) (z_cast _ _),
   zz_of (ok_astore_n G dJ8_equals_18 rfl rfl (by decide)) (z_ast _ _),
   zz_of (ok_gs G (c := "java/lang/String") (n := "COMPACT_STRINGS") (d := "Z") (by decide +kernel) q887 dJ8_equals_19 rfl) (z_cn 22 1),
   zz_of (ok_ifeq G dJ8_equals_22 rfl rfl) (z_ifeq _ _ _),
   zz_of (ok_aload_n G dJ8_equals_25 rfl rfl) (z_ald _ _),
   zz_of (ok_get G (nx := 29) (ci := 19) (kd := 0) (k := 1) (RJ8, TJ8, 4) rfl (by decide) rfl q943 dJ8_equals_26 rfl) (z_getp _ _ _ _),
   zz_of (ok_aload_n G dJ8_equals_29 rfl rfl) (z_ald _ _),
   zz_of (ok_get G (nx := 33) (ci := 19) (kd := 0) (k := 1) (RJ8, TJ8, 4) rfl (by decide) rfl q943 dJ8_equals_30 rfl) (z_getk _ _ _),
   zz_of (ok_cne G dJ8_equals_33 rfl rfl) (z_cne _ _ _ _),
   zz_of (ok_aload_n G dJ8_equals_36 rfl rfl) (z_ald _ _),
   zz_of (ok_get G (nx := 40) (ci := 19) (kd := 2) (k := 0) (RJ8, TJ8, 4) rfl (by decide) rfl q942 dJ8_equals_37 rfl) (z_getq _ _ _),
   zz_of (ok_aload_n G dJ8_equals_40 rfl rfl) (z_ald _ _),
   zz_of (ok_get G (nx := 44) (ci := 19) (kd := 2) (k := 0) (RJ8, TJ8, 4) rfl (by decide) rfl q942 dJ8_equals_41 rfl) (z_getkr _ _ _),
   zz_of (ok_calls G hnh (zmJ10_equals_k _ G.hst) rfl rfl q1050 q1051 q102 q1052 (by decide +kernel) ⟨by decide, by decide⟩ dJ8_equals_44 rfl) (z_calls _ _ _),
   zz_of (ok_ifeq G dJ8_equals_47 rfl rfl) (z_zifeq _ _),
   zz_of (ok_iconst G (v := 1) dJ8_equals_50 (by decide) rfl) (z_cn 51 1),
   zz_of (ok_goto G dJ8_equals_51 rfl) (z_goto _),
   zz_of (ok_iconst G (v := 0) dJ8_equals_54 (by decide) rfl) (z_cn 55 0),
   zz_of (ok_zret G dJ8_equals_55) (z_zret _), trivial⟩

theorem zwJ8_equals_k_0 {Q : Option zv → zz_M → Prop} {X : Nat → zz_M → Prop} {M : zz_M} {b : Nat} {h_ : Nat} (h : ((h_ : Nat) = b → Q (some (vi 1)) M) ∧ ((h_ : Nat) ≠ b → (((zsh M h_).1 ≤ 15 ∧ (zsh M b).1 ≤ 47) ∨ ((zsh M b).1 ≤ 15 ∧ (zsh M h_).1 ≤ 47)) ∧ ((zsh M b = (1, 19) ∨ zsh M b = (17, 19)) ∧ (R32 1 ∧ (((1 : Int) = 0 → Q (some (vi 0)) M) ∧ (¬ (1 : Int) = 0 → (∃ ci : Nat, (zsh M b = (1, ci) ∨ zsh M b = (17, ci)) ∧ mm_mem [19] ci = true) ∧ (R32 1 ∧ (((1 : Int) = 0 → zsh M h_ = (1, 19) ∧ (∀ b1 : Nat, zpt M h_ 0 = some b1 → ∃ b2 : Nat, zsh M b = (17, 19) ∧ mm_kP b 0 = some b2 ∧ ((∃ n_3 m_3 : Nat, zsh M b1 = (4, n_3) ∧ zsh M b2 = (20, m_3) ∧ n_3 ≤ 100000 ∧ m_3 ≤ 100000 ∧ (∀ i, i < n_3 → R32 (M.2.1 b1 i)) ∧ (eqK M b1 b2 n_3 m_3 → (Q (some (vi 1)) M)) ∧ (¬ eqK M b1 b2 n_3 m_3 → (Q (some (vi 0)) M))))) ∧ (zpt M h_ 0 = none → ∃ b4 : Nat, zsh M b = (17, 19) ∧ mm_kP b 0 = some b4 ∧ ((False)))) ∧ (¬ (1 : Int) = 0 → zsh M h_ = (1, 19) ∧ (zsh M b = (17, 19) ∧ (R32 (M.2.1 h_ 1) ∧ (R32 ((mm_kI b 1).toInt) ∧ ((¬ (M.2.1 h_ 1) = ((mm_kI b 1).toInt) → Q (some (vi 0)) M) ∧ ((M.2.1 h_ 1) = ((mm_kI b 1).toInt) → zsh M h_ = (1, 19) ∧ (∀ b6 : Nat, zpt M h_ 0 = some b6 → ∃ b7 : Nat, zsh M b = (17, 19) ∧ mm_kP b 0 = some b7 ∧ ((∃ n_8 m_8 : Nat, zsh M b6 = (4, n_8) ∧ zsh M b7 = (20, m_8) ∧ n_8 ≤ 100000 ∧ m_8 ≤ 100000 ∧ (∀ i, i < n_8 → R32 (M.2.1 b6 i)) ∧ (eqK M b6 b7 n_8 m_8 → (Q (some (vi 1)) M)) ∧ (¬ eqK M b6 b7 n_8 m_8 → (Q (some (vi 0)) M))))) ∧ (zpt M h_ 0 = none → ∃ b9 : Nat, zsh M b = (17, 19) ∧ mm_kP b 0 = some b9 ∧ ((False))))))))))))))))) : zz_J zpJ8_equals_k (zz_ret Q X 0 0) 0 [some (vr h_), some (vr b), none] [] M (0, 0) := zz_J.go [] 400 h

theorem zmJ8_equals_k (l : Launch) (hl : l.stackTraces = false) : mm_Spec l yJ8_equals (ws_ yJ8_equals cJ8_equals 3 (some .boolean)) (mm_rm 2 0 0) (zE zJ8_equals_k) := by
  refine zz_Met.J hl (by decide) (fun C G hnh => ztJ8_equals_k G hnh) ?_
  rintro as M Q X h
  unfold zJ8_equals_k at h
  split at h
  rotate_left
  · exact h.elim
  rename_i h_ b
  refine ⟨rfl, ?_⟩
  obtain ⟨x, n, m, ⟨s1, s2, s3, s4, s5, s6⟩, ⟨k1, k2, k3, k4, k5⟩, q1, q0⟩ := h
  obtain ⟨p0, p1⟩ := kP_txt k1 k2
  have nb : h_ ≠ b := by
    rintro rfl
    rw [s1] at k3
    cases k3
  refine zwJ8_equals_k_0 ⟨fun e => absurd e nb, fun _ => ⟨Or.inl ⟨by rw [s1]; decide, by rw [k3]; decide⟩, Or.inr k3, by decide, fun c => absurd c (by decide), fun _ => ⟨⟨19, Or.inr k3, rfl⟩, by decide, fun c => absurd c (by decide), fun _ => ⟨s1, k3, by rw [s3]; decide, i32_r _, fun c => absurd (by rw [s3, p1]) c, fun _ => ⟨s1, fun y ey => ?_, fun e => by rw [s2] at e; cases e⟩⟩⟩⟩⟩
  rw [s2] at ey
  cases ey
  exact ⟨b + 100, k3, p0, n, m, s4, k4, s5, k5, s6, q1, q0⟩
def zJ8_equals_l : zz_Sp := fun as M Q X => match as with
  | [.inr (.inr (some h_)), .inr (.inr (some b))] => ∃ x_ n_ m_ : Nat, stK M b x_ n_ ∧ ctK M h_ m_ ∧ (eqK M x_ (h_ + 100) n_ m_ → Q (some (vi 1)) M) ∧ (¬ eqK M x_ (h_ + 100) n_ m_ → Q (some (vi 0)) M)
  | _ => False

def zpJ8_equals_l : zz_P := [(0, zo_ald 1 0), (1, zo_ald 2 1), (2, zo_acne 5 7), (5, zo_c 6 (vi 1)), (6, zo_zret true), (7, zo_ald 8 1), (8, zo_inst 11 19), (11, zo_ifeq false 14 54), (14, zo_ald 15 1), (15, zo_cast 18 [19]), (18, zo_ast 19 2), (19, zo_c 22 (vi 1)), (22, zo_ifeq false 25 36), (25, zo_ald 26 0), (26, zo_getk 29 19 1), (29, zo_ald 30 2), (30, zo_getp 33 19 0 1), (33, zo_cne false false 36 54), (36, zo_ald 37 0), (37, zo_getkr 40 19 0), (40, zo_ald 41 2), (41, zo_getq 44 19 0), (44, zo_calls 47 2 zJ10_equals_l), (47, zo_zifeq 50 54), (50, zo_c 51 (vi 1)), (51, zo_goto 55), (54, zo_c 55 (vi 0)), (55, zo_zret true)]
theorem ztJ8_equals_l {C : mm_C} (G : mm_G C RJ8 cJ8_equals (some .boolean) 3 (mm_rm 2 0 0)) (hnh : mm_nh C) : zz_OKs C zpJ8_equals_l :=
  ⟨zz_of (ok_aload_n G dJ8_equals_0 rfl rfl) (z_ald _ _),
   zz_of (ok_aload_n G dJ8_equals_1 rfl rfl) (z_ald _ _),
   zz_of (ok_acne G dJ8_equals_2 rfl rfl) (z_acne _ _),
   zz_of (ok_iconst G (v := 1) dJ8_equals_5 (by decide) rfl) (z_cn 6 1),
   zz_of (ok_zret G dJ8_equals_6) (z_zret _),
   zz_of (ok_aload_n G dJ8_equals_7 rfl rfl) (z_ald _ _),
   zz_of (ok_inst G (ci := 19) (RJ8, TJ8, 4) rfl q1049 dJ8_equals_8 rfl) (z_inst _ _),
   zz_of (ok_ifeq G dJ8_equals_11 rfl rfl) (z_ifeq _ _ _),
   zz_of (ok_aload_n G dJ8_equals_14 rfl rfl) (z_ald _ _),
   zz_of (ok_cast G (l := [19]) (fun ci h r e => by
      simp only [List.mem_cons, List.not_mem_nil, or_false] at h
      subst h <;> cases e <;> first | exact Or.inl rfl) q1049 dJ8_equals_15 rfl) (z_cast _ _),
   zz_of (ok_astore_n G dJ8_equals_18 rfl rfl (by decide)) (z_ast _ _),
   zz_of (ok_gs G (c := "java/lang/String") (n := "COMPACT_STRINGS") (d := "Z") (by decide +kernel) q887 dJ8_equals_19 rfl) (z_cn 22 1),
   zz_of (ok_ifeq G dJ8_equals_22 rfl rfl) (z_ifeq _ _ _),
   zz_of (ok_aload_n G dJ8_equals_25 rfl rfl) (z_ald _ _),
   zz_of (ok_get G (nx := 29) (ci := 19) (kd := 0) (k := 1) (RJ8, TJ8, 4) rfl (by decide) rfl q943 dJ8_equals_26 rfl) (z_getk _ _ _),
   zz_of (ok_aload_n G dJ8_equals_29 rfl rfl) (z_ald _ _),
   zz_of (ok_get G (nx := 33) (ci := 19) (kd := 0) (k := 1) (RJ8, TJ8, 4) rfl (by decide) rfl q943 dJ8_equals_30 rfl) (z_getp _ _ _ _),
   zz_of (ok_cne G dJ8_equals_33 rfl rfl) (z_cne _ _ _ _),
   zz_of (ok_aload_n G dJ8_equals_36 rfl rfl) (z_ald _ _),
   zz_of (ok_get G (nx := 40) (ci := 19) (kd := 2) (k := 0) (RJ8, TJ8, 4) rfl (by decide) rfl q942 dJ8_equals_37 rfl) (z_getkr _ _ _),
   zz_of (ok_aload_n G dJ8_equals_40 rfl rfl) (z_ald _ _),
   zz_of (ok_get G (nx := 44) (ci := 19) (kd := 2) (k := 0) (RJ8, TJ8, 4) rfl (by decide) rfl q942 dJ8_equals_41 rfl) (z_getq _ _ _),
   zz_of (ok_calls G hnh (zmJ10_equals_l _ G.hst) rfl rfl q1050 q1051 q102 q1052 (by decide +kernel) ⟨by decide, by decide⟩ dJ8_equals_44 rfl) (z_calls _ _ _),
   zz_of (ok_ifeq G dJ8_equals_47 rfl rfl) (z_zifeq _ _),
   zz_of (ok_iconst G (v := 1) dJ8_equals_50 (by decide) rfl) (z_cn 51 1),
   zz_of (ok_goto G dJ8_equals_51 rfl) (z_goto _),
   zz_of (ok_iconst G (v := 0) dJ8_equals_54 (by decide) rfl) (z_cn 55 0),
   zz_of (ok_zret G dJ8_equals_55) (z_zret _), trivial⟩

theorem zwJ8_equals_l_0 {Q : Option zv → zz_M → Prop} {X : Nat → zz_M → Prop} {M : zz_M} {b : Nat} {h_ : Nat} (h : ((h_ : Nat) = b → Q (some (vi 1)) M) ∧ ((h_ : Nat) ≠ b → (((zsh M h_).1 ≤ 15 ∧ (zsh M b).1 ≤ 47) ∨ ((zsh M b).1 ≤ 15 ∧ (zsh M h_).1 ≤ 47)) ∧ ((zsh M b = (1, 19) ∨ zsh M b = (17, 19)) ∧ (R32 1 ∧ (((1 : Int) = 0 → Q (some (vi 0)) M) ∧ (¬ (1 : Int) = 0 → (∃ ci : Nat, (zsh M b = (1, ci) ∨ zsh M b = (17, ci)) ∧ mm_mem [19] ci = true) ∧ (R32 1 ∧ (((1 : Int) = 0 → ∃ b1 : Nat, zsh M h_ = (17, 19) ∧ mm_kP h_ 0 = some b1 ∧ (zsh M b = (1, 19) ∧ (∀ b2 : Nat, zpt M b 0 = some b2 → (∃ n_3 m_3 : Nat, zsh M b2 = (4, n_3) ∧ zsh M b1 = (20, m_3) ∧ n_3 ≤ 100000 ∧ m_3 ≤ 100000 ∧ (∀ i, i < n_3 → R32 (M.2.1 b2 i)) ∧ (eqK M b2 b1 n_3 m_3 → (Q (some (vi 1)) M)) ∧ (¬ eqK M b2 b1 n_3 m_3 → (Q (some (vi 0)) M)))) ∧ (zpt M b 0 = none → (False)))) ∧ (¬ (1 : Int) = 0 → zsh M h_ = (17, 19) ∧ (zsh M b = (1, 19) ∧ (R32 ((mm_kI h_ 1).toInt) ∧ (R32 (M.2.1 b 1) ∧ ((¬ ((mm_kI h_ 1).toInt) = (M.2.1 b 1) → Q (some (vi 0)) M) ∧ (((mm_kI h_ 1).toInt) = (M.2.1 b 1) → ∃ b5 : Nat, zsh M h_ = (17, 19) ∧ mm_kP h_ 0 = some b5 ∧ (zsh M b = (1, 19) ∧ (∀ b6 : Nat, zpt M b 0 = some b6 → (∃ n_7 m_7 : Nat, zsh M b6 = (4, n_7) ∧ zsh M b5 = (20, m_7) ∧ n_7 ≤ 100000 ∧ m_7 ≤ 100000 ∧ (∀ i, i < n_7 → R32 (M.2.1 b6 i)) ∧ (eqK M b6 b5 n_7 m_7 → (Q (some (vi 1)) M)) ∧ (¬ eqK M b6 b5 n_7 m_7 → (Q (some (vi 0)) M)))) ∧ (zpt M b 0 = none → (False))))))))))))))))) : zz_J zpJ8_equals_l (zz_ret Q X 0 0) 0 [some (vr h_), some (vr b), none] [] M (0, 0) := zz_J.go [] 400 h

theorem zmJ8_equals_l (l : Launch) (hl : l.stackTraces = false) : mm_Spec l yJ8_equals (ws_ yJ8_equals cJ8_equals 3 (some .boolean)) (mm_rm 2 0 0) (zE zJ8_equals_l) := by
  refine zz_Met.J hl (by decide) (fun C G hnh => ztJ8_equals_l G hnh) ?_
  rintro as M Q X h
  unfold zJ8_equals_l at h
  split at h
  rotate_left
  · exact h.elim
  rename_i h_ b
  refine ⟨rfl, ?_⟩
  obtain ⟨x, n, m, ⟨s1, s2, s3, s4, s5, s6⟩, ⟨k1, k2, k3, k4, k5⟩, q1, q0⟩ := h
  obtain ⟨p0, p1⟩ := kP_txt k1 k2
  have nb : h_ ≠ b := by
    rintro rfl
    rw [s1] at k3
    cases k3
  refine zwJ8_equals_l_0 ⟨fun e => absurd e nb, fun _ => ⟨Or.inr ⟨by rw [s1]; decide, by rw [k3]; decide⟩, Or.inl s1, by decide, fun c => absurd c (by decide), fun _ => ⟨⟨19, Or.inl s1, rfl⟩, by decide, fun c => absurd c (by decide), fun _ => ⟨k3, s1, i32_r _, by rw [s3]; decide, fun c => absurd (by rw [s3, p1]) c, fun _ => ⟨h_ + 100, k3, p0, s1, fun y ey => ?_, fun e => by rw [s2] at e; cases e⟩⟩⟩⟩⟩
  rw [s2] at ey
  cases ey
  exact ⟨n, m, s4, k4, s5, k5, s6, q1, q0⟩
def zJ12_init_3 : zz_Sp := fun as M Q X => match as with
  | [.inr (.inr (some h_)), .inr (.inr m), .inr (.inr t), .inl a, .inl b] => (a = 0 ∧ b = 0) ∧ zsh M h_ = (1, 20) ∧ (∀ k, zfx M.1.1 h_ k = false) ∧ (∀ P_ : Nat → Nat → Option Nat, (∀ j, j ≠ h_ → P_ j = M.2.2.2 j) → Q none ((M.1.1, M.1.2), M.2.1, M.2.2.1, P_))
  | _ => False

def zpJ12_init_3 : zz_P := [(0, zo_ald 1 0), (1, zo_oi 4), (4, zo_ald 5 0), (5, zo_ald 6 0), (6, zo_putrp 9 20 0), (9, zo_ald 10 0), (10, zo_gst 13 1304), (13, zo_putrp 16 20 1), (16, zo_ald 17 0), (17, zo_gst 20 1305), (20, zo_putrp 23 20 2), (23, zo_ild 25 4), (25, zo_ifeq false 28 36), (28, zo_ald 29 0), (29, zo_bad), (32, zo_pop 33), (33, zo_goto 41), (36, zo_ald 37 0), (37, zo_c 38 vn), (38, zo_putrp 41 20 1), (41, zo_ald 42 0), (42, zo_ald 43 1), (43, zo_putrp 46 20 3), (46, zo_ald 47 0), (47, zo_ald 48 2), (48, zo_putrp 51 20 0), (51, zo_ild 52 3), (52, zo_ifne false 55 60), (55, zo_ald 56 0), (56, zo_c 57 vn), (57, zo_putrp 60 20 2), (60, zo_vret)]
theorem ztJ12_init_3 {C : mm_C} (G : mm_G C RJ12 cJ12_init_3 none 5 (mm_rm 2 0 0)) (hnh : mm_nh C) (hin : (c_t C).name = "<init>") : zz_OKs C zpJ12_init_3 :=
  ⟨zz_of (ok_aload_n G dJ12_init_3_0 rfl rfl) (z_ald _ _),
   zz_of (ok_oi G q808 q133 q134 ⟨Nat.le_of_ble_eq_true rfl, Nat.le_of_ble_eq_true rfl⟩ dJ12_init_3_1 rfl) (z_oi _),
   zz_of (ok_aload_n G dJ12_init_3_4 rfl rfl) (z_ald _ _),
   zz_of (ok_aload_n G dJ12_init_3_5 rfl rfl) (z_ald _ _),
   zz_of (ok_putr G (nx := 9) (idx := 7) (ci := 20) (k := 0) (RX10, TX10, 6) rfl (by decide) rfl (mm_pw G (ci := 20) (k := 0) (RX10, TX10, 6) rfl (by decide) rfl q918 dJ12_init_3_6) rfl) (z_putrp _ _ _),
   zz_of (ok_aload_n G dJ12_init_3_9 rfl rfl) (z_ald _ _),
   zz_of (ok_gst G (hh := 1304) (n := "UNASSIGNED_STACK") (d := "[Ljava/lang/StackTraceElement;") (by decide +kernel) q809 dJ12_init_3_10 rfl) (z_gst _ _),
   zz_of (ok_putr G (nx := 16) (idx := 17) (ci := 20) (k := 1) (RX10, TX10, 6) rfl (by decide) rfl (mm_pw G (ci := 20) (k := 1) (RX10, TX10, 6) rfl (by decide) rfl q919 dJ12_init_3_13) rfl) (z_putrp _ _ _),
   zz_of (ok_aload_n G dJ12_init_3_16 rfl rfl) (z_ald _ _),
   zz_of (ok_gst G (hh := 1305) (n := "SUPPRESSED_SENTINEL") (d := "Ljava/util/List;") (by decide +kernel) q811 dJ12_init_3_17 rfl) (z_gst _ _),
   zz_of (ok_putr G (nx := 23) (idx := 24) (ci := 20) (k := 2) (RX10, TX10, 6) rfl (by decide) rfl (mm_pw G (ci := 20) (k := 2) (RX10, TX10, 6) rfl (by decide) rfl q920 dJ12_init_3_20) rfl) (z_putrp _ _ _),
   zz_of (ok_iload G dJ12_init_3_23 rfl) (z_ild _ _),
   zz_of (ok_ifeq G dJ12_init_3_25 rfl rfl) (z_ifeq _ _ _),
   zz_of (ok_aload_n G dJ12_init_3_28 rfl rfl) (z_ald _ _),
   zz_of (ok_bad) (z_bad),
   zz_of (ok_pop G dJ12_init_3_32 rfl) (z_pop _),
   zz_of (ok_goto G dJ12_init_3_33 rfl) (z_goto _),
   zz_of (ok_aload_n G dJ12_init_3_36 rfl rfl) (z_ald _ _),
   zz_of (ok_null G dJ12_init_3_37 rfl) (z_c0 38),
   zz_of (ok_putr G (nx := 41) (idx := 17) (ci := 20) (k := 1) (RX10, TX10, 6) rfl (by decide) rfl (mm_pw G (ci := 20) (k := 1) (RX10, TX10, 6) rfl (by decide) rfl q919 dJ12_init_3_38) rfl) (z_putrp _ _ _),
   zz_of (ok_aload_n G dJ12_init_3_41 rfl rfl) (z_ald _ _),
   zz_of (ok_aload_n G dJ12_init_3_42 rfl rfl) (z_ald _ _),
   zz_of (ok_putr G (nx := 46) (idx := 31) (ci := 20) (k := 3) (RX10, TX10, 6) rfl (by decide) rfl (mm_pw G (ci := 20) (k := 3) (RX10, TX10, 6) rfl (by decide) rfl q917 dJ12_init_3_43) rfl) (z_putrp _ _ _),
   zz_of (ok_aload_n G dJ12_init_3_46 rfl rfl) (z_ald _ _),
   zz_of (ok_aload_n G dJ12_init_3_47 rfl rfl) (z_ald _ _),
   zz_of (ok_putr G (nx := 51) (idx := 7) (ci := 20) (k := 0) (RX10, TX10, 6) rfl (by decide) rfl (mm_pw G (ci := 20) (k := 0) (RX10, TX10, 6) rfl (by decide) rfl q918 dJ12_init_3_48) rfl) (z_putrp _ _ _),
   zz_of (ok_iload_n G dJ12_init_3_51 rfl rfl) (z_ild _ _),
   zz_of (ok_ifne G dJ12_init_3_52 rfl rfl) (z_ifne _ _ _),
   zz_of (ok_aload_n G dJ12_init_3_55 rfl rfl) (z_ald _ _),
   zz_of (ok_null G dJ12_init_3_56 rfl) (z_c0 57),
   zz_of (ok_putr G (nx := 60) (idx := 24) (ci := 20) (k := 2) (RX10, TX10, 6) rfl (by decide) rfl (mm_pw G (ci := 20) (k := 2) (RX10, TX10, 6) rfl (by decide) rfl q920 dJ12_init_3_57) rfl) (z_putrp _ _ _),
   zz_of (ok_vret G dJ12_init_3_60) (z_vret), trivial⟩

theorem zwJ12_init_3_0 {Q : Option zv → zz_M → Prop} {X : Nat → zz_M → Prop} {M : zz_M} {m : Option Nat} {t : Option Nat} {a : Int} {b : Int} {h_ : Nat} (h : zsh M h_ = (1, 20) ∧ (zfx M.1.1 h_ 0 = false ∧ ((zsh ((M.1.1, M.1.2), M.2.1, M.2.2.1, mm_up M.2.2.2 h_ 0 (some h_)) h_ = (1, 20) ∧ (zfx (((M.1.1, M.1.2), M.2.1, M.2.2.1, mm_up M.2.2.2 h_ 0 (some h_)).1.1) h_ 1 = false ∧ ((zsh ((M.1.1, M.1.2), M.2.1, M.2.2.1, mm_up (mm_up M.2.2.2 h_ 0 (some h_)) h_ 1 none) h_ = (1, 20) ∧ (zfx (((M.1.1, M.1.2), M.2.1, M.2.2.1, mm_up (mm_up M.2.2.2 h_ 0 (some h_)) h_ 1 none).1.1) h_ 2 = false ∧ (R32 b ∧ ((b = 0 → zsh ((M.1.1, M.1.2), M.2.1, M.2.2.1, mm_up (mm_up (mm_up M.2.2.2 h_ 0 (some h_)) h_ 1 none) h_ 2 none) h_ = (1, 20) ∧ (zfx (((M.1.1, M.1.2), M.2.1, M.2.2.1, mm_up (mm_up (mm_up M.2.2.2 h_ 0 (some h_)) h_ 1 none) h_ 2 none).1.1) h_ 1 = false ∧ (zsh ((M.1.1, M.1.2), M.2.1, M.2.2.1, mm_up (mm_up (mm_up (mm_up M.2.2.2 h_ 0 (some h_)) h_ 1 none) h_ 2 none) h_ 1 none) h_ = (1, 20) ∧ (zfx (((M.1.1, M.1.2), M.2.1, M.2.2.1, mm_up (mm_up (mm_up (mm_up M.2.2.2 h_ 0 (some h_)) h_ 1 none) h_ 2 none) h_ 1 none).1.1) h_ 3 = false ∧ (zsh ((M.1.1, M.1.2), M.2.1, M.2.2.1, mm_up (mm_up (mm_up (mm_up (mm_up M.2.2.2 h_ 0 (some h_)) h_ 1 none) h_ 2 none) h_ 1 none) h_ 3 m) h_ = (1, 20) ∧ (zfx (((M.1.1, M.1.2), M.2.1, M.2.2.1, mm_up (mm_up (mm_up (mm_up (mm_up M.2.2.2 h_ 0 (some h_)) h_ 1 none) h_ 2 none) h_ 1 none) h_ 3 m).1.1) h_ 0 = false ∧ (R32 a ∧ ((¬ a = 0 → Q none ((M.1.1, M.1.2), M.2.1, M.2.2.1, mm_up (mm_up (mm_up (mm_up (mm_up (mm_up M.2.2.2 h_ 0 (some h_)) h_ 1 none) h_ 2 none) h_ 1 none) h_ 3 m) h_ 0 t)) ∧ (a = 0 → zsh ((M.1.1, M.1.2), M.2.1, M.2.2.1, mm_up (mm_up (mm_up (mm_up (mm_up (mm_up M.2.2.2 h_ 0 (some h_)) h_ 1 none) h_ 2 none) h_ 1 none) h_ 3 m) h_ 0 t) h_ = (1, 20) ∧ (zfx (((M.1.1, M.1.2), M.2.1, M.2.2.1, mm_up (mm_up (mm_up (mm_up (mm_up (mm_up M.2.2.2 h_ 0 (some h_)) h_ 1 none) h_ 2 none) h_ 1 none) h_ 3 m) h_ 0 t).1.1) h_ 2 = false ∧ (Q none ((M.1.1, M.1.2), M.2.1, M.2.2.1, mm_up (mm_up (mm_up (mm_up (mm_up (mm_up (mm_up M.2.2.2 h_ 0 (some h_)) h_ 1 none) h_ 2 none) h_ 1 none) h_ 3 m) h_ 0 t) h_ 2 none)))))))))))) ∧ (¬ b = 0 → False))))) ∧ (zsh ((M.1.1, M.1.2), M.2.1, M.2.2.1, mm_up (mm_up M.2.2.2 h_ 0 (some h_)) h_ 1 none) h_ = (1, 20) ∧ (zfx (((M.1.1, M.1.2), M.2.1, M.2.2.1, mm_up (mm_up M.2.2.2 h_ 0 (some h_)) h_ 1 none).1.1) h_ 2 = false ∧ (R32 b ∧ ((b = 0 → zsh ((M.1.1, M.1.2), M.2.1, M.2.2.1, mm_up (mm_up (mm_up M.2.2.2 h_ 0 (some h_)) h_ 1 none) h_ 2 (some 1305)) h_ = (1, 20) ∧ (zfx (((M.1.1, M.1.2), M.2.1, M.2.2.1, mm_up (mm_up (mm_up M.2.2.2 h_ 0 (some h_)) h_ 1 none) h_ 2 (some 1305)).1.1) h_ 1 = false ∧ (zsh ((M.1.1, M.1.2), M.2.1, M.2.2.1, mm_up (mm_up (mm_up (mm_up M.2.2.2 h_ 0 (some h_)) h_ 1 none) h_ 2 (some 1305)) h_ 1 none) h_ = (1, 20) ∧ (zfx (((M.1.1, M.1.2), M.2.1, M.2.2.1, mm_up (mm_up (mm_up (mm_up M.2.2.2 h_ 0 (some h_)) h_ 1 none) h_ 2 (some 1305)) h_ 1 none).1.1) h_ 3 = false ∧ (zsh ((M.1.1, M.1.2), M.2.1, M.2.2.1, mm_up (mm_up (mm_up (mm_up (mm_up M.2.2.2 h_ 0 (some h_)) h_ 1 none) h_ 2 (some 1305)) h_ 1 none) h_ 3 m) h_ = (1, 20) ∧ (zfx (((M.1.1, M.1.2), M.2.1, M.2.2.1, mm_up (mm_up (mm_up (mm_up (mm_up M.2.2.2 h_ 0 (some h_)) h_ 1 none) h_ 2 (some 1305)) h_ 1 none) h_ 3 m).1.1) h_ 0 = false ∧ (R32 a ∧ ((¬ a = 0 → Q none ((M.1.1, M.1.2), M.2.1, M.2.2.1, mm_up (mm_up (mm_up (mm_up (mm_up (mm_up M.2.2.2 h_ 0 (some h_)) h_ 1 none) h_ 2 (some 1305)) h_ 1 none) h_ 3 m) h_ 0 t)) ∧ (a = 0 → zsh ((M.1.1, M.1.2), M.2.1, M.2.2.1, mm_up (mm_up (mm_up (mm_up (mm_up (mm_up M.2.2.2 h_ 0 (some h_)) h_ 1 none) h_ 2 (some 1305)) h_ 1 none) h_ 3 m) h_ 0 t) h_ = (1, 20) ∧ (zfx (((M.1.1, M.1.2), M.2.1, M.2.2.1, mm_up (mm_up (mm_up (mm_up (mm_up (mm_up M.2.2.2 h_ 0 (some h_)) h_ 1 none) h_ 2 (some 1305)) h_ 1 none) h_ 3 m) h_ 0 t).1.1) h_ 2 = false ∧ (Q none ((M.1.1, M.1.2), M.2.1, M.2.2.1, mm_up (mm_up (mm_up (mm_up (mm_up (mm_up (mm_up M.2.2.2 h_ 0 (some h_)) h_ 1 none) h_ 2 (some 1305)) h_ 1 none) h_ 3 m) h_ 0 t) h_ 2 none)))))))))))) ∧ (¬ b = 0 → False)))))))) ∧ (zsh ((M.1.1, M.1.2), M.2.1, M.2.2.1, mm_up M.2.2.2 h_ 0 (some h_)) h_ = (1, 20) ∧ (zfx (((M.1.1, M.1.2), M.2.1, M.2.2.1, mm_up M.2.2.2 h_ 0 (some h_)).1.1) h_ 1 = false ∧ ((zsh ((M.1.1, M.1.2), M.2.1, M.2.2.1, mm_up (mm_up M.2.2.2 h_ 0 (some h_)) h_ 1 (some 1304)) h_ = (1, 20) ∧ (zfx (((M.1.1, M.1.2), M.2.1, M.2.2.1, mm_up (mm_up M.2.2.2 h_ 0 (some h_)) h_ 1 (some 1304)).1.1) h_ 2 = false ∧ (R32 b ∧ ((b = 0 → zsh ((M.1.1, M.1.2), M.2.1, M.2.2.1, mm_up (mm_up (mm_up M.2.2.2 h_ 0 (some h_)) h_ 1 (some 1304)) h_ 2 none) h_ = (1, 20) ∧ (zfx (((M.1.1, M.1.2), M.2.1, M.2.2.1, mm_up (mm_up (mm_up M.2.2.2 h_ 0 (some h_)) h_ 1 (some 1304)) h_ 2 none).1.1) h_ 1 = false ∧ (zsh ((M.1.1, M.1.2), M.2.1, M.2.2.1, mm_up (mm_up (mm_up (mm_up M.2.2.2 h_ 0 (some h_)) h_ 1 (some 1304)) h_ 2 none) h_ 1 none) h_ = (1, 20) ∧ (zfx (((M.1.1, M.1.2), M.2.1, M.2.2.1, mm_up (mm_up (mm_up (mm_up M.2.2.2 h_ 0 (some h_)) h_ 1 (some 1304)) h_ 2 none) h_ 1 none).1.1) h_ 3 = false ∧ (zsh ((M.1.1, M.1.2), M.2.1, M.2.2.1, mm_up (mm_up (mm_up (mm_up (mm_up M.2.2.2 h_ 0 (some h_)) h_ 1 (some 1304)) h_ 2 none) h_ 1 none) h_ 3 m) h_ = (1, 20) ∧ (zfx (((M.1.1, M.1.2), M.2.1, M.2.2.1, mm_up (mm_up (mm_up (mm_up (mm_up M.2.2.2 h_ 0 (some h_)) h_ 1 (some 1304)) h_ 2 none) h_ 1 none) h_ 3 m).1.1) h_ 0 = false ∧ (R32 a ∧ ((¬ a = 0 → Q none ((M.1.1, M.1.2), M.2.1, M.2.2.1, mm_up (mm_up (mm_up (mm_up (mm_up (mm_up M.2.2.2 h_ 0 (some h_)) h_ 1 (some 1304)) h_ 2 none) h_ 1 none) h_ 3 m) h_ 0 t)) ∧ (a = 0 → zsh ((M.1.1, M.1.2), M.2.1, M.2.2.1, mm_up (mm_up (mm_up (mm_up (mm_up (mm_up M.2.2.2 h_ 0 (some h_)) h_ 1 (some 1304)) h_ 2 none) h_ 1 none) h_ 3 m) h_ 0 t) h_ = (1, 20) ∧ (zfx (((M.1.1, M.1.2), M.2.1, M.2.2.1, mm_up (mm_up (mm_up (mm_up (mm_up (mm_up M.2.2.2 h_ 0 (some h_)) h_ 1 (some 1304)) h_ 2 none) h_ 1 none) h_ 3 m) h_ 0 t).1.1) h_ 2 = false ∧ (Q none ((M.1.1, M.1.2), M.2.1, M.2.2.1, mm_up (mm_up (mm_up (mm_up (mm_up (mm_up (mm_up M.2.2.2 h_ 0 (some h_)) h_ 1 (some 1304)) h_ 2 none) h_ 1 none) h_ 3 m) h_ 0 t) h_ 2 none)))))))))))) ∧ (¬ b = 0 → False))))) ∧ (zsh ((M.1.1, M.1.2), M.2.1, M.2.2.1, mm_up (mm_up M.2.2.2 h_ 0 (some h_)) h_ 1 (some 1304)) h_ = (1, 20) ∧ (zfx (((M.1.1, M.1.2), M.2.1, M.2.2.1, mm_up (mm_up M.2.2.2 h_ 0 (some h_)) h_ 1 (some 1304)).1.1) h_ 2 = false ∧ (R32 b ∧ ((b = 0 → zsh ((M.1.1, M.1.2), M.2.1, M.2.2.1, mm_up (mm_up (mm_up M.2.2.2 h_ 0 (some h_)) h_ 1 (some 1304)) h_ 2 (some 1305)) h_ = (1, 20) ∧ (zfx (((M.1.1, M.1.2), M.2.1, M.2.2.1, mm_up (mm_up (mm_up M.2.2.2 h_ 0 (some h_)) h_ 1 (some 1304)) h_ 2 (some 1305)).1.1) h_ 1 = false ∧ (zsh ((M.1.1, M.1.2), M.2.1, M.2.2.1, mm_up (mm_up (mm_up (mm_up M.2.2.2 h_ 0 (some h_)) h_ 1 (some 1304)) h_ 2 (some 1305)) h_ 1 none) h_ = (1, 20) ∧ (zfx (((M.1.1, M.1.2), M.2.1, M.2.2.1, mm_up (mm_up (mm_up (mm_up M.2.2.2 h_ 0 (some h_)) h_ 1 (some 1304)) h_ 2 (some 1305)) h_ 1 none).1.1) h_ 3 = false ∧ (zsh ((M.1.1, M.1.2), M.2.1, M.2.2.1, mm_up (mm_up (mm_up (mm_up (mm_up M.2.2.2 h_ 0 (some h_)) h_ 1 (some 1304)) h_ 2 (some 1305)) h_ 1 none) h_ 3 m) h_ = (1, 20) ∧ (zfx (((M.1.1, M.1.2), M.2.1, M.2.2.1, mm_up (mm_up (mm_up (mm_up (mm_up M.2.2.2 h_ 0 (some h_)) h_ 1 (some 1304)) h_ 2 (some 1305)) h_ 1 none) h_ 3 m).1.1) h_ 0 = false ∧ (R32 a ∧ ((¬ a = 0 → Q none ((M.1.1, M.1.2), M.2.1, M.2.2.1, mm_up (mm_up (mm_up (mm_up (mm_up (mm_up M.2.2.2 h_ 0 (some h_)) h_ 1 (some 1304)) h_ 2 (some 1305)) h_ 1 none) h_ 3 m) h_ 0 t)) ∧ (a = 0 → zsh ((M.1.1, M.1.2), M.2.1, M.2.2.1, mm_up (mm_up (mm_up (mm_up (mm_up (mm_up M.2.2.2 h_ 0 (some h_)) h_ 1 (some 1304)) h_ 2 (some 1305)) h_ 1 none) h_ 3 m) h_ 0 t) h_ = (1, 20) ∧ (zfx (((M.1.1, M.1.2), M.2.1, M.2.2.1, mm_up (mm_up (mm_up (mm_up (mm_up (mm_up M.2.2.2 h_ 0 (some h_)) h_ 1 (some 1304)) h_ 2 (some 1305)) h_ 1 none) h_ 3 m) h_ 0 t).1.1) h_ 2 = false ∧ (Q none ((M.1.1, M.1.2), M.2.1, M.2.2.1, mm_up (mm_up (mm_up (mm_up (mm_up (mm_up (mm_up M.2.2.2 h_ 0 (some h_)) h_ 1 (some 1304)) h_ 2 (some 1305)) h_ 1 none) h_ 3 m) h_ 0 t) h_ 2 none)))))))))))) ∧ (¬ b = 0 → False))))))))))) : zz_J zpJ12_init_3 (zz_ret Q X 0 0) 0 [some (vr h_), some (.inr (.inr m)), some (.inr (.inr t)), some (vi a), some (vi b)] [] M (0, 0) := zz_J.go [] 400 h

theorem zmJ12_init_3 (l : Launch) (hl : l.stackTraces = false) : mm_Spec l yJ12_init_3 (ws_ yJ12_init_3 cJ12_init_3 5 none) (mm_rm 2 0 0) (zE zJ12_init_3) := by
  refine zz_Met.JN hl (by decide) rfl (fun C G hnh hin => ztJ12_init_3 G hnh hin) ?_
  rintro as M Q X h
  unfold zJ12_init_3 at h
  split at h
  rotate_left
  · exact h.elim
  rename_i h_ m t a b
  refine ⟨rfl, ?_⟩
  obtain ⟨⟨rfl, rfl⟩, h1, hx, hq⟩ := h
  refine zwJ12_init_3_0 ?_
  repeat' first | exact h1 | exact hx _ | exact (by decide : R32 0) | refine And.intro ?_ ?_ | (refine fun (c : ¬ (0 : Int) = 0) => absurd rfl c; done) | (refine fun (c : (0 : Int) = 0) => ?_) | (refine hq _ (fun j hj => ?_); funext k; simp only [up_eq, hj, false_and, if_false]; done)
def zJ13_init_2 : zz_Sp := fun as M Q X => match as with
  | [.inr (.inr (some h_)), .inr (.inr m), .inr (.inr t), .inl a, .inl b] => (a = 0 ∧ b = 0) ∧ zsh M h_ = (1, 20) ∧ (∀ k, zfx M.1.1 h_ k = false) ∧ (∀ P_ : Nat → Nat → Option Nat, (∀ j, j ≠ h_ → P_ j = M.2.2.2 j) → Q none ((M.1.1, M.1.2), M.2.1, M.2.2.1, P_))
  | _ => False

def zpJ13_init_2 : zz_P := [(0, zo_ald 1 0), (1, zo_ald 2 1), (2, zo_ald 3 2), (3, zo_ild 4 3), (4, zo_ild 6 4), (6, zo_ciL (mm_rm 3 0 0) 9 5 0 0 zJ12_init_3), (9, zo_vret)]
theorem ztJ13_init_2 {C : mm_C} (G : mm_G C RJ13 cJ13_init_2 none 5 (mm_rm 3 0 0)) (hnh : mm_nh C) (hin : (c_t C).name = "<init>") : zz_OKs C zpJ13_init_2 :=
  ⟨zz_of (ok_aload_n G dJ13_init_2_0 rfl rfl) (z_ald _ _),
   zz_of (ok_aload_n G dJ13_init_2_1 rfl rfl) (z_ald _ _),
   zz_of (ok_aload_n G dJ13_init_2_2 rfl rfl) (z_ald _ _),
   zz_of (ok_iload_n G dJ13_init_2_3 rfl rfl) (z_ild _ _),
   zz_of (ok_iload G dJ13_init_2_4 rfl) (z_ild _ _),
   zz_of (ok_caliF G (hnh.q 6) (zmJ12_init_3 _ G.hst) q974 q975 q104 q976 rfl (by decide +kernel) ⟨Nat.le_of_ble_eq_true rfl, Nat.le_of_ble_eq_true rfl⟩ dJ13_init_2_6 rfl) (z_ciL _ _ _ _ _ _),
   zz_of (ok_vret G dJ13_init_2_9) (z_vret), trivial⟩

theorem zwJ13_init_2_0 {Q : Option zv → zz_M → Prop} {X : Nat → zz_M → Prop} {M : zz_M} {m : Option Nat} {t : Option Nat} {a : Int} {b : Int} {h_ : Nat} (h : ((a = 0 ∧ b = 0) ∧ zsh M h_ = (1, 20) ∧ (∀ k, zfx M.1.1 h_ k = false) ∧ (∀ P_1 : Nat → Nat → Option Nat, (∀ j, j ≠ h_ → P_1 j = M.2.2.2 j) → (Q none ((M.1.1, M.1.2), M.2.1, M.2.2.1, P_1))))) : zz_J zpJ13_init_2 (zz_ret Q X 0 0) 0 [some (vr h_), some (.inr (.inr m)), some (.inr (.inr t)), some (vi a), some (vi b)] [] M (0, 0) := zz_J.go [] 400 h

theorem zmJ13_init_2 (l : Launch) (hl : l.stackTraces = false) : mm_Spec l yJ13_init_2 (ws_ yJ13_init_2 cJ13_init_2 5 none) (mm_rm 3 0 0) (zE zJ13_init_2) := by
  refine zz_Met.JN hl (by decide) rfl (fun C G hnh hin => ztJ13_init_2 G hnh hin) ?_
  rintro as M Q X h
  unfold zJ13_init_2 at h
  split at h
  rotate_left
  · exact h.elim
  rename_i h_ m t a b
  refine ⟨rfl, ?_⟩
  exact zwJ13_init_2_0 h
def zX10_init : zz_Sp := fun as M Q X => match as with
  | [.inr (.inr (some h_))] => zsh M h_ = (1, 20) ∧ (∀ k, zfx M.1.1 h_ k = false) ∧ (∀ P_ : Nat → Nat → Option Nat, (∀ j, j ≠ h_ → P_ j = M.2.2.2 j) → Q none ((M.1.1, M.1.2), M.2.1, M.2.2.1, P_))
  | _ => False

def zpX10_init : zz_P := [(0, zo_ald 1 0), (1, zo_c 2 vn), (2, zo_c 3 vn), (3, zo_c 4 (vi 0)), (4, zo_c 5 (vi 0)), (5, zo_ciL (mm_rm 4 0 0) 8 5 0 0 zJ13_init_2), (8, zo_vret)]
theorem ztX10_init {C : mm_C} (G : mm_G C RX10 cX10_init none 1 (mm_rm 4 0 0)) (hnh : mm_nh C) (hin : (c_t C).name = "<init>") : zz_OKs C zpX10_init :=
  ⟨zz_of (ok_aload_n G dX10_init_0 rfl rfl) (z_ald _ _),
   zz_of (ok_null G dX10_init_1 rfl) (z_c0 2),
   zz_of (ok_null G dX10_init_2 rfl) (z_c0 3),
   zz_of (ok_iconst G (v := 0) dX10_init_3 (by decide) rfl) (z_cn 4 0),
   zz_of (ok_iconst G (v := 0) dX10_init_4 (by decide) rfl) (z_cn 5 0),
   zz_of (ok_caliF G (hnh.q 5) (zmJ13_init_2 _ G.hst) q971 q972 q105 q973 rfl (by decide +kernel) ⟨Nat.le_of_ble_eq_true rfl, Nat.le_of_ble_eq_true rfl⟩ dX10_init_5 rfl) (z_ciL _ _ _ _ _ _),
   zz_of (ok_vret G dX10_init_8) (z_vret), trivial⟩

theorem zwX10_init_0 {Q : Option zv → zz_M → Prop} {X : Nat → zz_M → Prop} {M : zz_M} {h_ : Nat} (h : (((0 : Int) = 0 ∧ (0 : Int) = 0) ∧ zsh M h_ = (1, 20) ∧ (∀ k, zfx M.1.1 h_ k = false) ∧ (∀ P_1 : Nat → Nat → Option Nat, (∀ j, j ≠ h_ → P_1 j = M.2.2.2 j) → (Q none ((M.1.1, M.1.2), M.2.1, M.2.2.1, P_1))))) : zz_J zpX10_init (zz_ret Q X 0 0) 0 [some (vr h_)] [] M (0, 0) := zz_J.go [] 400 h

theorem zmX10_init (l : Launch) (hl : l.stackTraces = false) : mm_Spec l yX10_init (ws_ yX10_init cX10_init 1 none) (mm_rm 4 0 0) (zE zX10_init) := by
  refine zz_Met.JN hl (by decide) rfl (fun C G hnh hin => ztX10_init G hnh hin) ?_
  rintro as M Q X h
  unfold zX10_init at h
  split at h
  rotate_left
  · exact h.elim
  rename_i h_
  refine ⟨rfl, ?_⟩
  exact zwX10_init_0 ⟨⟨rfl, rfl⟩, h⟩
/-! what goes on in the reader's cells and behind them -/
theorem gr.rfl' {t : Nat} {f : Nat → Nat × Nat} {S L : Nat → Nat → Int} {P : Nat → Nat → Option Nat} (h : frF f t) : gr t t f S L P f S L P := ⟨Nat.le_refl _, fun _ _ => rfl, fun _ _ _ _ => rfl, fun _ _ => rfl, fun _ _ => rfl, h⟩
theorem gr.tr {t u v : Nat} {f f1 f2 : Nat → Nat × Nat} {S S1 S2 L L1 L2 : Nat → Nat → Int} {P P1 P2 : Nat → Nat → Option Nat} (a : gr t u f S L P f1 S1 L1 P1) (b : gr u v f1 S1 L1 P1 f2 S2 L2 P2) : gr t v f S L P f2 S2 L2 P2 := by
  obtain ⟨a0, a1, a2, a3, a4, a5⟩ := a
  obtain ⟨b0, b1, b2, b3, b4, b5⟩ := b
  exact ⟨by omega, fun h hh => (b1 h (by omega)).trans (a1 h hh), fun h k hh hk => (b2 h k (by omega) hk).trans (a2 h k hh hk), fun h hh => (b3 h (by omega)).trans (a3 h hh), fun h hh => (b4 h (by omega)).trans (a4 h hh), b5⟩
/-- another state of the reader ahead -/
theorem gr.ofS {t u : Nat} {f f1 : Nat → Nat × Nat} {S S0 S1 L L1 : Nat → Nat → Int} {P P1 : Nat → Nat → Option Nat} (a : gr t u f S0 L P f1 S1 L1 P1) (e : ∀ h k, ¬ rdC h k → S0 h k = S h k) : gr t u f S L P f1 S1 L1 P1 := by
  obtain ⟨a0, a1, a2, a3, a4, a5⟩ := a
  exact ⟨a0, a1, fun h k hh hk => (a2 h k hh hk).trans (e h k hk), a3, a4, a5⟩
/-- another state of the reader behind -/
theorem gr.toS {t u : Nat} {f f1 : Nat → Nat × Nat} {S S2 S1 L L1 : Nat → Nat → Int} {P P1 : Nat → Nat → Option Nat} (a : gr t u f S L P f1 S1 L1 P1) (e : ∀ h k, ¬ rdC h k → S2 h k = S1 h k) : gr t u f S L P f1 S2 L1 P1 := by
  obtain ⟨a0, a1, a2, a3, a4, a5⟩ := a
  exact ⟨a0, a1, fun h k hh hk => (e h k hk).trans (a2 h k hh hk), a3, a4, a5⟩
theorem rdC_rS {S : Nat → Nat → Int} {a b : Nat} (h k : Nat) (n : ¬ rdC h k) : rS S a b h k = S h k := by
  unfold rS
  rw [if_neg (fun c => n ⟨c.1, Or.inl c.2⟩), if_neg (fun c => n ⟨c.1, Or.inr (Or.inl c.2)⟩)]
theorem rdC_up {S : Nat → Nat → Int} {k' : Nat} {v : Int} (hk : k' = 3 ∨ k' = 4 ∨ k' = 6) (h k : Nat) (n : ¬ rdC h k) : mm_up S 101 k' v h k = S h k := by
  rw [up_eq, if_neg (fun c => n ⟨c.1, by rw [c.2]; exact hk⟩)]
theorem gr.al {t : Nat} {f : Nat → Nat × Nat} {S S1 L : Nat → Nat → Int} {P P1 : Nat → Nat → Option Nat} {r : Nat × Nat} {l : Nat → Int} (h : frF f t) (e1 : ∀ j, j ≠ t → S1 j = S j) (e2 : ∀ j, j ≠ t → P1 j = P j) : gr t (t + 1) f S L P (zrw f t r) S1 (zrw L t l) P1 := by
  refine ⟨by omega, fun j hj => zrw_n _ _ (by omega), fun j k hj _ => by rw [e1 j (by omega)], fun j hj => zrw_n _ _ (by omega), fun j hj => e2 j (by omega), ?_, fun j hj => ?_⟩
  · have := h.1; omega
  · rw [zrw_n _ _ (by omega)]
    exact h.2 j (by omega)
theorem gr.T {t u : Nat} {f f1 : Nat → Nat × Nat} {S S1 L L1 : Nat → Nat → Int} {P P1 : Nat → Nat → Option Nat} {tx : Nat → Int} {n : Nat} (a : gr t u f S L P f1 S1 L1 P1) (h2 : 2000 ≤ t) (h : qT S tx n) : qT S1 tx n := by
  refine ⟨h.1, (a.2.2.1 101 2 (by omega) (fun c => by have := c.2; omega)).trans h.2.1, fun k hk => ⟨(h.2.2 k hk).1, (a.2.2.1 102 k (by omega) (fun c => by have := c.1; omega)).trans (h.2.2 k hk).2⟩⟩
theorem gr.ag {t u lo hi : Nat} {f f1 : Nat → Nat × Nat} {S S1 L L1 : Nat → Nat → Int} {P P1 : Nat → Nat → Option Nat} (a : gr t u f S L P f1 S1 L1 P1) (h1 : 2000 ≤ lo) (h2 : hi ≤ t) : agR lo hi f S P f1 S1 P1 := by
  intro h b1 b2
  refine ⟨a.2.1 h (by omega), ?_, a.2.2.2.2.1 h (by omega)⟩
  funext k
  exact a.2.2.1 h k (by omega) (fun c => by have := c.1; omega)
theorem gr.fr {t u : Nat} {f f1 : Nat → Nat × Nat} {S S1 L L1 : Nat → Nat → Int} {P P1 : Nat → Nat → Option Nat} (a : gr t u f S L P f1 S1 L1 P1) : frF f1 u := a.2.2.2.2.2
theorem gr.le {t u : Nat} {f f1 : Nat → Nat × Nat} {S S1 L L1 : Nat → Nat → Int} {P P1 : Nat → Nat → Option Nat} (a : gr t u f S L P f1 S1 L1 P1) : t ≤ u := a.1
def zX4_wrong : zz_Sp := fun as M Q X => match as with
  | [.inr (.inr (some h_))] => bif Nat.beq h_ 101 && Nat.beq M.1.1 2 then (∃ t_ : Nat, frF M.1.2 t_ ∧ (∀ (S_ L_ : Nat → Nat → Int) (P_ : Nat → Nat → Option Nat) (f_ : Nat → Nat × Nat), gr t_ (t_ + 1) M.1.2 M.2.1 M.2.2.1 M.2.2.2 f_ S_ L_ P_ → (∀ k, S_ 101 k = M.2.1 101 k) → f_ t_ = (1, 20) → Q (some (vr t_)) ((2, f_), S_, L_, P_))) else False
  | _ => False

def zpX4_wrong : zz_P := [(0, zo_new (mm_rm 5 1 6) 3 20 6), (3, zo_dup 4), (4, zo_ciL (mm_rm 5 1 6) 7 1 0 0 zX10_init), (7, zo_aret)]
theorem ztX4_wrong {C : mm_C} (G : mm_G C RX4 cX4_wrong (some (.object "ChaseCourt$Wrong")) 1 (mm_rm 5 1 6)) (hnh : mm_nh C) : zz_OKs C zpX4_wrong :=
  ⟨zz_of (ok_new G (ci := 20) (RX10, TX10, 6) rfl rfl q959 q960 q110 (by decide) dX4_wrong_0 rfl) (z_new _ _ _ _),
   zz_of (ok_dup G dX4_wrong_3 rfl) (z_dup _),
   zz_of (ok_caliF G (hnh.q 4) (zmX10_init _ G.hst) q968 q969 q110 q970 rfl (by decide +kernel) ⟨Nat.le_of_ble_eq_true rfl, Nat.le_of_ble_eq_true rfl⟩ dX4_wrong_4 rfl) (z_ciL _ _ _ _ _ _),
   zz_of (ok_aret G (Or.inl ⟨_, rfl⟩) dX4_wrong_7) (z_aret), trivial⟩

theorem zwX4_wrong_0 {Q : Option zv → zz_M → Prop} {X : Nat → zz_M → Prop} {f : Nat → Nat × Nat} {S L : Nat → Nat → Int} {P : Nat → Nat → Option Nat}  (h : ∃ h1_ : Nat, zfree ((2, f), S, L, P) h1_ ∧ (0 + 1 ≤ 1 ∧ 0 + 6 ≤ 6) ∧ ((zsh ((2, zrw f h1_ (1, 20)), zrw S h1_ (fun _ => 0), zrw L h1_ (fun _ => 0), zrw P h1_ (fun _ => none)) h1_ = (1, 20) ∧ (∀ k, zfx ((2, zrw f h1_ (1, 20)), zrw S h1_ (fun _ => 0), zrw L h1_ (fun _ => 0), zrw P h1_ (fun _ => none)).1.1 h1_ k = false) ∧ (∀ P_2 : Nat → Nat → Option Nat, (∀ j, j ≠ h1_ → P_2 j = (zrw P h1_ (fun _ => none)) j) → (Q (some (vr h1_)) ((2, zrw f h1_ (1, 20)), zrw S h1_ (fun _ => 0), zrw L h1_ (fun _ => 0), P_2)))))) : zz_J zpX4_wrong (zz_ret Q X 1 6) 0 [some (vr 101)] [] ((2, f), S, L, P) (0, 0) := zz_J.go [] 400 h

theorem zmX4_wrong (l : Launch) (hl : l.stackTraces = false) : mm_Spec l yX4_wrong (ws_ yX4_wrong cX4_wrong 1 (some (.object "ChaseCourt$Wrong"))) (mm_rm 5 1 6) (zE zX4_wrong) := by
  refine zz_Met.J hl (by decide) (fun C G hnh => ztX4_wrong G hnh) ?_
  rintro as ⟨⟨t_, f⟩, S, L, P⟩ Q X h
  unfold zX4_wrong at h
  split at h
  rotate_left
  · exact h.elim
  rename_i h_
  obtain ⟨e1_, e2_, h⟩ := mm_and2 h (fun q => q)
  cases mm_beq e1_
  cases mm_beq e2_
  try dsimp only at h
  refine ⟨rfl, ?_⟩
  obtain ⟨t, hf, hq⟩ := h
  refine zwX4_wrong_0 ⟨t, hf.z (Nat.le_refl _), by decide, (zsh_hi hf.1).trans (zrw_s _ _ _), fun k => zfx_of (zfs_hi hf.1) k, fun P2 e => hq _ _ _ _ (gr.al hf (fun j hj => zrw_n _ _ hj) (fun j hj => (e j hj).trans (zrw_n _ _ hj))) (fun k => ?_) (zrw_s _ _ _)⟩
  rw [zrw_n _ _ (by have := hf.1; omega)]
def zX4_goesDeeper : zz_Sp := fun as M Q X => match as with
  | [.inr (.inr (some h_))] => bif Nat.beq h_ 101 && Nat.beq M.1.1 2 then (∃ t_ : Nat, frF M.1.2 t_ ∧ R32 (M.2.1 101 6) ∧ (M.2.1 101 6 ≠ 6 → Q none ((2, M.1.2), mm_up M.2.1 101 6 (M.2.1 101 6 + 1), M.2.2.1, M.2.2.2)) ∧ (M.2.1 101 6 = 6 → ∀ (S_ L_ : Nat → Nat → Int) (P_ : Nat → Nat → Option Nat) (f_ : Nat → Nat × Nat), gr t_ (t_ + 1) M.1.2 M.2.1 M.2.2.1 M.2.2.2 f_ S_ L_ P_ → (∀ k, S_ 101 k = M.2.1 101 k) → X 0 ((2, f_), S_, L_, P_))) else False
  | _ => False

def zpX4_goesDeeper : zz_P := [(0, zo_ald 1 0), (1, zo_get 4 3 0 6), (4, zo_c 6 (vi 6)), (6, zo_cne false true 9 14), (9, zo_ald 10 0), (10, zo_cvL (mm_rm 6 1 6) 13 1 3 1 6 zX4_wrong), (13, zo_athr 20 0), (14, zo_ald 15 0), (15, zo_dup 16), (16, zo_get 19 3 0 6), (19, zo_c 20 (vi 1)), (20, zo_iadd 21), (21, zo_puti 24 3 6), (24, zo_vret)]
theorem ztX4_goesDeeper {C : mm_C} (G : mm_G C RX4 cX4_goesDeeper none 1 (mm_rm 6 1 6)) (hnh : mm_nh C) : zz_OKs C zpX4_goesDeeper :=
  ⟨zz_of (ok_aload_n G dX4_goesDeeper_0 rfl rfl) (z_ald _ _),
   zz_of (ok_get G (nx := 4) (ci := 3) (kd := 0) (k := 6) (RX4, TX4, 7) rfl (by decide) rfl q281 dX4_goesDeeper_1 rfl) (z_get _ _ _ _),
   zz_of (ok_bipush G (v := 6) dX4_goesDeeper_4 (by decide) rfl) (z_cn 6 6),
   zz_of (ok_cne G dX4_goesDeeper_6 rfl rfl) (z_cne _ _ _ _),
   zz_of (ok_aload_n G dX4_goesDeeper_9 rfl rfl) (z_ald _ _),
   zz_of (ok_calvF G (hnh.q 10) (zmX4_wrong _ G.hst) (RX4, TX4, 7) rfl q1060 q956 q957 q88 q958 (by decide +kernel) ⟨Nat.le_of_ble_eq_true rfl, Nat.le_of_ble_eq_true rfl⟩ dX4_goesDeeper_10 rfl) (z_cvL _ _ _ _ _ _ _),
   zz_of (ok_athr G (ci := 20) (i := 0) (RX10, TX10, 6) rfl rfl (hnh.q 13) dX4_goesDeeper_13) (z_athr _ _),
   zz_of (ok_aload_n G dX4_goesDeeper_14 rfl rfl) (z_ald _ _),
   zz_of (ok_dup G dX4_goesDeeper_15 rfl) (z_dup _),
   zz_of (ok_get G (nx := 19) (ci := 3) (kd := 0) (k := 6) (RX4, TX4, 7) rfl (by decide) rfl q281 dX4_goesDeeper_16 rfl) (z_get _ _ _ _),
   zz_of (ok_iconst G (v := 1) dX4_goesDeeper_19 (by decide) rfl) (z_cn 20 1),
   zz_of (ok_iadd G dX4_goesDeeper_20 rfl) (z_iadd _),
   zz_of (ok_puti G (nx := 24) (idx := 28) (ci := 3) (k := 6) (RX4, TX4, 7) rfl (by decide) rfl (mm_pw G (ci := 3) (k := 6) (RX4, TX4, 7) rfl (by decide) rfl q281 dX4_goesDeeper_21) rfl) (z_puti _ _ _),
   zz_of (ok_vret G dX4_goesDeeper_24) (z_vret), trivial⟩

theorem zwX4_goesDeeper_0 {Q : Option zv → zz_M → Prop} {X : Nat → zz_M → Prop} {f : Nat → Nat × Nat} {S L : Nat → Nat → Int} {P : Nat → Nat → Option Nat}  (h : R32 (S 101 6) ∧ ((¬ (S 101 6) = 6 → Q none ((2, f), mm_up S 101 6 ((S 101 6) + 1), L, P)) ∧ ((S 101 6) = 6 → (∃ t_1 : Nat, frF f t_1 ∧ (∀ (S_1 L_1 : Nat → Nat → Int) (P_1 : Nat → Nat → Option Nat) (f_1 : Nat → Nat × Nat), gr t_1 (t_1 + 1) f S L P f_1 S_1 L_1 P_1 → (∀ k, S_1 101 k = S 101 k) → f_1 t_1 = (1, 20) → (zsh ((2, f_1), S_1, L_1, P_1) t_1 = (1, 20) ∧ (X 0 ((2, f_1), S_1, L_1, P_1)))))))) : zz_J zpX4_goesDeeper (zz_ret Q X 1 6) 0 [some (vr 101)] [] ((2, f), S, L, P) (0, 0) := zz_J.go [] 400 h

theorem zmX4_goesDeeper (l : Launch) (hl : l.stackTraces = false) : mm_Spec l yX4_goesDeeper (ws_ yX4_goesDeeper cX4_goesDeeper 1 none) (mm_rm 6 1 6) (zE zX4_goesDeeper) := by
  refine zz_Met.J hl (by decide) (fun C G hnh => ztX4_goesDeeper G hnh) ?_
  rintro as ⟨⟨t_, f⟩, S, L, P⟩ Q X h
  unfold zX4_goesDeeper at h
  split at h
  rotate_left
  · exact h.elim
  rename_i h_
  obtain ⟨e1_, e2_, h⟩ := mm_and2 h (fun q => q)
  cases mm_beq e1_
  cases mm_beq e2_
  try dsimp only at h
  refine ⟨rfl, ?_⟩
  obtain ⟨t, hf, hR, q1, q0⟩ := h
  exact zwX4_goesDeeper_0 ⟨hR, fun c => q1 c, fun e => ⟨t, hf, fun S1 L1 P1 f1 g e1 e2 => ⟨(zsh_hi hf.1).trans e2, q0 e _ _ _ _ g e1⟩⟩⟩
def zX4_number : zz_Sp := fun as M Q X => match as with
  | [.inr (.inr (some h_)), .inl lo, .inl hi] => bif Nat.beq h_ 101 && Nat.beq M.1.1 2 then (∃ (tx_ : Nat → Int) (n_ a_ t_ : Nat), qT M.2.1 tx_ n_ ∧ M.2.1 101 3 = (a_ : Int) ∧ a_ ≤ n_ ∧ frF M.1.2 t_ ∧ (R32 lo ∧ R32 hi) ∧ (∀ w_ : Nat, nmP tx_ n_ lo hi a_ = .inl w_ → ∀ (S_ L_ : Nat → Nat → Int) (P_ : Nat → Nat → Option Nat) (f_ : Nat → Nat × Nat), gr t_ (t_ + 1) M.1.2 M.2.1 M.2.2.1 M.2.2.2 f_ S_ L_ P_ → S_ 101 4 = (w_ : Int) → X 0 ((2, f_), S_, L_, P_)) ∧ (∀ r_ : Nat × Int, nmP tx_ n_ lo hi a_ = .inr r_ → Q (some (vi r_.2)) ((2, M.1.2), rS M.2.1 r_.1 (rn (qB tx_) n_ a_), M.2.2.1, M.2.2.2))) else False
  | _ => False

def zpX4_number : zz_P := [(0, zo_ald 1 0), (1, zo_callv 4 1 3 zX4_blanks), (4, zo_c 5 (vi 0)), (5, zo_ist 6 3), (6, zo_ald 7 0), (7, zo_ald 8 0), (8, zo_get 11 3 0 3), (11, zo_callv 14 2 3 zX4_byteAt), (14, zo_c 16 (vi 48)), (16, zo_c 18 (vi 57)), (18, zo_calls 21 3 zX1_in), (21, zo_zifeq 24 71), (24, zo_ald 25 0), (25, zo_get 28 3 0 3), (28, zo_ald 29 0), (29, zo_get 32 3 0 4), (32, zo_isub 33), (33, zo_c 34 (vi 3)), (34, zo_cge false true 37 56), (37, zo_c 39 (vi 10)), (39, zo_ild 40 3), (40, zo_imul 41), (41, zo_ald 42 0), (42, zo_ald 43 0), (43, zo_get 46 3 0 3), (46, zo_callv 49 2 3 zX4_byteAt), (49, zo_iadd 50), (50, zo_c 52 (vi 48)), (52, zo_isub 53), (53, zo_goto 57), (56, zo_ild 57 3), (57, zo_ist 58 3), (58, zo_ald 59 0), (59, zo_dup 60), (60, zo_get 63 3 0 3), (63, zo_c 64 (vi 1)), (64, zo_iadd 65), (65, zo_puti 68 3 3), (68, zo_goto 6), (71, zo_ald 72 0), (72, zo_get 75 3 0 3), (75, zo_ald 76 0), (76, zo_get 79 3 0 4), (79, zo_ceq false false 82 104), (82, zo_ald 83 0), (83, zo_get 86 3 0 3), (86, zo_ald 87 0), (87, zo_get 90 3 0 4), (90, zo_isub 91), (91, zo_c 92 (vi 3)), (92, zo_cgt false true 95 104), (95, zo_ild 96 3), (96, zo_ild 97 1), (97, zo_ild 98 2), (98, zo_calls 101 3 zX1_in), (101, zo_zifne 104 109), (104, zo_ald 105 0), (105, zo_cvL (mm_rm 6 1 6) 108 1 3 1 6 zX4_wrong), (108, zo_athr 20 0), (109, zo_ild 110 3), (110, zo_iret)]
theorem ztX4_number {C : mm_C} (G : mm_G C RX4 cX4_number (some .int) 4 (mm_rm 6 1 6)) (hnh : mm_nh C) : zz_OKs C zpX4_number :=
  ⟨zz_of (ok_aload_n G dX4_number_0 rfl rfl) (z_ald _ _),
   zz_of (ok_callv G hnh (zmX4_blanks _ G.hst) rfl rfl (RX4, TX4, 7) rfl q617 q618 q619 q88 q620 (by decide +kernel) ⟨by decide, by decide⟩ dX4_number_1 rfl) (z_callv _ _ _ _),
   zz_of (ok_iconst G (v := 0) dX4_number_4 (by decide) rfl) (z_cn 5 0),
   zz_of (ok_istore_n G dX4_number_5 rfl rfl (by decide)) (z_ist _ _),
   zz_of (ok_aload_n G dX4_number_6 rfl rfl) (z_ald _ _),
   zz_of (ok_aload_n G dX4_number_7 rfl rfl) (z_ald _ _),
   zz_of (ok_get G (nx := 11) (ci := 3) (kd := 0) (k := 3) (RX4, TX4, 7) rfl (by decide) rfl q276 dX4_number_8 rfl) (z_get _ _ _ _),
   zz_of (ok_callv G hnh (zmX4_byteAt _ G.hst) rfl rfl (RX4, TX4, 7) rfl q621 q623 qs2 q88 q624 (by decide +kernel) ⟨by decide, by decide⟩ dX4_number_11 rfl) (z_callv _ _ _ _),
   zz_of (ok_bipush G (v := 48) dX4_number_14 (by decide) rfl) (z_cn 16 48),
   zz_of (ok_bipush G (v := 57) dX4_number_16 (by decide) rfl) (z_cn 18 57),
   zz_of (ok_callsN G hnh (zmX1_in _ G.hst) rfl rfl q633 q634 q82 q635 (by decide +kernel) ⟨by decide, by decide⟩ dX4_number_18 rfl) (z_calls _ _ _),
   zz_of (ok_ifeq G dX4_number_21 rfl rfl) (z_zifeq _ _),
   zz_of (ok_aload_n G dX4_number_24 rfl rfl) (z_ald _ _),
   zz_of (ok_get G (nx := 28) (ci := 3) (kd := 0) (k := 3) (RX4, TX4, 7) rfl (by decide) rfl q276 dX4_number_25 rfl) (z_get _ _ _ _),
   zz_of (ok_aload_n G dX4_number_28 rfl rfl) (z_ald _ _),
   zz_of (ok_get G (nx := 32) (ci := 3) (kd := 0) (k := 4) (RX4, TX4, 7) rfl (by decide) rfl q277 dX4_number_29 rfl) (z_get _ _ _ _),
   zz_of (ok_isub G dX4_number_32 rfl) (z_isub _),
   zz_of (ok_iconst G (v := 3) dX4_number_33 (by decide) rfl) (z_cn 34 3),
   zz_of (ok_cge G dX4_number_34 rfl rfl) (z_cge _ _ _ _),
   zz_of (ok_bipush G (v := 10) dX4_number_37 (by decide) rfl) (z_cn 39 10),
   zz_of (ok_iload_n G dX4_number_39 rfl rfl) (z_ild _ _),
   zz_of (ok_imul G dX4_number_40 rfl) (z_imul _),
   zz_of (ok_aload_n G dX4_number_41 rfl rfl) (z_ald _ _),
   zz_of (ok_aload_n G dX4_number_42 rfl rfl) (z_ald _ _),
   zz_of (ok_get G (nx := 46) (ci := 3) (kd := 0) (k := 3) (RX4, TX4, 7) rfl (by decide) rfl q276 dX4_number_43 rfl) (z_get _ _ _ _),
   zz_of (ok_callv G hnh (zmX4_byteAt _ G.hst) rfl rfl (RX4, TX4, 7) rfl q621 q623 qs2 q88 q624 (by decide +kernel) ⟨by decide, by decide⟩ dX4_number_46 rfl) (z_callv _ _ _ _),
   zz_of (ok_iadd G dX4_number_49 rfl) (z_iadd _),
   zz_of (ok_bipush G (v := 48) dX4_number_50 (by decide) rfl) (z_cn 52 48),
   zz_of (ok_isub G dX4_number_52 rfl) (z_isub _),
   zz_of (ok_goto G dX4_number_53 rfl) (z_goto _),
   zz_of (ok_iload_n G dX4_number_56 rfl rfl) (z_ild _ _),
   zz_of (ok_istore_n G dX4_number_57 rfl rfl (by decide)) (z_ist _ _),
   zz_of (ok_aload_n G dX4_number_58 rfl rfl) (z_ald _ _),
   zz_of (ok_dup G dX4_number_59 rfl) (z_dup _),
   zz_of (ok_get G (nx := 63) (ci := 3) (kd := 0) (k := 3) (RX4, TX4, 7) rfl (by decide) rfl q276 dX4_number_60 rfl) (z_get _ _ _ _),
   zz_of (ok_iconst G (v := 1) dX4_number_63 (by decide) rfl) (z_cn 64 1),
   zz_of (ok_iadd G dX4_number_64 rfl) (z_iadd _),
   zz_of (ok_puti G (nx := 68) (idx := 25) (ci := 3) (k := 3) (RX4, TX4, 7) rfl (by decide) rfl (mm_pw G (ci := 3) (k := 3) (RX4, TX4, 7) rfl (by decide) rfl q276 dX4_number_65) rfl) (z_puti _ _ _),
   zz_of (ok_goto G dX4_number_68 rfl) (z_goto _),
   zz_of (ok_aload_n G dX4_number_71 rfl rfl) (z_ald _ _),
   zz_of (ok_get G (nx := 75) (ci := 3) (kd := 0) (k := 3) (RX4, TX4, 7) rfl (by decide) rfl q276 dX4_number_72 rfl) (z_get _ _ _ _),
   zz_of (ok_aload_n G dX4_number_75 rfl rfl) (z_ald _ _),
   zz_of (ok_get G (nx := 79) (ci := 3) (kd := 0) (k := 4) (RX4, TX4, 7) rfl (by decide) rfl q277 dX4_number_76 rfl) (z_get _ _ _ _),
   zz_of (ok_ceq G dX4_number_79 rfl rfl) (z_ceq _ _ _ _),
   zz_of (ok_aload_n G dX4_number_82 rfl rfl) (z_ald _ _),
   zz_of (ok_get G (nx := 86) (ci := 3) (kd := 0) (k := 3) (RX4, TX4, 7) rfl (by decide) rfl q276 dX4_number_83 rfl) (z_get _ _ _ _),
   zz_of (ok_aload_n G dX4_number_86 rfl rfl) (z_ald _ _),
   zz_of (ok_get G (nx := 90) (ci := 3) (kd := 0) (k := 4) (RX4, TX4, 7) rfl (by decide) rfl q277 dX4_number_87 rfl) (z_get _ _ _ _),
   zz_of (ok_isub G dX4_number_90 rfl) (z_isub _),
   zz_of (ok_iconst G (v := 3) dX4_number_91 (by decide) rfl) (z_cn 92 3),
   zz_of (ok_cgt G dX4_number_92 rfl rfl) (z_cgt _ _ _ _),
   zz_of (ok_iload_n G dX4_number_95 rfl rfl) (z_ild _ _),
   zz_of (ok_iload_n G dX4_number_96 rfl rfl) (z_ild _ _),
   zz_of (ok_iload_n G dX4_number_97 rfl rfl) (z_ild _ _),
   zz_of (ok_callsN G hnh (zmX1_in _ G.hst) rfl rfl q633 q634 q82 q635 (by decide +kernel) ⟨by decide, by decide⟩ dX4_number_98 rfl) (z_calls _ _ _),
   zz_of (ok_ifne G dX4_number_101 rfl rfl) (z_zifne _ _),
   zz_of (ok_aload_n G dX4_number_104 rfl rfl) (z_ald _ _),
   zz_of (ok_calvF G (hnh.q 105) (zmX4_wrong _ G.hst) (RX4, TX4, 7) rfl q1060 q956 q957 q88 q958 (by decide +kernel) ⟨Nat.le_of_ble_eq_true rfl, Nat.le_of_ble_eq_true rfl⟩ dX4_number_105 rfl) (z_cvL _ _ _ _ _ _ _),
   zz_of (ok_athr G (ci := 20) (i := 0) (RX10, TX10, 6) rfl rfl (hnh.q 108) dX4_number_108) (z_athr _ _),
   zz_of (ok_iload_n G dX4_number_109 rfl rfl) (z_ild _ _),
   zz_of (ok_iret G dX4_number_110) (z_iret), trivial⟩

theorem zwX4_number_0 {Q : Option zv → zz_M → Prop} {X : Nat → zz_M → Prop} {f : Nat → Nat × Nat} {S L : Nat → Nat → Int} {P : Nat → Nat → Option Nat} {lo : Int} {hi : Int} (h : (∃ (tx_1 : Nat → Int) (n_1 a_1 b_1 : Nat), qT S tx_1 n_1 ∧ S 101 3 = (a_1 : Int) ∧ a_1 ≤ n_1 ∧ (rn (qB tx_1) n_1 a_1 = b_1 ∧ (zz_J zpX4_number (zz_ret Q X 1 6) 6 [some (vr 101), some (vi lo), some (vi hi), some (vi 0)] [] ((2, f), rS S b_1 b_1, L, P) (0, 0))))) : zz_J zpX4_number (zz_ret Q X 1 6) 0 [some (vr 101), some (vi lo), some (vi hi), none] [] ((2, f), S, L, P) (0, 0) := zz_J.go [(6, [])] 400 h
theorem zwX4_number_6 {Q : Option zv → zz_M → Prop} {X : Nat → zz_M → Prop} {f : Nat → Nat × Nat} {S L : Nat → Nat → Int} {P : Nat → Nat → Option Nat} {x1 : Int} {x2 : Int} {x3 : Int} (h : (∃ (tx_1 : Nat → Int) (n_1 i_1 : Nat), qT S tx_1 n_1 ∧ (S 101 3) = (i_1 : Int) ∧ i_1 ≤ n_1 ∧ ((R32 (if i_1 < n_1 then cby (tx_1 i_1) else -1) ∧ R32 (48 : Int) ∧ R32 (57 : Int) ∧ (((48 : Int) ≤ (if i_1 < n_1 then cby (tx_1 i_1) else -1) ∧ (if i_1 < n_1 then cby (tx_1 i_1) else -1) ≤ (57 : Int)) → (R32 ((S 101 3) - (S 101 4)) ∧ ((3 ≤ ((S 101 3) - (S 101 4)) → zz_J zpX4_number (zz_ret Q X 1 6) 6 [some (vr 101), some (vi x1), some (vi x2), some (vi x3)] [] ((2, f), mm_up S 101 3 ((S 101 3) + 1), L, P) (0, 0)) ∧ (¬ 3 ≤ ((S 101 3) - (S 101 4)) → (∃ (tx_3 : Nat → Int) (n_3 i_3 : Nat), qT S tx_3 n_3 ∧ (S 101 3) = (i_3 : Int) ∧ i_3 ≤ n_3 ∧ (zz_J zpX4_number (zz_ret Q X 1 6) 6 [some (vr 101), some (vi x1), some (vi x2), some (vi (((10 * x3) + (if i_3 < n_3 then cby (tx_3 i_3) else -1)) - 48))] [] ((2, f), mm_up S 101 3 ((S 101 3) + 1), L, P) (0, 0))))))) ∧ (¬ ((48 : Int) ≤ (if i_1 < n_1 then cby (tx_1 i_1) else -1) ∧ (if i_1 < n_1 then cby (tx_1 i_1) else -1) ≤ (57 : Int)) → (R32 (S 101 3) ∧ (R32 (S 101 4) ∧ (((S 101 3) = (S 101 4) → (∃ t_4 : Nat, frF f t_4 ∧ (∀ (S_4 L_4 : Nat → Nat → Int) (P_4 : Nat → Nat → Option Nat) (f_4 : Nat → Nat × Nat), gr t_4 (t_4 + 1) f S L P f_4 S_4 L_4 P_4 → (∀ k, S_4 101 k = S 101 k) → f_4 t_4 = (1, 20) → (zsh ((2, f_4), S_4, L_4, P_4) t_4 = (1, 20) ∧ (X 0 ((2, f_4), S_4, L_4, P_4)))))) ∧ (¬ (S 101 3) = (S 101 4) → R32 ((S 101 3) - (S 101 4)) ∧ ((3 < ((S 101 3) - (S 101 4)) → (∃ t_5 : Nat, frF f t_5 ∧ (∀ (S_5 L_5 : Nat → Nat → Int) (P_5 : Nat → Nat → Option Nat) (f_5 : Nat → Nat × Nat), gr t_5 (t_5 + 1) f S L P f_5 S_5 L_5 P_5 → (∀ k, S_5 101 k = S 101 k) → f_5 t_5 = (1, 20) → (zsh ((2, f_5), S_5, L_5, P_5) t_5 = (1, 20) ∧ (X 0 ((2, f_5), S_5, L_5, P_5)))))) ∧ (¬ 3 < ((S 101 3) - (S 101 4)) → (R32 x3 ∧ R32 x1 ∧ R32 x2 ∧ ((x1 ≤ x3 ∧ x3 ≤ x2) → (Q (some (vi x3)) ((2, f), S, L, P))) ∧ (¬ (x1 ≤ x3 ∧ x3 ≤ x2) → ((∃ t_7 : Nat, frF f t_7 ∧ (∀ (S_7 L_7 : Nat → Nat → Int) (P_7 : Nat → Nat → Option Nat) (f_7 : Nat → Nat × Nat), gr t_7 (t_7 + 1) f S L P f_7 S_7 L_7 P_7 → (∀ k, S_7 101 k = S 101 k) → f_7 t_7 = (1, 20) → (zsh ((2, f_7), S_7, L_7, P_7) t_7 = (1, 20) ∧ (X 0 ((2, f_7), S_7, L_7, P_7))))))))))))))))))) : zz_J zpX4_number (zz_ret Q X 1 6) 6 [some (vr 101), some (vi x1), some (vi x2), some (vi x3)] [] ((2, f), S, L, P) (0, 0) := zz_J.go [(6, [])] 400 h

theorem zmX4_number (l : Launch) (hl : l.stackTraces = false) : mm_Spec l yX4_number (ws_ yX4_number cX4_number 4 (some .int)) (mm_rm 6 1 6) (zE zX4_number) := by
  refine zz_Met.J hl (by decide) (fun C G hnh => ztX4_number G hnh) ?_
  rintro as ⟨⟨t_, f⟩, S, L, P⟩ Q X h
  unfold zX4_number at h
  split at h
  rotate_left
  · exact h.elim
  rename_i h_ lo hi
  obtain ⟨e1_, e2_, h⟩ := mm_and2 h (fun q => q)
  cases mm_beq e1_
  cases mm_beq e2_
  try dsimp only at h
  refine ⟨rfl, ?_⟩
  obtain ⟨tx, n, a, t, hT, ha, han, hf, hlh, qw, qr⟩ := h
  have n400 := hT.1
  generalize hb : rn (qB tx) n a = b at qr
  have hbn : b ≤ n := by rw [← hb]; exact rn_le han
  generalize he : rn (qD tx) n b = e
  have hin := rn_in (q := qD tx) _ b rfl hbn
  rw [he] at hin
  obtain ⟨hbe, hen, hstop, hfig⟩ := hin
  have fig : ∀ i, b ≤ i → i < e → 48 ≤ tx i ∧ tx i ≤ 57 := fun i h1 h2 => by
    have := hfig i h1 h2
    unfold qD at this
    rw [Bool.and_eq_true, decide_eq_true_eq, decide_eq_true_eq] at this
    exact this
  have fv : ∀ k, k ≤ 3 → b + k ≤ e → 0 ≤ fgV tx b k ∧ fgV tx b k < 1000 := fun k h1 h2 => by
    have := fgV_in (n := n) (b := b) (fun k hk => (hT.2.2 k hk).1) k (by rw [he]; exact h2) hbn
    have h3 := this.2 (by omega)
    have h4 : (10 : Int) ^ k ≤ 10 ^ 3 := by
      have : k = 0 ∨ k = 1 ∨ k = 2 ∨ k = 3 := by omega
      rcases this with e | e | e | e <;> rw [e] <;> decide
    omega
  have bad : fgB tx n b lo hi = true → nmP tx n lo hi a = .inl b := fun c => by
    unfold nmP
    rw [hb, if_pos c]
  have good : fgB tx n b lo hi = false → nmP tx n lo hi a = .inr (e, fgV tx b (e - b)) := fun c => by
    unfold nmP
    rw [hb, if_neg (by rw [c]; decide), he]
  have thr : ∀ i : Nat, fgB tx n b lo hi = true → ∃ t_4 : Nat, frF f t_4 ∧ (∀ (S_4 L_4 : Nat → Nat → Int) (P_4 : Nat → Nat → Option Nat) (f_4 : Nat → Nat × Nat), gr t_4 (t_4 + 1) f (rS S i b) L P f_4 S_4 L_4 P_4 → (∀ k, S_4 101 k = rS S i b 101 k) → f_4 t_4 = (1, 20) → (zsh ((2, f_4), S_4, L_4, P_4) t_4 = (1, 20) ∧ (X 0 ((2, f_4), S_4, L_4, P_4)))) := fun i c =>
    ⟨t, hf, fun S4 L4 P4 f4 g e1 e2 => ⟨(zsh_hi hf.1).trans e2, qw b (bad c) _ _ _ _ (g.ofS fun h k hk => rdC_rS h k hk) ((e1 4).trans (rS_4 _ _ _))⟩⟩
  have t6 : ∀ j i : Nat, i + j = e → b ≤ i → zz_J zpX4_number (zz_ret Q X 1 6) 6 [some (vr 101), some (vi lo), some (vi hi), some (vi (fgV tx b (min 3 (i - b))))] [] ((2, f), rS S i b, L, P) (0, 0) := by
    intro j
    induction j with
    | zero =>
      intro i hi' hbi
      have ei : i = e := by omega
      subst ei
      have ht : ¬ ((48 : Int) ≤ (if i < n then cby (tx i) else -1) ∧ (if i < n then cby (tx i) else -1) ≤ 57) := by
        by_cases hin : i < n
        · rw [if_pos hin, cby_i (hT.2.2 i hin).1 (by decide) (by decide)]
          have := hstop hin
          unfold qD at this
          intro c
          rw [decide_eq_true c.1, decide_eq_true c.2] at this
          cases this
        · rw [if_neg hin]
          decide
      have hR : R32 (if i < n then cby (tx i) else -1) := by
        split
        · next hin => have := cby_b (hT.2.2 i hin).1; omega
        · decide
      have fb : fgB tx n b lo hi = (decide (i = b) || decide (b + 3 < i) || decide (fgV tx b (i - b) < lo) || decide (hi < fgV tx b (i - b))) := by
        unfold fgB
        rw [he]
      refine zwX4_number_6 ⟨tx, n, i, hT.r i b, rfl, hen, hR, by decide, by decide, fun c => absurd c ht, fun _ => ?_⟩
      rw [rS_3, rS_4]
      refine ⟨by omega, by omega, fun eq => thr i ?_, fun ne => ⟨by omega, fun gt => thr i ?_, fun le => ?_⟩⟩
      · rw [fb, decide_eq_true (by omega : i = b)]
        rfl
      · rw [fb, decide_eq_true (by omega : b + 3 < i)]
        simp
      · rw [Nat.min_eq_right (by omega)]
        have v := fv (i - b) (by omega) (by omega)
        have d1 : decide (i = b) = false := decide_eq_false (by omega)
        have d2 : decide (b + 3 < i) = false := decide_eq_false (by omega)
        refine ⟨by omega, hlh.1, hlh.2, fun inn => ?_, fun out => thr i ?_⟩
        · have := qr _ (good (by rw [fb, d1, d2, decide_eq_false (by omega), decide_eq_false (by omega)]; rfl))
          exact this
        · rw [fb, d1, d2]
          by_cases h1 : fgV tx b (i - b) < lo
          · rw [decide_eq_true h1]; rfl
          · rw [decide_eq_false h1, decide_eq_true (by omega)]; rfl
    | succ j ih =>
      intro i hi' hbi
      have hin : i < n := by omega
      have hl := fig i hbi (by omega)
      have ec : (if i < n then cby (tx i) else -1) = tx i := by rw [if_pos hin, cby_d (by omega)]
      have nx := ih (i + 1) (by omega) (by omega)
      have e3 : rS S i b 101 3 + 1 = ((i + 1 : Nat) : Int) := by rw [rS_3]; omega
      refine zwX4_number_6 ⟨tx, n, i, hT.r i b, rfl, by omega, by rw [ec]; omega, by decide, by decide, fun _ => ?_, fun c => absurd (by rw [ec]; exact hl) c⟩
      rw [e3, rS_u3]
      rw [rS_3, rS_4]
      refine ⟨by omega, fun c => ?_, fun c => ⟨tx, n, i, hT.r i b, rfl, by omega, ?_⟩⟩
      · rw [Nat.min_eq_left (by omega)] at nx ⊢
        exact nx
      · rw [ec]
        rw [Nat.min_eq_right (by omega)] at nx ⊢
        have e4 : fgV tx b (i + 1 - b) = 10 * fgV tx b (i - b) + tx i - 48 := by
          rw [show i + 1 - b = (i - b) + 1 by omega]
          show 10 * fgV tx b (i - b) + tx (b + (i - b)) - 48 = _
          rw [show b + (i - b) = i by omega]
        rw [e4] at nx
        exact nx
  refine zwX4_number_0 ⟨tx, n, a, b, hT, ha, han, hb, ?_⟩
  have := t6 (e - b) b (by omega) (Nat.le_refl _)
  rw [Nat.sub_self] at this
  exact this
def zX4_passes (c_ s_ : Nat) : zz_Sp := fun as M Q X => match as with
  | [.inr (.inr (some h_)), .inr (.inr (some w))] => bif Nat.beq h_ 101 && Nat.beq M.1.1 2 then (∃ (tx_ : Nat → Int) (n_ a_ b_ j_ t_ : Nat), qT M.2.1 tx_ n_ ∧ M.2.1 101 3 = (a_ : Int) ∧ a_ ≤ n_ ∧ rn (qB tx_) n_ a_ = b_ ∧ (w = 1000 + j_ ∧ j_ < 18) ∧ frF M.1.2 t_ ∧ (9 ≤ c_ ∧ 24 + 5 * (rn (qL tx_) n_ b_ - b_) ≤ s_) ∧ (∀ (f_ : Nat → Nat × Nat) (S_ L_ : Nat → Nat → Int) (P_ : Nat → Nat → Option Nat) (u_ : Nat), gr t_ u_ M.1.2 M.2.1 M.2.2.1 M.2.2.2 f_ S_ L_ P_ → S_ 101 4 = (b_ : Int) → S_ 101 6 = M.2.1 101 6 → (hsW tx_ n_ b_ (wo j_) = true → S_ 101 3 = ((b_ + (wo j_).length : Nat) : Int) → Q (some (vi 1)) ((2, f_), S_, L_, P_)) ∧ (hsW tx_ n_ b_ (wo j_) = false → S_ 101 3 = (b_ : Int) → Q (some (vi 0)) ((2, f_), S_, L_, P_)))) else False
  | _ => False

def zpX4_passes (c_ s_ : Nat) : zz_P := [(0, zo_ald 1 0), (1, zo_cvG (mm_rm 9 c_ s_) 4 1 3 zX4_word), (4, zo_ald 5 1), (5, zo_callvp 8 2 19 zJ8_equals_k), (8, zo_zifeq 11 13), (11, zo_c 12 (vi 1)), (12, zo_zret true), (13, zo_ald 14 0), (14, zo_ald 15 0), (15, zo_get 18 3 0 4), (18, zo_puti 21 3 3), (21, zo_c 22 (vi 0)), (22, zo_zret true)]
theorem ztX4_passes (c_ s_ : Nat) {C : mm_C} (G : mm_G C RX4 cX4_passes (some .boolean) 2 (mm_rm 9 c_ s_)) (hnh : mm_nh C) : zz_OKs C (zpX4_passes c_ s_) :=
  ⟨zz_of (ok_aload_n G dX4_passes_0 rfl rfl) (z_ald _ _),
   zz_of (ok_calv G (hnh.q 1) (zmX4_word _ G.hst) (RX4, TX4, 7) rfl q1142 q630 q631 q88 q632 (by decide +kernel) ⟨Nat.le_of_ble_eq_true rfl, Nat.le_of_ble_eq_true rfl⟩ dX4_passes_1 rfl) (z_cvG _ _ _ _ _),
   zz_of (ok_aload_n G dX4_passes_4 rfl rfl) (z_ald _ _),
   zz_of (ok_callv G hnh (zmJ8_equals_k _ G.hst) rfl rfl (RJ8, TJ8, 4) rfl q1143 q1046 q1047 q100 q1048 (by decide +kernel) ⟨Nat.le_of_ble_eq_true rfl, Nat.le_of_ble_eq_true rfl⟩ dX4_passes_5 rfl) (z_callvp _ _ _ _),
   zz_of (ok_ifeq G dX4_passes_8 rfl rfl) (z_zifeq _ _),
   zz_of (ok_iconst G (v := 1) dX4_passes_11 (by decide) rfl) (z_cn 12 1),
   zz_of (ok_zret G dX4_passes_12) (z_zret _),
   zz_of (ok_aload_n G dX4_passes_13 rfl rfl) (z_ald _ _),
   zz_of (ok_aload_n G dX4_passes_14 rfl rfl) (z_ald _ _),
   zz_of (ok_get G (nx := 18) (ci := 3) (kd := 0) (k := 4) (RX4, TX4, 7) rfl (by decide) rfl q277 dX4_passes_15 rfl) (z_get _ _ _ _),
   zz_of (ok_puti G (nx := 21) (idx := 25) (ci := 3) (k := 3) (RX4, TX4, 7) rfl (by decide) rfl (mm_pw G (ci := 3) (k := 3) (RX4, TX4, 7) rfl (by decide) rfl q276 dX4_passes_18) rfl) (z_puti _ _ _),
   zz_of (ok_iconst G (v := 0) dX4_passes_21 (by decide) rfl) (z_cn 22 0),
   zz_of (ok_zret G dX4_passes_22) (z_zret _), trivial⟩

theorem zwX4_passes_0 {Q : Option zv → zz_M → Prop} {X : Nat → zz_M → Prop} {f : Nat → Nat × Nat} {S L : Nat → Nat → Int} {P : Nat → Nat → Option Nat} {c_ s_ : Nat} {w : Nat} (h : ∃ c1 s1 : Nat, (0 + c1 ≤ c_ ∧ 0 + s1 ≤ s_) ∧ (∃ (tx_2 : Nat → Int) (n_2 a_2 b_2 e_2 t_2 : Nat), qT S tx_2 n_2 ∧ S 101 3 = (a_2 : Int) ∧ a_2 ≤ n_2 ∧ rn (qB tx_2) n_2 a_2 = b_2 ∧ rn (qL tx_2) n_2 b_2 = e_2 ∧ frF f t_2 ∧ (9 ≤ c1 ∧ 24 + 5 * (e_2 - b_2) ≤ s1) ∧ (∀ (f_2 : Nat → Nat × Nat) (S_2 L_2 : Nat → Nat → Int) (P_2 : Nat → Nat → Option Nat) (g_2 u_2 : Nat), gr t_2 u_2 f S L P f_2 S_2 L_2 P_2 → S_2 101 3 = (e_2 : Int) → S_2 101 4 = (b_2 : Int) → S_2 101 6 = S 101 6 → stS t_2 u_2 f_2 S_2 P_2 g_2 (e_2 - b_2) (fun i => tx_2 (b_2 + i)) → ((zsh ((2, f_2), S_2, L_2, P_2) g_2 = (1, 19) ∨ zsh ((2, f_2), S_2, L_2, P_2) g_2 = (17, 19)) ∧ (∃ x_3 n_3 m_3 : Nat, stK ((2, f_2), S_2, L_2, P_2) g_2 x_3 n_3 ∧ ctK ((2, f_2), S_2, L_2, P_2) w m_3 ∧ (eqK ((2, f_2), S_2, L_2, P_2) x_3 (w + 100) n_3 m_3 → ((0 + c1 ≤ c_ ∧ 0 + s1 ≤ s_) ∧ (Q (some (vi 1)) ((2, f_2), S_2, L_2, P_2)))) ∧ (¬ eqK ((2, f_2), S_2, L_2, P_2) x_3 (w + 100) n_3 m_3 → ((0 + c1 ≤ c_ ∧ 0 + s1 ≤ s_) ∧ (Q (some (vi 0)) ((2, f_2), mm_up S_2 101 3 (S_2 101 4), L_2, P_2))))))))) : zz_J (zpX4_passes c_ s_) (zz_retP Q X c_ s_) 0 [some (vr 101), some (vr w)] [] ((2, f), S, L, P) (0, 0) := zz_J.go [] 400 h

theorem ct_of {f : Nat → Nat × Nat} {S L : Nat → Nat → Int} {P : Nat → Nat → Option Nat} {j : Nat} (hj : j < 18) : ctK ((2, f), S, L, P) (1000 + j) (wo j).length := by
  have h : ∀ j, j < 18 → (zfs 2 (1000 + j) = true ∧ zfS 2 (1000 + j) = (17, 19)) ∧ (zfs 2 (1000 + j + 100) = true ∧ zfS 2 (1000 + j + 100) = (20, (wo j).length)) := by decide +kernel
  obtain ⟨⟨h1, h2⟩, h3, h4⟩ := h j hj
  have := (wo_len j hj).1
  refine ⟨by omega, by omega, ?_, ?_, by omega⟩
  · show (bif zfs 2 (1000 + j) then zfS 2 (1000 + j) else f (1000 + j)) = _
    rw [h1]
    exact h2
  · show (bif zfs 2 (1000 + j + 100) then zfS 2 (1000 + j + 100) else f (1000 + j + 100)) = _
    rw [h3]
    exact h4
theorem stS.k {lo hi : Nat} {f : Nat → Nat × Nat} {S L : Nat → Nat → Int} {P : Nat → Nat → Option Nat} {g len : Nat} {w : Nat → Int} (q : stS lo hi f S P g len w) (hl : len ≤ 100000) (hw : ∀ i, i < len → R32 (w i)) : ∃ x, inR lo hi x ∧ stK ((2, f), S, L, P) g x len ∧ ∀ i, i < len → S x i = w i := by
  obtain ⟨q1, q2, q3, x, q4, q5, q6, q7⟩ := q
  exact ⟨x, q4, ⟨(zsh_hi q1.le).trans q2, (zpt_hi q1.le).trans q5, q3.1, (zsh_hi q4.le).trans q6, hl, fun i hi => by show R32 (S x i); rw [q7 i hi]; exact hw i hi⟩, q7⟩
theorem eqK_hs {M : zz_M} {x j len b n : Nat} {tx : Nat → Int} (hj : j < 18) (hl : b + len = rn (qL tx) n b) (hx : ∀ i, i < len → M.2.1 x i = tx (b + i)) : eqK M x (1000 + j + 100) len (wo j).length ↔ hsW tx n b (wo j) = true := by
  rw [hsW_t]
  unfold eqK
  have hc : ∀ i, i < (wo j).length → (mm_kI (1000 + j + 100) i).toInt = (((wo j).getD i 0 : Nat) : Int) := fun i hi => by
    have := wo_chr j hj i hi
    rw [show 1000 + j + 100 = 1100 + j by omega, this.1, zI_toInt (by omega) (by omega)]
  constructor
  · rintro ⟨h1, h2⟩
    refine ⟨by omega, fun i hi => ?_⟩
    rw [← hx i (by omega), h2 i (by omega), hc i hi]
  · rintro ⟨h1, h2⟩
    refine ⟨by omega, fun i hi => ?_⟩
    rw [hx i hi, h2 i (by omega), hc i (by omega)]
/-- the signs of a word -/
theorem wd_R {tx : Nat → Int} {n b : Nat} (hb : b ≤ n) : ∀ i, i < rn (qL tx) n b - b → 97 ≤ tx (b + i) ∧ tx (b + i) ≤ 122 := fun i hi => by
  have := (rn_in (q := qL tx) _ b rfl hb).2.2.2 (b + i) (by omega) (by omega)
  unfold qL at this
  rw [Bool.and_eq_true, decide_eq_true_eq, decide_eq_true_eq] at this
  exact this
theorem zmX4_passes (l : Launch) (hl : l.stackTraces = false) (c_ s_ : Nat) : mm_Spec l yX4_passes (ws_ yX4_passes cX4_passes 2 (some .boolean)) (mm_rm 9 c_ s_) (zE (zX4_passes c_ s_)) := by
  refine zz_Met.J hl (by decide) (fun C G hnh => ztX4_passes c_ s_ G hnh) ?_
  rintro as ⟨⟨t_, f⟩, S, L, P⟩ Q X h
  unfold zX4_passes at h
  split at h
  rotate_left
  · exact h.elim
  rename_i h_ w
  obtain ⟨e1_, e2_, h⟩ := mm_and2 h (fun q => q)
  cases mm_beq e1_
  cases mm_beq e2_
  try dsimp only at h
  refine ⟨rfl, ?_⟩
  refine zz_retP_J ?_
  obtain ⟨tx, n, a, b, j, t, hT, ha, han, hb, ⟨rfl, hj⟩, hf, hcs, hq⟩ := h
  have n400 := hT.1
  have hbn : b ≤ n := by rw [← hb]; exact rn_le han
  have l1 := rn_ge (q := qL tx) hbn
  have l2 := rn_le (q := qL tx) hbn
  have lw := wd_R (tx := tx) hbn
  refine zwX4_passes_0 ⟨c_, s_, by omega, tx, n, a, b, _, t, hT, ha, han, hb, rfl, hf, hcs, fun f2 S2 L2 P2 g u gg r3 r4 r6 hst => ?_⟩
  obtain ⟨x, x1, hk, hx⟩ := hst.k (L := L2) (by omega) (fun i hi => by have := lw i hi; omega)
  obtain ⟨q1, q0⟩ := hq f2 S2 L2 P2 u gg r4 r6
  have key := eqK_hs (M := ((2, f2), S2, L2, P2)) (x := x) (n := n) (len := rn (qL tx) n b - b) hj (by omega) hx
  obtain ⟨q1', q0'⟩ := hq f2 (mm_up S2 101 3 (S2 101 4)) L2 P2 u (gg.toS fun h k hk => rdC_up (Or.inl rfl) h k hk) (by rw [up_eq, if_neg (by decide)]; exact r4) (by rw [up_eq, if_neg (by decide)]; exact r6)
  refine ⟨Or.inl hk.1, x, rn (qL tx) n b - b, (wo j).length, hk, ct_of hj, fun e => ⟨by omega, ?_⟩, fun e => ⟨by omega, ?_⟩⟩
  · have e2 := key.mp e
    have e3 := (hsW_t.mp e2).1
    exact q1 e2 (by rw [r3, e3])
  · have e2 : hsW tx n b (wo j) = false := by
      cases c : hsW tx n b (wo j)
      · rfl
      · exact absurd (key.mpr c) e
    exact q0' e2 (by rw [up_eq, if_pos ⟨rfl, rfl⟩]; exact r4)
def zX18_values : zz_Sp := fun as M Q X => match as with
  | [] => bif Nat.beq M.1.1 2 then (∃ t_ : Nat, frF M.1.2 t_ ∧ (∀ (S_ L_ : Nat → Nat → Int) (P_ : Nat → Nat → Option Nat) (f_ : Nat → Nat × Nat), gr t_ (t_ + 1) M.1.2 M.2.1 M.2.2.1 M.2.2.2 f_ S_ L_ P_ → (∀ k, S_ 101 k = M.2.1 101 k) → f_ t_ = (8, 5) → (∀ i, i < 5 → P_ t_ i = some (1200 + i)) → Q (some (vr t_)) ((2, f_), S_, L_, P_))) else False
  | _ => False

def zpX18_values : zz_P := [(0, zo_c 3 (vr 1301)), (3, zo_clof (mm_rm 1 1 5) 6), (6, zo_casta 9 8), (9, zo_aret)]
theorem ztX18_values {C : mm_C} (G : mm_G C RX18 cX18_values (some (.array (.object "ChaseCourt$Fact"))) 0 (mm_rm 1 1 5)) (hnh : mm_nh C) : zz_OKs C zpX18_values :=
  ⟨zz_of (ok_gs G (c := "ChaseCourt$Fact") (n := "$VALUES") (d := "[LChaseCourt$Fact;") (by decide +kernel) q1247 dX18_values_0 rfl) (z_cr 3 1301),
   zz_of (ok_clof G q1249 q1250 q689 q690 q1251 q1252 ⟨Nat.le_of_ble_eq_true rfl, Nat.le_of_ble_eq_true rfl⟩ dX18_values_3 rfl) (z_clof _ _),
   zz_of (ok_casta G (t := 8) (by decide) rfl (fun h => va_nmO h rfl) q1254 dX18_values_6 rfl) (z_casta _ _),
   zz_of (ok_aret G (Or.inr ⟨_, rfl⟩) dX18_values_9) (z_aret), trivial⟩

theorem zwX18_values_0 {Q : Option zv → zz_M → Prop} {X : Nat → zz_M → Prop} {f : Nat → Nat × Nat} {S L : Nat → Nat → Int} {P : Nat → Nat → Option Nat}  (h : ∃ h1_ : Nat, zfree ((2, f), S, L, P) h1_ ∧ (0 + 1 ≤ 1 ∧ 0 + 5 ≤ 5) ∧ ((∃ n_ : Nat, zsh ((2, zrw f h1_ (8, 5)), zrw S h1_ (fun _ => 0), zrw L h1_ (fun _ => 0), zrw P h1_ (mm_kP 1301)) h1_ = (8, n_) ∨ zsh ((2, zrw f h1_ (8, 5)), zrw S h1_ (fun _ => 0), zrw L h1_ (fun _ => 0), zrw P h1_ (mm_kP 1301)) h1_ = (8 + 16, n_)) ∧ (Q (some (vr h1_)) ((2, zrw f h1_ (8, 5)), zrw S h1_ (fun _ => 0), zrw L h1_ (fun _ => 0), zrw P h1_ (mm_kP 1301))))) : zz_J zpX18_values (zz_ret Q X 1 5) 0 [] [] ((2, f), S, L, P) (0, 0) := zz_J.go [] 400 h

theorem zmX18_values (l : Launch) (hl : l.stackTraces = false) : mm_Spec l yX18_values (ws_ yX18_values cX18_values 0 (some (.array (.object "ChaseCourt$Fact")))) (mm_rm 1 1 5) (zE zX18_values) := by
  refine zz_Met.J hl (by decide) (fun C G hnh => ztX18_values G hnh) ?_
  rintro as ⟨⟨t_, f⟩, S, L, P⟩ Q X h
  unfold zX18_values at h
  split at h
  rotate_left
  · exact h.elim
  obtain ⟨e2_, h⟩ := mm_bif h (fun q => q)
  cases mm_beq e2_
  try dsimp only at h
  refine ⟨rfl, ?_⟩
  obtain ⟨t, hf, hq⟩ := h
  refine zwX18_values_0 ⟨t, hf.z (Nat.le_refl _), by decide, ⟨5, Or.inl ((zsh_hi hf.1).trans (zrw_s _ _ _))⟩, hq _ _ _ _ (gr.al hf (fun j hj => zrw_n _ _ hj) (fun j hj => zrw_n _ _ hj)) (fun k => ?_) (zrw_s _ _ _) (fun i hi => ?_)⟩
  · rw [zrw_n _ _ (by have := hf.1; omega)]
  · rw [zrw_s]
    exact (by decide +kernel : ∀ i : Fin 5, mm_kP 1301 i.val = some (1200 + i.val)) ⟨i, hi⟩
def zX18_of : zz_Sp := fun as M Q X => match as with
  | [.inr (.inr (some w))] => bif Nat.beq M.1.1 2 then (∃ (t_ x_ n_ : Nat), frF M.1.2 t_ ∧ stK ((2, M.1.2), M.2.1, M.2.2.1, M.2.2.2) w x_ n_ ∧ (w < t_ ∧ x_ < t_ ∧ 2000 ≤ w ∧ 2000 ≤ x_) ∧ (∀ (S_ L_ : Nat → Nat → Int) (P_ : Nat → Nat → Option Nat) (f_ : Nat → Nat × Nat), gr t_ (t_ + 1) M.1.2 M.2.1 M.2.2.1 M.2.2.2 f_ S_ L_ P_ → (∀ k, S_ 101 k = M.2.1 101 k) → (∀ j, j < 5 → eqK ((2, M.1.2), M.2.1, M.2.2.1, M.2.2.2) x_ (mm_tf j + 100) n_ (wo (mm_tf j - 1000)).length → Q (some (vr (1200 + j))) ((2, f_), S_, L_, P_)) ∧ ((∀ j, j < 5 → ¬ eqK ((2, M.1.2), M.2.1, M.2.2.1, M.2.2.2) x_ (mm_tf j + 100) n_ (wo (mm_tf j - 1000)).length) → Q (some (vn)) ((2, f_), S_, L_, P_)))) else False
  | _ => False

def zpX18_of : zz_P := [(0, zo_csL (mm_rm 4 1 5) 3 0 1 5 zX18_values), (3, zo_ast 4 1), (4, zo_ald 5 1), (5, zo_alenp 6), (6, zo_ist 7 2), (7, zo_c 8 (vi 0)), (8, zo_ist 9 3), (9, zo_ild 10 3), (10, zo_ild 11 2), (11, zo_cge false false 14 40), (14, zo_ald 15 1), (15, zo_ild 16 3), (16, zo_aald 17), (17, zo_ast 19 4), (19, zo_ald 21 4), (21, zo_toldF 24), (24, zo_ald 25 0), (25, zo_callvp 28 2 19 zJ8_equals_l), (28, zo_zifeq 31 34), (31, zo_ald 33 4), (33, zo_aret), (34, zo_inc 37 3 1), (37, zo_goto 9), (40, zo_c 41 vn), (41, zo_aret)]
theorem ztX18_of {C : mm_C} (G : mm_G C RX18 cX18_of (some (.object "ChaseCourt$Fact")) 5 (mm_rm 4 1 5)) (hnh : mm_nh C) : zz_OKs C zpX18_of :=
  ⟨zz_of (ok_calsF G (hnh.q 0) (zmX18_values _ G.hst) q1244 q1245 q120 q1246 (by decide +kernel) ⟨Nat.le_of_ble_eq_true rfl, Nat.le_of_ble_eq_true rfl⟩ dX18_of_0 rfl) (z_csL _ _ _ _ _ _),
   zz_of (ok_astore_n G dX18_of_3 rfl rfl (by decide)) (z_ast _ _),
   zz_of (ok_aload_n G dX18_of_4 rfl rfl) (z_ald _ _),
   zz_of (ok_alen G dX18_of_5 rfl) (z_alenp _),
   zz_of (ok_istore_n G dX18_of_6 rfl rfl (by decide)) (z_ist _ _),
   zz_of (ok_iconst G (v := 0) dX18_of_7 (by decide) rfl) (z_cn 8 0),
   zz_of (ok_istore_n G dX18_of_8 rfl rfl (by decide)) (z_ist _ _),
   zz_of (ok_iload_n G dX18_of_9 rfl rfl) (z_ild _ _),
   zz_of (ok_iload_n G dX18_of_10 rfl rfl) (z_ild _ _),
   zz_of (ok_cge G dX18_of_11 rfl rfl) (z_cge _ _ _ _),
   zz_of (ok_aload_n G dX18_of_14 rfl rfl) (z_ald _ _),
   zz_of (ok_iload_n G dX18_of_15 rfl rfl) (z_ild _ _),
   zz_of (ok_aald G dX18_of_16 rfl) (z_aald _),
   zz_of (ok_astore G dX18_of_17 rfl (by decide)) (z_ast _ _),
   zz_of (ok_aload G dX18_of_19 rfl) (z_ald _ _),
   zz_of (ok_toldF G q2279 dX18_of_21 rfl) (z_toldF _),
   zz_of (ok_aload_n G dX18_of_24 rfl rfl) (z_ald _ _),
   zz_of (ok_callv G hnh (zmJ8_equals_l _ G.hst) rfl rfl (RJ8, TJ8, 4) rfl q1255 q1046 q1047 q100 q1048 (by decide +kernel) ⟨by decide, by decide⟩ dX18_of_25 rfl) (z_callvp _ _ _ _),
   zz_of (ok_ifeq G dX18_of_28 rfl rfl) (z_zifeq _ _),
   zz_of (ok_aload G dX18_of_31 rfl) (z_ald _ _),
   zz_of (ok_aret G (Or.inl ⟨_, rfl⟩) dX18_of_33) (z_aret),
   zz_of (ok_iinc G (v := 1) dX18_of_34 (by decide) rfl (by decide)) (z_incn 37 3 1),
   zz_of (ok_goto G dX18_of_37 rfl) (z_goto _),
   zz_of (ok_null G dX18_of_40 rfl) (z_c0 41),
   zz_of (ok_aret G (Or.inl ⟨_, rfl⟩) dX18_of_41) (z_aret), trivial⟩

theorem zwX18_of_0 {Q : Option zv → zz_M → Prop} {X : Nat → zz_M → Prop} {f : Nat → Nat × Nat} {S L : Nat → Nat → Int} {P : Nat → Nat → Option Nat} {w : Nat} (h : (∃ t_1 : Nat, frF f t_1 ∧ (∀ (S_1 L_1 : Nat → Nat → Int) (P_1 : Nat → Nat → Option Nat) (f_1 : Nat → Nat × Nat), gr t_1 (t_1 + 1) f S L P f_1 S_1 L_1 P_1 → (∀ k, S_1 101 k = S 101 k) → f_1 t_1 = (8, 5) → (∀ i, i < 5 → P_1 t_1 i = some (1200 + i)) → (∃ (t_ n2 : Nat), zsh ((2, f_1), S_1, L_1, P_1) t_1 = (t_, n2) ∧ (2 ≤ t_ % 16 ∧ t_ % 16 ≤ 8 ∧ t_ ≤ 31) ∧ (zz_J zpX18_of (zz_ret Q X 1 5) 9 [some (vr w), some (vr t_1), some (vi (n2 : Int)), some (vi 0), none] [] ((2, f_1), S_1, L_1, P_1) (1, 5)))))) : zz_J zpX18_of (zz_ret Q X 1 5) 0 [some (vr w), none, none, none, none] [] ((2, f), S, L, P) (0, 0) := zz_J.go [(9, [4])] 400 h
theorem zwX18_of_9 {Q : Option zv → zz_M → Prop} {X : Nat → zz_M → Prop} {f : Nat → Nat × Nat} {S L : Nat → Nat → Int} {P : Nat → Nat → Option Nat} {h0 : Nat} {h1 : Nat} {x2 : Int} {x3 : Int} (h : R32 x3 ∧ (R32 x2 ∧ ((x2 ≤ x3 → Q (some (vn)) ((2, f), S, L, P)) ∧ (¬ x2 ≤ x3 → ∃ t_ n_ : Nat, zsh ((2, f), S, L, P) h1 = (t_, n_) ∧ (t_ = 6 ∨ t_ = 7 ∨ t_ = 8) ∧ (n_ : Int) ≤ 2147483647 ∧ (0 ≤ x3 ∧ x3 < (n_ : Int)) ∧ (∀ b1 : Nat, zpt ((2, f), S, L, P) h1 x3.toNat = some b1 → (1200 ≤ b1 ∧ b1 ≤ 1204) ∧ ((zsh ((2, f), S, L, P) (mm_tf (b1 - 1200)) = (1, 19) ∨ zsh ((2, f), S, L, P) (mm_tf (b1 - 1200)) = (17, 19)) ∧ (∃ x_2 n_2 m_2 : Nat, stK ((2, f), S, L, P) h0 x_2 n_2 ∧ ctK ((2, f), S, L, P) (mm_tf (b1 - 1200)) m_2 ∧ (eqK ((2, f), S, L, P) x_2 ((mm_tf (b1 - 1200)) + 100) n_2 m_2 → (Q (some (vr b1)) ((2, f), S, L, P))) ∧ (¬ eqK ((2, f), S, L, P) x_2 ((mm_tf (b1 - 1200)) + 100) n_2 m_2 → (zz_J zpX18_of (zz_ret Q X 1 5) 9 [some (vr h0), some (vr h1), some (vi x2), some (vi (x3 + 1)), none] [] ((2, f), S, L, P) (1, 5)))))) ∧ (zpt ((2, f), S, L, P) h1 x3.toNat = none → False))))) : zz_J zpX18_of (zz_ret Q X 1 5) 9 [some (vr h0), some (vr h1), some (vi x2), some (vi x3), none] [] ((2, f), S, L, P) (1, 5) := zz_J.go [(9, [4])] 400 h

theorem tf_txt : ∀ j, j < 5 → ∃ i, i < 18 ∧ mm_tf j = 1000 + i := fun j hj => ⟨mm_tf j - 1000, (by decide +kernel : ∀ j : Fin 5, mm_tf j.val - 1000 < 18 ∧ mm_tf j.val = 1000 + (mm_tf j.val - 1000)) ⟨j, hj⟩⟩
theorem zmX18_of (l : Launch) (hl : l.stackTraces = false) : mm_Spec l yX18_of (ws_ yX18_of cX18_of 5 (some (.object "ChaseCourt$Fact"))) (mm_rm 4 1 5) (zE zX18_of) := by
  refine zz_Met.J hl (by decide) (fun C G hnh => ztX18_of G hnh) ?_
  rintro as ⟨⟨t_, f⟩, S, L, P⟩ Q X h
  unfold zX18_of at h
  split at h
  rotate_left
  · exact h.elim
  rename_i w
  obtain ⟨e2_, h⟩ := mm_bif h (fun q => q)
  cases mm_beq e2_
  try dsimp only at h
  refine ⟨rfl, ?_⟩
  obtain ⟨t, x, n, hf, hk, ⟨hw, hxt, hw2, hx2⟩, hq⟩ := h
  have t2 := hf.1
  refine zwX18_of_0 ⟨t, hf, fun S1 L1 P1 f1 g e1 e2 e3 => ⟨8, 5, (zsh_hi hf.1).trans e2, by decide, ?_⟩⟩
  obtain ⟨q1, q0⟩ := hq S1 L1 P1 f1 g e1
  have ex : S1 x = S x := by
    funext k
    exact g.2.2.1 x k hxt (fun c => by have := c.1; omega)
  have hk1 : stK ((2, f1), S1, L1, P1) w x n := by
    obtain ⟨k1, k2, k3, k4, k5, k6⟩ := hk
    have ew : S1 w = S w := by
      funext k
      exact g.2.2.1 w k hw (fun c => by have := c.1; omega)
    refine ⟨?_, ?_, ?_, ?_, k5, ?_⟩
    · rw [zsh_hi hw2, g.2.1 w hw, ← zsh_hi (f := f) (S := S) (L := L) (P := P) hw2]; exact k1
    · rw [zpt_hi hw2, g.2.2.2.2.1 w hw, ← zpt_hi (f := f) (S := S) (L := L) (P := P) hw2]; exact k2
    · show S1 w 1 = 0
      rw [ew]; exact k3
    · rw [zsh_hi hx2, g.2.1 x hxt, ← zsh_hi (f := f) (S := S) (L := L) (P := P) hx2]; exact k4
    · intro i hi
      show R32 (S1 x i)
      rw [ex]; exact k6 i hi
  have eqe : ∀ b m, eqK ((2, f1), S1, L1, P1) x b n m ↔ eqK ((2, f), S, L, P) x b n m := fun b m => by
    unfold eqK
    show (n = m ∧ ∀ i, i < n → S1 x i = _) ↔ (n = m ∧ ∀ i, i < n → S x i = _)
    rw [ex]
  have t9 : ∀ j i : Nat, i + j = 5 → (∀ k, k < i → ¬ eqK ((2, f), S, L, P) x (mm_tf k + 100) n (wo (mm_tf k - 1000)).length) → zz_J zpX18_of (zz_ret Q X 1 5) 9 [some (vr w), some (vr t), some (vi ((5 : Nat) : Int)), some (vi (i : Int)), none] [] ((2, f1), S1, L1, P1) (1, 5) := by
    intro j
    induction j with
    | zero =>
      intro i hi hn
      exact zwX18_of_9 ⟨by omega, by decide, fun _ => q0 fun k hk => hn k (by omega), fun c => absurd (show ((5 : Nat) : Int) ≤ (i : Int) by omega) c⟩
    | succ j ih =>
      intro i hi hn
      refine zwX18_of_9 ⟨by omega, by decide, fun c => absurd c (by omega), fun _ => ⟨8, 5, (zsh_hi hf.1).trans e2, Or.inr (Or.inr rfl), by decide, by omega, fun b hb => ?_, fun hb => ?_⟩⟩
      · rw [zpt_hi hf.1, Int.toNat_natCast, e3 i (by omega)] at hb
        cases hb
        rw [Nat.add_sub_cancel_left]
        obtain ⟨k, hk18, ek⟩ := tf_txt i (by omega)
        refine ⟨by omega, ?_, x, n, (wo (mm_tf i - 1000)).length, hk1, ?_, fun c => q1 i (by omega) ((eqe _ _).mp c), fun c => ih (i + 1) (by omega) (fun k hk => ?_)⟩
        · rw [ek]
          exact Or.inr (ct_of hk18).2.2.1
        · rw [ek, Nat.add_sub_cancel_left]
          exact ct_of hk18
        · by_cases e : k = i
          · rw [e]; exact fun d => c ((eqe _ _).mpr d)
          · exact hn k (by omega)
      · rw [zpt_hi hf.1, Int.toNat_natCast, e3 i (by omega)] at hb
        cases hb
  exact t9 5 0 rfl (fun k hk => absurd hk (Nat.not_lt_zero _))
