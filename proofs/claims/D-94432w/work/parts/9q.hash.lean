/-! ===== the JDK: a word's number ===== -/
set_option maxRecDepth 100000
/-- a word's number by its first k bytes -/
def hsF (b : Nat → Int) : Nat → Int
  | 0 => 0
  | k + 1 => (zI (31 * hsF b k + b k)).toInt
theorem hsF_R (b : Nat → Int) (k : Nat) : R32 (hsF b k) := by
  cases k with
  | zero => exact ⟨by show (-2147483648 : Int) ≤ 0; decide, by show (0 : Int) < 2147483648; decide⟩
  | succ k => exact i32_r _
theorem zand_255 {x : Int} (h0 : 0 ≤ x) (h1 : x ≤ 127) : zand x 255 = x := by
  have := (by decide +kernel : ∀ i : Fin 128, zand (i.val : Int) 255 = (i.val : Int)) ⟨x.toNat, by omega⟩
  rw [show ((⟨x.toNat, by omega⟩ : Fin 128).val : Int) = x by show (x.toNat : Int) = x; omega] at this
  exact this
theorem hsF_1 {b : Nat → Int} (h0 : 0 ≤ b 0) (h1 : b 0 ≤ 127) : hsF b 1 = b 0 := by
  show (zI (31 * 0 + b 0)).toInt = b 0
  rw [zI_toInt (by omega) (by omega)]
  omega
def zJ5_signedHashCode : zz_Sp := fun as M Q X => match as with
  | [.inl x, .inr (.inr (some a)), .inl i, .inl n] => ∃ m_ : Nat, zsh M a = (4, m_) ∧ (n = (m_ : Int) ∧ m_ ≤ 100000 ∧ i = 0 ∧ x = 0) ∧ (∀ k, k < m_ → 0 ≤ M.2.1 a k ∧ M.2.1 a k ≤ 127) ∧ Q (some (vi (hsF (M.2.1 a) m_))) M
  | _ => False

def zpJ5_signedHashCode : zz_P := [(0, zo_ild 1 2), (1, zo_ild 2 3), (2, zo_iadd 3), (3, zo_ist 5 4), (5, zo_ild 6 2), (6, zo_ist 8 5), (8, zo_ild 10 5), (10, zo_ild 12 4), (12, zo_cge false false 15 35), (15, zo_c 17 (vi 31)), (17, zo_ild 18 0), (18, zo_imul 19), (19, zo_ald 20 1), (20, zo_ild 22 5), (22, zo_baldp 23), (23, zo_c 26 (vi 255)), (26, zo_iand 27), (27, zo_iadd 28), (28, zo_ist 29 0), (29, zo_inc 32 5 1), (32, zo_goto 8), (35, zo_ild 36 0), (36, zo_iret)]
theorem ztJ5_signedHashCode {C : mm_C} (G : mm_G C RJ5 cJ5_signedHashCode (some .int) 6 (mm_rm 1 0 0)) (hnh : mm_nh C) : zz_OKs C zpJ5_signedHashCode :=
  ⟨zz_of (ok_iload_n G dJ5_signedHashCode_0 rfl rfl) (z_ild _ _),
   zz_of (ok_iload_n G dJ5_signedHashCode_1 rfl rfl) (z_ild _ _),
   zz_of (ok_iadd G dJ5_signedHashCode_2 rfl) (z_iadd _),
   zz_of (ok_istore G dJ5_signedHashCode_3 rfl (by decide)) (z_ist _ _),
   zz_of (ok_iload_n G dJ5_signedHashCode_5 rfl rfl) (z_ild _ _),
   zz_of (ok_istore G dJ5_signedHashCode_6 rfl (by decide)) (z_ist _ _),
   zz_of (ok_iload G dJ5_signedHashCode_8 rfl) (z_ild _ _),
   zz_of (ok_iload G dJ5_signedHashCode_10 rfl) (z_ild _ _),
   zz_of (ok_cge G dJ5_signedHashCode_12 rfl rfl) (z_cge _ _ _ _),
   zz_of (ok_bipush G (v := 31) dJ5_signedHashCode_15 (by decide) rfl) (z_cn 17 31),
   zz_of (ok_iload_n G dJ5_signedHashCode_17 rfl rfl) (z_ild _ _),
   zz_of (ok_imul G dJ5_signedHashCode_18 rfl) (z_imul _),
   zz_of (ok_aload_n G dJ5_signedHashCode_19 rfl rfl) (z_ald _ _),
   zz_of (ok_iload G dJ5_signedHashCode_20 rfl) (z_ild _ _),
   zz_of (ok_bald G dJ5_signedHashCode_22 rfl) (z_baldp _),
   zz_of (ok_sipush G (v := 255) dJ5_signedHashCode_23 (by decide) rfl) (z_cn 26 255),
   zz_of (ok_iand G dJ5_signedHashCode_26 rfl) (z_iand _),
   zz_of (ok_iadd G dJ5_signedHashCode_27 rfl) (z_iadd _),
   zz_of (ok_istore_n G dJ5_signedHashCode_28 rfl rfl (by decide)) (z_ist _ _),
   zz_of (ok_iinc G (v := 1) dJ5_signedHashCode_29 (by decide) rfl (by decide)) (z_incn 32 5 1),
   zz_of (ok_goto G dJ5_signedHashCode_32 rfl) (z_goto _),
   zz_of (ok_iload_n G dJ5_signedHashCode_35 rfl rfl) (z_ild _ _),
   zz_of (ok_iret G dJ5_signedHashCode_36) (z_iret), trivial⟩

theorem zwJ5_signedHashCode_0 {Q : Option zv → zz_M → Prop} {X : Nat → zz_M → Prop} {M : zz_M} {x : Int} {a : Nat} {i : Int} {n : Int} (h : zz_J zpJ5_signedHashCode (zz_ret Q X 0 0) 8 [some (vi x), some (vr a), none, none, some (vi (i + n)), some (vi i)] [] M (0, 0)) : zz_J zpJ5_signedHashCode (zz_ret Q X 0 0) 0 [some (vi x), some (vr a), some (vi i), some (vi n), none, none] [] M (0, 0) := zz_J.go [(8, [2, 3])] 400 h
theorem zwJ5_signedHashCode_8 {Q : Option zv → zz_M → Prop} {X : Nat → zz_M → Prop} {M : zz_M} {x0 : Int} {h1 : Nat} {x4 : Int} {x5 : Int} (h : R32 x5 ∧ (R32 x4 ∧ ((x4 ≤ x5 → Q (some (vi x0)) M) ∧ (¬ x4 ≤ x5 → ∃ n_ : Nat, zsh M h1 = (4, n_) ∧ (n_ : Int) ≤ 2147483647 ∧ (0 ≤ x5 ∧ x5 < (n_ : Int)) ∧ (zz_J zpJ5_signedHashCode (zz_ret Q X 0 0) 8 [some (vi ((31 * x0) + (zand (M.2.1 h1 x5.toNat) 255))), some (vr h1), none, none, some (vi x4), some (vi (x5 + 1))] [] M (0, 0)))))) : zz_J zpJ5_signedHashCode (zz_ret Q X 0 0) 8 [some (vi x0), some (vr h1), none, none, some (vi x4), some (vi x5)] [] M (0, 0) := zz_J.go [(8, [2, 3])] 400 h

theorem zmJ5_signedHashCode (l : Launch) (hl : l.stackTraces = false) : mm_Spec l yJ5_signedHashCode (ws_ yJ5_signedHashCode cJ5_signedHashCode 6 (some .int)) (mm_rm 1 0 0) (zE zJ5_signedHashCode) := by
  refine zz_Met.J hl (by decide) (fun C G hnh => ztJ5_signedHashCode G hnh) ?_
  rintro as M Q X h
  unfold zJ5_signedHashCode at h
  split at h
  rotate_left
  · exact h.elim
  rename_i x a i n
  refine ⟨rfl, ?_⟩
  obtain ⟨m, ha, ⟨rfl, hm, rfl, rfl⟩, hb, hq⟩ := h
  have t8 : ∀ (d k : Nat), k + d = m → zz_J zpJ5_signedHashCode (zz_ret Q X 0 0) 8 [some (vi (hsF (M.2.1 a) k)), some (vr a), none, none, some (vi (m : Int)), some (vi (k : Int))] [] M (0, 0) := by
    intro d
    induction d with
    | zero =>
      intro k hk
      have ek : k = m := by omega
      subst ek
      exact zwJ5_signedHashCode_8 ⟨by omega, by omega, fun _ => hq, fun c => absurd (Int.le_refl _) c⟩
    | succ d ih =>
      intro k hk
      refine zwJ5_signedHashCode_8 ⟨by omega, by omega, fun c => absurd c (by omega), fun _ => ⟨m, ha, by omega, by omega, ?_⟩⟩
      have hk2 := hb k (by omega)
      rw [Int.toNat_natCast, zand_255 hk2.1 hk2.2, show (k : Int) + 1 = ((k + 1 : Nat) : Int) by omega]
      exact zz_Jev (lv' := [some (vi (hsF (M.2.1 a) (k + 1))), some (vr a), none, none, some (vi (m : Int)), some (vi ((k + 1 : Nat) : Int))]) (congrArg (fun z => [some z, some (ev (vr a)), none, none, some (ev (vi (m : Int))), some (ev (vi ((k + 1 : Nat) : Int)))]) (vi_norm _)) rfl rfl (ih (k + 1) (by omega))
  have := t8 m 0 (by omega)
  refine zwJ5_signedHashCode_0 ?_
  rw [Int.zero_add]
  exact this
def zJ5_vectorizedHashCode : zz_Sp := fun as M Q X => match as with
  | [.inr (.inr (some a)), .inl i, .inl n, .inl x, .inl t] => ∃ m_ : Nat, zsh M a = (4, m_) ∧ (n = (m_ : Int) ∧ m_ ≤ 100000 ∧ i = 0 ∧ x = 0 ∧ t = 4) ∧ (∀ k, k < m_ → 0 ≤ M.2.1 a k ∧ M.2.1 a k ≤ 127) ∧ Q (some (vi (hsF (M.2.1 a) m_))) M
  | _ => False

def zpJ5_vectorizedHashCode : zz_P := [(0, zo_ild 2 4), (2, zo_sw false [(4, 44), (5, 57), (8, 90), (9, 103), (10, 116)] 129), (44, zo_ild 45 3), (45, zo_ald 46 0), (46, zo_casta 49 4), (49, zo_ild 50 1), (50, zo_ild 51 2), (51, zo_calls 54 4 zJ5_signedHashCode), (54, zo_goto 157), (57, zo_bad), (58, zo_bad), (61, zo_bad), (64, zo_bad), (65, zo_bad), (66, zo_bad), (69, zo_bad), (70, zo_bad), (71, zo_bad), (74, zo_bad), (77, zo_bad), (78, zo_bad), (79, zo_bad), (82, zo_bad), (83, zo_bad), (84, zo_bad), (87, zo_bad), (90, zo_bad), (91, zo_bad), (92, zo_bad), (95, zo_bad), (96, zo_bad), (97, zo_bad), (100, zo_bad), (103, zo_bad), (104, zo_bad), (105, zo_bad), (108, zo_bad), (109, zo_bad), (110, zo_bad), (113, zo_bad), (116, zo_bad), (117, zo_bad), (118, zo_bad), (121, zo_bad), (122, zo_bad), (123, zo_bad), (126, zo_bad), (129, zo_bad), (157, zo_iret)]
theorem ztJ5_vectorizedHashCode {C : mm_C} (G : mm_G C RJ5 cJ5_vectorizedHashCode (some .int) 5 (mm_rm 2 0 0)) (hnh : mm_nh C) : zz_OKs C zpJ5_vectorizedHashCode :=
  ⟨zz_of (ok_iload G dJ5_vectorizedHashCode_0 rfl) (z_ild _ _),
   zz_of (ok_tsw G (l := [(4, 44), (5, 57), (8, 90), (9, 103), (10, 116)]) (d := 129) dJ5_vectorizedHashCode_2 (mm_tswo (by decide) (by decide +kernel)) (mm_tswi (by decide +kernel))) (z_sw _ _ _),
   zz_of (ok_iload_n G dJ5_vectorizedHashCode_44 rfl rfl) (z_ild _ _),
   zz_of (ok_aload_n G dJ5_vectorizedHashCode_45 rfl rfl) (z_ald _ _),
   zz_of (ok_casta G (t := 4) (by decide) rfl (fun h => h) q997 dJ5_vectorizedHashCode_46 rfl) (z_casta _ _),
   zz_of (ok_iload_n G dJ5_vectorizedHashCode_49 rfl rfl) (z_ild _ _),
   zz_of (ok_iload_n G dJ5_vectorizedHashCode_50 rfl rfl) (z_ild _ _),
   zz_of (ok_calls G hnh (zmJ5_signedHashCode _ G.hst) rfl rfl q998 q999 q97 q1000 (by decide +kernel) ⟨by decide, by decide⟩ dJ5_vectorizedHashCode_51 rfl) (z_calls _ _ _),
   zz_of (ok_goto G dJ5_vectorizedHashCode_54 rfl) (z_goto _),
   zz_of (ok_bad) (z_bad),
   zz_of (ok_bad) (z_bad),
   zz_of (ok_bad) (z_bad),
   zz_of (ok_bad) (z_bad),
   zz_of (ok_bad) (z_bad),
   zz_of (ok_bad) (z_bad),
   zz_of (ok_bad) (z_bad),
   zz_of (ok_bad) (z_bad),
   zz_of (ok_bad) (z_bad),
   zz_of (ok_bad) (z_bad),
   zz_of (ok_bad) (z_bad),
   zz_of (ok_bad) (z_bad),
   zz_of (ok_bad) (z_bad),
   zz_of (ok_bad) (z_bad),
   zz_of (ok_bad) (z_bad),
   zz_of (ok_bad) (z_bad),
   zz_of (ok_bad) (z_bad),
   zz_of (ok_bad) (z_bad),
   zz_of (ok_bad) (z_bad),
   zz_of (ok_bad) (z_bad),
   zz_of (ok_bad) (z_bad),
   zz_of (ok_bad) (z_bad),
   zz_of (ok_bad) (z_bad),
   zz_of (ok_bad) (z_bad),
   zz_of (ok_bad) (z_bad),
   zz_of (ok_bad) (z_bad),
   zz_of (ok_bad) (z_bad),
   zz_of (ok_bad) (z_bad),
   zz_of (ok_bad) (z_bad),
   zz_of (ok_bad) (z_bad),
   zz_of (ok_bad) (z_bad),
   zz_of (ok_bad) (z_bad),
   zz_of (ok_bad) (z_bad),
   zz_of (ok_bad) (z_bad),
   zz_of (ok_bad) (z_bad),
   zz_of (ok_bad) (z_bad),
   zz_of (ok_bad) (z_bad),
   zz_of (ok_bad) (z_bad),
   zz_of (ok_bad) (z_bad),
   zz_of (ok_iret G dJ5_vectorizedHashCode_157) (z_iret), trivial⟩

theorem zwJ5_vectorizedHashCode_0 {Q : Option zv → zz_M → Prop} {X : Nat → zz_M → Prop} {M : zz_M} {a : Nat} {i : Int} {n : Int} {x : Int} {t : Int} (h : R32 t ∧ ((t = 4 → (∃ n_ : Nat, zsh M a = (4, n_) ∨ zsh M a = (4 + 16, n_)) ∧ ((∃ m_1 : Nat, zsh M a = (4, m_1) ∧ (n = (m_1 : Int) ∧ m_1 ≤ 100000 ∧ i = 0 ∧ x = 0) ∧ (∀ k, k < m_1 → 0 ≤ M.2.1 a k ∧ M.2.1 a k ≤ 127) ∧ ((0 ≤ 0 ∧ 0 ≤ 0) ∧ (Q (some (vi (hsF (M.2.1 a) m_1))) M))))) ∧ (t ≠ 4 → (t = 5 → False) ∧ (t ≠ 5 → (t = 8 → False) ∧ (t ≠ 8 → (t = 9 → False) ∧ (t ≠ 9 → (t = 10 → False) ∧ (t ≠ 10 → False))))))) : zz_J zpJ5_vectorizedHashCode (zz_retP Q X 0 0) 0 [some (vr a), some (vi i), some (vi n), some (vi x), some (vi t)] [] M (0, 0) := zz_J.go [] 400 h

theorem zmJ5_vectorizedHashCode (l : Launch) (hl : l.stackTraces = false) : mm_Spec l yJ5_vectorizedHashCode (ws_ yJ5_vectorizedHashCode cJ5_vectorizedHashCode 5 (some .int)) (mm_rm 2 0 0) (zE zJ5_vectorizedHashCode) := by
  refine zz_Met.J hl (by decide) (fun C G hnh => ztJ5_vectorizedHashCode G hnh) ?_
  rintro as M Q X h
  unfold zJ5_vectorizedHashCode at h
  split at h
  rotate_left
  · exact h.elim
  rename_i a i n x t
  refine ⟨rfl, ?_⟩
  refine zz_retP_J ?_
  obtain ⟨m, ha, ⟨rfl, hm, rfl, rfl, rfl⟩, hb, hq⟩ := h
  exact zwJ5_vectorizedHashCode_0 ⟨by decide, fun _ => ⟨⟨m, Or.inl ha⟩, m, ha, ⟨rfl, hm, rfl, rfl⟩, hb, by decide, hq⟩, fun c => absurd rfl c⟩
def zJ10_hashCode : zz_Sp := fun as M Q X => match as with
  | [.inr (.inr (some a))] => ∃ m_ : Nat, zsh M a = (4, m_) ∧ m_ ≤ 100000 ∧ (∀ k, k < m_ → 0 ≤ M.2.1 a k ∧ M.2.1 a k ≤ 127) ∧ Q (some (vi (hsF (M.2.1 a) m_))) M
  | _ => False

def zpJ10_hashCode : zz_P := [(0, zo_ald 1 0), (1, zo_alenp 2), (2, zo_sw false [(0, 28), (1, 32)] 42), (28, zo_c 29 (vi 0)), (29, zo_goto 51), (32, zo_ald 33 0), (33, zo_c 34 (vi 0)), (34, zo_baldp 35), (35, zo_c 38 (vi 255)), (38, zo_iand 39), (39, zo_goto 51), (42, zo_ald 43 0), (43, zo_c 44 (vi 0)), (44, zo_ald 45 0), (45, zo_alenp 46), (46, zo_c 47 (vi 0)), (47, zo_c 48 (vi 4)), (48, zo_calls 51 5 zJ5_vectorizedHashCode), (51, zo_iret)]
theorem ztJ10_hashCode {C : mm_C} (G : mm_G C RJ10 cJ10_hashCode (some .int) 1 (mm_rm 3 0 0)) (hnh : mm_nh C) : zz_OKs C zpJ10_hashCode :=
  ⟨zz_of (ok_aload_n G dJ10_hashCode_0 rfl rfl) (z_ald _ _),
   zz_of (ok_alen G dJ10_hashCode_1 rfl) (z_alenp _),
   zz_of (ok_lsw G (l := [(0, 28), (1, 32)]) (d := 42) dJ10_hashCode_2 (by decide +kernel) (mm_lswl (by decide) rfl)) (z_sw _ _ _),
   zz_of (ok_iconst G (v := 0) dJ10_hashCode_28 (by decide) rfl) (z_cn 29 0),
   zz_of (ok_goto G dJ10_hashCode_29 rfl) (z_goto _),
   zz_of (ok_aload_n G dJ10_hashCode_32 rfl rfl) (z_ald _ _),
   zz_of (ok_iconst G (v := 0) dJ10_hashCode_33 (by decide) rfl) (z_cn 34 0),
   zz_of (ok_bald G dJ10_hashCode_34 rfl) (z_baldp _),
   zz_of (ok_sipush G (v := 255) dJ10_hashCode_35 (by decide) rfl) (z_cn 38 255),
   zz_of (ok_iand G dJ10_hashCode_38 rfl) (z_iand _),
   zz_of (ok_goto G dJ10_hashCode_39 rfl) (z_goto _),
   zz_of (ok_aload_n G dJ10_hashCode_42 rfl rfl) (z_ald _ _),
   zz_of (ok_iconst G (v := 0) dJ10_hashCode_43 (by decide) rfl) (z_cn 44 0),
   zz_of (ok_aload_n G dJ10_hashCode_44 rfl rfl) (z_ald _ _),
   zz_of (ok_alen G dJ10_hashCode_45 rfl) (z_alenp _),
   zz_of (ok_iconst G (v := 0) dJ10_hashCode_46 (by decide) rfl) (z_cn 47 0),
   zz_of (ok_iconst G (v := 4) dJ10_hashCode_47 (by decide) rfl) (z_cn 48 4),
   zz_of (ok_calls G hnh (zmJ5_vectorizedHashCode _ G.hst) rfl rfl q994 q995 q97 q996 (by decide +kernel) ⟨by decide, by decide⟩ dJ10_hashCode_48 rfl) (z_calls _ _ _),
   zz_of (ok_iret G dJ10_hashCode_51) (z_iret), trivial⟩

theorem zwJ10_hashCode_0 {Q : Option zv → zz_M → Prop} {X : Nat → zz_M → Prop} {M : zz_M} {a : Nat} (h : ∃ (t_ n1 : Nat), zsh M a = (t_, n1) ∧ (2 ≤ t_ % 16 ∧ t_ % 16 ≤ 8 ∧ t_ ≤ 31) ∧ (R32 (n1 : Int) ∧ (((n1 : Int) = 0 → Q (some (vi 0)) M) ∧ ((n1 : Int) ≠ 0 → ((n1 : Int) = 1 → ∃ n_ : Nat, zsh M a = (4, n_) ∧ (n_ : Int) ≤ 2147483647 ∧ (0 ≤ (0 : Int) ∧ 0 < (n_ : Int)) ∧ (Q (some (vi (zand (M.2.1 a ((0 : Int).toNat)) 255))) M)) ∧ ((n1 : Int) ≠ 1 → ∃ (t_ n2 : Nat), zsh M a = (t_, n2) ∧ (2 ≤ t_ % 16 ∧ t_ % 16 ≤ 8 ∧ t_ ≤ 31) ∧ ((∃ m_3 : Nat, zsh M a = (4, m_3) ∧ ((n2 : Int) = (m_3 : Int) ∧ m_3 ≤ 100000 ∧ (0 : Int) = 0 ∧ (0 : Int) = 0 ∧ (4 : Int) = 4) ∧ (∀ k, k < m_3 → 0 ≤ M.2.1 a k ∧ M.2.1 a k ≤ 127) ∧ (Q (some (vi (hsF (M.2.1 a) m_3))) M)))))))) : zz_J zpJ10_hashCode (zz_ret Q X 0 0) 0 [some (vr a)] [] M (0, 0) := zz_J.go [] 400 h

theorem zmJ10_hashCode (l : Launch) (hl : l.stackTraces = false) : mm_Spec l yJ10_hashCode (ws_ yJ10_hashCode cJ10_hashCode 1 (some .int)) (mm_rm 3 0 0) (zE zJ10_hashCode) := by
  refine zz_Met.J hl (by decide) (fun C G hnh => ztJ10_hashCode G hnh) ?_
  rintro as M Q X h
  unfold zJ10_hashCode at h
  split at h
  rotate_left
  · exact h.elim
  rename_i a
  refine ⟨rfl, ?_⟩
  obtain ⟨m, ha, hm, hb, hq⟩ := h
  refine zwJ10_hashCode_0 ⟨4, m, ha, by decide, by omega, fun c => ?_, fun c => ⟨fun c1 => ⟨m, ha, by omega, by omega, ?_⟩, fun c1 => ⟨4, m, ha, by decide, m, ha, ⟨rfl, hm, rfl, rfl, rfl⟩, hb, hq⟩⟩⟩
  · have e : m = 0 := by omega
    subst e
    exact hq
  · have e : m = 1 := by omega
    subst e
    have h0 := hb 0 (by decide)
    rw [show ((0 : Int).toNat) = 0 from rfl, zand_255 h0.1 h0.2, ← hsF_1 h0.1 h0.2]
    exact hq
def zJ8_isLatin1_k : zz_Sp := fun as M Q X => match as with
  | [.inr (.inr (some h_))] => zsh M h_ = (1, 19) ∧ M.2.1 h_ 1 = 0 ∧ Q (some (vi 1)) M
  | _ => False

def zpJ8_isLatin1_k : zz_P := [(0, zo_c 3 (vi 1)), (3, zo_ifeq false 6 17), (6, zo_ald 7 0), (7, zo_getp 10 19 0 1), (10, zo_ifne false 13 17), (13, zo_c 14 (vi 1)), (14, zo_goto 18), (17, zo_c 18 (vi 0)), (18, zo_zret true)]
theorem ztJ8_isLatin1_k {C : mm_C} (G : mm_G C RJ8 cJ8_isLatin1 (some .boolean) 1 (mm_rm 1 0 0)) (hnh : mm_nh C) : zz_OKs C zpJ8_isLatin1_k :=
  ⟨zz_of (ok_gs G (c := "java/lang/String") (n := "COMPACT_STRINGS") (d := "Z") (by decide +kernel) q887 dJ8_isLatin1_0 rfl) (z_cn 3 1),
   zz_of (ok_ifeq G dJ8_isLatin1_3 rfl rfl) (z_ifeq _ _ _),
   zz_of (ok_aload_n G dJ8_isLatin1_6 rfl rfl) (z_ald _ _),
   zz_of (ok_get G (nx := 10) (ci := 19) (kd := 0) (k := 1) (RJ8, TJ8, 4) rfl (by decide) rfl q943 dJ8_isLatin1_7 rfl) (z_getp _ _ _ _),
   zz_of (ok_ifne G dJ8_isLatin1_10 rfl rfl) (z_ifne _ _ _),
   zz_of (ok_iconst G (v := 1) dJ8_isLatin1_13 (by decide) rfl) (z_cn 14 1),
   zz_of (ok_goto G dJ8_isLatin1_14 rfl) (z_goto _),
   zz_of (ok_iconst G (v := 0) dJ8_isLatin1_17 (by decide) rfl) (z_cn 18 0),
   zz_of (ok_zret G dJ8_isLatin1_18) (z_zret _), trivial⟩

theorem zwJ8_isLatin1_k_0 {Q : Option zv → zz_M → Prop} {X : Nat → zz_M → Prop} {M : zz_M} {h_ : Nat} (h : R32 1 ∧ (((1 : Int) = 0 → Q (some (vi 0)) M) ∧ (¬ (1 : Int) = 0 → zsh M h_ = (1, 19) ∧ (R32 (M.2.1 h_ 1) ∧ ((¬ (M.2.1 h_ 1) = 0 → Q (some (vi 0)) M) ∧ ((M.2.1 h_ 1) = 0 → Q (some (vi 1)) M)))))) : zz_J zpJ8_isLatin1_k (zz_ret Q X 0 0) 0 [some (vr h_)] [] M (0, 0) := zz_J.go [] 400 h

theorem zmJ8_isLatin1_k (l : Launch) (hl : l.stackTraces = false) : mm_Spec l yJ8_isLatin1 (ws_ yJ8_isLatin1 cJ8_isLatin1 1 (some .boolean)) (mm_rm 1 0 0) (zE zJ8_isLatin1_k) := by
  refine zz_Met.J hl (by decide) (fun C G hnh => ztJ8_isLatin1_k G hnh) ?_
  rintro as M Q X h
  unfold zJ8_isLatin1_k at h
  split at h
  rotate_left
  · exact h.elim
  rename_i h_
  refine ⟨rfl, ?_⟩
  obtain ⟨h1, h2, hq⟩ := h
  exact zwJ8_isLatin1_k_0 ⟨by decide, fun c => absurd c (by decide), fun _ => ⟨h1, by rw [h2]; decide, fun c => absurd h2 c, fun _ => hq⟩⟩
def zJ8_hashCode : zz_Sp := fun as M Q X => match as with
  | [.inr (.inr (some h_))] => ∃ a_ m_ : Nat, zsh M h_ = (1, 19) ∧ zpt M h_ 0 = some a_ ∧ (M.2.1 h_ 1 = 0 ∧ M.2.1 h_ 2 = 0 ∧ M.2.1 h_ 3 = 0) ∧ zsh M a_ = (4, m_) ∧ m_ ≤ 100000 ∧ (∀ k, k < m_ → 0 ≤ M.2.1 a_ k ∧ M.2.1 a_ k ≤ 127) ∧ (∀ S_ : Nat → Nat → Int, (∀ j k, ¬ (j = h_ ∧ (k = 2 ∨ k = 3)) → S_ j k = M.2.1 j k) → Q (some (vi (hsF (M.2.1 a_) m_))) ((M.1.1, M.1.2), S_, M.2.2.1, M.2.2.2))
  | _ => False

def zpJ8_hashCode : zz_P := [(0, zo_ald 1 0), (1, zo_getp 4 19 0 2), (4, zo_ist 5 1), (5, zo_ild 6 1), (6, zo_ifne false 9 58), (9, zo_ald 10 0), (10, zo_getp 13 19 0 3), (13, zo_ifne false 16 58), (16, zo_ald 17 0), (17, zo_callvp 20 1 19 zJ8_isLatin1_k), (20, zo_zifeq 23 33), (23, zo_ald 24 0), (24, zo_getr 27 19 0), (27, zo_calls 30 1 zJ10_hashCode), (30, zo_goto 40), (33, zo_ald 34 0), (34, zo_get 37 19 2 0), (37, zo_bad), (40, zo_ist 41 1), (41, zo_ild 42 1), (42, zo_ifne false 45 53), (45, zo_ald 46 0), (46, zo_c 47 (vi 1)), (47, zo_putzp true 50 19 3), (50, zo_goto 58), (53, zo_ald 54 0), (54, zo_ild 55 1), (55, zo_putip 58 19 2), (58, zo_ild 59 1), (59, zo_iret)]
theorem ztJ8_hashCode {C : mm_C} (G : mm_G C RJ8 cJ8_hashCode (some .int) 2 (mm_rm 4 0 0)) (hnh : mm_nh C) : zz_OKs C zpJ8_hashCode :=
  ⟨zz_of (ok_aload_n G dJ8_hashCode_0 rfl rfl) (z_ald _ _),
   zz_of (ok_get G (nx := 4) (ci := 19) (kd := 0) (k := 2) (RJ8, TJ8, 4) rfl (by decide) rfl q944 dJ8_hashCode_1 rfl) (z_getp _ _ _ _),
   zz_of (ok_istore_n G dJ8_hashCode_4 rfl rfl (by decide)) (z_ist _ _),
   zz_of (ok_iload_n G dJ8_hashCode_5 rfl rfl) (z_ild _ _),
   zz_of (ok_ifne G dJ8_hashCode_6 rfl rfl) (z_ifne _ _ _),
   zz_of (ok_aload_n G dJ8_hashCode_9 rfl rfl) (z_ald _ _),
   zz_of (ok_get G (nx := 13) (ci := 19) (kd := 0) (k := 3) (RJ8, TJ8, 4) rfl (by decide) rfl q945 dJ8_hashCode_10 rfl) (z_getp _ _ _ _),
   zz_of (ok_ifne G dJ8_hashCode_13 rfl rfl) (z_ifne _ _ _),
   zz_of (ok_aload_n G dJ8_hashCode_16 rfl rfl) (z_ald _ _),
   zz_of (ok_callv G hnh (zmJ8_isLatin1_k _ G.hst) rfl rfl (RJ8, TJ8, 4) rfl q987 q988 q989 q100 q990 (by decide +kernel) ⟨by decide, by decide⟩ dJ8_hashCode_17 rfl) (z_callvp _ _ _ _),
   zz_of (ok_ifeq G dJ8_hashCode_20 rfl rfl) (z_zifeq _ _),
   zz_of (ok_aload_n G dJ8_hashCode_23 rfl rfl) (z_ald _ _),
   zz_of (ok_get G (nx := 27) (ci := 19) (kd := 2) (k := 0) (RJ8, TJ8, 4) rfl (by decide) rfl q942 dJ8_hashCode_24 rfl) (z_getr _ _ _),
   zz_of (ok_calls G hnh (zmJ10_hashCode _ G.hst) rfl rfl q991 q992 q102 q993 (by decide +kernel) ⟨by decide, by decide⟩ dJ8_hashCode_27 rfl) (z_calls _ _ _),
   zz_of (ok_goto G dJ8_hashCode_30 rfl) (z_goto _),
   zz_of (ok_aload_n G dJ8_hashCode_33 rfl rfl) (z_ald _ _),
   zz_of (ok_get G (nx := 37) (ci := 19) (kd := 2) (k := 0) (RJ8, TJ8, 4) rfl (by decide) rfl q942 dJ8_hashCode_34 rfl) (z_get _ _ _ _),
   zz_of (ok_bad) (z_bad),
   zz_of (ok_istore_n G dJ8_hashCode_40 rfl rfl (by decide)) (z_ist _ _),
   zz_of (ok_iload_n G dJ8_hashCode_41 rfl rfl) (z_ild _ _),
   zz_of (ok_ifne G dJ8_hashCode_42 rfl rfl) (z_ifne _ _ _),
   zz_of (ok_aload_n G dJ8_hashCode_45 rfl rfl) (z_ald _ _),
   zz_of (ok_iconst G (v := 1) dJ8_hashCode_46 (by decide) rfl) (z_cn 47 1),
   zz_of (ok_putz G (nx := 50) (idx := 23) (ci := 19) (k := 3) (RJ8, TJ8, 4) rfl (by decide) rfl (mm_pw G (ci := 19) (k := 3) (RJ8, TJ8, 4) rfl (by decide) rfl q945 dJ8_hashCode_47) rfl) (z_putzp _ _ _ _),
   zz_of (ok_goto G dJ8_hashCode_50 rfl) (z_goto _),
   zz_of (ok_aload_n G dJ8_hashCode_53 rfl rfl) (z_ald _ _),
   zz_of (ok_iload_n G dJ8_hashCode_54 rfl rfl) (z_ild _ _),
   zz_of (ok_puti G (nx := 58) (idx := 19) (ci := 19) (k := 2) (RJ8, TJ8, 4) rfl (by decide) rfl (mm_pw G (ci := 19) (k := 2) (RJ8, TJ8, 4) rfl (by decide) rfl q944 dJ8_hashCode_55) rfl) (z_putip _ _ _),
   zz_of (ok_iload_n G dJ8_hashCode_58 rfl rfl) (z_ild _ _),
   zz_of (ok_iret G dJ8_hashCode_59) (z_iret), trivial⟩

theorem zwJ8_hashCode_0 {Q : Option zv → zz_M → Prop} {X : Nat → zz_M → Prop} {M : zz_M} {h_ : Nat} (h : zsh M h_ = (1, 19) ∧ (R32 (M.2.1 h_ 2) ∧ ((¬ (M.2.1 h_ 2) = 0 → Q (some (vi (M.2.1 h_ 2))) M) ∧ ((M.2.1 h_ 2) = 0 → zsh M h_ = (1, 19) ∧ (R32 (M.2.1 h_ 3) ∧ ((¬ (M.2.1 h_ 3) = 0 → Q (some (vi (M.2.1 h_ 2))) M) ∧ ((M.2.1 h_ 3) = 0 → (zsh M h_ = (1, 19) ∨ zsh M h_ = (17, 19)) ∧ (zsh M h_ = (1, 19) ∧ M.2.1 h_ 1 = 0 ∧ (∃ b2 : Nat, zsh M h_ = (1, 19) ∧ zpt M h_ 0 = some b2 ∧ ((∃ m_3 : Nat, zsh M b2 = (4, m_3) ∧ m_3 ≤ 100000 ∧ (∀ k, k < m_3 → 0 ≤ M.2.1 b2 k ∧ M.2.1 b2 k ≤ 127) ∧ (R32 (hsF (M.2.1 b2) m_3) ∧ ((¬ (hsF (M.2.1 b2) m_3) = 0 → zsh M h_ = (1, 19) ∧ (Q (some (vi (hsF (M.2.1 b2) m_3))) ((M.1.1, M.1.2), mm_up M.2.1 h_ 2 (hsF (M.2.1 b2) m_3), M.2.2.1, M.2.2.2))) ∧ ((hsF (M.2.1 b2) m_3) = 0 → zsh M h_ = (1, 19) ∧ (Q (some (vi (hsF (M.2.1 b2) m_3))) ((M.1.1, M.1.2), mm_up M.2.1 h_ 3 1, M.2.2.1, M.2.2.2)))))))))))))))) : zz_J zpJ8_hashCode (zz_ret Q X 0 0) 0 [some (vr h_), none] [] M (0, 0) := zz_J.go [] 400 h

theorem zmJ8_hashCode (l : Launch) (hl : l.stackTraces = false) : mm_Spec l yJ8_hashCode (ws_ yJ8_hashCode cJ8_hashCode 2 (some .int)) (mm_rm 4 0 0) (zE zJ8_hashCode) := by
  refine zz_Met.J hl (by decide) (fun C G hnh => ztJ8_hashCode G hnh) ?_
  rintro as M Q X h
  unfold zJ8_hashCode at h
  split at h
  rotate_left
  · exact h.elim
  rename_i h_
  refine ⟨rfl, ?_⟩
  obtain ⟨a, m, h1, h2, ⟨h3, h4, h5⟩, ha, hm, hb, hq⟩ := h
  refine zwJ8_hashCode_0 ⟨h1, by rw [h4]; decide, fun c => absurd h4 c, fun _ => ⟨h1, by rw [h5]; decide, fun c => absurd h5 c, fun _ => ⟨Or.inl h1, h1, h3, a, h1, h2, m, ha, hm, hb, hsF_R _ _, fun _ => ⟨h1, hq _ fun j k n => ?_⟩, fun _ => ⟨h1, hq _ fun j k n => ?_⟩⟩⟩⟩
  · rw [up_eq, if_neg (fun c => n ⟨c.1, Or.inl c.2⟩)]
  · rw [up_eq, if_neg (fun c => n ⟨c.1, Or.inr c.2⟩)]
