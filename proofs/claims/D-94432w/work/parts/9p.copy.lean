/-! ===== the component's worlds: copied ===== -/
set_option maxRecDepth 100000
/-- a score at handle h: its three rows lie behind it -/
def scZ (M : zz_M) (h : Nat) : Prop := zsh M h = (1, 2) ∧ (zsh M (h + 1) = (2, 2) ∧ zsh M (h + 2) = (2, 2) ∧ zsh M (h + 3) = (2, 2)) ∧ (zpt M h 0 = some (h + 1) ∧ zpt M h 1 = some (h + 2) ∧ zpt M h 2 = some (h + 3))
def zX3_takes : zz_Sp := fun as M Q X => match as with
  | [.inr (.inr (some h_)), .inr (.inr (some s))] => scZ M h_ ∧ scZ M s ∧ (s + 3 < h_ ∨ h_ + 3 < s) ∧ (M.2.1 s 5 = 0 ∨ M.2.1 s 5 = 1) ∧ Q (some (vr h_)) ((M.1.1, M.1.2), cxW M.2.1 h_ (cx M.2.1 s), M.2.2.1, M.2.2.2)
  | _ => False

def zpX3_takes : zz_P := [(0, zo_c 1 (vi 0)), (1, zo_ist 2 2), (2, zo_ild 3 2), (3, zo_c 4 (vi 2)), (4, zo_cge false true 7 49), (7, zo_ald 8 0), (8, zo_getr 11 2 0), (11, zo_ild 12 2), (12, zo_ald 13 1), (13, zo_getr 16 2 0), (16, zo_ild 17 2), (17, zo_ialp 18), (18, zo_iasp 19), (19, zo_ald 20 0), (20, zo_getr 23 2 1), (23, zo_ild 24 2), (24, zo_ald 25 1), (25, zo_getr 28 2 1), (28, zo_ild 29 2), (29, zo_ialp 30), (30, zo_iasp 31), (31, zo_ald 32 0), (32, zo_getr 35 2 2), (35, zo_ild 36 2), (36, zo_ald 37 1), (37, zo_getr 40 2 2), (40, zo_ild 41 2), (41, zo_ialp 42), (42, zo_iasp 43), (43, zo_inc 46 2 1), (46, zo_goto 2), (49, zo_ald 50 0), (50, zo_ald 51 1), (51, zo_getp 54 2 0 3), (54, zo_putip 57 2 3), (57, zo_ald 58 0), (58, zo_ald 59 1), (59, zo_getp 62 2 0 4), (62, zo_putip 65 2 4), (65, zo_ald 66 0), (66, zo_ald 67 1), (67, zo_getp 70 2 0 5), (70, zo_putzp false 73 2 5), (73, zo_ald 74 0), (74, zo_aret)]
theorem ztX3_takes {C : mm_C} (G : mm_G C RX3 cX3_takes (some (.object "ChaseCourt$Score")) 3 (mm_rm 1 0 0)) (hnh : mm_nh C) : zz_OKs C zpX3_takes :=
  ⟨zz_of (ok_iconst G (v := 0) dX3_takes_0 (by decide) rfl) (z_cn 1 0),
   zz_of (ok_istore_n G dX3_takes_1 rfl rfl (by decide)) (z_ist _ _),
   zz_of (ok_iload_n G dX3_takes_2 rfl rfl) (z_ild _ _),
   zz_of (ok_iconst G (v := 2) dX3_takes_3 (by decide) rfl) (z_cn 4 2),
   zz_of (ok_cge G dX3_takes_4 rfl rfl) (z_cge _ _ _ _),
   zz_of (ok_aload_n G dX3_takes_7 rfl rfl) (z_ald _ _),
   zz_of (ok_get G (nx := 11) (ci := 2) (kd := 2) (k := 0) (RX3, TX3, 7) rfl (by decide) rfl q176 dX3_takes_8 rfl) (z_getr _ _ _),
   zz_of (ok_iload_n G dX3_takes_11 rfl rfl) (z_ild _ _),
   zz_of (ok_aload_n G dX3_takes_12 rfl rfl) (z_ald _ _),
   zz_of (ok_get G (nx := 16) (ci := 2) (kd := 2) (k := 0) (RX3, TX3, 7) rfl (by decide) rfl q176 dX3_takes_13 rfl) (z_getr _ _ _),
   zz_of (ok_iload_n G dX3_takes_16 rfl rfl) (z_ild _ _),
   zz_of (ok_iald G dX3_takes_17 rfl) (z_ialp _),
   zz_of (ok_iast G dX3_takes_18 rfl) (z_iasp _),
   zz_of (ok_aload_n G dX3_takes_19 rfl rfl) (z_ald _ _),
   zz_of (ok_get G (nx := 23) (ci := 2) (kd := 2) (k := 1) (RX3, TX3, 7) rfl (by decide) rfl q180 dX3_takes_20 rfl) (z_getr _ _ _),
   zz_of (ok_iload_n G dX3_takes_23 rfl rfl) (z_ild _ _),
   zz_of (ok_aload_n G dX3_takes_24 rfl rfl) (z_ald _ _),
   zz_of (ok_get G (nx := 28) (ci := 2) (kd := 2) (k := 1) (RX3, TX3, 7) rfl (by decide) rfl q180 dX3_takes_25 rfl) (z_getr _ _ _),
   zz_of (ok_iload_n G dX3_takes_28 rfl rfl) (z_ild _ _),
   zz_of (ok_iald G dX3_takes_29 rfl) (z_ialp _),
   zz_of (ok_iast G dX3_takes_30 rfl) (z_iasp _),
   zz_of (ok_aload_n G dX3_takes_31 rfl rfl) (z_ald _ _),
   zz_of (ok_get G (nx := 35) (ci := 2) (kd := 2) (k := 2) (RX3, TX3, 7) rfl (by decide) rfl q184 dX3_takes_32 rfl) (z_getr _ _ _),
   zz_of (ok_iload_n G dX3_takes_35 rfl rfl) (z_ild _ _),
   zz_of (ok_aload_n G dX3_takes_36 rfl rfl) (z_ald _ _),
   zz_of (ok_get G (nx := 40) (ci := 2) (kd := 2) (k := 2) (RX3, TX3, 7) rfl (by decide) rfl q184 dX3_takes_37 rfl) (z_getr _ _ _),
   zz_of (ok_iload_n G dX3_takes_40 rfl rfl) (z_ild _ _),
   zz_of (ok_iald G dX3_takes_41 rfl) (z_ialp _),
   zz_of (ok_iast G dX3_takes_42 rfl) (z_iasp _),
   zz_of (ok_iinc G (v := 1) dX3_takes_43 (by decide) rfl (by decide)) (z_incn 46 2 1),
   zz_of (ok_goto G dX3_takes_46 rfl) (z_goto _),
   zz_of (ok_aload_n G dX3_takes_49 rfl rfl) (z_ald _ _),
   zz_of (ok_aload_n G dX3_takes_50 rfl rfl) (z_ald _ _),
   zz_of (ok_get G (nx := 54) (ci := 2) (kd := 0) (k := 3) (RX3, TX3, 7) rfl (by decide) rfl q187 dX3_takes_51 rfl) (z_getp _ _ _ _),
   zz_of (ok_puti G (nx := 57) (idx := 25) (ci := 2) (k := 3) (RX3, TX3, 7) rfl (by decide) rfl (mm_pw G (ci := 2) (k := 3) (RX3, TX3, 7) rfl (by decide) rfl q187 dX3_takes_54) rfl) (z_putip _ _ _),
   zz_of (ok_aload_n G dX3_takes_57 rfl rfl) (z_ald _ _),
   zz_of (ok_aload_n G dX3_takes_58 rfl rfl) (z_ald _ _),
   zz_of (ok_get G (nx := 62) (ci := 2) (kd := 0) (k := 4) (RX3, TX3, 7) rfl (by decide) rfl q190 dX3_takes_59 rfl) (z_getp _ _ _ _),
   zz_of (ok_puti G (nx := 65) (idx := 29) (ci := 2) (k := 4) (RX3, TX3, 7) rfl (by decide) rfl (mm_pw G (ci := 2) (k := 4) (RX3, TX3, 7) rfl (by decide) rfl q190 dX3_takes_62) rfl) (z_putip _ _ _),
   zz_of (ok_aload_n G dX3_takes_65 rfl rfl) (z_ald _ _),
   zz_of (ok_aload_n G dX3_takes_66 rfl rfl) (z_ald _ _),
   zz_of (ok_get G (nx := 70) (ci := 2) (kd := 0) (k := 5) (RX3, TX3, 7) rfl (by decide) rfl q194 dX3_takes_67 rfl) (z_getp _ _ _ _),
   zz_of (ok_putz G (nx := 73) (idx := 32) (ci := 2) (k := 5) (RX3, TX3, 7) rfl (by decide) rfl (mm_pw G (ci := 2) (k := 5) (RX3, TX3, 7) rfl (by decide) rfl q194 dX3_takes_70) rfl) (z_putzp _ _ _ _),
   zz_of (ok_aload_n G dX3_takes_73 rfl rfl) (z_ald _ _),
   zz_of (ok_aret G (Or.inl ⟨_, rfl⟩) dX3_takes_74) (z_aret), trivial⟩

theorem zwX3_takes_0 {Q : Option zv → zz_M → Prop} {X : Nat → zz_M → Prop} {M : zz_M} {s : Nat} {h_ : Nat} (h : zz_J zpX3_takes (zz_ret Q X 0 0) 2 [some (vr h_), some (vr s), some (vi 0)] [] M (0, 0)) : zz_J zpX3_takes (zz_ret Q X 0 0) 0 [some (vr h_), some (vr s), none] [] M (0, 0) := zz_J.go [(2, [])] 400 h
theorem zwX3_takes_2 {Q : Option zv → zz_M → Prop} {X : Nat → zz_M → Prop} {M : zz_M} {h0 : Nat} {h1 : Nat} {x2 : Int} (h : R32 x2 ∧ ((2 ≤ x2 → zsh M h1 = (1, 2) ∧ (zsh M h0 = (1, 2) ∧ (zsh ((M.1.1, M.1.2), mm_up M.2.1 h0 3 (M.2.1 h1 3), M.2.2.1, M.2.2.2) h1 = (1, 2) ∧ (zsh ((M.1.1, M.1.2), mm_up M.2.1 h0 3 (M.2.1 h1 3), M.2.2.1, M.2.2.2) h0 = (1, 2) ∧ (zsh ((M.1.1, M.1.2), mm_up (mm_up M.2.1 h0 3 (M.2.1 h1 3)) h0 4 ((mm_up M.2.1 h0 3 (M.2.1 h1 3)) h1 4), M.2.2.1, M.2.2.2) h1 = (1, 2) ∧ (zsh ((M.1.1, M.1.2), mm_up (mm_up M.2.1 h0 3 (M.2.1 h1 3)) h0 4 ((mm_up M.2.1 h0 3 (M.2.1 h1 3)) h1 4), M.2.2.1, M.2.2.2) h0 = (1, 2) ∧ ((((mm_up (mm_up M.2.1 h0 3 (M.2.1 h1 3)) h0 4 ((mm_up M.2.1 h0 3 (M.2.1 h1 3)) h1 4)) h1 5) = 0 ∨ ((mm_up (mm_up M.2.1 h0 3 (M.2.1 h1 3)) h0 4 ((mm_up M.2.1 h0 3 (M.2.1 h1 3)) h1 4)) h1 5) = 1) ∧ (Q (some (vr h0)) ((M.1.1, M.1.2), mm_up (mm_up (mm_up M.2.1 h0 3 (M.2.1 h1 3)) h0 4 ((mm_up M.2.1 h0 3 (M.2.1 h1 3)) h1 4)) h0 5 ((mm_up (mm_up M.2.1 h0 3 (M.2.1 h1 3)) h0 4 ((mm_up M.2.1 h0 3 (M.2.1 h1 3)) h1 4)) h1 5), M.2.2.1, M.2.2.2))))))))) ∧ (¬ 2 ≤ x2 → ∃ b1 : Nat, zsh M h0 = (1, 2) ∧ zpt M h0 0 = some b1 ∧ (∃ b2 : Nat, zsh M h1 = (1, 2) ∧ zpt M h1 0 = some b2 ∧ (∃ n_ : Nat, zsh M b2 = (2, n_) ∧ (n_ : Int) ≤ 2147483647 ∧ (0 ≤ x2 ∧ x2 < (n_ : Int)) ∧ (∃ n_ : Nat, zsh M b1 = (2, n_) ∧ (n_ : Int) ≤ 2147483647 ∧ (0 ≤ x2 ∧ x2 < (n_ : Int)) ∧ (∃ b3 : Nat, zsh ((M.1.1, M.1.2), mm_up M.2.1 b1 x2.toNat (M.2.1 b2 x2.toNat), M.2.2.1, M.2.2.2) h0 = (1, 2) ∧ zpt ((M.1.1, M.1.2), mm_up M.2.1 b1 x2.toNat (M.2.1 b2 x2.toNat), M.2.2.1, M.2.2.2) h0 1 = some b3 ∧ (∃ b4 : Nat, zsh ((M.1.1, M.1.2), mm_up M.2.1 b1 x2.toNat (M.2.1 b2 x2.toNat), M.2.2.1, M.2.2.2) h1 = (1, 2) ∧ zpt ((M.1.1, M.1.2), mm_up M.2.1 b1 x2.toNat (M.2.1 b2 x2.toNat), M.2.2.1, M.2.2.2) h1 1 = some b4 ∧ (∃ n_ : Nat, zsh ((M.1.1, M.1.2), mm_up M.2.1 b1 x2.toNat (M.2.1 b2 x2.toNat), M.2.2.1, M.2.2.2) b4 = (2, n_) ∧ (n_ : Int) ≤ 2147483647 ∧ (0 ≤ x2 ∧ x2 < (n_ : Int)) ∧ (∃ n_ : Nat, zsh ((M.1.1, M.1.2), mm_up M.2.1 b1 x2.toNat (M.2.1 b2 x2.toNat), M.2.2.1, M.2.2.2) b3 = (2, n_) ∧ (n_ : Int) ≤ 2147483647 ∧ (0 ≤ x2 ∧ x2 < (n_ : Int)) ∧ (∃ b5 : Nat, zsh ((M.1.1, M.1.2), mm_up (mm_up M.2.1 b1 x2.toNat (M.2.1 b2 x2.toNat)) b3 x2.toNat ((mm_up M.2.1 b1 x2.toNat (M.2.1 b2 x2.toNat)) b4 x2.toNat), M.2.2.1, M.2.2.2) h0 = (1, 2) ∧ zpt ((M.1.1, M.1.2), mm_up (mm_up M.2.1 b1 x2.toNat (M.2.1 b2 x2.toNat)) b3 x2.toNat ((mm_up M.2.1 b1 x2.toNat (M.2.1 b2 x2.toNat)) b4 x2.toNat), M.2.2.1, M.2.2.2) h0 2 = some b5 ∧ (∃ b6 : Nat, zsh ((M.1.1, M.1.2), mm_up (mm_up M.2.1 b1 x2.toNat (M.2.1 b2 x2.toNat)) b3 x2.toNat ((mm_up M.2.1 b1 x2.toNat (M.2.1 b2 x2.toNat)) b4 x2.toNat), M.2.2.1, M.2.2.2) h1 = (1, 2) ∧ zpt ((M.1.1, M.1.2), mm_up (mm_up M.2.1 b1 x2.toNat (M.2.1 b2 x2.toNat)) b3 x2.toNat ((mm_up M.2.1 b1 x2.toNat (M.2.1 b2 x2.toNat)) b4 x2.toNat), M.2.2.1, M.2.2.2) h1 2 = some b6 ∧ (∃ n_ : Nat, zsh ((M.1.1, M.1.2), mm_up (mm_up M.2.1 b1 x2.toNat (M.2.1 b2 x2.toNat)) b3 x2.toNat ((mm_up M.2.1 b1 x2.toNat (M.2.1 b2 x2.toNat)) b4 x2.toNat), M.2.2.1, M.2.2.2) b6 = (2, n_) ∧ (n_ : Int) ≤ 2147483647 ∧ (0 ≤ x2 ∧ x2 < (n_ : Int)) ∧ (∃ n_ : Nat, zsh ((M.1.1, M.1.2), mm_up (mm_up M.2.1 b1 x2.toNat (M.2.1 b2 x2.toNat)) b3 x2.toNat ((mm_up M.2.1 b1 x2.toNat (M.2.1 b2 x2.toNat)) b4 x2.toNat), M.2.2.1, M.2.2.2) b5 = (2, n_) ∧ (n_ : Int) ≤ 2147483647 ∧ (0 ≤ x2 ∧ x2 < (n_ : Int)) ∧ (zz_J zpX3_takes (zz_ret Q X 0 0) 2 [some (vr h0), some (vr h1), some (vi (x2 + 1))] [] ((M.1.1, M.1.2), mm_up (mm_up (mm_up M.2.1 b1 x2.toNat (M.2.1 b2 x2.toNat)) b3 x2.toNat ((mm_up M.2.1 b1 x2.toNat (M.2.1 b2 x2.toNat)) b4 x2.toNat)) b5 x2.toNat ((mm_up (mm_up M.2.1 b1 x2.toNat (M.2.1 b2 x2.toNat)) b3 x2.toNat ((mm_up M.2.1 b1 x2.toNat (M.2.1 b2 x2.toNat)) b4 x2.toNat)) b6 x2.toNat), M.2.2.1, M.2.2.2) (0, 0)))))))))))))))) : zz_J zpX3_takes (zz_ret Q X 0 0) 2 [some (vr h0), some (vr h1), some (vi x2)] [] M (0, 0) := zz_J.go [(2, [])] 400 h

theorem zmX3_takes (l : Launch) (hl : l.stackTraces = false) : mm_Spec l yX3_takes (ws_ yX3_takes cX3_takes 3 (some (.object "ChaseCourt$Score"))) (mm_rm 1 0 0) (zE zX3_takes) := by
  refine zz_Met.J hl (by decide) (fun C G hnh => ztX3_takes G hnh) ?_
  rintro as M Q X h
  unfold zX3_takes at h
  split at h
  rotate_left
  · exact h.elim
  rename_i h_ s
  refine ⟨rfl, ?_⟩
  obtain ⟨⟨a1, ⟨a2, a3, a4⟩, a5, a6, a7⟩, ⟨b1, ⟨b2, b3, b4⟩, b5, b6, b7⟩, hd, h5, hq⟩ := h
  have st : ∀ (T : Nat → Nat → Int) (i : Nat), i < 2 → zz_J zpX3_takes (zz_ret Q X 0 0) 2 [some (vr h_), some (vr s), some (vi ((i : Int) + 1))] [] ((M.1.1, M.1.2), mm_up (mm_up (mm_up T (h_ + 1) i (T (s + 1) i)) (h_ + 2) i (T (s + 2) i)) (h_ + 3) i (T (s + 3) i), M.2.2.1, M.2.2.2) (0, 0) → zz_J zpX3_takes (zz_ret Q X 0 0) 2 [some (vr h_), some (vr s), some (vi (i : Int))] [] ((M.1.1, M.1.2), T, M.2.2.1, M.2.2.2) (0, 0) := by
    intro T i hi hn
    refine zwX3_takes_2 ⟨by omega, fun c => absurd c (by omega), fun _ => ⟨h_ + 1, a1, a5, s + 1, b1, b5, 2, b2, by decide, by omega, 2, a2, by decide, by omega, h_ + 2, a1, a6, s + 2, b1, b6, 2, b3, by decide, by omega, 2, a3, by decide, by omega, h_ + 3, a1, a7, s + 3, b1, b7, 2, b4, by decide, by omega, 2, a4, by decide, by omega, ?_⟩⟩
    dsimp only
    rw [Int.toNat_natCast]
    have r1 : mm_up T (h_ + 1) i (T (s + 1) i) (s + 2) i = T (s + 2) i := by rw [up_eq, if_neg (by omega)]
    have r2 : mm_up (mm_up T (h_ + 1) i (T (s + 1) i)) (h_ + 2) i (T (s + 2) i) (s + 3) i = T (s + 3) i := by rw [up_eq, if_neg (by omega), up_eq, if_neg (by omega)]
    rw [r1, r2]
    exact hn
  refine zwX3_takes_0 (st M.2.1 0 (by decide) (st _ 1 (by decide) (zwX3_takes_2 (x2 := 2) ⟨by decide, fun _ => ?_, fun c => absurd (by decide) c⟩)))
  dsimp only
  have rd : ∀ (T : Nat → Nat → Int) (i k : Nat) (v : Int) (j m : Nat), (i = h_ ∨ i = h_ + 1 ∨ i = h_ + 2 ∨ i = h_ + 3) → (j = s ∨ j = s + 1 ∨ j = s + 2 ∨ j = s + 3) → mm_up T i k v j m = T j m := fun T i k v j m hi hj => by rw [up_eq, if_neg (by omega)]
  have e0 := rd M.2.1
  have key := tk_mem M.2.1 h_ (cx M.2.1 s) (cx_9 M.2.1 s)
  have f1 : ∀ k, mm_up (mm_up (mm_up M.2.1 (h_ + 1) 0 (M.2.1 (s + 1) 0)) (h_ + 2) 0 (M.2.1 (s + 2) 0)) (h_ + 3) 0 (M.2.1 (s + 3) 0) (s + 1) k = M.2.1 (s + 1) k := fun k => by
    rw [rd _ _ _ _ _ _ (by omega) (by omega), rd _ _ _ _ _ _ (by omega) (by omega), rd _ _ _ _ _ _ (by omega) (by omega)]
  have f2 : ∀ k, mm_up (mm_up (mm_up M.2.1 (h_ + 1) 0 (M.2.1 (s + 1) 0)) (h_ + 2) 0 (M.2.1 (s + 2) 0)) (h_ + 3) 0 (M.2.1 (s + 3) 0) (s + 2) k = M.2.1 (s + 2) k := fun k => by
    rw [rd _ _ _ _ _ _ (by omega) (by omega), rd _ _ _ _ _ _ (by omega) (by omega), rd _ _ _ _ _ _ (by omega) (by omega)]
  have f3 : ∀ k, mm_up (mm_up (mm_up M.2.1 (h_ + 1) 0 (M.2.1 (s + 1) 0)) (h_ + 2) 0 (M.2.1 (s + 2) 0)) (h_ + 3) 0 (M.2.1 (s + 3) 0) (s + 3) k = M.2.1 (s + 3) k := fun k => by
    rw [rd _ _ _ _ _ _ (by omega) (by omega), rd _ _ _ _ _ _ (by omega) (by omega), rd _ _ _ _ _ _ (by omega) (by omega)]
  rw [f1, f2, f3]
  have f4 : ∀ k, mm_up (mm_up (mm_up (mm_up (mm_up (mm_up M.2.1 (h_ + 1) 0 (M.2.1 (s + 1) 0)) (h_ + 2) 0 (M.2.1 (s + 2) 0)) (h_ + 3) 0 (M.2.1 (s + 3) 0)) (h_ + 1) 1 (M.2.1 (s + 1) 1)) (h_ + 2) 1 (M.2.1 (s + 2) 1)) (h_ + 3) 1 (M.2.1 (s + 3) 1) s k = M.2.1 s k := fun k => by
    rw [rd _ _ _ _ _ _ (by omega) (by omega), rd _ _ _ _ _ _ (by omega) (by omega), rd _ _ _ _ _ _ (by omega) (by omega), rd _ _ _ _ _ _ (by omega) (by omega), rd _ _ _ _ _ _ (by omega) (by omega), rd _ _ _ _ _ _ (by omega) (by omega)]
  rw [rd _ _ _ _ s 4 (Or.inl rfl) (Or.inl rfl), rd _ _ _ _ s 5 (Or.inl rfl) (Or.inl rfl), rd _ _ _ _ s 5 (Or.inl rfl) (Or.inl rfl), f4, f4, f4]
  refine ⟨b1, a1, b1, a1, b1, a1, h5, ?_⟩
  have e1 : cx M.2.1 s 0 = M.2.1 (s + 1) 0 ∧ cx M.2.1 s 1 = M.2.1 (s + 1) 1 ∧ cx M.2.1 s 2 = M.2.1 s 3 ∧ cx M.2.1 s 3 = M.2.1 s 4 ∧ cx M.2.1 s 4 = M.2.1 (s + 3) 0 ∧ cx M.2.1 s 5 = M.2.1 (s + 3) 1 ∧ cx M.2.1 s 6 = M.2.1 s 5 ∧ cx M.2.1 s 7 = M.2.1 (s + 2) 0 ∧ cx M.2.1 s 8 = M.2.1 (s + 2) 1 := ⟨rfl, rfl, rfl, rfl, rfl, rfl, rfl, rfl, rfl⟩
  obtain ⟨k0, k1, k2, k3, k4, k5, k6, k7, k8⟩ := e1
  rw [k0, k1, k2, k3, k4, k5, k6, k7, k8] at key
  rw [key]
  exact hq
/-- a world at handle h, with its rules' row e of m places, n rules; nothing of it is read only -/
def woZ (M : zz_M) (h e m n : Nat) : Prop := zsh M h = (1, 1) ∧ (zpt M h 6 = some (h + 1) ∧ zpt M h 7 = some (h + 2) ∧ zpt M h 8 = some (h + 3) ∧ zpt M h 9 = some (h + 4) ∧ zpt M h 10 = some 100) ∧ zsh M (h + 1) = (6, 16) ∧ (∀ i, i < 16 → zsh M (h + 10 + i) = (2, 12) ∧ zpt M (h + 1) i = some (h + 10 + i)) ∧ zsh M (h + 3) = (2, 2) ∧ scZ M (h + 4) ∧ lsE M (h + 2) e m n ∧ n ≤ 6 ∧ (M.2.1 (h + 4) 5 = 0 ∨ M.2.1 (h + 4) 5 = 1)
theorem zpt_to {M : zz_M} {f : Nat → Nat × Nat} {S L : Nat → Nat → Int} {P : Nat → Nat → Option Nat} {x k : Nat} (e : P x = M.2.2.2 x) : zpt ((M.1.1, f), S, L, P) x k = zpt M x k := by
  show (bif zfx M.1.1 x k then zfp M.1.1 x k else P x k) = _
  rw [e]
  rfl
theorem cx_eqS {S T : Nat → Nat → Int} {q : Nat} (h : ∀ j, q ≤ j → j ≤ q + 3 → T j = S j) : cx T q = cx S q := by
  unfold cx
  rw [h q (by omega) (by omega), h (q + 1) (by omega) (by omega), h (q + 2) (by omega) (by omega), h (q + 3) (by omega) (by omega)]
theorem va_cpy_k {α : Type} (a b : Nat → α) {n k : Nat} (h : k < n) : va_cpy a b 0 0 n k = a k := by
  unfold va_cpy
  rw [if_pos (by omega)]
  congr 1
  omega
def zX2_copy : zz_Sp := fun as M Q X => match as with
  | [.inr (.inr (some h_))] => ∃ t_ e_ m_ n_ : Nat, woZ M h_ e_ m_ n_ ∧ zsh M 1300 = (23, 0) ∧ h_ + 25 < t_ ∧ (∀ i, i < 26 → zfree M (t_ + i)) ∧ (∀ (S_ L_ : Nat → Nat → Int) (P_ : Nat → Nat → Option Nat) (f_ : Nat → Nat × Nat), (∀ j, (j < t_ ∨ t_ + 25 < j) → f_ j = M.1.2 j ∧ S_ j = M.2.1 j ∧ L_ j = M.2.2.1 j ∧ P_ j = M.2.2.2 j) → f_ t_ = (1, 1) → wSh f_ P_ t_ 100 → (∀ k, k < 6 → S_ t_ k = M.2.1 h_ k) → (∀ i k, i < 16 → k < 12 → S_ (t_ + 10 + i) k = M.2.1 (h_ + 10 + i) k) → S_ (t_ + 2) 2 = (n_ : Int) → (n_ = 0 → P_ (t_ + 2) 1 = some 1300) → (0 < n_ → P_ (t_ + 2) 1 = some (t_ + 9) ∧ f_ (t_ + 9) = (7, 10) ∧ ∀ i, i < n_ → P_ (t_ + 9) i = zpt M e_ i) → (∀ k, k < 2 → S_ (t_ + 3) k = M.2.1 (h_ + 3) k) → cx S_ (t_ + 4) = cx M.2.1 (h_ + 4) → Q (some (vr t_)) ((M.1.1, f_), S_, L_, P_))
  | _ => False

def zpX2_copy : zz_P := [(0, zo_new (mm_rm 8 26 260) 3 1 11), (3, zo_dup 4), (4, zo_ald 5 0), (5, zo_getr 8 1 10), (8, zo_ciF (mm_rm 8 26 260) 11 2 23 226 zX2_init), (11, zo_ast 12 1), (12, zo_ald 13 1), (13, zo_ald 14 0), (14, zo_getp 17 1 0 0), (17, zo_putip 20 1 0), (20, zo_ald 21 1), (21, zo_ald 22 0), (22, zo_getp 25 1 0 1), (25, zo_putip 28 1 1), (28, zo_ald 29 1), (29, zo_ald 30 0), (30, zo_getp 33 1 0 2), (33, zo_putip 36 1 2), (36, zo_ald 37 1), (37, zo_ald 38 0), (38, zo_getp 41 1 0 3), (41, zo_putip 44 1 3), (44, zo_ald 45 1), (45, zo_ald 46 0), (46, zo_getp 49 1 0 4), (49, zo_putip 52 1 4), (52, zo_ald 53 1), (53, zo_ald 54 0), (54, zo_getp 57 1 0 5), (57, zo_putip 60 1 5), (60, zo_c 61 (vi 0)), (61, zo_ist 62 2), (62, zo_ild 63 2), (63, zo_c 65 (vi 16)), (65, zo_cge false true 68 93), (68, zo_ald 69 0), (69, zo_getr 72 1 6), (72, zo_ild 73 2), (73, zo_aald 74), (74, zo_c 75 (vi 0)), (75, zo_ald 76 1), (76, zo_getr 79 1 6), (79, zo_ild 80 2), (80, zo_aald 81), (81, zo_c 82 (vi 0)), (82, zo_c 84 (vi 12)), (84, zo_acpi 87 2), (87, zo_inc 90 2 1), (90, zo_goto 62), (93, zo_ald 94 1), (94, zo_getr 97 1 7), (97, zo_ald 98 0), (98, zo_getr 101 1 7), (101, zo_cvGp (mm_rm 8 26 260) 104 2 17 zJ2_addAll), (104, zo_pop 105), (105, zo_ald 106 0), (106, zo_getr 109 1 8), (109, zo_c 110 (vi 0)), (110, zo_ald 111 1), (111, zo_getr 114 1 8), (114, zo_c 115 (vi 0)), (115, zo_c 116 (vi 2)), (116, zo_acpi 119 2), (119, zo_ald 120 1), (120, zo_getr 123 1 9), (123, zo_ald 124 0), (124, zo_getr 127 1 9), (127, zo_callvp 130 2 2 zX3_takes), (130, zo_pop 131), (131, zo_ald 132 1), (132, zo_aret)]
theorem ztX2_copy {C : mm_C} (G : mm_G C RX2 cX2_copy (some (.object "ChaseCourt$World")) 3 (mm_rm 8 26 260)) (hnh : mm_nh C) : zz_OKs C zpX2_copy :=
  ⟨zz_of (ok_new G (ci := 1) (RX2, TX2, 11) rfl rfl q497 q136 q83 (by decide) dX2_copy_0 rfl) (z_new _ _ _ _),
   zz_of (ok_dup G dX2_copy_3 rfl) (z_dup _),
   zz_of (ok_aload_n G dX2_copy_4 rfl rfl) (z_ald _ _),
   zz_of (ok_get G (nx := 8) (ci := 1) (kd := 2) (k := 10) (RX2, TX2, 11) rfl (by decide) rfl q241 dX2_copy_5 rfl) (z_getr _ _ _),
   zz_of (ok_caliF G (hnh.q 8) (zmX2_init _ G.hst) q498 q138 q83 q139 rfl (by decide +kernel) ⟨Nat.le_of_ble_eq_true rfl, Nat.le_of_ble_eq_true rfl⟩ dX2_copy_8 rfl) (z_ciF _ _ _ _ _ _),
   zz_of (ok_astore_n G dX2_copy_11 rfl rfl (by decide)) (z_ast _ _),
   zz_of (ok_aload_n G dX2_copy_12 rfl rfl) (z_ald _ _),
   zz_of (ok_aload_n G dX2_copy_13 rfl rfl) (z_ald _ _),
   zz_of (ok_get G (nx := 17) (ci := 1) (kd := 0) (k := 0) (RX2, TX2, 11) rfl (by decide) rfl q214 dX2_copy_14 rfl) (z_getp _ _ _ _),
   zz_of (ok_puti G (nx := 20) (idx := 45) (ci := 1) (k := 0) (RX2, TX2, 11) rfl (by decide) rfl (mm_pw G (ci := 1) (k := 0) (RX2, TX2, 11) rfl (by decide) rfl q214 dX2_copy_17) rfl) (z_putip _ _ _),
   zz_of (ok_aload_n G dX2_copy_20 rfl rfl) (z_ald _ _),
   zz_of (ok_aload_n G dX2_copy_21 rfl rfl) (z_ald _ _),
   zz_of (ok_get G (nx := 25) (ci := 1) (kd := 0) (k := 1) (RX2, TX2, 11) rfl (by decide) rfl q216 dX2_copy_22 rfl) (z_getp _ _ _ _),
   zz_of (ok_puti G (nx := 28) (idx := 15) (ci := 1) (k := 1) (RX2, TX2, 11) rfl (by decide) rfl (mm_pw G (ci := 1) (k := 1) (RX2, TX2, 11) rfl (by decide) rfl q216 dX2_copy_25) rfl) (z_putip _ _ _),
   zz_of (ok_aload_n G dX2_copy_28 rfl rfl) (z_ald _ _),
   zz_of (ok_aload_n G dX2_copy_29 rfl rfl) (z_ald _ _),
   zz_of (ok_get G (nx := 33) (ci := 1) (kd := 0) (k := 2) (RX2, TX2, 11) rfl (by decide) rfl q219 dX2_copy_30 rfl) (z_getp _ _ _ _),
   zz_of (ok_puti G (nx := 36) (idx := 48) (ci := 1) (k := 2) (RX2, TX2, 11) rfl (by decide) rfl (mm_pw G (ci := 1) (k := 2) (RX2, TX2, 11) rfl (by decide) rfl q219 dX2_copy_33) rfl) (z_putip _ _ _),
   zz_of (ok_aload_n G dX2_copy_36 rfl rfl) (z_ald _ _),
   zz_of (ok_aload_n G dX2_copy_37 rfl rfl) (z_ald _ _),
   zz_of (ok_get G (nx := 41) (ci := 1) (kd := 0) (k := 3) (RX2, TX2, 11) rfl (by decide) rfl q222 dX2_copy_38 rfl) (z_getp _ _ _ _),
   zz_of (ok_puti G (nx := 44) (idx := 51) (ci := 1) (k := 3) (RX2, TX2, 11) rfl (by decide) rfl (mm_pw G (ci := 1) (k := 3) (RX2, TX2, 11) rfl (by decide) rfl q222 dX2_copy_41) rfl) (z_putip _ _ _),
   zz_of (ok_aload_n G dX2_copy_44 rfl rfl) (z_ald _ _),
   zz_of (ok_aload_n G dX2_copy_45 rfl rfl) (z_ald _ _),
   zz_of (ok_get G (nx := 49) (ci := 1) (kd := 0) (k := 4) (RX2, TX2, 11) rfl (by decide) rfl q225 dX2_copy_46 rfl) (z_getp _ _ _ _),
   zz_of (ok_puti G (nx := 52) (idx := 54) (ci := 1) (k := 4) (RX2, TX2, 11) rfl (by decide) rfl (mm_pw G (ci := 1) (k := 4) (RX2, TX2, 11) rfl (by decide) rfl q225 dX2_copy_49) rfl) (z_putip _ _ _),
   zz_of (ok_aload_n G dX2_copy_52 rfl rfl) (z_ald _ _),
   zz_of (ok_aload_n G dX2_copy_53 rfl rfl) (z_ald _ _),
   zz_of (ok_get G (nx := 57) (ci := 1) (kd := 0) (k := 5) (RX2, TX2, 11) rfl (by decide) rfl q228 dX2_copy_54 rfl) (z_getp _ _ _ _),
   zz_of (ok_puti G (nx := 60) (idx := 57) (ci := 1) (k := 5) (RX2, TX2, 11) rfl (by decide) rfl (mm_pw G (ci := 1) (k := 5) (RX2, TX2, 11) rfl (by decide) rfl q228 dX2_copy_57) rfl) (z_putip _ _ _),
   zz_of (ok_iconst G (v := 0) dX2_copy_60 (by decide) rfl) (z_cn 61 0),
   zz_of (ok_istore_n G dX2_copy_61 rfl rfl (by decide)) (z_ist _ _),
   zz_of (ok_iload_n G dX2_copy_62 rfl rfl) (z_ild _ _),
   zz_of (ok_bipush G (v := 16) dX2_copy_63 (by decide) rfl) (z_cn 65 16),
   zz_of (ok_cge G dX2_copy_65 rfl rfl) (z_cge _ _ _ _),
   zz_of (ok_aload_n G dX2_copy_68 rfl rfl) (z_ald _ _),
   zz_of (ok_get G (nx := 72) (ci := 1) (kd := 2) (k := 6) (RX2, TX2, 11) rfl (by decide) rfl q231 dX2_copy_69 rfl) (z_getr _ _ _),
   zz_of (ok_iload_n G dX2_copy_72 rfl rfl) (z_ild _ _),
   zz_of (ok_aald G dX2_copy_73 rfl) (z_aald _),
   zz_of (ok_iconst G (v := 0) dX2_copy_74 (by decide) rfl) (z_cn 75 0),
   zz_of (ok_aload_n G dX2_copy_75 rfl rfl) (z_ald _ _),
   zz_of (ok_get G (nx := 79) (ci := 1) (kd := 2) (k := 6) (RX2, TX2, 11) rfl (by decide) rfl q231 dX2_copy_76 rfl) (z_getr _ _ _),
   zz_of (ok_iload_n G dX2_copy_79 rfl rfl) (z_ild _ _),
   zz_of (ok_aald G dX2_copy_80 rfl) (z_aald _),
   zz_of (ok_iconst G (v := 0) dX2_copy_81 (by decide) rfl) (z_cn 82 0),
   zz_of (ok_bipush G (v := 12) dX2_copy_82 (by decide) rfl) (z_cn 84 12),
   zz_of (ok_acpi G (t := 2) (ty := .int) (Or.inl ⟨rfl, rfl⟩) q499 q501 q500 q94 ⟨Nat.le_of_ble_eq_true rfl, by decide⟩ dX2_copy_84 rfl) (z_acpi _ _),
   zz_of (ok_iinc G (v := 1) dX2_copy_87 (by decide) rfl (by decide)) (z_incn 90 2 1),
   zz_of (ok_goto G dX2_copy_90 rfl) (z_goto _),
   zz_of (ok_aload_n G dX2_copy_93 rfl rfl) (z_ald _ _),
   zz_of (ok_get G (nx := 97) (ci := 1) (kd := 2) (k := 7) (RX2, TX2, 11) rfl (by decide) rfl q235 dX2_copy_94 rfl) (z_getr _ _ _),
   zz_of (ok_aload_n G dX2_copy_97 rfl rfl) (z_ald _ _),
   zz_of (ok_get G (nx := 101) (ci := 1) (kd := 2) (k := 7) (RX2, TX2, 11) rfl (by decide) rfl q235 dX2_copy_98 rfl) (z_getr _ _ _),
   zz_of (ok_calv G (hnh.q 101) (zmJ2_addAll _ G.hst) (RJ2, TJ2, 3) rfl q502 q503 q504 q86 q505 (by decide +kernel) ⟨Nat.le_of_ble_eq_true rfl, Nat.le_of_ble_eq_true rfl⟩ dX2_copy_101 rfl) (z_cvGp _ _ _ _ _),
   zz_of (ok_pop G dX2_copy_104 rfl) (z_pop _),
   zz_of (ok_aload_n G dX2_copy_105 rfl rfl) (z_ald _ _),
   zz_of (ok_get G (nx := 109) (ci := 1) (kd := 2) (k := 8) (RX2, TX2, 11) rfl (by decide) rfl q237 dX2_copy_106 rfl) (z_getr _ _ _),
   zz_of (ok_iconst G (v := 0) dX2_copy_109 (by decide) rfl) (z_cn 110 0),
   zz_of (ok_aload_n G dX2_copy_110 rfl rfl) (z_ald _ _),
   zz_of (ok_get G (nx := 114) (ci := 1) (kd := 2) (k := 8) (RX2, TX2, 11) rfl (by decide) rfl q237 dX2_copy_111 rfl) (z_getr _ _ _),
   zz_of (ok_iconst G (v := 0) dX2_copy_114 (by decide) rfl) (z_cn 115 0),
   zz_of (ok_iconst G (v := 2) dX2_copy_115 (by decide) rfl) (z_cn 116 2),
   zz_of (ok_acpi G (t := 2) (ty := .int) (Or.inl ⟨rfl, rfl⟩) q499 q501 q500 q94 ⟨Nat.le_of_ble_eq_true rfl, by decide⟩ dX2_copy_116 rfl) (z_acpi _ _),
   zz_of (ok_aload_n G dX2_copy_119 rfl rfl) (z_ald _ _),
   zz_of (ok_get G (nx := 123) (ci := 1) (kd := 2) (k := 9) (RX2, TX2, 11) rfl (by decide) rfl q239 dX2_copy_120 rfl) (z_getr _ _ _),
   zz_of (ok_aload_n G dX2_copy_123 rfl rfl) (z_ald _ _),
   zz_of (ok_get G (nx := 127) (ci := 1) (kd := 2) (k := 9) (RX2, TX2, 11) rfl (by decide) rfl q239 dX2_copy_124 rfl) (z_getr _ _ _),
   zz_of (ok_callv G hnh (zmX3_takes _ G.hst) rfl rfl (RX3, TX3, 7) rfl q579 q580 q581 q87 q582 (by decide +kernel) ⟨by decide, by decide⟩ dX2_copy_127 rfl) (z_callvp _ _ _ _),
   zz_of (ok_pop G dX2_copy_130 rfl) (z_pop _),
   zz_of (ok_aload_n G dX2_copy_131 rfl rfl) (z_ald _ _),
   zz_of (ok_aret G (Or.inl ⟨_, rfl⟩) dX2_copy_132) (z_aret), trivial⟩

theorem zwX2_copy_0 {Q : Option zv → zz_M → Prop} {X : Nat → zz_M → Prop} {M : zz_M} {h_ : Nat} (h : ∃ h1_ : Nat, zfree M h1_ ∧ (0 + 1 ≤ 26 ∧ 0 + 11 ≤ 260) ∧ (∃ b2 : Nat, zsh ((M.1.1, zrw M.1.2 h1_ (1, 1)), zrw M.2.1 h1_ (fun _ => 0), zrw M.2.2.1 h1_ (fun _ => 0), zrw M.2.2.2 h1_ (fun _ => none)) h_ = (1, 1) ∧ zpt ((M.1.1, zrw M.1.2 h1_ (1, 1)), zrw M.2.1 h1_ (fun _ => 0), zrw M.2.2.1 h1_ (fun _ => 0), zrw M.2.2.2 h1_ (fun _ => none)) h_ 10 = some b2 ∧ ((1 + 23 ≤ 26 ∧ 11 + 226 ≤ 260) ∧ ((zsh ((M.1.1, zrw M.1.2 h1_ (1, 1)), zrw M.2.1 h1_ (fun _ => 0), zrw M.2.2.1 h1_ (fun _ => 0), zrw M.2.2.2 h1_ (fun _ => none)) h1_ = (1, 1) ∧ ∀ k, zfx ((M.1.1, zrw M.1.2 h1_ (1, 1)), zrw M.2.1 h1_ (fun _ => 0), zrw M.2.2.1 h1_ (fun _ => 0), zrw M.2.2.2 h1_ (fun _ => none)).1.1 h1_ k = false) ∧ (∀ i, 1 ≤ i → i < 26 → i ≠ 8 → i ≠ 9 → zfree ((M.1.1, zrw M.1.2 h1_ (1, 1)), zrw M.2.1 h1_ (fun _ => 0), zrw M.2.2.1 h1_ (fun _ => 0), zrw M.2.2.2 h1_ (fun _ => none)) (h1_ + i)) ∧ (∀ (S_3 L_3 : Nat → Nat → Int) (P_3 : Nat → Nat → Option Nat) (f_3 : Nat → Nat × Nat), (∀ j, (j < h1_ ∨ h1_ + 25 < j ∨ j = h1_ + 8 ∨ j = h1_ + 9) → f_3 j = (zrw M.1.2 h1_ (1, 1)) j ∧ S_3 j = (zrw M.2.1 h1_ (fun _ => 0)) j ∧ L_3 j = (zrw M.2.2.1 h1_ (fun _ => 0)) j ∧ P_3 j = (zrw M.2.2.2 h1_ (fun _ => none)) j) → f_3 h1_ = (zrw M.1.2 h1_ (1, 1)) h1_ → (∀ k, S_3 h1_ k = if k = 1 then 1 else (zrw M.2.1 h1_ (fun _ => 0)) h1_ k) → wSh f_3 P_3 h1_ b2 → wN0 S_3 P_3 h1_ → (zsh ((M.1.1, f_3), S_3, L_3, P_3) h_ = (1, 1) ∧ (zsh ((M.1.1, f_3), S_3, L_3, P_3) h1_ = (1, 1) ∧ (zsh ((M.1.1, f_3), mm_up S_3 h1_ 0 (S_3 h_ 0), L_3, P_3) h_ = (1, 1) ∧ (zsh ((M.1.1, f_3), mm_up S_3 h1_ 0 (S_3 h_ 0), L_3, P_3) h1_ = (1, 1) ∧ (zsh ((M.1.1, f_3), mm_up (mm_up S_3 h1_ 0 (S_3 h_ 0)) h1_ 1 ((mm_up S_3 h1_ 0 (S_3 h_ 0)) h_ 1), L_3, P_3) h_ = (1, 1) ∧ (zsh ((M.1.1, f_3), mm_up (mm_up S_3 h1_ 0 (S_3 h_ 0)) h1_ 1 ((mm_up S_3 h1_ 0 (S_3 h_ 0)) h_ 1), L_3, P_3) h1_ = (1, 1) ∧ (zsh ((M.1.1, f_3), mm_up (mm_up (mm_up S_3 h1_ 0 (S_3 h_ 0)) h1_ 1 ((mm_up S_3 h1_ 0 (S_3 h_ 0)) h_ 1)) h1_ 2 ((mm_up (mm_up S_3 h1_ 0 (S_3 h_ 0)) h1_ 1 ((mm_up S_3 h1_ 0 (S_3 h_ 0)) h_ 1)) h_ 2), L_3, P_3) h_ = (1, 1) ∧ (zsh ((M.1.1, f_3), mm_up (mm_up (mm_up S_3 h1_ 0 (S_3 h_ 0)) h1_ 1 ((mm_up S_3 h1_ 0 (S_3 h_ 0)) h_ 1)) h1_ 2 ((mm_up (mm_up S_3 h1_ 0 (S_3 h_ 0)) h1_ 1 ((mm_up S_3 h1_ 0 (S_3 h_ 0)) h_ 1)) h_ 2), L_3, P_3) h1_ = (1, 1) ∧ (zsh ((M.1.1, f_3), mm_up (mm_up (mm_up (mm_up S_3 h1_ 0 (S_3 h_ 0)) h1_ 1 ((mm_up S_3 h1_ 0 (S_3 h_ 0)) h_ 1)) h1_ 2 ((mm_up (mm_up S_3 h1_ 0 (S_3 h_ 0)) h1_ 1 ((mm_up S_3 h1_ 0 (S_3 h_ 0)) h_ 1)) h_ 2)) h1_ 3 ((mm_up (mm_up (mm_up S_3 h1_ 0 (S_3 h_ 0)) h1_ 1 ((mm_up S_3 h1_ 0 (S_3 h_ 0)) h_ 1)) h1_ 2 ((mm_up (mm_up S_3 h1_ 0 (S_3 h_ 0)) h1_ 1 ((mm_up S_3 h1_ 0 (S_3 h_ 0)) h_ 1)) h_ 2)) h_ 3), L_3, P_3) h_ = (1, 1) ∧ (zsh ((M.1.1, f_3), mm_up (mm_up (mm_up (mm_up S_3 h1_ 0 (S_3 h_ 0)) h1_ 1 ((mm_up S_3 h1_ 0 (S_3 h_ 0)) h_ 1)) h1_ 2 ((mm_up (mm_up S_3 h1_ 0 (S_3 h_ 0)) h1_ 1 ((mm_up S_3 h1_ 0 (S_3 h_ 0)) h_ 1)) h_ 2)) h1_ 3 ((mm_up (mm_up (mm_up S_3 h1_ 0 (S_3 h_ 0)) h1_ 1 ((mm_up S_3 h1_ 0 (S_3 h_ 0)) h_ 1)) h1_ 2 ((mm_up (mm_up S_3 h1_ 0 (S_3 h_ 0)) h1_ 1 ((mm_up S_3 h1_ 0 (S_3 h_ 0)) h_ 1)) h_ 2)) h_ 3), L_3, P_3) h1_ = (1, 1) ∧ (zsh ((M.1.1, f_3), mm_up (mm_up (mm_up (mm_up (mm_up S_3 h1_ 0 (S_3 h_ 0)) h1_ 1 ((mm_up S_3 h1_ 0 (S_3 h_ 0)) h_ 1)) h1_ 2 ((mm_up (mm_up S_3 h1_ 0 (S_3 h_ 0)) h1_ 1 ((mm_up S_3 h1_ 0 (S_3 h_ 0)) h_ 1)) h_ 2)) h1_ 3 ((mm_up (mm_up (mm_up S_3 h1_ 0 (S_3 h_ 0)) h1_ 1 ((mm_up S_3 h1_ 0 (S_3 h_ 0)) h_ 1)) h1_ 2 ((mm_up (mm_up S_3 h1_ 0 (S_3 h_ 0)) h1_ 1 ((mm_up S_3 h1_ 0 (S_3 h_ 0)) h_ 1)) h_ 2)) h_ 3)) h1_ 4 ((mm_up (mm_up (mm_up (mm_up S_3 h1_ 0 (S_3 h_ 0)) h1_ 1 ((mm_up S_3 h1_ 0 (S_3 h_ 0)) h_ 1)) h1_ 2 ((mm_up (mm_up S_3 h1_ 0 (S_3 h_ 0)) h1_ 1 ((mm_up S_3 h1_ 0 (S_3 h_ 0)) h_ 1)) h_ 2)) h1_ 3 ((mm_up (mm_up (mm_up S_3 h1_ 0 (S_3 h_ 0)) h1_ 1 ((mm_up S_3 h1_ 0 (S_3 h_ 0)) h_ 1)) h1_ 2 ((mm_up (mm_up S_3 h1_ 0 (S_3 h_ 0)) h1_ 1 ((mm_up S_3 h1_ 0 (S_3 h_ 0)) h_ 1)) h_ 2)) h_ 3)) h_ 4), L_3, P_3) h_ = (1, 1) ∧ (zsh ((M.1.1, f_3), mm_up (mm_up (mm_up (mm_up (mm_up S_3 h1_ 0 (S_3 h_ 0)) h1_ 1 ((mm_up S_3 h1_ 0 (S_3 h_ 0)) h_ 1)) h1_ 2 ((mm_up (mm_up S_3 h1_ 0 (S_3 h_ 0)) h1_ 1 ((mm_up S_3 h1_ 0 (S_3 h_ 0)) h_ 1)) h_ 2)) h1_ 3 ((mm_up (mm_up (mm_up S_3 h1_ 0 (S_3 h_ 0)) h1_ 1 ((mm_up S_3 h1_ 0 (S_3 h_ 0)) h_ 1)) h1_ 2 ((mm_up (mm_up S_3 h1_ 0 (S_3 h_ 0)) h1_ 1 ((mm_up S_3 h1_ 0 (S_3 h_ 0)) h_ 1)) h_ 2)) h_ 3)) h1_ 4 ((mm_up (mm_up (mm_up (mm_up S_3 h1_ 0 (S_3 h_ 0)) h1_ 1 ((mm_up S_3 h1_ 0 (S_3 h_ 0)) h_ 1)) h1_ 2 ((mm_up (mm_up S_3 h1_ 0 (S_3 h_ 0)) h1_ 1 ((mm_up S_3 h1_ 0 (S_3 h_ 0)) h_ 1)) h_ 2)) h1_ 3 ((mm_up (mm_up (mm_up S_3 h1_ 0 (S_3 h_ 0)) h1_ 1 ((mm_up S_3 h1_ 0 (S_3 h_ 0)) h_ 1)) h1_ 2 ((mm_up (mm_up S_3 h1_ 0 (S_3 h_ 0)) h1_ 1 ((mm_up S_3 h1_ 0 (S_3 h_ 0)) h_ 1)) h_ 2)) h_ 3)) h_ 4), L_3, P_3) h1_ = (1, 1) ∧ (zz_J zpX2_copy (zz_retP Q X 26 260) 62 [some (vr h_), some (vr h1_), some (vi 0)] [] ((M.1.1, f_3), mm_up (mm_up (mm_up (mm_up (mm_up (mm_up S_3 h1_ 0 (S_3 h_ 0)) h1_ 1 ((mm_up S_3 h1_ 0 (S_3 h_ 0)) h_ 1)) h1_ 2 ((mm_up (mm_up S_3 h1_ 0 (S_3 h_ 0)) h1_ 1 ((mm_up S_3 h1_ 0 (S_3 h_ 0)) h_ 1)) h_ 2)) h1_ 3 ((mm_up (mm_up (mm_up S_3 h1_ 0 (S_3 h_ 0)) h1_ 1 ((mm_up S_3 h1_ 0 (S_3 h_ 0)) h_ 1)) h1_ 2 ((mm_up (mm_up S_3 h1_ 0 (S_3 h_ 0)) h1_ 1 ((mm_up S_3 h1_ 0 (S_3 h_ 0)) h_ 1)) h_ 2)) h_ 3)) h1_ 4 ((mm_up (mm_up (mm_up (mm_up S_3 h1_ 0 (S_3 h_ 0)) h1_ 1 ((mm_up S_3 h1_ 0 (S_3 h_ 0)) h_ 1)) h1_ 2 ((mm_up (mm_up S_3 h1_ 0 (S_3 h_ 0)) h1_ 1 ((mm_up S_3 h1_ 0 (S_3 h_ 0)) h_ 1)) h_ 2)) h1_ 3 ((mm_up (mm_up (mm_up S_3 h1_ 0 (S_3 h_ 0)) h1_ 1 ((mm_up S_3 h1_ 0 (S_3 h_ 0)) h_ 1)) h1_ 2 ((mm_up (mm_up S_3 h1_ 0 (S_3 h_ 0)) h1_ 1 ((mm_up S_3 h1_ 0 (S_3 h_ 0)) h_ 1)) h_ 2)) h_ 3)) h_ 4)) h1_ 5 ((mm_up (mm_up (mm_up (mm_up (mm_up S_3 h1_ 0 (S_3 h_ 0)) h1_ 1 ((mm_up S_3 h1_ 0 (S_3 h_ 0)) h_ 1)) h1_ 2 ((mm_up (mm_up S_3 h1_ 0 (S_3 h_ 0)) h1_ 1 ((mm_up S_3 h1_ 0 (S_3 h_ 0)) h_ 1)) h_ 2)) h1_ 3 ((mm_up (mm_up (mm_up S_3 h1_ 0 (S_3 h_ 0)) h1_ 1 ((mm_up S_3 h1_ 0 (S_3 h_ 0)) h_ 1)) h1_ 2 ((mm_up (mm_up S_3 h1_ 0 (S_3 h_ 0)) h1_ 1 ((mm_up S_3 h1_ 0 (S_3 h_ 0)) h_ 1)) h_ 2)) h_ 3)) h1_ 4 ((mm_up (mm_up (mm_up (mm_up S_3 h1_ 0 (S_3 h_ 0)) h1_ 1 ((mm_up S_3 h1_ 0 (S_3 h_ 0)) h_ 1)) h1_ 2 ((mm_up (mm_up S_3 h1_ 0 (S_3 h_ 0)) h1_ 1 ((mm_up S_3 h1_ 0 (S_3 h_ 0)) h_ 1)) h_ 2)) h1_ 3 ((mm_up (mm_up (mm_up S_3 h1_ 0 (S_3 h_ 0)) h1_ 1 ((mm_up S_3 h1_ 0 (S_3 h_ 0)) h_ 1)) h1_ 2 ((mm_up (mm_up S_3 h1_ 0 (S_3 h_ 0)) h1_ 1 ((mm_up S_3 h1_ 0 (S_3 h_ 0)) h_ 1)) h_ 2)) h_ 3)) h_ 4)) h_ 5), L_3, P_3) (24, 237))))))))))))))))))) : zz_J zpX2_copy (zz_retP Q X 26 260) 0 [some (vr h_), none, none] [] M (0, 0) := zz_J.go [(62, []), (93, [2]), (105, [2]), (119, [2])] 400 h
theorem zwX2_copy_62 {Q : Option zv → zz_M → Prop} {X : Nat → zz_M → Prop} {M : zz_M} {u_ v_ : Nat} {h0 : Nat} {h1 : Nat} {x2 : Int} (h : R32 x2 ∧ ((16 ≤ x2 → zz_J zpX2_copy (zz_retP Q X 26 260) 93 [some (vr h0), some (vr h1), none] [] M (u_, v_)) ∧ (¬ 16 ≤ x2 → ∃ b1 : Nat, zsh M h0 = (1, 1) ∧ zpt M h0 6 = some b1 ∧ (∃ t_ n_ : Nat, zsh M b1 = (t_, n_) ∧ (t_ = 6 ∨ t_ = 7 ∨ t_ = 8) ∧ (n_ : Int) ≤ 2147483647 ∧ (0 ≤ x2 ∧ x2 < (n_ : Int)) ∧ (∀ b2 : Nat, zpt M b1 x2.toNat = some b2 → ∃ b3 : Nat, zsh M h1 = (1, 1) ∧ zpt M h1 6 = some b3 ∧ (∃ t_ n_ : Nat, zsh M b3 = (t_, n_) ∧ (t_ = 6 ∨ t_ = 7 ∨ t_ = 8) ∧ (n_ : Int) ≤ 2147483647 ∧ (0 ≤ x2 ∧ x2 < (n_ : Int)) ∧ (∀ b4 : Nat, zpt M b3 x2.toNat = some b4 → ∃ a_ b_ : Nat, zsh M b2 = (2, a_) ∧ zsh M b4 = (2, b_) ∧ (a_ ≤ 2147483647 ∧ b_ ≤ 2147483647) ∧ (b2 : Nat) ≠ b4 ∧ (0 ≤ (0 : Int) ∧ 0 ≤ (0 : Int) ∧ 0 ≤ (12 : Int)) ∧ (0 : Int) + (12 : Int) ≤ (a_ : Int) ∧ (0 : Int) + (12 : Int) ≤ (b_ : Int) ∧ ((2 : Nat) = 4 → ∀ i : Nat, i < (12 : Int).toNat → -128 ≤ M.2.1 b2 ((0 : Int).toNat + i) ∧ M.2.1 b2 ((0 : Int).toNat + i) ≤ 127) ∧ (zz_J zpX2_copy (zz_retP Q X 26 260) 62 [some (vr h0), some (vr h1), some (vi (x2 + 1))] [] ((M.1.1, M.1.2), zrw M.2.1 b4 (va_cpy (M.2.1 b2) (M.2.1 b4) (0 : Int).toNat (0 : Int).toNat (12 : Int).toNat), M.2.2.1, M.2.2.2) (u_, v_))) ∧ (zpt M b3 x2.toNat = none → False))) ∧ (zpt M b1 x2.toNat = none → ∃ b5 : Nat, zsh M h1 = (1, 1) ∧ zpt M h1 6 = some b5 ∧ (∃ t_ n_ : Nat, zsh M b5 = (t_, n_) ∧ (t_ = 6 ∨ t_ = 7 ∨ t_ = 8) ∧ (n_ : Int) ≤ 2147483647 ∧ (0 ≤ x2 ∧ x2 < (n_ : Int)) ∧ (∀ b6 : Nat, zpt M b5 x2.toNat = some b6 → False) ∧ (zpt M b5 x2.toNat = none → False))))))) : zz_J zpX2_copy (zz_retP Q X 26 260) 62 [some (vr h0), some (vr h1), some (vi x2)] [] M (u_, v_) := zz_J.go [(62, []), (93, [2]), (105, [2]), (119, [2])] 400 h
theorem zwX2_copy_93 {Q : Option zv → zz_M → Prop} {X : Nat → zz_M → Prop} {M : zz_M} {u_ v_ : Nat} {h0 : Nat} {h1 : Nat} (h : ∃ b1 : Nat, zsh M h1 = (1, 1) ∧ zpt M h1 7 = some b1 ∧ (∃ b2 : Nat, zsh M h0 = (1, 1) ∧ zpt M h0 7 = some b2 ∧ ((zsh M b1 = (1, 17) ∨ zsh M b1 = (17, 17)) ∧ ∃ c3 s3 : Nat, (u_ + c3 ≤ 26 ∧ v_ + s3 ≤ 260) ∧ (∃ a_4 b_4 m_4 e_4 n_4 : Nat, (zsh M b1 = (1, 17) ∧ zfx M.1.1 b1 1 = false ∧ M.2.1 b1 2 = 0 ∧ zpt M b1 1 = some 1300 ∧ zsh M 1300 = (23, 0)) ∧ lsE M b2 e_4 m_4 n_4 ∧ n_4 ≤ 10 ∧ b2 ≠ b1 ∧ (zfree M a_4 ∧ zfree M b_4 ∧ a_4 ≠ b_4) ∧ (2 ≤ c3 ∧ n_4 + 10 ≤ s3) ∧ (∀ (S_4 L_4 : Nat → Nat → Int) (P_4 : Nat → Nat → Option Nat) (f_4 : Nat → Nat × Nat), (∀ j, j ≠ a_4 → j ≠ b_4 → f_4 j = M.1.2 j ∧ L_4 j = M.2.2.1 j) → (∀ j k, j ≠ a_4 → j ≠ b_4 → ¬ (j = b1 ∧ (k = 0 ∨ k = 2)) → S_4 j k = M.2.1 j k) → (∀ j k, j ≠ a_4 → j ≠ b_4 → ¬ (j = b1 ∧ k = 1) → P_4 j k = M.2.2.2 j k) → S_4 b1 2 = (n_4 : Int) → f_4 a_4 = (7, n_4) → (n_4 = 0 → P_4 b1 1 = M.2.2.2 b1 1 ∧ f_4 b_4 = M.1.2 b_4 ∧ S_4 b_4 = M.2.1 b_4 ∧ L_4 b_4 = M.2.2.1 b_4 ∧ P_4 b_4 = M.2.2.2 b_4) → (0 < n_4 → P_4 b1 1 = some b_4 ∧ f_4 b_4 = (7, 10) ∧ ∀ i : Nat, i < n_4 → P_4 b_4 i = zpt M e_4 i) → (zz_J zpX2_copy (zz_retP Q X 26 260) 105 [some (vr h0), some (vr h1), none] [] ((M.1.1, f_4), S_4, L_4, P_4) (u_ + c3, v_ + s3)) ∧ (zz_J zpX2_copy (zz_retP Q X 26 260) 105 [some (vr h0), some (vr h1), none] [] ((M.1.1, f_4), S_4, L_4, P_4) (u_ + c3, v_ + s3))))))) : zz_J zpX2_copy (zz_retP Q X 26 260) 93 [some (vr h0), some (vr h1), none] [] M (u_, v_) := zz_J.go [(62, []), (93, [2]), (105, [2]), (119, [2])] 400 h
theorem zwX2_copy_105 {Q : Option zv → zz_M → Prop} {X : Nat → zz_M → Prop} {M : zz_M} {u_ v_ : Nat} {h0 : Nat} {h1 : Nat} (h : ∃ b1 : Nat, zsh M h0 = (1, 1) ∧ zpt M h0 8 = some b1 ∧ (∃ b2 : Nat, zsh M h1 = (1, 1) ∧ zpt M h1 8 = some b2 ∧ (∃ a_ b_ : Nat, zsh M b1 = (2, a_) ∧ zsh M b2 = (2, b_) ∧ (a_ ≤ 2147483647 ∧ b_ ≤ 2147483647) ∧ (b1 : Nat) ≠ b2 ∧ (0 ≤ (0 : Int) ∧ 0 ≤ (0 : Int) ∧ 0 ≤ (2 : Int)) ∧ (0 : Int) + (2 : Int) ≤ (a_ : Int) ∧ (0 : Int) + (2 : Int) ≤ (b_ : Int) ∧ ((2 : Nat) = 4 → ∀ i : Nat, i < (2 : Int).toNat → -128 ≤ M.2.1 b1 ((0 : Int).toNat + i) ∧ M.2.1 b1 ((0 : Int).toNat + i) ≤ 127) ∧ (zz_J zpX2_copy (zz_retP Q X 26 260) 119 [some (vr h0), some (vr h1), none] [] ((M.1.1, M.1.2), zrw M.2.1 b2 (va_cpy (M.2.1 b1) (M.2.1 b2) (0 : Int).toNat (0 : Int).toNat (2 : Int).toNat), M.2.2.1, M.2.2.2) (u_, v_))))) : zz_J zpX2_copy (zz_retP Q X 26 260) 105 [some (vr h0), some (vr h1), none] [] M (u_, v_) := zz_J.go [(62, []), (93, [2]), (105, [2]), (119, [2])] 400 h
theorem zwX2_copy_119 {Q : Option zv → zz_M → Prop} {X : Nat → zz_M → Prop} {M : zz_M} {u_ v_ : Nat} {h0 : Nat} {h1 : Nat} (h : ∃ b1 : Nat, zsh M h1 = (1, 1) ∧ zpt M h1 9 = some b1 ∧ (∃ b2 : Nat, zsh M h0 = (1, 1) ∧ zpt M h0 9 = some b2 ∧ ((zsh M b1 = (1, 2) ∨ zsh M b1 = (17, 2)) ∧ (scZ M b1 ∧ scZ M b2 ∧ (b2 + 3 < b1 ∨ b1 + 3 < b2) ∧ (M.2.1 b2 5 = 0 ∨ M.2.1 b2 5 = 1) ∧ ((u_ ≤ 26 ∧ v_ ≤ 260) ∧ (Q (some (vr h1)) ((M.1.1, M.1.2), cxW M.2.1 b1 (cx M.2.1 b2), M.2.2.1, M.2.2.2))))))) : zz_J zpX2_copy (zz_retP Q X 26 260) 119 [some (vr h0), some (vr h1), none] [] M (u_, v_) := zz_J.go [(62, []), (93, [2]), (105, [2]), (119, [2])] 400 h

theorem zmX2_copy (l : Launch) (hl : l.stackTraces = false) : mm_Spec l yX2_copy (ws_ yX2_copy cX2_copy 3 (some (.object "ChaseCourt$World"))) (mm_rm 8 26 260) (zE zX2_copy) := by
  refine zz_Met.J hl (by decide) (fun C G hnh => ztX2_copy G hnh) ?_
  rintro as M Q X h
  unfold zX2_copy at h
  split at h
  rotate_left
  · exact h.elim
  rename_i h_
  refine ⟨rfl, ?_⟩
  refine zz_retP_J ?_
  obtain ⟨t, e, m, n, ⟨w1, ⟨w2, w3, w4, w5, w6⟩, w7, w8, w9, ⟨s1, ⟨s2, s3, s4⟩, s5, s6, s7⟩, ⟨l1, l2, l3, l4, l5, l6, l7⟩, w12, w13⟩, h13, ht, hfr, hq⟩ := h
  have zh : ∀ {f' : Nat → Nat × Nat} {S' L' : Nat → Nat → Int} {P' : Nat → Nat → Option Nat}, (∀ j, (j < t ∨ t + 25 < j) → f' j = M.1.2 j ∧ S' j = M.2.1 j ∧ L' j = M.2.2.1 j ∧ P' j = M.2.2.2 j) → ∀ {x : Nat} {r : Nat × Nat} {S2 L2 : Nat → Nat → Int} {P2 : Nat → Nat → Option Nat}, (x < t ∨ t + 25 < x) → zsh M x = r → zsh ((M.1.1, f'), S2, L2, P2) x = r := by
    intro f' S' L' P' K x r S2 L2 P2 hx hr
    exact zsh_to hr (K _ hx).1
  have zp : ∀ {f' : Nat → Nat × Nat} {S' L' : Nat → Nat → Int} {P' : Nat → Nat → Option Nat}, (∀ j, (j < t ∨ t + 25 < j) → f' j = M.1.2 j ∧ S' j = M.2.1 j ∧ L' j = M.2.2.1 j ∧ P' j = M.2.2.2 j) → ∀ {x k : Nat} {f2 : Nat → Nat × Nat} {S2 L2 : Nat → Nat → Int}, (x < t ∨ t + 25 < x) → zpt ((M.1.1, f2), S2, L2, P') x k = zpt M x k := by
    intro f' S' L' P' K x k f2 S2 L2 hx
    exact zpt_to (K _ hx).2.2.2
  have nh : ∀ {f' : Nat → Nat × Nat} {S' L' : Nat → Nat → Int} {P' : Nat → Nat → Option Nat} (i : Nat), i < 26 → zsh ((M.1.1, f'), S', L', P') (t + i) = f' (t + i) := fun i hi => zsh_f (hfr i hi).1
  have np : ∀ {f' : Nat → Nat × Nat} {S' L' : Nat → Nat → Int} {P' : Nat → Nat → Option Nat} (i : Nat) {k : Nat}, i < 26 → zpt ((M.1.1, f'), S', L', P') (t + i) k = P' (t + i) k := by
    intro f' S' L' P' i k hi
    exact zpt_f (hfr i hi).1
  have old : ∀ {x : Nat} {r : Nat × Nat}, zsh M x = r → r.1 ≠ 0 → (x < t ∨ t + 25 < x) := fun {x r} hx hr => by
    rcases Nat.lt_or_ge x t with c | c
    · exact Or.inl c
    · rcases Nat.lt_or_ge (t + 25) x with d | d
      · exact Or.inr d
      · have := zfree_ne (hfr (x - t) (by omega)) hx hr
        omega
  have oe : e < t ∨ t + 25 < e := by
    rcases l4 with c | ⟨c, -⟩
    · exact old c (by show (7 : Nat) ≠ 0; decide)
    · exact old c (by show (23 : Nat) ≠ 0; decide)
  have o13 := old h13 (by decide)
  -- the score
  have t119 : ∀ (f' : Nat → Nat × Nat) (S' L' : Nat → Nat → Int) (P' : Nat → Nat → Option Nat) (u v : Nat), (∀ j, (j < t ∨ t + 25 < j) → f' j = M.1.2 j ∧ S' j = M.2.1 j ∧ L' j = M.2.2.1 j ∧ P' j = M.2.2.2 j) → f' t = (1, 1) → wSh f' P' t 100 → (∀ k, k < 6 → S' t k = M.2.1 h_ k) → (∀ i k, i < 16 → k < 12 → S' (t + 10 + i) k = M.2.1 (h_ + 10 + i) k) → S' (t + 2) 2 = (n : Int) → (n = 0 → P' (t + 2) 1 = some 1300) → (0 < n → P' (t + 2) 1 = some (t + 9) ∧ f' (t + 9) = (7, 10) ∧ ∀ i, i < n → P' (t + 9) i = zpt M e i) → (∀ k, k < 2 → S' (t + 3) k = M.2.1 (h_ + 3) k) → (u ≤ 26 ∧ v ≤ 260) → zz_J zpX2_copy (zz_retP Q X 26 260) 119 [some (vr h_), some (vr t), none] [] ((M.1.1, f'), S', L', P') (u, v) := by
    intro f' S' L' P' u v K g1 g2 c1 c2 c3 c4 c5 c6 huv
    refine zwX2_copy_119 ⟨t + 4, (nh 0 (by decide)).trans g1, (np 0 (by decide)).trans g2.2.1.2.2.2.1, h_ + 4, zh K (by omega) w1, (zp K (by omega)).trans w5, Or.inl ((nh 4 (by decide)).trans g2.1.1.2.2.2.2), ⟨(nh 4 (by decide)).trans g2.1.1.2.2.2.2, ⟨(nh 5 (by decide)).trans (g2.1.2 5 (by decide) (by decide)), (nh 6 (by decide)).trans (g2.1.2 6 (by decide) (by decide)), (nh 7 (by decide)).trans (g2.1.2 7 (by decide) (by decide))⟩, (np 4 (by decide)).trans g2.2.2.2.1, (np 4 (by decide)).trans g2.2.2.2.2.1, (np 4 (by decide)).trans g2.2.2.2.2.2.1⟩, ⟨zh K (by omega) s1, ⟨zh K (by omega) s2, zh K (by omega) s3, zh K (by omega) s4⟩, (zp K (by omega)).trans s5, (zp K (by omega)).trans s6, (zp K (by omega)).trans s7⟩, by omega, ?_, huv, ?_⟩
    · show S' (h_ + 4) 5 = 0 ∨ S' (h_ + 4) 5 = 1
      rw [(K (h_ + 4) (by omega)).2.1]
      exact w13
    · have co : ∀ j, j ≠ t + 4 → j ≠ t + 5 → j ≠ t + 6 → j ≠ t + 7 → cxW S' (t + 4) (cx S' (h_ + 4)) j = S' j := fun j j1 j2 j3 j4 => cxW_o _ _ _ (by omega) (by omega) (by omega) (by omega)
      refine hq _ _ _ _ (fun j hj => ?_) g1 g2 (fun k hk => ?_) (fun i k hi hk => ?_) ?_ c4 c5 (fun k hk => ?_) ?_
      · rw [co j (by omega) (by omega) (by omega) (by omega)]
        exact K j hj
      · rw [co t (by omega) (by omega) (by omega) (by omega)]
        exact c1 k hk
      · rw [co _ (by omega) (by omega) (by omega) (by omega)]
        exact c2 i k hi hk
      · rw [co _ (by omega) (by omega) (by omega) (by omega)]
        exact c3
      · rw [co _ (by omega) (by omega) (by omega) (by omega)]
        exact c6 k hk
      · refine (cx_cxW _ _ _ (cx_9 _ _)).trans (cx_eqS fun j h1 h2 => (K j (by omega)).2.1)
  -- whose rules
  have t105 : ∀ (f' : Nat → Nat × Nat) (S' L' : Nat → Nat → Int) (P' : Nat → Nat → Option Nat) (u v : Nat), (∀ j, (j < t ∨ t + 25 < j) → f' j = M.1.2 j ∧ S' j = M.2.1 j ∧ L' j = M.2.2.1 j ∧ P' j = M.2.2.2 j) → f' t = (1, 1) → wSh f' P' t 100 → (∀ k, k < 6 → S' t k = M.2.1 h_ k) → (∀ i k, i < 16 → k < 12 → S' (t + 10 + i) k = M.2.1 (h_ + 10 + i) k) → S' (t + 2) 2 = (n : Int) → (n = 0 → P' (t + 2) 1 = some 1300) → (0 < n → P' (t + 2) 1 = some (t + 9) ∧ f' (t + 9) = (7, 10) ∧ ∀ i, i < n → P' (t + 9) i = zpt M e i) → (u ≤ 26 ∧ v ≤ 260) → zz_J zpX2_copy (zz_retP Q X 26 260) 105 [some (vr h_), some (vr t), none] [] ((M.1.1, f'), S', L', P') (u, v) := by
    intro f' S' L' P' u v K g1 g2 c1 c2 c3 c4 c5 huv
    refine zwX2_copy_105 ⟨h_ + 3, zh K (by omega) w1, (zp K (by omega)).trans w4, t + 3, (nh 0 (by decide)).trans g1, (np 0 (by decide)).trans g2.2.1.2.2.1, 2, 2, zh K (by omega) w9, (nh 3 (by decide)).trans g2.1.1.2.2.2.1, by decide, by omega, by decide, by decide, by decide, fun c => absurd c (by decide), ?_⟩
    have so : ∀ (r : Nat → Int) (j : Nat), j ≠ t + 3 → zrw S' (t + 3) r j = S' j := fun r j hj => zrw_n _ _ hj
    refine t119 _ _ _ _ _ _ (fun j hj => ?_) g1 g2 (fun k hk => ?_) (fun i k hi hk => ?_) ?_ c4 c5 (fun k hk => ?_) huv
    · dsimp only
      rw [so _ j (by omega)]
      exact K j hj
    · dsimp only
      rw [so _ t (by omega)]
      exact c1 k hk
    · dsimp only
      rw [so _ _ (by omega)]
      exact c2 i k hi hk
    · dsimp only
      rw [so _ _ (by omega)]
      exact c3
    · dsimp only
      rw [zrw_s]
      refine (va_cpy_k _ _ hk).trans ?_
      rw [(K (h_ + 3) (by omega)).2.1]
  -- the rules
  have t93 : ∀ (f' : Nat → Nat × Nat) (S' L' : Nat → Nat → Int) (P' : Nat → Nat → Option Nat), (∀ j, (j < t ∨ t + 25 < j) → f' j = M.1.2 j ∧ S' j = M.2.1 j ∧ L' j = M.2.2.1 j ∧ P' j = M.2.2.2 j) → ((f' (t + 8)).1 = 0 ∧ (f' (t + 9)).1 = 0) → f' t = (1, 1) → wSh f' P' t 100 → (∀ k, k < 6 → S' t k = M.2.1 h_ k) → (∀ i k, i < 16 → k < 12 → S' (t + 10 + i) k = M.2.1 (h_ + 10 + i) k) → S' (t + 2) 2 = 0 → P' (t + 2) 1 = some 1300 → zz_J zpX2_copy (zz_retP Q X 26 260) 93 [some (vr h_), some (vr t), none] [] ((M.1.1, f'), S', L', P') (24, 237) := by
    intro f' S' L' P' K g0 g1 g2 c1 c2 c3 c4
    have z2 : ∀ (S2 L2 : Nat → Nat → Int) (P2 : Nat → Nat → Option Nat), zsh ((M.1.1, f'), S2, L2, P2) (t + 2) = (1, 17) := fun _ _ _ => (nh 2 (by decide)).trans g2.1.1.2.2.1
    have fin : ∀ (S4 L4 : Nat → Nat → Int) (P4 : Nat → Nat → Option Nat) (f4 : Nat → Nat × Nat), (∀ j, j ≠ t + 8 → j ≠ t + 9 → f4 j = f' j ∧ L4 j = L' j) → (∀ j k, j ≠ t + 8 → j ≠ t + 9 → ¬ (j = t + 2 ∧ (k = 0 ∨ k = 2)) → S4 j k = S' j k) → (∀ j k, j ≠ t + 8 → j ≠ t + 9 → ¬ (j = t + 2 ∧ k = 1) → P4 j k = P' j k) → S4 (t + 2) 2 = (n : Int) → (n = 0 → P4 (t + 2) 1 = P' (t + 2) 1) → (0 < n → P4 (t + 2) 1 = some (t + 9) ∧ f4 (t + 9) = (7, 10) ∧ ∀ i : Nat, i < n → P4 (t + 9) i = zpt ((M.1.1, f'), S', L', P') e i) → zz_J zpX2_copy (zz_retP Q X 26 260) 105 [some (vr h_), some (vr t), none] [] ((M.1.1, f4), S4, L4, P4) (24 + 2, 237 + 16) := by
      intro S4 L4 P4 f4 q1 q2 q3 q4 q5 q6
      have ff : ∀ j, j ≠ t + 8 → j ≠ t + 9 → f4 j = f' j := fun j a b => (q1 j a b).1
      refine t105 _ _ _ _ _ _ (fun j hj => ⟨(ff j (by omega) (by omega)).trans (K j hj).1, ?_, (q1 j (by omega) (by omega)).2.trans (K j hj).2.2.1, ?_⟩) (by rw [ff t (by omega) (by omega)]; exact g1) ⟨⟨⟨by rw [ff _ (by omega) (by omega)]; exact g2.1.1.1, fun i hi => by rw [ff _ (by omega) (by omega)]; exact g2.1.1.2.1 i hi, by rw [ff _ (by omega) (by omega)]; exact g2.1.1.2.2.1, by rw [ff _ (by omega) (by omega)]; exact g2.1.1.2.2.2.1, by rw [ff _ (by omega) (by omega)]; exact g2.1.1.2.2.2.2⟩, fun i a b => by rw [ff _ (by omega) (by omega)]; exact g2.1.2 i a b⟩, ?_, fun i hi => by rw [q3 _ _ (by omega) (by omega) (by omega)]; exact g2.2.2.1 i hi, ?_⟩ (fun k hk => by rw [q2 _ _ (by omega) (by omega) (by omega)]; exact c1 k hk) (fun i k hi hk => by rw [q2 _ _ (by omega) (by omega) (by omega)]; exact c2 i k hi hk) q4 (fun c => (q5 c).trans c4) (fun c => ⟨(q6 c).1, (q6 c).2.1, fun i hi => ((q6 c).2.2 i hi).trans (zp K oe)⟩) (by decide)
      · funext k
        rw [q2 j k (by omega) (by omega) (by omega), (K j hj).2.1]
      · funext k
        rw [q3 j k (by omega) (by omega) (by omega), (K j hj).2.2.2]
      · have q7 : ∀ k, P4 t k = P' t k := fun k => q3 t k (by omega) (by omega) (by omega)
        rw [q7, q7, q7, q7, q7]
        exact g2.2.1
      · have q7 : ∀ k, P4 (t + 4) k = P' (t + 4) k := fun k => q3 _ k (by omega) (by omega) (by omega)
        rw [q7, q7, q7, q7]
        exact g2.2.2.2
    refine zwX2_copy_93 ⟨t + 2, (nh 0 (by decide)).trans g1, (np 0 (by decide)).trans g2.2.1.2.1, h_ + 2, zh K (by omega) w1, (zp K (by omega)).trans w3, Or.inl (z2 _ _ _), 2, 16, by decide, t + 8, t + 9, m, e, n, ⟨z2 _ _ _, zfx_of (hfr 2 (by decide)).1 1, c3, (np 2 (by decide)).trans c4, zh K o13 h13⟩, ⟨zh K (by omega) l1, (zp K (by omega)).trans l2, ?_, l4.imp (zh K oe) (fun c => ⟨zh K oe c.1, c.2⟩), l5, l6, fun i x hi hx => ?_⟩, by omega, by omega, ⟨⟨(hfr 8 (by decide)).1, g0.1⟩, ⟨(hfr 9 (by decide)).1, g0.2⟩, by omega⟩, by omega, fun S4 L4 P4 f4 q1 q2 q3 q4 _ q5 q6 => ⟨fin S4 L4 P4 f4 q1 q2 q3 q4 (fun c => (q5 c).1) q6, fin S4 L4 P4 f4 q1 q2 q3 q4 (fun c => (q5 c).1) q6⟩⟩
    · show S' (h_ + 2) 2 = n
      rw [(K (h_ + 2) (by omega)).2.1]
      exact l3
    · rw [zp K oe] at hx
      obtain ⟨ci, x1, x2⟩ := l7 i x hi hx
      exact ⟨ci, zh K (old x1 (by show (1 : Nat) ≠ 0; decide)) x1, x2⟩
  -- the chances
  have t62 : ∀ (d i : Nat) (f' : Nat → Nat × Nat) (S' L' : Nat → Nat → Int) (P' : Nat → Nat → Option Nat), i + d = 16 → (∀ j, (j < t ∨ t + 25 < j) → f' j = M.1.2 j ∧ S' j = M.2.1 j ∧ L' j = M.2.2.1 j ∧ P' j = M.2.2.2 j) → ((f' (t + 8)).1 = 0 ∧ (f' (t + 9)).1 = 0) → f' t = (1, 1) → wSh f' P' t 100 → (∀ k, k < 6 → S' t k = M.2.1 h_ k) → (∀ r k, r < i → k < 12 → S' (t + 10 + r) k = M.2.1 (h_ + 10 + r) k) → S' (t + 2) 2 = 0 → P' (t + 2) 1 = some 1300 → zz_J zpX2_copy (zz_retP Q X 26 260) 62 [some (vr h_), some (vr t), some (vi (i : Int))] [] ((M.1.1, f'), S', L', P') (24, 237) := by
    intro d
    induction d with
    | zero =>
      intro i f' S' L' P' hi K g0 g1 g2 c1 c2 c3 c4
      refine zwX2_copy_62 ⟨by omega, fun _ => t93 f' S' L' P' K g0 g1 g2 c1 (fun r k hr hk => c2 r k (by omega) hk) c3 c4, fun c => absurd (show (16 : Int) ≤ (i : Int) by omega) c⟩
    | succ d ih =>
      intro i f' S' L' P' hi K g0 g1 g2 c1 c2 c3 c4
      have hi16 : i < 16 := by omega
      refine zwX2_copy_62 ⟨by omega, fun c => absurd c (by omega), fun _ => ⟨h_ + 1, zh K (by omega) w1, (zp K (by omega)).trans w2, 6, 16, zh K (by omega) w7, Or.inl rfl, by decide, by omega, fun b2 hb2 => ?_, fun hb2 => ?_⟩⟩
      · rw [zp K (by omega), Int.toNat_natCast, (w8 i hi16).2] at hb2
        cases hb2
        refine ⟨t + 1, (nh 0 (by decide)).trans g1, (np 0 (by decide)).trans g2.2.1.1, 6, 16, (nh 1 (by decide)).trans g2.1.1.1, Or.inl rfl, by decide, by omega, fun b4 hb4 => ?_, fun hb4 => ?_⟩
        · rw [np 1 (by decide), Int.toNat_natCast, g2.2.2.1 i hi16] at hb4
          cases hb4
          refine ⟨12, 12, zh K (by omega) (w8 i hi16).1, by rw [show t + 10 + i = t + (10 + i) by omega, nh (10 + i) (by omega), show t + (10 + i) = t + 10 + i by omega]; exact g2.1.1.2.1 i hi16, by decide, by omega, by decide, by decide, by decide, fun c => absurd c (by decide), ?_⟩
          rw [show (i : Int) + 1 = ((i + 1 : Nat) : Int) by omega]
          have so : ∀ (r : Nat → Int) (j : Nat), j ≠ t + 10 + i → zrw S' (t + 10 + i) r j = S' j := fun r j hj => zrw_n _ _ hj
          refine ih (i + 1) _ _ _ _ (by omega) (fun j hj => ?_) g0 g1 g2 (fun k hk => ?_) (fun r k hr hk => ?_) ?_ c4
          · dsimp only
            rw [so _ j (by omega)]
            exact K j hj
          · dsimp only
            rw [so _ t (by omega)]
            exact c1 k hk
          · dsimp only
            by_cases er : r = i
            · subst er
              rw [zrw_s]
              refine (va_cpy_k _ _ hk).trans ?_
              rw [(K (h_ + 10 + r) (by omega)).2.1]
            · rw [so _ _ (by omega)]
              exact c2 r k (by omega) hk
          · dsimp only
            rw [so _ _ (by omega)]
            exact c3
        · rw [np 1 (by decide), Int.toNat_natCast, g2.2.2.1 i hi16] at hb4
          cases hb4
      · rw [zp K (by omega), Int.toNat_natCast, (w8 i hi16).2] at hb2
        cases hb2
  have f0 : zfree M t := hfr 0 (by decide)
  have z0 : ∀ {x : Nat} {r : Nat × Nat} {S2 L2 : Nat → Nat → Int} {P2 : Nat → Nat → Option Nat}, (x < t ∨ t + 25 < x) → zsh M x = r → zsh ((M.1.1, zrw M.1.2 t (1, 1)), S2, L2, P2) x = r := by
    intro x r S2 L2 P2 hx hr
    exact zsh_to hr (zrw_n _ _ (by omega))
  refine zwX2_copy_0 ⟨t, f0, by decide, 100, z0 (by omega) w1, ?_, by decide, ⟨?_, fun k => zfx_of f0.1 k⟩, fun i h1 h2 _ _ => (hfr i h2).al (by omega), fun S3 L3 P3 f3 q1 q2 q3 q4 q5 => ?_⟩
  · rw [zpt_to (show zrw M.2.2.2 t (fun _ => none) h_ = _ from zrw_n _ _ (by omega))]
    exact w6
  · rw [zsh_al f0.1, if_pos rfl]
  · have K : ∀ j, (j < t ∨ t + 25 < j) → f3 j = M.1.2 j ∧ S3 j = M.2.1 j ∧ L3 j = M.2.2.1 j ∧ P3 j = M.2.2.2 j := fun j hj => by
      have := q1 j (by omega)
      rw [zrw_n _ _ (by omega), zrw_n _ _ (by omega), zrw_n _ _ (by omega), zrw_n _ _ (by omega)] at this
      exact this
    have g1 : f3 t = (1, 1) := by
      rw [q2, zrw_s]
    have za : ∀ (S2 : Nat → Nat → Int), zsh ((M.1.1, f3), S2, L3, P3) h_ = (1, 1) := fun S2 => zh K (by omega) w1
    have zb : ∀ (S2 : Nat → Nat → Int), zsh ((M.1.1, f3), S2, L3, P3) t = (1, 1) := fun S2 => (nh 0 (by decide)).trans g1
    have rd : ∀ (T : Nat → Nat → Int) (k m : Nat) (v : Int), mm_up T t k v h_ m = T h_ m := fun T k m v => by rw [up_eq, if_neg (by omega)]
    refine ⟨za _, zb _, za _, zb _, za _, zb _, za _, zb _, za _, zb _, za _, zb _, ?_⟩
    simp only [rd]
    have hs : S3 h_ = M.2.1 h_ := (K h_ (by omega)).2.1
    rw [hs]
    have so : ∀ (a0 a1 a2 a3 a4 a5 : Int) (j : Nat), j ≠ t → mm_up (mm_up (mm_up (mm_up (mm_up (mm_up S3 t 0 a0) t 1 a1) t 2 a2) t 3 a3) t 4 a4) t 5 a5 j = S3 j := fun a0 a1 a2 a3 a4 a5 j hj => by
      funext k
      rw [up_eq, if_neg (fun c => hj c.1), up_eq, if_neg (fun c => hj c.1), up_eq, if_neg (fun c => hj c.1), up_eq, if_neg (fun c => hj c.1), up_eq, if_neg (fun c => hj c.1), up_eq, if_neg (fun c => hj c.1)]
    have fr8 : ∀ i, i = 8 ∨ i = 9 → (f3 (t + i)).1 = 0 := fun i hi => by
      rw [(q1 (t + i) (by omega)).1, zrw_n _ _ (by omega)]
      exact (hfr i (by omega)).2
    refine t62 16 0 f3 _ L3 P3 rfl (fun j hj => ?_) ⟨fr8 8 (by decide), fr8 9 (by decide)⟩ g1 q4 (fun k hk => ?_) (fun r k hr => absurd hr (Nat.not_lt_zero _)) ?_ q5.2.1.2
    · rw [so _ _ _ _ _ _ j (by omega)]
      exact K j hj
    · have : k = 0 ∨ k = 1 ∨ k = 2 ∨ k = 3 ∨ k = 4 ∨ k = 5 := by omega
      rcases this with c | c | c | c | c | c <;> subst c <;> simp only [up_eq] <;> simp
    · rw [so _ _ _ _ _ _ _ (by omega)]
      exact q5.2.1.1
