/-! ===== the component's draft: whole? ===== -/
set_option maxRecDepth 100000
/-- a draft at handle d: the shapes of what a text of the court tells -/
def drS (M : zz_M) (d : Nat) : Prop := zsh M d = (1, 1) ∧ zpt M d 6 = some (d + 1) ∧ zsh M (d + 1) = (6, 16) ∧ ∀ i, i < 16 → zsh M (d + 10 + i) = (2, 12) ∧ zpt M (d + 1) i = some (d + 10 + i)
/-- what it says, as the model's row -/
def drW (S : Nat → Nat → Int) (d : Nat) (w : Nat → Int) : Prop := (∀ i k, i < 16 → k < 12 → S (d + 10 + i) k = w (12 * i + k)) ∧ S d 1 = w 194 ∧ S d 2 = w 195 ∧ S d 3 = w 196
def zX2_isWhole : zz_Sp := fun as M Q X => match as with
  | [.inr (.inr (some h_))] => ∃ w_ : Nat → Int, drS M h_ ∧ drW M.2.1 h_ w_ ∧ cG w_ ∧ (whB w_ 16 = true → Q (some (vi 1)) M) ∧ (whB w_ 16 = false → Q (some (vi 0)) M)
  | _ => False

def zpX2_isWhole : zz_P := [(0, zo_ald 1 0), (1, zo_getr 4 1 6), (4, zo_ast 5 1), (5, zo_ald 6 1), (6, zo_alenp 7), (7, zo_ist 8 2), (8, zo_c 9 (vi 0)), (9, zo_ist 10 3), (10, zo_ild 11 3), (11, zo_ild 12 2), (12, zo_cge false false 15 77), (15, zo_ald 16 1), (16, zo_ild 17 3), (17, zo_aald 18), (18, zo_ast 20 4), (20, zo_c 21 (vi 0)), (21, zo_ist 23 5), (23, zo_ald 25 4), (25, zo_ast 27 6), (27, zo_ald 29 6), (29, zo_alenp 30), (30, zo_ist 32 7), (32, zo_c 33 (vi 0)), (33, zo_ist 35 8), (35, zo_ild 37 8), (37, zo_ild 39 7), (39, zo_cge false false 42 62), (42, zo_ald 44 6), (44, zo_ild 46 8), (46, zo_ialp 47), (47, zo_ist 49 9), (49, zo_ild 51 5), (51, zo_ild 53 9), (53, zo_iadd 54), (54, zo_ist 56 5), (56, zo_inc 59 8 1), (59, zo_goto 35), (62, zo_ild 64 5), (64, zo_c 66 (vi 100)), (66, zo_ceq false true 69 71), (69, zo_c 70 (vi 0)), (70, zo_zret true), (71, zo_inc 74 3 1), (74, zo_goto 10), (77, zo_c 78 (vi 1)), (78, zo_zret true)]
theorem ztX2_isWhole {C : mm_C} (G : mm_G C RX2 cX2_isWhole (some .boolean) 10 (mm_rm 1 0 0)) (hnh : mm_nh C) : zz_OKs C zpX2_isWhole :=
  ⟨zz_of (ok_aload_n G dX2_isWhole_0 rfl rfl) (z_ald _ _),
   zz_of (ok_get G (nx := 4) (ci := 1) (kd := 2) (k := 6) (RX2, TX2, 11) rfl (by decide) rfl q231 dX2_isWhole_1 rfl) (z_getr _ _ _),
   zz_of (ok_astore_n G dX2_isWhole_4 rfl rfl (by decide)) (z_ast _ _),
   zz_of (ok_aload_n G dX2_isWhole_5 rfl rfl) (z_ald _ _),
   zz_of (ok_alen G dX2_isWhole_6 rfl) (z_alenp _),
   zz_of (ok_istore_n G dX2_isWhole_7 rfl rfl (by decide)) (z_ist _ _),
   zz_of (ok_iconst G (v := 0) dX2_isWhole_8 (by decide) rfl) (z_cn 9 0),
   zz_of (ok_istore_n G dX2_isWhole_9 rfl rfl (by decide)) (z_ist _ _),
   zz_of (ok_iload_n G dX2_isWhole_10 rfl rfl) (z_ild _ _),
   zz_of (ok_iload_n G dX2_isWhole_11 rfl rfl) (z_ild _ _),
   zz_of (ok_cge G dX2_isWhole_12 rfl rfl) (z_cge _ _ _ _),
   zz_of (ok_aload_n G dX2_isWhole_15 rfl rfl) (z_ald _ _),
   zz_of (ok_iload_n G dX2_isWhole_16 rfl rfl) (z_ild _ _),
   zz_of (ok_aald G dX2_isWhole_17 rfl) (z_aald _),
   zz_of (ok_astore G dX2_isWhole_18 rfl (by decide)) (z_ast _ _),
   zz_of (ok_iconst G (v := 0) dX2_isWhole_20 (by decide) rfl) (z_cn 21 0),
   zz_of (ok_istore G dX2_isWhole_21 rfl (by decide)) (z_ist _ _),
   zz_of (ok_aload G dX2_isWhole_23 rfl) (z_ald _ _),
   zz_of (ok_astore G dX2_isWhole_25 rfl (by decide)) (z_ast _ _),
   zz_of (ok_aload G dX2_isWhole_27 rfl) (z_ald _ _),
   zz_of (ok_alen G dX2_isWhole_29 rfl) (z_alenp _),
   zz_of (ok_istore G dX2_isWhole_30 rfl (by decide)) (z_ist _ _),
   zz_of (ok_iconst G (v := 0) dX2_isWhole_32 (by decide) rfl) (z_cn 33 0),
   zz_of (ok_istore G dX2_isWhole_33 rfl (by decide)) (z_ist _ _),
   zz_of (ok_iload G dX2_isWhole_35 rfl) (z_ild _ _),
   zz_of (ok_iload G dX2_isWhole_37 rfl) (z_ild _ _),
   zz_of (ok_cge G dX2_isWhole_39 rfl rfl) (z_cge _ _ _ _),
   zz_of (ok_aload G dX2_isWhole_42 rfl) (z_ald _ _),
   zz_of (ok_iload G dX2_isWhole_44 rfl) (z_ild _ _),
   zz_of (ok_iald G dX2_isWhole_46 rfl) (z_ialp _),
   zz_of (ok_istore G dX2_isWhole_47 rfl (by decide)) (z_ist _ _),
   zz_of (ok_iload G dX2_isWhole_49 rfl) (z_ild _ _),
   zz_of (ok_iload G dX2_isWhole_51 rfl) (z_ild _ _),
   zz_of (ok_iadd G dX2_isWhole_53 rfl) (z_iadd _),
   zz_of (ok_istore G dX2_isWhole_54 rfl (by decide)) (z_ist _ _),
   zz_of (ok_iinc G (v := 1) dX2_isWhole_56 (by decide) rfl (by decide)) (z_incn 59 8 1),
   zz_of (ok_goto G dX2_isWhole_59 rfl) (z_goto _),
   zz_of (ok_iload G dX2_isWhole_62 rfl) (z_ild _ _),
   zz_of (ok_bipush G (v := 100) dX2_isWhole_64 (by decide) rfl) (z_cn 66 100),
   zz_of (ok_ceq G dX2_isWhole_66 rfl rfl) (z_ceq _ _ _ _),
   zz_of (ok_iconst G (v := 0) dX2_isWhole_69 (by decide) rfl) (z_cn 70 0),
   zz_of (ok_zret G dX2_isWhole_70) (z_zret _),
   zz_of (ok_iinc G (v := 1) dX2_isWhole_71 (by decide) rfl (by decide)) (z_incn 74 3 1),
   zz_of (ok_goto G dX2_isWhole_74 rfl) (z_goto _),
   zz_of (ok_iconst G (v := 1) dX2_isWhole_77 (by decide) rfl) (z_cn 78 1),
   zz_of (ok_zret G dX2_isWhole_78) (z_zret _), trivial⟩

theorem zwX2_isWhole_0 {Q : Option zv → zz_M → Prop} {X : Nat → zz_M → Prop} {M : zz_M} {h_ : Nat} (h : ∃ b1 : Nat, zsh M h_ = (1, 1) ∧ zpt M h_ 6 = some b1 ∧ (∃ (t_ n2 : Nat), zsh M b1 = (t_, n2) ∧ (2 ≤ t_ % 16 ∧ t_ % 16 ≤ 8 ∧ t_ ≤ 31) ∧ (zz_J zpX2_isWhole (zz_ret Q X 0 0) 10 [none, some (vr b1), some (vi (n2 : Int)), some (vi 0), none, none, none, none, none, none] [] M (0, 0)))) : zz_J zpX2_isWhole (zz_ret Q X 0 0) 0 [some (vr h_), none, none, none, none, none, none, none, none, none] [] M (0, 0) := zz_J.go [(10, [0, 4, 5, 6, 7, 8, 9]), (35, [0, 4, 9])] 400 h
theorem zwX2_isWhole_10 {Q : Option zv → zz_M → Prop} {X : Nat → zz_M → Prop} {M : zz_M} {h1 : Nat} {x2 : Int} {x3 : Int} (h : R32 x3 ∧ (R32 x2 ∧ ((x2 ≤ x3 → Q (some (vi 1)) M) ∧ (¬ x2 ≤ x3 → ∃ t_ n_ : Nat, zsh M h1 = (t_, n_) ∧ (t_ = 6 ∨ t_ = 7 ∨ t_ = 8) ∧ (n_ : Int) ≤ 2147483647 ∧ (0 ≤ x3 ∧ x3 < (n_ : Int)) ∧ (∀ b1 : Nat, zpt M h1 x3.toNat = some b1 → ∃ (t_ n2 : Nat), zsh M b1 = (t_, n2) ∧ (2 ≤ t_ % 16 ∧ t_ % 16 ≤ 8 ∧ t_ ≤ 31) ∧ (zz_J zpX2_isWhole (zz_ret Q X 0 0) 35 [none, some (vr h1), some (vi x2), some (vi x3), none, some (vi 0), some (vr b1), some (vi (n2 : Int)), some (vi 0), none] [] M (0, 0))) ∧ (zpt M h1 x3.toNat = none → False))))) : zz_J zpX2_isWhole (zz_ret Q X 0 0) 10 [none, some (vr h1), some (vi x2), some (vi x3), none, none, none, none, none, none] [] M (0, 0) := zz_J.go [(10, [0, 4, 5, 6, 7, 8, 9]), (35, [0, 4, 9])] 400 h
theorem zwX2_isWhole_35 {Q : Option zv → zz_M → Prop} {X : Nat → zz_M → Prop} {M : zz_M} {h1 : Nat} {x2 : Int} {x3 : Int} {x5 : Int} {h6 : Nat} {x7 : Int} {x8 : Int} (h : R32 x8 ∧ (R32 x7 ∧ ((x7 ≤ x8 → R32 x5 ∧ ((x5 = 100 → zz_J zpX2_isWhole (zz_ret Q X 0 0) 10 [none, some (vr h1), some (vi x2), some (vi (x3 + 1)), none, none, none, none, none, none] [] M (0, 0)) ∧ (¬ x5 = 100 → Q (some (vi 0)) M))) ∧ (¬ x7 ≤ x8 → ∃ n_ : Nat, zsh M h6 = (2, n_) ∧ (n_ : Int) ≤ 2147483647 ∧ (0 ≤ x8 ∧ x8 < (n_ : Int)) ∧ (zz_J zpX2_isWhole (zz_ret Q X 0 0) 35 [none, some (vr h1), some (vi x2), some (vi x3), none, some (vi (x5 + (M.2.1 h6 x8.toNat))), some (vr h6), some (vi x7), some (vi (x8 + 1)), none] [] M (0, 0)))))) : zz_J zpX2_isWhole (zz_ret Q X 0 0) 35 [none, some (vr h1), some (vi x2), some (vi x3), none, some (vi x5), some (vr h6), some (vi x7), some (vi x8), none] [] M (0, 0) := zz_J.go [(10, [0, 4, 5, 6, 7, 8, 9]), (35, [0, 4, 9])] 400 h

theorem zmX2_isWhole (l : Launch) (hl : l.stackTraces = false) : mm_Spec l yX2_isWhole (ws_ yX2_isWhole cX2_isWhole 10 (some .boolean)) (mm_rm 1 0 0) (zE zX2_isWhole) := by
  refine zz_Met.J hl (by decide) (fun C G hnh => ztX2_isWhole G hnh) ?_
  rintro as M Q X h
  unfold zX2_isWhole at h
  split at h
  rotate_left
  · exact h.elim
  rename_i h_
  refine ⟨rfl, ?_⟩
  obtain ⟨w, ⟨s1, s2, s3, s4⟩, ⟨c1, -⟩, hg, q1, q0⟩ := h
  have t10 : ∀ (d i : Nat), i + d = 16 → whB w i = true → zz_J zpX2_isWhole (zz_ret Q X 0 0) 10 [none, some (vr (h_ + 1)), some (vi ((16 : Nat) : Int)), some (vi (i : Int)), none, none, none, none, none, none] [] M (0, 0) := by
    intro d
    induction d with
    | zero =>
      intro i hi hw
      have e : i = 16 := by omega
      subst e
      exact zwX2_isWhole_10 ⟨by decide, by decide, fun _ => q1 hw, fun c => absurd (by decide) c⟩
    | succ d ih =>
      intro i hi hw
      have t35 : ∀ (m k : Nat), k + m = 12 → zz_J zpX2_isWhole (zz_ret Q X 0 0) 35 [none, some (vr (h_ + 1)), some (vi ((16 : Nat) : Int)), some (vi (i : Int)), none, some (vi (smR w (12 * i) k)), some (vr (h_ + 10 + i)), some (vi ((12 : Nat) : Int)), some (vi (k : Int)), none] [] M (0, 0) := by
        intro m
        induction m with
        | zero =>
          intro k hk
          have e : k = 12 := by omega
          subst e
          have hs := smR_in hg 12 (12 * i) (by omega)
          refine zwX2_isWhole_35 ⟨by decide, by decide, fun _ => ⟨by omega, fun e => ?_, fun e => q0 ?_⟩, fun c => absurd (by decide) c⟩
          · rw [show (i : Int) + 1 = ((i + 1 : Nat) : Int) by omega]
            exact ih (i + 1) (by omega) (by rw [whB_s, hw, e]; rfl)
          · cases hc : whB w 16 with
            | false => rfl
            | true => exact absurd (whB_t.mp hc i (by omega)) e
        | succ m ih2 =>
          intro k hk
          refine zwX2_isWhole_35 ⟨by omega, by decide, fun c => absurd c (by omega), fun _ => ⟨12, (s4 i (by omega)).1, by decide, by omega, ?_⟩⟩
          rw [Int.toNat_natCast, c1 i k (by omega) (by omega), show (k : Int) + 1 = ((k + 1 : Nat) : Int) by omega]
          exact ih2 (k + 1) (by omega)
      refine zwX2_isWhole_10 ⟨by omega, by decide, fun c => absurd c (by omega), fun _ => ⟨6, 16, s3, Or.inl rfl, by decide, by omega, fun b hb => ?_, fun hb => ?_⟩⟩
      · rw [Int.toNat_natCast, (s4 i (by omega)).2] at hb
        cases hb
        exact ⟨2, 12, (s4 i (by omega)).1, by decide, t35 12 0 rfl⟩
      · rw [Int.toNat_natCast, (s4 i (by omega)).2] at hb
        cases hb
  exact zwX2_isWhole_0 ⟨h_ + 1, s1, s2, 6, 16, s3, by decide, t10 16 0 rfl rfl⟩
