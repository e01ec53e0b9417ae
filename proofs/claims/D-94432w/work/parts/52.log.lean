/-! ===== the model's logs ===== -/
set_option maxRecDepth 100000
/-- a rally that is told -/
def lgO (t : Nat → Int) (k : Nat) : Bool := (decide (t (2 * k) = 100) && (decide (48 ≤ t (2 * k + 1)) && decide (t (2 * k + 1) ≤ 57))) || ((decide (t (2 * k) = 119) || decide (t (2 * k) = 108)) && decide (t (2 * k + 1) = 48))
def lgA (t : Nat → Int) (m : Nat) : Bool := (List.range m).all (fun k => lgO t k)
theorem lgA_s (t : Nat → Int) (m : Nat) : lgA t (m + 1) = (lgA t m && lgO t m) := by
  unfold lgA
  rw [List.range_succ, List.all_append]
  simp
theorem lgA_t {t : Nat → Int} {m : Nat} : lgA t m = true ↔ ∀ k, k < m → lgO t k = true := by
  unfold lgA
  simp only [List.all_eq_true, List.mem_range]
/-- whether n bytes are a log -/
def lgB (t : Nat → Int) (n : Nat) : Bool := (decide (n % 2 = 0) && decide (n ≤ 60)) && lgA t (n / 2)
def hwO (t : Nat → Int) (k : Nat) : Int := if t (2 * k) = 119 then 0 else if t (2 * k) = 108 then 1 else 2 + t (2 * k + 1) - 48
theorem hwO_in {t : Nat → Int} {k : Nat} (h : lgO t k = true) : 0 ≤ hwO t k ∧ hwO t k ≤ 11 := by
  unfold lgO at h
  simp only [Bool.or_eq_true, Bool.and_eq_true, decide_eq_true_eq] at h
  unfold hwO
  split
  · omega
  · split <;> omega
/-- the bytes of the tape are bytes -/
def tpG (t : Nat → Int) : Prop := ∀ k, k < 400 → 0 ≤ t k ∧ t k ≤ 255
def zX9_isLog : zz_Sp := fun as M Q X => match as with
  | [.inr (.inr (some h_)), .inl n] => bif Nat.beq h_ 0 && Nat.beq M.1.1 1 then (∃ m_ : Nat, n = m_ ∧ m_ ≤ 400 ∧ tpG (M.2.1 4) ∧ (lgB (M.2.1 4) m_ = true → Q (some (vi 1)) (zm M.2.1 M.2.2.1)) ∧ (lgB (M.2.1 4) m_ = false → Q (some (vi 0)) (zm M.2.1 M.2.2.1))) else False
  | _ => False

def zpX9_isLog : zz_P := [(0, zo_ild 1 1), (1, zo_c 2 (vi 2)), (2, zo_irem 3), (3, zo_c 4 (vi 1)), (4, zo_ceq false true 7 13), (7, zo_ild 8 1), (8, zo_c 10 (vi 60)), (10, zo_cle false true 13 15), (13, zo_c 14 (vi 0)), (14, zo_zret true), (15, zo_c 16 (vi 0)), (16, zo_ist 17 2), (17, zo_ild 18 2), (18, zo_ild 19 1), (19, zo_cge false false 22 102), (22, zo_ald 23 0), (23, zo_get 26 8 2 5), (26, zo_ild 27 2), (27, zo_iald 28), (28, zo_c 30 (vi 100)), (30, zo_cne false true 33 37), (33, zo_c 34 (vi 1)), (34, zo_goto 38), (37, zo_c 38 (vi 0)), (38, zo_ist 39 3), (39, zo_ild 40 3), (40, zo_zifne 43 67), (43, zo_ald 44 0), (44, zo_get 47 8 2 5), (47, zo_ild 48 2), (48, zo_iald 49), (49, zo_c 51 (vi 119)), (51, zo_ceq false true 54 67), (54, zo_ald 55 0), (55, zo_get 58 8 2 5), (58, zo_ild 59 2), (59, zo_iald 60), (60, zo_c 62 (vi 108)), (62, zo_ceq false true 65 67), (65, zo_c 66 (vi 0)), (66, zo_zret true), (67, zo_ald 68 0), (68, zo_get 71 8 2 5), (71, zo_ild 72 2), (72, zo_c 73 (vi 1)), (73, zo_iadd 74), (74, zo_iald 75), (75, zo_c 77 (vi 48)), (77, zo_ild 78 3), (78, zo_zifeq 81 86), (81, zo_c 83 (vi 57)), (83, zo_goto 88), (86, zo_c 88 (vi 48)), (88, zo_calls 91 3 zX9_isIn), (91, zo_zifne 94 96), (94, zo_c 95 (vi 0)), (95, zo_zret true), (96, zo_inc 99 2 2), (99, zo_goto 17), (102, zo_c 103 (vi 1)), (103, zo_zret true)]
theorem ztX9_isLog {C : mm_C} (G : mm_G C RX9 cX9_isLog (some .boolean) 4 (mm_rm 2 0 0)) (hnh : mm_nh C) : zz_OKs C zpX9_isLog :=
  ⟨zz_of (ok_iload_n G dX9_isLog_0 rfl rfl) (z_ild _ _),
   zz_of (ok_iconst G (v := 2) dX9_isLog_1 (by decide) rfl) (z_cn 2 2),
   zz_of (ok_irem G dX9_isLog_2 rfl) (z_irem _),
   zz_of (ok_iconst G (v := 1) dX9_isLog_3 (by decide) rfl) (z_cn 4 1),
   zz_of (ok_ceq G dX9_isLog_4 rfl rfl) (z_ceq _ _ _ _),
   zz_of (ok_iload_n G dX9_isLog_7 rfl rfl) (z_ild _ _),
   zz_of (ok_bipush G (v := 60) dX9_isLog_8 (by decide) rfl) (z_cn 10 60),
   zz_of (ok_cle G dX9_isLog_10 rfl rfl) (z_cle _ _ _ _),
   zz_of (ok_iconst G (v := 0) dX9_isLog_13 (by decide) rfl) (z_cn 14 0),
   zz_of (ok_zret G dX9_isLog_14) (z_zret _),
   zz_of (ok_iconst G (v := 0) dX9_isLog_15 (by decide) rfl) (z_cn 16 0),
   zz_of (ok_istore_n G dX9_isLog_16 rfl rfl (by decide)) (z_ist _ _),
   zz_of (ok_iload_n G dX9_isLog_17 rfl rfl) (z_ild _ _),
   zz_of (ok_iload_n G dX9_isLog_18 rfl rfl) (z_ild _ _),
   zz_of (ok_cge G dX9_isLog_19 rfl rfl) (z_cge _ _ _ _),
   zz_of (ok_aload_n G dX9_isLog_22 rfl rfl) (z_ald _ _),
   zz_of (ok_get G (nx := 26) (ci := 8) (kd := 2) (k := 5) (RX9, TX9, 32) rfl (by decide) rfl q1810 dX9_isLog_23 rfl) (z_get _ _ _ _),
   zz_of (ok_iload_n G dX9_isLog_26 rfl rfl) (z_ild _ _),
   zz_of (ok_iald G dX9_isLog_27 rfl) (z_iald _),
   zz_of (ok_bipush G (v := 100) dX9_isLog_28 (by decide) rfl) (z_cn 30 100),
   zz_of (ok_cne G dX9_isLog_30 rfl rfl) (z_cne _ _ _ _),
   zz_of (ok_iconst G (v := 1) dX9_isLog_33 (by decide) rfl) (z_cn 34 1),
   zz_of (ok_goto G dX9_isLog_34 rfl) (z_goto _),
   zz_of (ok_iconst G (v := 0) dX9_isLog_37 (by decide) rfl) (z_cn 38 0),
   zz_of (ok_istore_n G dX9_isLog_38 rfl rfl (by decide)) (z_ist _ _),
   zz_of (ok_iload_n G dX9_isLog_39 rfl rfl) (z_ild _ _),
   zz_of (ok_ifne G dX9_isLog_40 rfl rfl) (z_zifne _ _),
   zz_of (ok_aload_n G dX9_isLog_43 rfl rfl) (z_ald _ _),
   zz_of (ok_get G (nx := 47) (ci := 8) (kd := 2) (k := 5) (RX9, TX9, 32) rfl (by decide) rfl q1810 dX9_isLog_44 rfl) (z_get _ _ _ _),
   zz_of (ok_iload_n G dX9_isLog_47 rfl rfl) (z_ild _ _),
   zz_of (ok_iald G dX9_isLog_48 rfl) (z_iald _),
   zz_of (ok_bipush G (v := 119) dX9_isLog_49 (by decide) rfl) (z_cn 51 119),
   zz_of (ok_ceq G dX9_isLog_51 rfl rfl) (z_ceq _ _ _ _),
   zz_of (ok_aload_n G dX9_isLog_54 rfl rfl) (z_ald _ _),
   zz_of (ok_get G (nx := 58) (ci := 8) (kd := 2) (k := 5) (RX9, TX9, 32) rfl (by decide) rfl q1810 dX9_isLog_55 rfl) (z_get _ _ _ _),
   zz_of (ok_iload_n G dX9_isLog_58 rfl rfl) (z_ild _ _),
   zz_of (ok_iald G dX9_isLog_59 rfl) (z_iald _),
   zz_of (ok_bipush G (v := 108) dX9_isLog_60 (by decide) rfl) (z_cn 62 108),
   zz_of (ok_ceq G dX9_isLog_62 rfl rfl) (z_ceq _ _ _ _),
   zz_of (ok_iconst G (v := 0) dX9_isLog_65 (by decide) rfl) (z_cn 66 0),
   zz_of (ok_zret G dX9_isLog_66) (z_zret _),
   zz_of (ok_aload_n G dX9_isLog_67 rfl rfl) (z_ald _ _),
   zz_of (ok_get G (nx := 71) (ci := 8) (kd := 2) (k := 5) (RX9, TX9, 32) rfl (by decide) rfl q1810 dX9_isLog_68 rfl) (z_get _ _ _ _),
   zz_of (ok_iload_n G dX9_isLog_71 rfl rfl) (z_ild _ _),
   zz_of (ok_iconst G (v := 1) dX9_isLog_72 (by decide) rfl) (z_cn 73 1),
   zz_of (ok_iadd G dX9_isLog_73 rfl) (z_iadd _),
   zz_of (ok_iald G dX9_isLog_74 rfl) (z_iald _),
   zz_of (ok_bipush G (v := 48) dX9_isLog_75 (by decide) rfl) (z_cn 77 48),
   zz_of (ok_iload_n G dX9_isLog_77 rfl rfl) (z_ild _ _),
   zz_of (ok_ifeq G dX9_isLog_78 rfl rfl) (z_zifeq _ _),
   zz_of (ok_bipush G (v := 57) dX9_isLog_81 (by decide) rfl) (z_cn 83 57),
   zz_of (ok_goto G dX9_isLog_83 rfl) (z_goto _),
   zz_of (ok_bipush G (v := 48) dX9_isLog_86 (by decide) rfl) (z_cn 88 48),
   zz_of (ok_calls G hnh (zmX9_isIn _ G.hst) rfl rfl q1914 q1915 q93 q1916 (by decide +kernel) ⟨by decide, by decide⟩ dX9_isLog_88 rfl) (z_calls _ _ _),
   zz_of (ok_ifne G dX9_isLog_91 rfl rfl) (z_zifne _ _),
   zz_of (ok_iconst G (v := 0) dX9_isLog_94 (by decide) rfl) (z_cn 95 0),
   zz_of (ok_zret G dX9_isLog_95) (z_zret _),
   zz_of (ok_iinc G (v := 2) dX9_isLog_96 (by decide) rfl (by decide)) (z_incn 99 2 2),
   zz_of (ok_goto G dX9_isLog_99 rfl) (z_goto _),
   zz_of (ok_iconst G (v := 1) dX9_isLog_102 (by decide) rfl) (z_cn 103 1),
   zz_of (ok_zret G dX9_isLog_103) (z_zret _), trivial⟩

theorem zwX9_isLog_0 {Q : Option zv → zz_M → Prop} {X : Nat → zz_M → Prop} {S L : Nat → Nat → Int} {n : Int} (h : (0 ≤ n ∧ n < 2147483648) ∧ (R32 (n % 2) ∧ (((n % 2) = 1 → Q (some (vi 0)) (zm S L)) ∧ (¬ (n % 2) = 1 → R32 n ∧ ((n ≤ 60 → zz_J zpX9_isLog (zz_ret Q X 0 0) 17 [some (vr 0), some (vi n), some (vi 0), none] [] (zm S L) (0, 0)) ∧ (¬ n ≤ 60 → Q (some (vi 0)) (zm S L))))))) : zz_J zpX9_isLog (zz_ret Q X 0 0) 0 [some (vr 0), some (vi n), none, none] [] (zm S L) (0, 0) := zz_J.go [(17, [3])] 400 h
theorem zwX9_isLog_17 {Q : Option zv → zz_M → Prop} {X : Nat → zz_M → Prop} {S L : Nat → Nat → Int} {x1 : Int} {x2 : Int} (h : R32 x2 ∧ (R32 x1 ∧ ((x1 ≤ x2 → Q (some (vi 1)) (zm S L)) ∧ (¬ x1 ≤ x2 → (0 ≤ x2 ∧ x2 < 400) ∧ (R32 (S 4 x2.toNat) ∧ ((¬ (S 4 x2.toNat) = 100 → (0 ≤ x2 ∧ x2 < 400) ∧ (R32 (S 4 x2.toNat) ∧ (((S 4 x2.toNat) = 119 → (0 ≤ (x2 + 1) ∧ (x2 + 1) < 400) ∧ ((R32 (S 4 ((x2 + 1).toNat)) ∧ R32 (48 : Int) ∧ R32 (48 : Int) ∧ (((48 : Int) ≤ (S 4 ((x2 + 1).toNat)) ∧ (S 4 ((x2 + 1).toNat)) ≤ (48 : Int)) → (zz_J zpX9_isLog (zz_ret Q X 0 0) 17 [some (vr 0), some (vi x1), some (vi (x2 + 2)), none] [] (zm S L) (0, 0))) ∧ (¬ ((48 : Int) ≤ (S 4 ((x2 + 1).toNat)) ∧ (S 4 ((x2 + 1).toNat)) ≤ (48 : Int)) → (Q (some (vi 0)) (zm S L)))))) ∧ (¬ (S 4 x2.toNat) = 119 → (0 ≤ x2 ∧ x2 < 400) ∧ (R32 (S 4 x2.toNat) ∧ (((S 4 x2.toNat) = 108 → (0 ≤ (x2 + 1) ∧ (x2 + 1) < 400) ∧ ((R32 (S 4 ((x2 + 1).toNat)) ∧ R32 (48 : Int) ∧ R32 (48 : Int) ∧ (((48 : Int) ≤ (S 4 ((x2 + 1).toNat)) ∧ (S 4 ((x2 + 1).toNat)) ≤ (48 : Int)) → (zz_J zpX9_isLog (zz_ret Q X 0 0) 17 [some (vr 0), some (vi x1), some (vi (x2 + 2)), none] [] (zm S L) (0, 0))) ∧ (¬ ((48 : Int) ≤ (S 4 ((x2 + 1).toNat)) ∧ (S 4 ((x2 + 1).toNat)) ≤ (48 : Int)) → (Q (some (vi 0)) (zm S L)))))) ∧ (¬ (S 4 x2.toNat) = 108 → Q (some (vi 0)) (zm S L)))))))) ∧ ((S 4 x2.toNat) = 100 → (0 ≤ (x2 + 1) ∧ (x2 + 1) < 400) ∧ ((R32 (S 4 ((x2 + 1).toNat)) ∧ R32 (48 : Int) ∧ R32 (57 : Int) ∧ (((48 : Int) ≤ (S 4 ((x2 + 1).toNat)) ∧ (S 4 ((x2 + 1).toNat)) ≤ (57 : Int)) → (zz_J zpX9_isLog (zz_ret Q X 0 0) 17 [some (vr 0), some (vi x1), some (vi (x2 + 2)), none] [] (zm S L) (0, 0))) ∧ (¬ ((48 : Int) ≤ (S 4 ((x2 + 1).toNat)) ∧ (S 4 ((x2 + 1).toNat)) ≤ (57 : Int)) → (Q (some (vi 0)) (zm S L)))))))))))) : zz_J zpX9_isLog (zz_ret Q X 0 0) 17 [some (vr 0), some (vi x1), some (vi x2), none] [] (zm S L) (0, 0) := zz_J.go [(17, [3])] 400 h

theorem lgO_f {t : Nat → Int} {k : Nat} {m : Nat} (hk : k < m) (h : lgO t k = false) : lgA t m = false := by
  rw [← Bool.not_eq_true, lgA_t]
  intro q
  rw [q k hk] at h
  cases h
theorem lgO_eq (t : Nat → Int) (k : Nat) : lgO t k = true ↔ (t (2 * k) = 100 ∧ 48 ≤ t (2 * k + 1) ∧ t (2 * k + 1) ≤ 57) ∨ ((t (2 * k) = 119 ∨ t (2 * k) = 108) ∧ t (2 * k + 1) = 48) := by
  unfold lgO
  simp only [Bool.or_eq_true, Bool.and_eq_true, decide_eq_true_eq]
theorem zmX9_isLog (l : Launch) (hl : l.stackTraces = false) : mm_Spec l yX9_isLog (ws_ yX9_isLog cX9_isLog 4 (some .boolean)) (mm_rm 2 0 0) (zE zX9_isLog) := by
  refine zz_Met.J hl (by decide) (fun C G hnh => ztX9_isLog G hnh) ?_
  rintro as ⟨⟨t_, f⟩, S, L, P⟩ Q X h
  unfold zX9_isLog at h
  split at h
  rotate_left
  · exact h.elim
  rename_i h_ n
  obtain ⟨e1_, e2_, h⟩ := mm_and2 h (fun q => q)
  cases mm_beq e1_
  cases mm_beq e2_
  try dsimp only at h
  refine ⟨rfl, ?_⟩
  refine zz_Jev (M' := zm S L) rfl rfl rfl ?_
  obtain ⟨m, rfl, hm, htp, hq1, hq0⟩ := h
  have hB : ∀ b, lgB (S 4) m = b → Q (some (vi (bif b then 1 else 0))) (zm S L) := by
    intro b hb
    cases b with
    | true => exact hq1 hb
    | false => exact hq0 hb
  refine zwX9_isLog_0 ⟨by omega, by omega, fun c => hB false ?_, fun c => ⟨by omega, fun c2 => ?_, fun c2 => hB false ?_⟩⟩
  · unfold lgB
    rw [decide_eq_false (show ¬ m % 2 = 0 by omega)]
    rfl
  · have e : lgB (S 4) m = lgA (S 4) (m / 2) := by
      unfold lgB
      rw [decide_eq_true (show m % 2 = 0 by omega), decide_eq_true (show m ≤ 60 by omega)]
      rfl
    rw [e] at hB
    have lp : ∀ (r k : Nat), k + r = m / 2 → lgA (S 4) k = true → zz_J zpX9_isLog (zz_ret Q X 0 0) 17 [some (vr 0), some (vi m), some (vi (2 * k : Nat)), none] [] (zm S L) (0, 0) := by
      intro r
      induction r with
      | zero =>
        intro k hk ha
        have ek : k = m / 2 := by omega
        refine zwX9_isLog_17 ⟨by omega, by omega, fun _ => hB true (by rw [← ek]; exact ha), fun c => by omega⟩
      | succ r ih =>
        intro k hk ha
        have t1 := htp (2 * k) (by omega)
        have t2 := htp (2 * k + 1) (by omega)
        have hO := lgO_eq (S 4) k
        have e1 : (((2 * k : Nat) : Int)).toNat = 2 * k := by omega
        have e2 : (((2 * k : Nat) : Int) + 1).toNat = 2 * k + 1 := by omega
        have yes : ((S 4 (2 * k) = 100 ∧ 48 ≤ S 4 (2 * k + 1) ∧ S 4 (2 * k + 1) ≤ 57) ∨ ((S 4 (2 * k) = 119 ∨ S 4 (2 * k) = 108) ∧ S 4 (2 * k + 1) = 48)) → zz_J zpX9_isLog (zz_ret Q X 0 0) 17 [some (vr 0), some (vi m), some (vi (((2 * k : Nat) : Int) + 2)), none] [] (zm S L) (0, 0) := by
          intro h
          have h1 := ih (k + 1) (by omega) (by rw [lgA_s, ha, hO.mpr h]; rfl)
          rw [show (((2 * k : Nat) : Int) + 2) = ((2 * (k + 1) : Nat) : Int) by omega]
          exact h1
        have no : ¬ ((S 4 (2 * k) = 100 ∧ 48 ≤ S 4 (2 * k + 1) ∧ S 4 (2 * k + 1) ≤ 57) ∨ ((S 4 (2 * k) = 119 ∨ S 4 (2 * k) = 108) ∧ S 4 (2 * k + 1) = 48)) → Q (some (vi 0)) (zm S L) := by
          intro h
          refine hB false (lgO_f (k := k) (by omega) ?_)
          rw [← Bool.not_eq_true]
          exact fun q => h (hO.mp q)
        refine zwX9_isLog_17 ?_
        rw [e1, e2]
        refine ⟨by omega, by omega, fun c => by omega, fun _ => ⟨by omega, by omega, fun n1 => ⟨by omega, by omega, fun y1 => ⟨by omega, by omega, by decide, by decide, fun z => yes (by omega), fun z => no (by omega)⟩, fun n2 => ⟨by omega, by omega, fun y2 => ⟨by omega, by omega, by decide, by decide, fun z => yes (by omega), fun z => no (by omega)⟩, fun n3 => no (by omega)⟩⟩, fun y0 => ⟨by omega, by omega, by decide, by decide, fun z => yes (by omega), fun z => no (by omega)⟩⟩⟩
    exact lp (m / 2) 0 (by omega) (by rw [lgA_t]; exact fun k h => absurd h (Nat.not_lt_zero _))
  · unfold lgB
    rw [decide_eq_false (show ¬ m ≤ 60 by omega), Bool.and_false]
    rfl
def zX9_howOf : zz_Sp := fun as M Q X => match as with
  | [.inr (.inr (some h_)), .inl k] => bif Nat.beq h_ 0 && Nat.beq M.1.1 1 then (∃ j_ : Nat, k = (2 * j_ : Nat) ∧ 2 * j_ + 1 < 400 ∧ tpG (M.2.1 4) ∧ Q (some (vi (hwO (M.2.1 4) j_))) (zm M.2.1 M.2.2.1)) else False
  | _ => False

def zpX9_howOf : zz_P := [(0, zo_ald 1 0), (1, zo_get 4 8 2 5), (4, zo_ild 5 1), (5, zo_iald 6), (6, zo_c 8 (vi 119)), (8, zo_cne false true 11 15), (11, zo_c 12 (vi 0)), (12, zo_goto 43), (15, zo_ald 16 0), (16, zo_get 19 8 2 5), (19, zo_ild 20 1), (20, zo_iald 21), (21, zo_c 23 (vi 108)), (23, zo_cne false true 26 30), (26, zo_c 27 (vi 1)), (27, zo_goto 43), (30, zo_c 31 (vi 2)), (31, zo_ald 32 0), (32, zo_get 35 8 2 5), (35, zo_ild 36 1), (36, zo_c 37 (vi 1)), (37, zo_iadd 38), (38, zo_iald 39), (39, zo_iadd 40), (40, zo_c 42 (vi 48)), (42, zo_isub 43), (43, zo_iret)]
theorem ztX9_howOf {C : mm_C} (G : mm_G C RX9 cX9_howOf (some .int) 2 (mm_rm 1 0 0)) (hnh : mm_nh C) : zz_OKs C zpX9_howOf :=
  ⟨zz_of (ok_aload_n G dX9_howOf_0 rfl rfl) (z_ald _ _),
   zz_of (ok_get G (nx := 4) (ci := 8) (kd := 2) (k := 5) (RX9, TX9, 32) rfl (by decide) rfl q1810 dX9_howOf_1 rfl) (z_get _ _ _ _),
   zz_of (ok_iload_n G dX9_howOf_4 rfl rfl) (z_ild _ _),
   zz_of (ok_iald G dX9_howOf_5 rfl) (z_iald _),
   zz_of (ok_bipush G (v := 119) dX9_howOf_6 (by decide) rfl) (z_cn 8 119),
   zz_of (ok_cne G dX9_howOf_8 rfl rfl) (z_cne _ _ _ _),
   zz_of (ok_iconst G (v := 0) dX9_howOf_11 (by decide) rfl) (z_cn 12 0),
   zz_of (ok_goto G dX9_howOf_12 rfl) (z_goto _),
   zz_of (ok_aload_n G dX9_howOf_15 rfl rfl) (z_ald _ _),
   zz_of (ok_get G (nx := 19) (ci := 8) (kd := 2) (k := 5) (RX9, TX9, 32) rfl (by decide) rfl q1810 dX9_howOf_16 rfl) (z_get _ _ _ _),
   zz_of (ok_iload_n G dX9_howOf_19 rfl rfl) (z_ild _ _),
   zz_of (ok_iald G dX9_howOf_20 rfl) (z_iald _),
   zz_of (ok_bipush G (v := 108) dX9_howOf_21 (by decide) rfl) (z_cn 23 108),
   zz_of (ok_cne G dX9_howOf_23 rfl rfl) (z_cne _ _ _ _),
   zz_of (ok_iconst G (v := 1) dX9_howOf_26 (by decide) rfl) (z_cn 27 1),
   zz_of (ok_goto G dX9_howOf_27 rfl) (z_goto _),
   zz_of (ok_iconst G (v := 2) dX9_howOf_30 (by decide) rfl) (z_cn 31 2),
   zz_of (ok_aload_n G dX9_howOf_31 rfl rfl) (z_ald _ _),
   zz_of (ok_get G (nx := 35) (ci := 8) (kd := 2) (k := 5) (RX9, TX9, 32) rfl (by decide) rfl q1810 dX9_howOf_32 rfl) (z_get _ _ _ _),
   zz_of (ok_iload_n G dX9_howOf_35 rfl rfl) (z_ild _ _),
   zz_of (ok_iconst G (v := 1) dX9_howOf_36 (by decide) rfl) (z_cn 37 1),
   zz_of (ok_iadd G dX9_howOf_37 rfl) (z_iadd _),
   zz_of (ok_iald G dX9_howOf_38 rfl) (z_iald _),
   zz_of (ok_iadd G dX9_howOf_39 rfl) (z_iadd _),
   zz_of (ok_bipush G (v := 48) dX9_howOf_40 (by decide) rfl) (z_cn 42 48),
   zz_of (ok_isub G dX9_howOf_42 rfl) (z_isub _),
   zz_of (ok_iret G dX9_howOf_43) (z_iret), trivial⟩

theorem zwX9_howOf_0 {Q : Option zv → zz_M → Prop} {X : Nat → zz_M → Prop} {S L : Nat → Nat → Int} {k : Int} (h : (0 ≤ k ∧ k < 400) ∧ (R32 (S 4 k.toNat) ∧ ((¬ (S 4 k.toNat) = 119 → (0 ≤ k ∧ k < 400) ∧ (R32 (S 4 k.toNat) ∧ ((¬ (S 4 k.toNat) = 108 → (0 ≤ (k + 1) ∧ (k + 1) < 400) ∧ (Q (some (vi ((2 + (S 4 ((k + 1).toNat))) - 48))) (zm S L))) ∧ ((S 4 k.toNat) = 108 → Q (some (vi 1)) (zm S L))))) ∧ ((S 4 k.toNat) = 119 → Q (some (vi 0)) (zm S L))))) : zz_J zpX9_howOf (zz_ret Q X 0 0) 0 [some (vr 0), some (vi k)] [] (zm S L) (0, 0) := zz_J.go [] 400 h

theorem zmX9_howOf (l : Launch) (hl : l.stackTraces = false) : mm_Spec l yX9_howOf (ws_ yX9_howOf cX9_howOf 2 (some .int)) (mm_rm 1 0 0) (zE zX9_howOf) := by
  refine zz_Met.J hl (by decide) (fun C G hnh => ztX9_howOf G hnh) ?_
  rintro as ⟨⟨t_, f⟩, S, L, P⟩ Q X h
  unfold zX9_howOf at h
  split at h
  rotate_left
  · exact h.elim
  rename_i h_ k
  obtain ⟨e1_, e2_, h⟩ := mm_and2 h (fun q => q)
  cases mm_beq e1_
  cases mm_beq e2_
  try dsimp only at h
  refine ⟨rfl, ?_⟩
  refine zz_Jev (M' := zm S L) rfl rfl rfl ?_
  obtain ⟨j, rfl, hj, htp, hq⟩ := h
  have t1 := htp (2 * j) (by omega)
  have e1 : (((2 * j : Nat) : Int)).toNat = 2 * j := by omega
  have e2 : (((2 * j : Nat) : Int) + 1).toNat = 2 * j + 1 := by omega
  unfold hwO at hq
  refine zwX9_howOf_0 ?_
  rw [e1, e2]
  refine ⟨by omega, by omega, fun c => ⟨by omega, by omega, fun c2 => ⟨by omega, ?_⟩, fun c2 => ?_⟩, fun c => ?_⟩
  · rw [if_neg c, if_neg c2] at hq; exact hq
  · rw [if_neg c, if_pos c2] at hq; exact hq
  · rw [if_pos c] at hq; exact hq
/-- the score behind a log, none if the set is over ahead of one of its rallies -/
def lgR (w t : Nat → Int) : Nat → Nat → (Nat → Int) → Option (Nat → Int)
  | 0, _, x => some x
  | r + 1, k, x => if ovR (w 194) x = true then none else lgR w t r (k + 1) (rlR w x (hwO t k))
theorem xB5 {w x : Nat → Int} (hw : wV w) (hb : xB 6 x) (ho : ovR (w 194) x = false) : xB 5 x := by
  obtain ⟨h4, h5, h7, h8, h9⟩ := hb
  have h1 := hw.1
  unfold ovR at ho
  simp only [Bool.or_eq_false_iff, decide_eq_false_iff_not] at ho
  exact ⟨h4, h5, by omega, by omega, h9⟩
theorem mI.tape {S : Nat → Nat → Int} (h : mI S) (v : Int) : mI (mm_up S 0 6 v) ∧ nwX (mm_up S 0 6 v) = nwX S ∧ mm_up S 0 6 v 1 = S 1 := by
  have e1 : mm_up S 0 6 v 1 = S 1 := by
    funext k
    simp [up_eq]
  have e6 : mm_up S 0 6 v 6 = S 6 := by
    funext k
    simp [up_eq]
  have ex : nwX (mm_up S 0 6 v) = nwX S := by
    funext k
    show tkS (mm_up S 0 6 v) 6 k = tkS S 6 k
    rw [tkS_at, tkS_at, e1, e6]
  refine ⟨?_, ex, e1⟩
  obtain ⟨h1, h2, h3, h4, h5, h6, h7, h8⟩ := h
  unfold mI
  rw [e1, e6, ex]
  exact ⟨h1, h2, h3, h4.up _ (by decide) (by omega), by simpa [up_eq] using h5, h6, h7, h8⟩
def zX9_log : zz_Sp := fun as M Q X => match as with
  | [.inr (.inr (some h_)), .inl what] => bif Nat.beq h_ 0 && Nat.beq M.1.1 1 then (∃ n_ : Nat, M.2.1 0 6 = n_ ∧ n_ ≤ 400 ∧ tpG (M.2.1 4) ∧ R32 what ∧ mI M.2.1 ∧ (∀ S_ : Nat → Nat → Int, lgB (M.2.1 4) n_ = false → coQ (mm_up (mm_up M.2.1 0 6 0) 0 0 1) S_ → Q (some (vi 0)) (zm S_ M.2.2.1)) ∧ (∀ S_ : Nat → Nat → Int, lgB (M.2.1 4) n_ = true → lgR (M.2.1 1) (M.2.1 4) (n_ / 2) 0 (nwX M.2.1) = none → coQ (mm_up (mm_up M.2.1 0 6 0) 0 0 2) S_ → Q (some (vi 0)) (zm S_ M.2.2.1)) ∧ (∀ (S_ : Nat → Nat → Int) (y_ : Nat → Int), lgB (M.2.1 4) n_ = true → lgR (M.2.1 1) (M.2.1 4) (n_ / 2) 0 (nwX M.2.1) = some y_ → (¬ (0 ≤ what ∧ what ≤ 9) → coQ (mm_up (mm_up M.2.1 0 6 0) 0 0 3) S_ → Q (some (vi 0)) (zm S_ M.2.2.1)) ∧ ((0 ≤ what ∧ what ≤ 9) → coQ (mm_up (mm_up M.2.1 0 6 0) 0 0 0) S_ → Q (some (vi (tdR y_ what))) (zm S_ M.2.2.1)))) else False
  | _ => False

def zpX9_log : zz_P := [(0, zo_ald 1 0), (1, zo_get 4 8 0 6), (4, zo_ist 5 2), (5, zo_ald 6 0), (6, zo_c 7 (vi 0)), (7, zo_puti 10 8 6), (10, zo_ald 11 0), (11, zo_ald 12 0), (12, zo_ild 13 2), (13, zo_callv 16 2 8 zX9_isLog), (16, zo_zifne 19 23), (19, zo_c 20 (vi 1)), (20, zo_goto 24), (23, zo_c 24 (vi 0)), (24, zo_puti 27 8 0), (27, zo_ald 28 0), (28, zo_get 31 8 0 0), (31, zo_ifle false 34 36), (34, zo_c 35 (vi 0)), (35, zo_iret), (36, zo_ald 37 0), (37, zo_callv 40 1 8 zX9_takes), (40, zo_c 41 (vi 0)), (41, zo_ist 42 3), (42, zo_ild 43 3), (43, zo_ild 44 2), (44, zo_cge false false 47 84), (47, zo_ald 48 0), (48, zo_get 51 8 0 0), (51, zo_ifne false 54 84), (54, zo_ald 55 0), (55, zo_callv 58 1 8 zX9_isOver), (58, zo_zifeq 61 69), (61, zo_ald 62 0), (62, zo_c 63 (vi 2)), (63, zo_puti 66 8 0), (66, zo_goto 78), (69, zo_ald 70 0), (70, zo_ald 71 0), (71, zo_ild 72 3), (72, zo_callv 75 2 8 zX9_howOf), (75, zo_callv 78 2 8 zX9_rallies), (78, zo_inc 81 3 2), (81, zo_goto 42), (84, zo_ald 85 0), (85, zo_get 88 8 0 0), (88, zo_ifne false 91 106), (91, zo_ild 92 1), (92, zo_c 93 (vi 0)), (93, zo_c 95 (vi 9)), (95, zo_calls 98 3 zX9_isIn), (98, zo_zifne 101 106), (101, zo_ald 102 0), (102, zo_c 103 (vi 3)), (103, zo_puti 106 8 0), (106, zo_ald 107 0), (107, zo_get 110 8 0 0), (110, zo_ifle false 113 117), (113, zo_c 114 (vi 0)), (114, zo_goto 122), (117, zo_ald 118 0), (118, zo_ild 119 1), (119, zo_callv 122 2 8 zX9_told), (122, zo_iret)]
theorem ztX9_log {C : mm_C} (G : mm_G C RX9 cX9_log (some .int) 4 (mm_rm 4 0 0)) (hnh : mm_nh C) : zz_OKs C zpX9_log :=
  ⟨zz_of (ok_aload_n G dX9_log_0 rfl rfl) (z_ald _ _),
   zz_of (ok_get G (nx := 4) (ci := 8) (kd := 0) (k := 6) (RX9, TX9, 32) rfl (by decide) rfl q1811 dX9_log_1 rfl) (z_get _ _ _ _),
   zz_of (ok_istore_n G dX9_log_4 rfl rfl (by decide)) (z_ist _ _),
   zz_of (ok_aload_n G dX9_log_5 rfl rfl) (z_ald _ _),
   zz_of (ok_iconst G (v := 0) dX9_log_6 (by decide) rfl) (z_cn 7 0),
   zz_of (ok_puti G (nx := 10) (idx := 74) (ci := 8) (k := 6) (RX9, TX9, 32) rfl (by decide) rfl (mm_pw G (ci := 8) (k := 6) (RX9, TX9, 32) rfl (by decide) rfl q1811 dX9_log_7) rfl) (z_puti _ _ _),
   zz_of (ok_aload_n G dX9_log_10 rfl rfl) (z_ald _ _),
   zz_of (ok_aload_n G dX9_log_11 rfl rfl) (z_ald _ _),
   zz_of (ok_iload_n G dX9_log_12 rfl rfl) (z_ild _ _),
   zz_of (ok_callv G hnh (zmX9_isLog _ G.hst) rfl rfl (RX9, TX9, 32) rfl q2183 q2185 qs76 q93 q2186 (by decide +kernel) ⟨by decide, by decide⟩ dX9_log_13 rfl) (z_callv _ _ _ _),
   zz_of (ok_ifne G dX9_log_16 rfl rfl) (z_zifne _ _),
   zz_of (ok_iconst G (v := 1) dX9_log_19 (by decide) rfl) (z_cn 20 1),
   zz_of (ok_goto G dX9_log_20 rfl) (z_goto _),
   zz_of (ok_iconst G (v := 0) dX9_log_23 (by decide) rfl) (z_cn 24 0),
   zz_of (ok_puti G (nx := 27) (idx := 67) (ci := 8) (k := 0) (RX9, TX9, 32) rfl (by decide) rfl (mm_pw G (ci := 8) (k := 0) (RX9, TX9, 32) rfl (by decide) rfl q1805 dX9_log_24) rfl) (z_puti _ _ _),
   zz_of (ok_aload_n G dX9_log_27 rfl rfl) (z_ald _ _),
   zz_of (ok_get G (nx := 31) (ci := 8) (kd := 0) (k := 0) (RX9, TX9, 32) rfl (by decide) rfl q1805 dX9_log_28 rfl) (z_get _ _ _ _),
   zz_of (ok_ifle G dX9_log_31 rfl rfl) (z_ifle _ _ _),
   zz_of (ok_iconst G (v := 0) dX9_log_34 (by decide) rfl) (z_cn 35 0),
   zz_of (ok_iret G dX9_log_35) (z_iret),
   zz_of (ok_aload_n G dX9_log_36 rfl rfl) (z_ald _ _),
   zz_of (ok_callv G hnh (zmX9_takes _ G.hst) rfl rfl (RX9, TX9, 32) rfl q2034 q2036 qs55 q93 q2037 (by decide +kernel) ⟨by decide, by decide⟩ dX9_log_37 rfl) (z_callv _ _ _ _),
   zz_of (ok_iconst G (v := 0) dX9_log_40 (by decide) rfl) (z_cn 41 0),
   zz_of (ok_istore_n G dX9_log_41 rfl rfl (by decide)) (z_ist _ _),
   zz_of (ok_iload_n G dX9_log_42 rfl rfl) (z_ild _ _),
   zz_of (ok_iload_n G dX9_log_43 rfl rfl) (z_ild _ _),
   zz_of (ok_cge G dX9_log_44 rfl rfl) (z_cge _ _ _ _),
   zz_of (ok_aload_n G dX9_log_47 rfl rfl) (z_ald _ _),
   zz_of (ok_get G (nx := 51) (ci := 8) (kd := 0) (k := 0) (RX9, TX9, 32) rfl (by decide) rfl q1805 dX9_log_48 rfl) (z_get _ _ _ _),
   zz_of (ok_ifne G dX9_log_51 rfl rfl) (z_ifne _ _ _),
   zz_of (ok_aload_n G dX9_log_54 rfl rfl) (z_ald _ _),
   zz_of (ok_callv G hnh (zmX9_isOver _ G.hst) rfl rfl (RX9, TX9, 32) rfl q2070 q2072 qs59 q93 q2073 (by decide +kernel) ⟨by decide, by decide⟩ dX9_log_55 rfl) (z_callv _ _ _ _),
   zz_of (ok_ifeq G dX9_log_58 rfl rfl) (z_zifeq _ _),
   zz_of (ok_aload_n G dX9_log_61 rfl rfl) (z_ald _ _),
   zz_of (ok_iconst G (v := 2) dX9_log_62 (by decide) rfl) (z_cn 63 2),
   zz_of (ok_puti G (nx := 66) (idx := 67) (ci := 8) (k := 0) (RX9, TX9, 32) rfl (by decide) rfl (mm_pw G (ci := 8) (k := 0) (RX9, TX9, 32) rfl (by decide) rfl q1805 dX9_log_63) rfl) (z_puti _ _ _),
   zz_of (ok_goto G dX9_log_66 rfl) (z_goto _),
   zz_of (ok_aload_n G dX9_log_69 rfl rfl) (z_ald _ _),
   zz_of (ok_aload_n G dX9_log_70 rfl rfl) (z_ald _ _),
   zz_of (ok_iload_n G dX9_log_71 rfl rfl) (z_ild _ _),
   zz_of (ok_callv G hnh (zmX9_howOf _ G.hst) rfl rfl (RX9, TX9, 32) rfl q2187 q2189 qs77 q93 q2190 (by decide +kernel) ⟨by decide, by decide⟩ dX9_log_72 rfl) (z_callv _ _ _ _),
   zz_of (ok_callv G hnh (zmX9_rallies _ G.hst) rfl rfl (RX9, TX9, 32) rfl q2074 q2076 qs60 q93 q2077 (by decide +kernel) ⟨by decide, by decide⟩ dX9_log_75 rfl) (z_callv _ _ _ _),
   zz_of (ok_iinc G (v := 2) dX9_log_78 (by decide) rfl (by decide)) (z_incn 81 3 2),
   zz_of (ok_goto G dX9_log_81 rfl) (z_goto _),
   zz_of (ok_aload_n G dX9_log_84 rfl rfl) (z_ald _ _),
   zz_of (ok_get G (nx := 88) (ci := 8) (kd := 0) (k := 0) (RX9, TX9, 32) rfl (by decide) rfl q1805 dX9_log_85 rfl) (z_get _ _ _ _),
   zz_of (ok_ifne G dX9_log_88 rfl rfl) (z_ifne _ _ _),
   zz_of (ok_iload_n G dX9_log_91 rfl rfl) (z_ild _ _),
   zz_of (ok_iconst G (v := 0) dX9_log_92 (by decide) rfl) (z_cn 93 0),
   zz_of (ok_bipush G (v := 9) dX9_log_93 (by decide) rfl) (z_cn 95 9),
   zz_of (ok_calls G hnh (zmX9_isIn _ G.hst) rfl rfl q1914 q1915 q93 q1916 (by decide +kernel) ⟨by decide, by decide⟩ dX9_log_95 rfl) (z_calls _ _ _),
   zz_of (ok_ifne G dX9_log_98 rfl rfl) (z_zifne _ _),
   zz_of (ok_aload_n G dX9_log_101 rfl rfl) (z_ald _ _),
   zz_of (ok_iconst G (v := 3) dX9_log_102 (by decide) rfl) (z_cn 103 3),
   zz_of (ok_puti G (nx := 106) (idx := 67) (ci := 8) (k := 0) (RX9, TX9, 32) rfl (by decide) rfl (mm_pw G (ci := 8) (k := 0) (RX9, TX9, 32) rfl (by decide) rfl q1805 dX9_log_103) rfl) (z_puti _ _ _),
   zz_of (ok_aload_n G dX9_log_106 rfl rfl) (z_ald _ _),
   zz_of (ok_get G (nx := 110) (ci := 8) (kd := 0) (k := 0) (RX9, TX9, 32) rfl (by decide) rfl q1805 dX9_log_107 rfl) (z_get _ _ _ _),
   zz_of (ok_ifle G dX9_log_110 rfl rfl) (z_ifle _ _ _),
   zz_of (ok_iconst G (v := 0) dX9_log_113 (by decide) rfl) (z_cn 114 0),
   zz_of (ok_goto G dX9_log_114 rfl) (z_goto _),
   zz_of (ok_aload_n G dX9_log_117 rfl rfl) (z_ald _ _),
   zz_of (ok_iload_n G dX9_log_118 rfl rfl) (z_ild _ _),
   zz_of (ok_callv G hnh (zmX9_told _ G.hst) rfl rfl (RX9, TX9, 32) rfl q2058 q2060 qs57 q93 q2061 (by decide +kernel) ⟨by decide, by decide⟩ dX9_log_119 rfl) (z_callv _ _ _ _),
   zz_of (ok_iret G dX9_log_122) (z_iret), trivial⟩

theorem zwX9_log_0 {Q : Option zv → zz_M → Prop} {X : Nat → zz_M → Prop} {S L : Nat → Nat → Int} {what : Int} (h : (∃ m_1 : Nat, (S 0 6) = m_1 ∧ m_1 ≤ 400 ∧ tpG ((mm_up S 0 6 0) 4) ∧ (lgB ((mm_up S 0 6 0) 4) m_1 = true → (zz_J zpX9_log (zz_ret Q X 0 0) 27 [some (vr 0), some (vi what), some (vi (S 0 6)), none] [] (zm (mm_up (mm_up S 0 6 0) 0 0 0) L) (0, 0))) ∧ (lgB ((mm_up S 0 6 0) 4) m_1 = false → (zz_J zpX9_log (zz_ret Q X 0 0) 27 [some (vr 0), some (vi what), some (vi (S 0 6)), none] [] (zm (mm_up (mm_up S 0 6 0) 0 0 1) L) (0, 0))))) : zz_J zpX9_log (zz_ret Q X 0 0) 0 [some (vr 0), some (vi what), none, none] [] (zm S L) (0, 0) := zz_J.go [(27, [3]), (42, []), (84, [2, 3]), (106, [2, 3])] 400 h
theorem zwX9_log_27 {Q : Option zv → zz_M → Prop} {X : Nat → zz_M → Prop} {S L : Nat → Nat → Int} {x1 : Int} {x2 : Int} (h : R32 (S 0 0) ∧ (((S 0 0) ≤ 0 → ((zz_J zpX9_log (zz_ret Q X 0 0) 42 [some (vr 0), some (vi x1), some (vi x2), some (vi 0)] [] (zm (tkS S) L) (0, 0)))) ∧ (¬ (S 0 0) ≤ 0 → Q (some (vi 0)) (zm S L)))) : zz_J zpX9_log (zz_ret Q X 0 0) 27 [some (vr 0), some (vi x1), some (vi x2), none] [] (zm S L) (0, 0) := zz_J.go [(27, [3]), (42, []), (84, [2, 3]), (106, [2, 3])] 400 h
theorem zwX9_log_42 {Q : Option zv → zz_M → Prop} {X : Nat → zz_M → Prop} {S L : Nat → Nat → Int} {x1 : Int} {x2 : Int} {x3 : Int} (h : R32 x3 ∧ (R32 x2 ∧ ((x2 ≤ x3 → zz_J zpX9_log (zz_ret Q X 0 0) 84 [some (vr 0), some (vi x1), none, none] [] (zm S L) (0, 0)) ∧ (¬ x2 ≤ x3 → R32 (S 0 0) ∧ ((¬ (S 0 0) = 0 → zz_J zpX9_log (zz_ret Q X 0 0) 84 [some (vr 0), some (vi x1), none, none] [] (zm S L) (0, 0)) ∧ ((S 0 0) = 0 → (bx (S 6) ∧ (-100 ≤ S 1 194 ∧ S 1 194 ≤ 100) ∧ (ovR (S 1 194) (S 6) = true → (zz_J zpX9_log (zz_ret Q X 0 0) 42 [some (vr 0), some (vi x1), some (vi x2), some (vi (x3 + 2))] [] (zm (mm_up S 0 0 2) L) (0, 0))) ∧ (ovR (S 1 194) (S 6) = false → ((∃ j_2 : Nat, x3 = (2 * j_2 : Nat) ∧ 2 * j_2 + 1 < 400 ∧ tpG (S 4) ∧ (((0 ≤ (hwO (S 4) j_2) ∧ (hwO (S 4) j_2) ≤ 14) ∧ by5 (S 6) ∧ bw (S 1) ∧ (S 6 2 = 0 ∨ S 6 2 = 1) ∧ (zz_J zpX9_log (zz_ret Q X 0 0) 42 [some (vr 0), some (vi x1), some (vi x2), some (vi (x3 + 2))] [] (zm (sx S (rlR (S 1) (S 6) (hwO (S 4) j_2)) (rlN (S 1) (S 6) (hwO (S 4) j_2)) (rlW (S 1) (S 6) (hwO (S 4) j_2))) L) (0, 0)))))))))))))) : zz_J zpX9_log (zz_ret Q X 0 0) 42 [some (vr 0), some (vi x1), some (vi x2), some (vi x3)] [] (zm S L) (0, 0) := zz_J.go [(27, [3]), (42, []), (84, [2, 3]), (106, [2, 3])] 400 h
theorem zwX9_log_84 {Q : Option zv → zz_M → Prop} {X : Nat → zz_M → Prop} {S L : Nat → Nat → Int} {x1 : Int} (h : R32 (S 0 0) ∧ ((¬ (S 0 0) = 0 → zz_J zpX9_log (zz_ret Q X 0 0) 106 [some (vr 0), some (vi x1), none, none] [] (zm S L) (0, 0)) ∧ ((S 0 0) = 0 → (R32 x1 ∧ R32 (0 : Int) ∧ R32 (9 : Int) ∧ (((0 : Int) ≤ x1 ∧ x1 ≤ (9 : Int)) → (zz_J zpX9_log (zz_ret Q X 0 0) 106 [some (vr 0), some (vi x1), none, none] [] (zm S L) (0, 0))) ∧ (¬ ((0 : Int) ≤ x1 ∧ x1 ≤ (9 : Int)) → (zz_J zpX9_log (zz_ret Q X 0 0) 106 [some (vr 0), some (vi x1), none, none] [] (zm (mm_up S 0 0 3) L) (0, 0))))))) : zz_J zpX9_log (zz_ret Q X 0 0) 84 [some (vr 0), some (vi x1), none, none] [] (zm S L) (0, 0) := zz_J.go [(27, [3]), (42, []), (84, [2, 3]), (106, [2, 3])] 400 h
theorem zwX9_log_106 {Q : Option zv → zz_M → Prop} {X : Nat → zz_M → Prop} {S L : Nat → Nat → Int} {x1 : Int} (h : R32 (S 0 0) ∧ (((S 0 0) ≤ 0 → ((0 ≤ x1 ∧ x1 ≤ 9) ∧ bx (S 6) ∧ (Q (some (vi (tdR (S 6) x1))) (zm S L)))) ∧ (¬ (S 0 0) ≤ 0 → Q (some (vi 0)) (zm S L)))) : zz_J zpX9_log (zz_ret Q X 0 0) 106 [some (vr 0), some (vi x1), none, none] [] (zm S L) (0, 0) := zz_J.go [(27, [3]), (42, []), (84, [2, 3]), (106, [2, 3])] 400 h

theorem zmX9_log (l : Launch) (hl : l.stackTraces = false) : mm_Spec l yX9_log (ws_ yX9_log cX9_log 4 (some .int)) (mm_rm 4 0 0) (zE zX9_log) := by
  refine zz_Met.J hl (by decide) (fun C G hnh => ztX9_log G hnh) ?_
  rintro as ⟨⟨t_, f⟩, S, L, P⟩ Q X h
  unfold zX9_log at h
  split at h
  rotate_left
  · exact h.elim
  rename_i h_ what
  obtain ⟨e1_, e2_, h⟩ := mm_and2 h (fun q => q)
  cases mm_beq e1_
  cases mm_beq e2_
  try dsimp only at h
  refine ⟨rfl, ?_⟩
  refine zz_Jev (M' := zm S L) rfl rfl rfl ?_
  obtain ⟨n, h6, hn, htp, hwt, hI, hq1, hq2, hq3⟩ := h
  have hw := hI.1.2.1
  generalize hS0 : mm_up S 0 6 0 = S0 at hq1 hq2 hq3
  obtain ⟨hI0, eX, e1⟩ : mI S0 ∧ nwX S0 = nwX S ∧ S0 1 = S 1 := by rw [← hS0]; exact hI.tape 0
  have e4 : S0 4 = S 4 := by rw [← hS0]; funext k; simp [up_eq]
  have c4 : ∀ T, coS S0 T → T 4 = S 4 := by
    intro T hT
    rw [← e4]
    funext k
    exact hT.1 4 k (by simp [core]) (by omega)
  -- the end
  have t106 : ∀ (T : Nat → Nat → Int) (t : Int), coS S0 T → T 0 0 = t → (0 < t → Q (some (vi 0)) (zm T L)) → (t = 0 → (0 ≤ what ∧ what ≤ 9) ∧ bx (T 6) ∧ Q (some (vi (tdR (T 6) what))) (zm T L)) → (0 ≤ t ∧ t ≤ 3) → zz_J zpX9_log (zz_ret Q X 0 0) 106 [some (vr 0), some (vi what), none, none] [] (zm T L) (0, 0) := by
    intro T t cT h0 h1 h2 ht
    refine zwX9_log_106 ?_
    rw [h0]
    exact ⟨by omega, fun c => h2 (by omega), fun c => h1 (by omega)⟩
  have t84 : ∀ (T : Nat → Nat → Int) (t : Int) (o : Option (Nat → Int)), lgB (S 4) n = true → lgR (S 1) (S 4) (n / 2) 0 (nwX S) = o → coS S0 T → T 0 0 = t → (t = 2 ∧ o = none ∨ t = 0 ∧ o = some (T 6)) → xG (T 6) → zz_J zpX9_log (zz_ret Q X 0 0) 84 [some (vr 0), some (vi what), none, none] [] (zm T L) (0, 0) := by
    intro T t o hlg ho cT h0 hc hx
    refine zwX9_log_84 ?_
    rw [h0]
    refine ⟨by omega, fun c => ?_, fun c => ⟨hwt, by decide, by decide, fun c2 => ?_, fun c2 => ?_⟩⟩
    · rcases hc with ⟨h, e⟩ | ⟨h, -⟩
      · subst h
        rw [e] at ho
        exact t106 T 2 cT h0 (fun _ => hq2 T hlg ho (cT.Q h0)) (fun h => absurd h (by decide)) (by decide)
      · omega
    · rcases hc with ⟨h, -⟩ | ⟨h, e⟩
      · omega
      · subst h
        rw [e] at ho
        exact t106 T 0 cT h0 (fun h => absurd h (by decide)) (fun _ => ⟨c2, hx.1.bx, (hq3 T _ hlg ho).2 c2 (cT.Q h0)⟩) (by decide)
    · rcases hc with ⟨h, -⟩ | ⟨h, e⟩
      · omega
      · subst h
        rw [e] at ho
        have cT3 := cT.up0 3
        have h03 : mm_up T 0 0 3 0 0 = 3 := by simp [up_eq]
        exact t106 _ 3 cT3 h03 (fun _ => (hq3 _ _ hlg ho).1 c2 (cT3.Q h03)) (fun h => absurd h (by decide)) (by decide)
  have t42 : ∀ (r k : Nat) (T : Nat → Nat → Int), lgB (S 4) n = true → k + r = n / 2 → coS S0 T → T 0 0 = 0 → scV (T 6) → xB 6 (T 6) → lgR (S 1) (S 4) (n / 2) 0 (nwX S) = lgR (S 1) (S 4) r k (T 6) → zz_J zpX9_log (zz_ret Q X 0 0) 42 [some (vr 0), some (vi what), some (vi n), some (vi (2 * k : Nat))] [] (zm T L) (0, 0) := by
    intro r
    induction r with
    | zero =>
      intro k T hlg hk cT h0 hv hb e
      refine zwX9_log_42 ⟨by omega, by omega, fun _ => t84 T 0 _ hlg e cT h0 (Or.inr ⟨rfl, rfl⟩) cT.2.2, fun c => ?_⟩
      have : n % 2 = 0 := by
        unfold lgB at hlg
        simp only [Bool.and_eq_true, decide_eq_true_eq] at hlg
        exact hlg.1.1
      omega
    | succ r ih =>
      intro k T hlg hk cT h0 hv hb e
      have t1 := cT.r1
      rw [e1] at t1
      have hxg := hv.xG hb (by decide)
      refine zwX9_log_42 ?_
      rw [h0]
      refine ⟨by omega, by omega, fun c => by omega, fun _ => ⟨by decide, fun c => absurd rfl c, fun _ => ⟨hxg.1.bx, by rw [t1]; unfold wV at hw; omega, fun ov => ?_, fun ov => ?_⟩⟩⟩
      · rw [t1] at ov
        have e2 : lgR (S 1) (S 4) (n / 2) 0 (nwX S) = none := by
          rw [e]
          show (if ovR (S 1 194) (T 6) = true then none else _) = none
          rw [if_pos ov]
        have cT2 := cT.up0 2
        have h02 : mm_up T 0 0 2 0 0 = 2 := by simp [up_eq]
        refine zwX9_log_42 ?_
        rw [h02]
        refine ⟨by omega, by omega, fun c => t84 _ 2 none hlg e2 cT2 h02 (Or.inl ⟨rfl, rfl⟩) cT2.2.2, fun c => ⟨by decide, fun _ => t84 _ 2 none hlg e2 cT2 h02 (Or.inl ⟨rfl, rfl⟩) cT2.2.2, fun c => absurd c (by decide)⟩⟩
      · rw [t1] at ov
        have hlo : lgO (S 4) k = true := by
          unfold lgB at hlg
          simp only [Bool.and_eq_true, decide_eq_true_eq] at hlg
          exact lgA_t.mp hlg.2 k (by omega)
        have hn60 : n ≤ 60 := by
          unfold lgB at hlg
          simp only [Bool.and_eq_true, decide_eq_true_eq] at hlg
          exact hlg.1.2
        have hh := hwO_in hlo
        have t4 := c4 T cT
        have hRV := rlR_V hw hv hh.1 (by omega) (fun _ => hh.2)
        have hRB := rlR_B (w := S 1) hv (xB5 hw hb ov) hh.1 (by omega)
        have hRG : xG (rlR (S 1) (T 6) (hwO (S 4) k)) := hRV.xG hRB (by decide)
        refine ⟨k, rfl, by omega, by rw [t4]; exact htp, ?_⟩
        rw [t4, t1]
        refine ⟨by omega, hxg.1, hw.bw, hv.2.1, ?_⟩
        have h1 := ih (k + 1) (sx T (rlR (S 1) (T 6) (hwO (S 4) k)) (rlN (S 1) (T 6) (hwO (S 4) k)) (rlW (S 1) (T 6) (hwO (S 4) k))) hlg (by omega) (cT.sxx hRG _ _) h0 (by rw [sx_6]; exact hRV) (by rw [sx_6]; exact hRB) (by
          rw [e, sx_6]
          show (if ovR (S 1 194) (T 6) = true then none else _) = _
          rw [if_neg (by rw [ov]; decide)])
        rw [show (((2 * k : Nat) : Int) + 2) = ((2 * (k + 1) : Nat) : Int) by omega]
        exact h1
  have t27 : ∀ t : Int, (t = 1 ∧ lgB (S 4) n = false ∨ t = 0 ∧ lgB (S 4) n = true) → zz_J zpX9_log (zz_ret Q X 0 0) 27 [some (vr 0), some (vi what), some (vi n), none] [] (zm (mm_up S0 0 0 t) L) (0, 0) := by
    intro t hc
    have cT := (coS.rf hI0).up0 t
    have h0 : mm_up S0 0 0 t 0 0 = t := by simp [up_eq]
    refine zwX9_log_27 ?_
    rw [h0]
    refine ⟨by omega, fun c => ?_, fun c => ?_⟩
    · rcases hc with ⟨h, -⟩ | ⟨h, hlg⟩
      · omega
      · subst h
        have eT := cT.tk hI0.2.2.2.2.2.1
        refine t42 (n / 2) 0 (tkS (mm_up S0 0 0 0)) hlg (by omega) (cT.take hI0) h0 ?_ ?_ ?_
        · rw [eT]; exact hI0.2.2.2.2.2.2.1
        · rw [eT]; exact hI0.2.2.2.2.2.2.2
        · rw [eT]
          exact congrArg (lgR (S 1) (S 4) (n / 2) 0) eX.symm
    · rcases hc with ⟨h, hlg⟩ | ⟨h, -⟩
      · subst h
        exact hq1 _ hlg (cT.Q h0)
      · omega
  refine zwX9_log_0 ?_
  rw [hS0, h6]
  refine ⟨n, rfl, hn, by rw [e4]; exact htp, ?_⟩
  rw [e4]
  exact ⟨fun c => t27 0 (Or.inr ⟨rfl, c⟩), fun c => t27 1 (Or.inl ⟨rfl, c⟩)⟩
