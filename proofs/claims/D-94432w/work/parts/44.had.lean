/-! ===== the model's tables: had, byStyles ===== -/
set_option maxRecDepth 100000
/-- what is to be had behind an outcome: by a table, who must win, who must be at end 0 -/
def hdT (tb w x : Nat → Int) (p th how : Int) : Int := if rlN w x how = -1 then tb (nuR (rlR w x how)).toNat else if rlN w x how = p ∧ (th = -1 ∨ rlR w x how 2 = th) then 1000000000 else 0
def hdS (tb w x : Nat → Int) (ix : Nat) (p th : Int) : Nat → Int
  | 0 => 0
  | i + 1 => hdS tb w x ix p th i + w (ix + i) * hdT tb w x p th i
def hdR (tb w : Nat → Int) (k : Int) (ix : Nat) (p th : Int) : Int := hdS tb w (scX w k) ix p th 12 / 100
def tbG (tb : Nat → Int) : Prop := ∀ j, j < 15488 → 0 ≤ tb j ∧ tb j ≤ 1000000000
/-- the row's numbers are within -/
def mG (w : Nat → Int) : Prop := cG w ∧ wV w ∧ (0 ≤ w 208 ∧ w 208 ≤ 6) ∧ (0 ≤ w 209 ∧ w 209 ≤ 6)
theorem hdT_in {tb w x : Nat → Int} {p th how : Int} (ht : tbG tb) (hw : wV w) (hx : scV x) (h0 : 0 ≤ how) (h1 : how ≤ 11) : 0 ≤ hdT tb w x p th how ∧ hdT tb w x p th how ≤ 1000000000 := by
  unfold hdT
  split
  · have := nuR_in (rlR_V hw hx h0 (by omega) (fun _ => h1))
    exact ht _ (by omega)
  · split <;> omega
theorem mul_in {a b : Int} (h1 : 0 ≤ a) (h2 : a ≤ 100) (h3 : 0 ≤ b) (h4 : b ≤ 1000000000) : 0 ≤ a * b ∧ a * b ≤ 100000000000 := by
  refine ⟨Int.mul_nonneg h1 h3, ?_⟩
  have := Int.mul_le_mul h2 h4 h3 (by decide)
  omega
theorem hdS_in {tb w x : Nat → Int} {ix : Nat} {p th : Int} (ht : tbG tb) (hg : cG w) (hw : wV w) (hx : scV x) (hix : ix + 12 ≤ 192) : ∀ i : Nat, i ≤ 12 → 0 ≤ hdS tb w x ix p th i ∧ hdS tb w x ix p th i ≤ 100000000000 * i
  | 0, _ => by show (0 : Int) ≤ 0 ∧ (0 : Int) ≤ 100000000000 * 0; decide
  | i + 1, h => by
    have ih := hdS_in (p := p) (th := th) ht hg hw hx hix i (by omega)
    have hc := hg.1 (ix + i) (by omega)
    have ht := hdT_in (p := p) (th := th) (how := i) ht hw hx (by omega) (by omega)
    have := mul_in hc.1 hc.2 ht.1 ht.2
    unfold hdS
    omega
theorem sx_t (S : Nat → Nat → Int) (x : Nat → Int) (w p : Int) {t : Nat} (h : t ≠ 6) (h0 : t ≠ 0) : sx S x w p t = S t := by
  funext k
  simp [sx, h, h0]
theorem zsh_t {S L : Nat → Nat → Int} {t : Nat} (h : t = 8 ∨ t = 9 ∨ t = 10 ∨ t = 11) : zsh (zm S L) t = (2, 15488) := by
  rcases h with e | e | e | e <;> subst e <;> rfl
theorem wV.r5 {w : Nat → Int} (h : wV w) : True := trivial
def zX9_had : zz_Sp := fun as M Q X => match as with
  | [.inr (.inr (some h_)), .inl k, .inl s, .inl v, .inl p, .inl th, .inr (.inr (some t))] => bif Nat.beq h_ 0 && Nat.beq M.1.1 1 then ((0 ≤ k ∧ k < 15488) ∧ cbR k = true ∧ (0 ≤ s ∧ s ≤ 3) ∧ (0 ≤ v ∧ v ≤ 3) ∧ (p = 0 ∨ p = 1) ∧ (th = -1 ∨ th = 0 ∨ th = 1) ∧ (t = 8 ∨ t = 9 ∨ t = 10 ∨ t = 11) ∧ tbG (M.2.1 t) ∧ mG (M.2.1 1) ∧ xG (M.2.1 6) ∧ (∀ (x_ : Nat → Int) (a_ b_ : Int), xG x_ → Q (some (vi (hdR (M.2.1 t) (M.2.1 1) k (12 * (4 * s + v)).toNat p th))) (zm (sx M.2.1 x_ a_ b_) M.2.2.1))) else False
  | _ => False

def zpX9_had : zz_P := [(0, zo_c 1 (vl 0)), (1, zo_lst 3 7), (3, zo_c 4 (vi 0)), (4, zo_ist 6 9), (6, zo_ild 8 9), (8, zo_c 10 (vi 12)), (10, zo_cge false true 13 124), (13, zo_ald 14 0), (14, zo_get 17 8 2 1), (17, zo_c 18 (vi 0)), (18, zo_c 20 (vi 12)), (20, zo_c 21 (vi 4)), (21, zo_ild 22 2), (22, zo_imul 23), (23, zo_ild 24 3), (24, zo_iadd 25), (25, zo_imul 26), (26, zo_iadd 27), (27, zo_ild 29 9), (29, zo_iadd 30), (30, zo_iald 31), (31, zo_ist 33 10), (33, zo_ild 35 10), (35, zo_ifne false 38 41), (38, zo_goto 118), (41, zo_ald 42 0), (42, zo_ild 43 1), (43, zo_callv 46 2 8 zX9_unnumber), (46, zo_ald 47 0), (47, zo_ild 49 9), (49, zo_callv 52 2 8 zX9_rallies), (52, zo_ald 53 0), (53, zo_get 56 8 0 17), (56, zo_c 57 (vi (-1))), (57, zo_cne false true 60 80), (60, zo_lld 62 7), (62, zo_ild 64 10), (64, zo_i2l 65), (65, zo_ald 67 6), (67, zo_ald 68 0), (68, zo_callv 71 1 8 zX9_number), (71, zo_ialp 72), (72, zo_i2l 73), (73, zo_lmul 74), (74, zo_ladd 75), (75, zo_lst 77 7), (77, zo_goto 118), (80, zo_ald 81 0), (81, zo_get 84 8 0 17), (84, zo_ild 86 4), (86, zo_cne false false 89 118), (89, zo_ild 91 5), (91, zo_c 92 (vi (-1))), (92, zo_ceq false true 95 106), (95, zo_ald 96 0), (96, zo_get 99 8 2 16), (99, zo_c 100 (vi 2)), (100, zo_ialc 101 2), (101, zo_ild 103 5), (103, zo_cne false false 106 118), (106, zo_lld 108 7), (108, zo_ild 110 10), (110, zo_i2l 111), (111, zo_c 114 (vl 1000000000)), (114, zo_lmul 115), (115, zo_ladd 116), (116, zo_lst 118 7), (118, zo_inc 121 9 1), (121, zo_goto 6), (124, zo_lld 126 7), (126, zo_c 129 (vl 100)), (129, zo_ldiv 130), (130, zo_l2i 131), (131, zo_iret)]
theorem ztX9_had {C : mm_C} (G : mm_G C RX9 cX9_had (some .int) 11 (mm_rm 4 0 0)) (hnh : mm_nh C) : zz_OKs C zpX9_had :=
  ⟨zz_of (ok_lconst G (v := 0) dX9_had_0 (by decide) rfl) (z_cl 1 0),
   zz_of (ok_lstore G dX9_had_1 rfl (by decide)) (z_lst _ _),
   zz_of (ok_iconst G (v := 0) dX9_had_3 (by decide) rfl) (z_cn 4 0),
   zz_of (ok_istore G dX9_had_4 rfl (by decide)) (z_ist _ _),
   zz_of (ok_iload G dX9_had_6 rfl) (z_ild _ _),
   zz_of (ok_bipush G (v := 12) dX9_had_8 (by decide) rfl) (z_cn 10 12),
   zz_of (ok_cge G dX9_had_10 rfl rfl) (z_cge _ _ _ _),
   zz_of (ok_aload_n G dX9_had_13 rfl rfl) (z_ald _ _),
   zz_of (ok_get G (nx := 17) (ci := 8) (kd := 2) (k := 1) (RX9, TX9, 32) rfl (by decide) rfl q1806 dX9_had_14 rfl) (z_get _ _ _ _),
   zz_of (ok_iconst G (v := 0) dX9_had_17 (by decide) rfl) (z_cn 18 0),
   zz_of (ok_bipush G (v := 12) dX9_had_18 (by decide) rfl) (z_cn 20 12),
   zz_of (ok_iconst G (v := 4) dX9_had_20 (by decide) rfl) (z_cn 21 4),
   zz_of (ok_iload_n G dX9_had_21 rfl rfl) (z_ild _ _),
   zz_of (ok_imul G dX9_had_22 rfl) (z_imul _),
   zz_of (ok_iload_n G dX9_had_23 rfl rfl) (z_ild _ _),
   zz_of (ok_iadd G dX9_had_24 rfl) (z_iadd _),
   zz_of (ok_imul G dX9_had_25 rfl) (z_imul _),
   zz_of (ok_iadd G dX9_had_26 rfl) (z_iadd _),
   zz_of (ok_iload G dX9_had_27 rfl) (z_ild _ _),
   zz_of (ok_iadd G dX9_had_29 rfl) (z_iadd _),
   zz_of (ok_iald G dX9_had_30 rfl) (z_iald _),
   zz_of (ok_istore G dX9_had_31 rfl (by decide)) (z_ist _ _),
   zz_of (ok_iload G dX9_had_33 rfl) (z_ild _ _),
   zz_of (ok_ifne G dX9_had_35 rfl rfl) (z_ifne _ _ _),
   zz_of (ok_goto G dX9_had_38 rfl) (z_goto _),
   zz_of (ok_aload_n G dX9_had_41 rfl rfl) (z_ald _ _),
   zz_of (ok_iload_n G dX9_had_42 rfl rfl) (z_ild _ _),
   zz_of (ok_callv G hnh (zmX9_unnumber _ G.hst) rfl rfl (RX9, TX9, 32) rfl q2114 q2116 qs68 q93 q2117 (by decide +kernel) ⟨by decide, by decide⟩ dX9_had_43 rfl) (z_callv _ _ _ _),
   zz_of (ok_aload_n G dX9_had_46 rfl rfl) (z_ald _ _),
   zz_of (ok_iload G dX9_had_47 rfl) (z_ild _ _),
   zz_of (ok_callv G hnh (zmX9_rallies _ G.hst) rfl rfl (RX9, TX9, 32) rfl q2074 q2076 qs60 q93 q2077 (by decide +kernel) ⟨by decide, by decide⟩ dX9_had_49 rfl) (z_callv _ _ _ _),
   zz_of (ok_aload_n G dX9_had_52 rfl rfl) (z_ald _ _),
   zz_of (ok_get G (nx := 56) (ci := 8) (kd := 0) (k := 17) (RX9, TX9, 32) rfl (by decide) rfl q1822 dX9_had_53 rfl) (z_get _ _ _ _),
   zz_of (ok_iconst G (v := (zI (-1))) dX9_had_56 (by decide) rfl) (z_cz 57 (-1)),
   zz_of (ok_cne G dX9_had_57 rfl rfl) (z_cne _ _ _ _),
   zz_of (ok_lload G dX9_had_60 rfl) (z_lld _ _),
   zz_of (ok_iload G dX9_had_62 rfl) (z_ild _ _),
   zz_of (ok_i2l G dX9_had_64 rfl) (z_i2l _),
   zz_of (ok_aload G dX9_had_65 rfl) (z_ald _ _),
   zz_of (ok_aload_n G dX9_had_67 rfl rfl) (z_ald _ _),
   zz_of (ok_callv G hnh (zmX9_number _ G.hst) rfl rfl (RX9, TX9, 32) rfl q2133 q2135 qs72 q93 q2136 (by decide +kernel) ⟨by decide, by decide⟩ dX9_had_68 rfl) (z_callv _ _ _ _),
   zz_of (ok_iald G dX9_had_71 rfl) (z_ialp _),
   zz_of (ok_i2l G dX9_had_72 rfl) (z_i2l _),
   zz_of (ok_lmul G dX9_had_73 rfl) (z_lmul _),
   zz_of (ok_ladd G dX9_had_74 rfl) (z_ladd _),
   zz_of (ok_lstore G dX9_had_75 rfl (by decide)) (z_lst _ _),
   zz_of (ok_goto G dX9_had_77 rfl) (z_goto _),
   zz_of (ok_aload_n G dX9_had_80 rfl rfl) (z_ald _ _),
   zz_of (ok_get G (nx := 84) (ci := 8) (kd := 0) (k := 17) (RX9, TX9, 32) rfl (by decide) rfl q1822 dX9_had_81 rfl) (z_get _ _ _ _),
   zz_of (ok_iload G dX9_had_84 rfl) (z_ild _ _),
   zz_of (ok_cne G dX9_had_86 rfl rfl) (z_cne _ _ _ _),
   zz_of (ok_iload G dX9_had_89 rfl) (z_ild _ _),
   zz_of (ok_iconst G (v := (zI (-1))) dX9_had_91 (by decide) rfl) (z_cz 92 (-1)),
   zz_of (ok_ceq G dX9_had_92 rfl rfl) (z_ceq _ _ _ _),
   zz_of (ok_aload_n G dX9_had_95 rfl rfl) (z_ald _ _),
   zz_of (ok_get G (nx := 99) (ci := 8) (kd := 2) (k := 16) (RX9, TX9, 32) rfl (by decide) rfl q1821 dX9_had_96 rfl) (z_get _ _ _ _),
   zz_of (ok_iconst G (v := 2) dX9_had_99 (by decide) rfl) (z_cn 100 2),
   zz_of (ok_iald G dX9_had_100 rfl) (z_ialc _ _),
   zz_of (ok_iload G dX9_had_101 rfl) (z_ild _ _),
   zz_of (ok_cne G dX9_had_103 rfl rfl) (z_cne _ _ _ _),
   zz_of (ok_lload G dX9_had_106 rfl) (z_lld _ _),
   zz_of (ok_iload G dX9_had_108 rfl) (z_ild _ _),
   zz_of (ok_i2l G dX9_had_110 rfl) (z_i2l _),
   zz_of (ok_ldc2 G (v := 1000000000) q2137 dX9_had_111 rfl) (z_cl 114 1000000000),
   zz_of (ok_lmul G dX9_had_114 rfl) (z_lmul _),
   zz_of (ok_ladd G dX9_had_115 rfl) (z_ladd _),
   zz_of (ok_lstore G dX9_had_116 rfl (by decide)) (z_lst _ _),
   zz_of (ok_iinc G (v := 1) dX9_had_118 (by decide) rfl (by decide)) (z_incn 121 9 1),
   zz_of (ok_goto G dX9_had_121 rfl) (z_goto _),
   zz_of (ok_lload G dX9_had_124 rfl) (z_lld _ _),
   zz_of (ok_ldc2 G (v := 100) q2138 dX9_had_126 rfl) (z_cl 129 100),
   zz_of (ok_ldiv G dX9_had_129 rfl) (z_ldiv _),
   zz_of (ok_l2i G dX9_had_130 rfl) (z_l2i _),
   zz_of (ok_iret G dX9_had_131) (z_iret), trivial⟩

theorem zwX9_had_0 {Q : Option zv → zz_M → Prop} {X : Nat → zz_M → Prop} {S L : Nat → Nat → Int} {k : Int} {s : Int} {v : Int} {p : Int} {th : Int} {t : Nat} (h : zz_J zpX9_had (zz_ret Q X 0 0) 6 [some (vr 0), some (vi k), some (vi s), some (vi v), some (vi p), some (vi th), some (vr t), some (vl 0), none, some (vi 0), none] [] (zm S L) (0, 0)) : zz_J zpX9_had (zz_ret Q X 0 0) 0 [some (vr 0), some (vi k), some (vi s), some (vi v), some (vi p), some (vi th), some (vr t), none, none, none, none] [] (zm S L) (0, 0) := zz_J.go [(6, [8, 10]), (118, [8, 10])] 400 h
theorem zwX9_had_6 {Q : Option zv → zz_M → Prop} {X : Nat → zz_M → Prop} {S L : Nat → Nat → Int} {x1 : Int} {x2 : Int} {x3 : Int} {x4 : Int} {x5 : Int} {h6 : Nat} {x7 : Int} {x9 : Int} (h : R32 x9 ∧ ((12 ≤ x9 → (0 ≤ x7 ∧ x7 < 9223372036854775808) ∧ (R64 (x7 / 100) ∧ (Q (some (vi (x7 / 100))) (zm S L)))) ∧ (¬ 12 ≤ x9 → (0 ≤ ((0 + (12 * ((4 * x2) + x3))) + x9) ∧ ((0 + (12 * ((4 * x2) + x3))) + x9) < 2616) ∧ (R32 (S 1 (((0 + (12 * ((4 * x2) + x3))) + x9).toNat)) ∧ ((¬ (S 1 (((0 + (12 * ((4 * x2) + x3))) + x9).toNat)) = 0 → ((0 ≤ x1 ∧ x1 < 100000000) ∧ (((0 ≤ x9 ∧ x9 ≤ 14) ∧ by5 ((sx S (unR (S 1) (S 6) x1) (S 0 17) (S 0 18)) 6) ∧ bw ((sx S (unR (S 1) (S 6) x1) (S 0 17) (S 0 18)) 1) ∧ ((sx S (unR (S 1) (S 6) x1) (S 0 17) (S 0 18)) 6 2 = 0 ∨ (sx S (unR (S 1) (S 6) x1) (S 0 17) (S 0 18)) 6 2 = 1) ∧ (R32 ((sx (sx S (unR (S 1) (S 6) x1) (S 0 17) (S 0 18)) (rlR ((sx S (unR (S 1) (S 6) x1) (S 0 17) (S 0 18)) 1) ((sx S (unR (S 1) (S 6) x1) (S 0 17) (S 0 18)) 6) x9) (rlN ((sx S (unR (S 1) (S 6) x1) (S 0 17) (S 0 18)) 1) ((sx S (unR (S 1) (S 6) x1) (S 0 17) (S 0 18)) 6) x9) (rlW ((sx S (unR (S 1) (S 6) x1) (S 0 17) (S 0 18)) 1) ((sx S (unR (S 1) (S 6) x1) (S 0 17) (S 0 18)) 6) x9)) 0 17) ∧ ((¬ ((sx (sx S (unR (S 1) (S 6) x1) (S 0 17) (S 0 18)) (rlR ((sx S (unR (S 1) (S 6) x1) (S 0 17) (S 0 18)) 1) ((sx S (unR (S 1) (S 6) x1) (S 0 17) (S 0 18)) 6) x9) (rlN ((sx S (unR (S 1) (S 6) x1) (S 0 17) (S 0 18)) 1) ((sx S (unR (S 1) (S 6) x1) (S 0 17) (S 0 18)) 6) x9) (rlW ((sx S (unR (S 1) (S 6) x1) (S 0 17) (S 0 18)) 1) ((sx S (unR (S 1) (S 6) x1) (S 0 17) (S 0 18)) 6) x9)) 0 17) = (-1) → R32 ((sx (sx S (unR (S 1) (S 6) x1) (S 0 17) (S 0 18)) (rlR ((sx S (unR (S 1) (S 6) x1) (S 0 17) (S 0 18)) 1) ((sx S (unR (S 1) (S 6) x1) (S 0 17) (S 0 18)) 6) x9) (rlN ((sx S (unR (S 1) (S 6) x1) (S 0 17) (S 0 18)) 1) ((sx S (unR (S 1) (S 6) x1) (S 0 17) (S 0 18)) 6) x9) (rlW ((sx S (unR (S 1) (S 6) x1) (S 0 17) (S 0 18)) 1) ((sx S (unR (S 1) (S 6) x1) (S 0 17) (S 0 18)) 6) x9)) 0 17) ∧ (R32 x4 ∧ ((¬ ((sx (sx S (unR (S 1) (S 6) x1) (S 0 17) (S 0 18)) (rlR ((sx S (unR (S 1) (S 6) x1) (S 0 17) (S 0 18)) 1) ((sx S (unR (S 1) (S 6) x1) (S 0 17) (S 0 18)) 6) x9) (rlN ((sx S (unR (S 1) (S 6) x1) (S 0 17) (S 0 18)) 1) ((sx S (unR (S 1) (S 6) x1) (S 0 17) (S 0 18)) 6) x9) (rlW ((sx S (unR (S 1) (S 6) x1) (S 0 17) (S 0 18)) 1) ((sx S (unR (S 1) (S 6) x1) (S 0 17) (S 0 18)) 6) x9)) 0 17) = x4 → zz_J zpX9_had (zz_ret Q X 0 0) 118 [some (vr 0), some (vi x1), some (vi x2), some (vi x3), some (vi x4), some (vi x5), some (vr h6), some (vl x7), none, some (vi x9), none] [] (zm (sx (sx S (unR (S 1) (S 6) x1) (S 0 17) (S 0 18)) (rlR ((sx S (unR (S 1) (S 6) x1) (S 0 17) (S 0 18)) 1) ((sx S (unR (S 1) (S 6) x1) (S 0 17) (S 0 18)) 6) x9) (rlN ((sx S (unR (S 1) (S 6) x1) (S 0 17) (S 0 18)) 1) ((sx S (unR (S 1) (S 6) x1) (S 0 17) (S 0 18)) 6) x9) (rlW ((sx S (unR (S 1) (S 6) x1) (S 0 17) (S 0 18)) 1) ((sx S (unR (S 1) (S 6) x1) (S 0 17) (S 0 18)) 6) x9)) L) (0, 0)) ∧ (((sx (sx S (unR (S 1) (S 6) x1) (S 0 17) (S 0 18)) (rlR ((sx S (unR (S 1) (S 6) x1) (S 0 17) (S 0 18)) 1) ((sx S (unR (S 1) (S 6) x1) (S 0 17) (S 0 18)) 6) x9) (rlN ((sx S (unR (S 1) (S 6) x1) (S 0 17) (S 0 18)) 1) ((sx S (unR (S 1) (S 6) x1) (S 0 17) (S 0 18)) 6) x9) (rlW ((sx S (unR (S 1) (S 6) x1) (S 0 17) (S 0 18)) 1) ((sx S (unR (S 1) (S 6) x1) (S 0 17) (S 0 18)) 6) x9)) 0 17) = x4 → R32 x5 ∧ ((x5 = (-1) → R32 (S 1 (((0 + (12 * ((4 * x2) + x3))) + x9).toNat)) ∧ (zz_J zpX9_had (zz_ret Q X 0 0) 118 [some (vr 0), some (vi x1), some (vi x2), some (vi x3), some (vi x4), some (vi x5), some (vr h6), some (vl (x7 + ((S 1 (((0 + (12 * ((4 * x2) + x3))) + x9).toNat)) * 1000000000))), none, some (vi x9), none] [] (zm (sx (sx S (unR (S 1) (S 6) x1) (S 0 17) (S 0 18)) (rlR ((sx S (unR (S 1) (S 6) x1) (S 0 17) (S 0 18)) 1) ((sx S (unR (S 1) (S 6) x1) (S 0 17) (S 0 18)) 6) x9) (rlN ((sx S (unR (S 1) (S 6) x1) (S 0 17) (S 0 18)) 1) ((sx S (unR (S 1) (S 6) x1) (S 0 17) (S 0 18)) 6) x9) (rlW ((sx S (unR (S 1) (S 6) x1) (S 0 17) (S 0 18)) 1) ((sx S (unR (S 1) (S 6) x1) (S 0 17) (S 0 18)) 6) x9)) L) (0, 0))) ∧ (¬ x5 = (-1) → R32 ((sx (sx S (unR (S 1) (S 6) x1) (S 0 17) (S 0 18)) (rlR ((sx S (unR (S 1) (S 6) x1) (S 0 17) (S 0 18)) 1) ((sx S (unR (S 1) (S 6) x1) (S 0 17) (S 0 18)) 6) x9) (rlN ((sx S (unR (S 1) (S 6) x1) (S 0 17) (S 0 18)) 1) ((sx S (unR (S 1) (S 6) x1) (S 0 17) (S 0 18)) 6) x9) (rlW ((sx S (unR (S 1) (S 6) x1) (S 0 17) (S 0 18)) 1) ((sx S (unR (S 1) (S 6) x1) (S 0 17) (S 0 18)) 6) x9)) 6 2) ∧ (R32 x5 ∧ ((¬ ((sx (sx S (unR (S 1) (S 6) x1) (S 0 17) (S 0 18)) (rlR ((sx S (unR (S 1) (S 6) x1) (S 0 17) (S 0 18)) 1) ((sx S (unR (S 1) (S 6) x1) (S 0 17) (S 0 18)) 6) x9) (rlN ((sx S (unR (S 1) (S 6) x1) (S 0 17) (S 0 18)) 1) ((sx S (unR (S 1) (S 6) x1) (S 0 17) (S 0 18)) 6) x9) (rlW ((sx S (unR (S 1) (S 6) x1) (S 0 17) (S 0 18)) 1) ((sx S (unR (S 1) (S 6) x1) (S 0 17) (S 0 18)) 6) x9)) 6 2) = x5 → zz_J zpX9_had (zz_ret Q X 0 0) 118 [some (vr 0), some (vi x1), some (vi x2), some (vi x3), some (vi x4), some (vi x5), some (vr h6), some (vl x7), none, some (vi x9), none] [] (zm (sx (sx S (unR (S 1) (S 6) x1) (S 0 17) (S 0 18)) (rlR ((sx S (unR (S 1) (S 6) x1) (S 0 17) (S 0 18)) 1) ((sx S (unR (S 1) (S 6) x1) (S 0 17) (S 0 18)) 6) x9) (rlN ((sx S (unR (S 1) (S 6) x1) (S 0 17) (S 0 18)) 1) ((sx S (unR (S 1) (S 6) x1) (S 0 17) (S 0 18)) 6) x9) (rlW ((sx S (unR (S 1) (S 6) x1) (S 0 17) (S 0 18)) 1) ((sx S (unR (S 1) (S 6) x1) (S 0 17) (S 0 18)) 6) x9)) L) (0, 0)) ∧ (((sx (sx S (unR (S 1) (S 6) x1) (S 0 17) (S 0 18)) (rlR ((sx S (unR (S 1) (S 6) x1) (S 0 17) (S 0 18)) 1) ((sx S (unR (S 1) (S 6) x1) (S 0 17) (S 0 18)) 6) x9) (rlN ((sx S (unR (S 1) (S 6) x1) (S 0 17) (S 0 18)) 1) ((sx S (unR (S 1) (S 6) x1) (S 0 17) (S 0 18)) 6) x9) (rlW ((sx S (unR (S 1) (S 6) x1) (S 0 17) (S 0 18)) 1) ((sx S (unR (S 1) (S 6) x1) (S 0 17) (S 0 18)) 6) x9)) 6 2) = x5 → R32 (S 1 (((0 + (12 * ((4 * x2) + x3))) + x9).toNat)) ∧ (zz_J zpX9_had (zz_ret Q X 0 0) 118 [some (vr 0), some (vi x1), some (vi x2), some (vi x3), some (vi x4), some (vi x5), some (vr h6), some (vl (x7 + ((S 1 (((0 + (12 * ((4 * x2) + x3))) + x9).toNat)) * 1000000000))), none, some (vi x9), none] [] (zm (sx (sx S (unR (S 1) (S 6) x1) (S 0 17) (S 0 18)) (rlR ((sx S (unR (S 1) (S 6) x1) (S 0 17) (S 0 18)) 1) ((sx S (unR (S 1) (S 6) x1) (S 0 17) (S 0 18)) 6) x9) (rlN ((sx S (unR (S 1) (S 6) x1) (S 0 17) (S 0 18)) 1) ((sx S (unR (S 1) (S 6) x1) (S 0 17) (S 0 18)) 6) x9) (rlW ((sx S (unR (S 1) (S 6) x1) (S 0 17) (S 0 18)) 1) ((sx S (unR (S 1) (S 6) x1) (S 0 17) (S 0 18)) 6) x9)) L) (0, 0))))))))))) ∧ (((sx (sx S (unR (S 1) (S 6) x1) (S 0 17) (S 0 18)) (rlR ((sx S (unR (S 1) (S 6) x1) (S 0 17) (S 0 18)) 1) ((sx S (unR (S 1) (S 6) x1) (S 0 17) (S 0 18)) 6) x9) (rlN ((sx S (unR (S 1) (S 6) x1) (S 0 17) (S 0 18)) 1) ((sx S (unR (S 1) (S 6) x1) (S 0 17) (S 0 18)) 6) x9) (rlW ((sx S (unR (S 1) (S 6) x1) (S 0 17) (S 0 18)) 1) ((sx S (unR (S 1) (S 6) x1) (S 0 17) (S 0 18)) 6) x9)) 0 17) = (-1) → R32 (S 1 (((0 + (12 * ((4 * x2) + x3))) + x9).toNat)) ∧ ((bx ((sx (sx S (unR (S 1) (S 6) x1) (S 0 17) (S 0 18)) (rlR ((sx S (unR (S 1) (S 6) x1) (S 0 17) (S 0 18)) 1) ((sx S (unR (S 1) (S 6) x1) (S 0 17) (S 0 18)) 6) x9) (rlN ((sx S (unR (S 1) (S 6) x1) (S 0 17) (S 0 18)) 1) ((sx S (unR (S 1) (S 6) x1) (S 0 17) (S 0 18)) 6) x9) (rlW ((sx S (unR (S 1) (S 6) x1) (S 0 17) (S 0 18)) 1) ((sx S (unR (S 1) (S 6) x1) (S 0 17) (S 0 18)) 6) x9)) 6) ∧ (∃ n_ : Nat, zsh (zm (sx (sx S (unR (S 1) (S 6) x1) (S 0 17) (S 0 18)) (rlR ((sx S (unR (S 1) (S 6) x1) (S 0 17) (S 0 18)) 1) ((sx S (unR (S 1) (S 6) x1) (S 0 17) (S 0 18)) 6) x9) (rlN ((sx S (unR (S 1) (S 6) x1) (S 0 17) (S 0 18)) 1) ((sx S (unR (S 1) (S 6) x1) (S 0 17) (S 0 18)) 6) x9) (rlW ((sx S (unR (S 1) (S 6) x1) (S 0 17) (S 0 18)) 1) ((sx S (unR (S 1) (S 6) x1) (S 0 17) (S 0 18)) 6) x9)) L) h6 = (2, n_) ∧ (n_ : Int) ≤ 2147483647 ∧ (0 ≤ (nuR ((sx (sx S (unR (S 1) (S 6) x1) (S 0 17) (S 0 18)) (rlR ((sx S (unR (S 1) (S 6) x1) (S 0 17) (S 0 18)) 1) ((sx S (unR (S 1) (S 6) x1) (S 0 17) (S 0 18)) 6) x9) (rlN ((sx S (unR (S 1) (S 6) x1) (S 0 17) (S 0 18)) 1) ((sx S (unR (S 1) (S 6) x1) (S 0 17) (S 0 18)) 6) x9) (rlW ((sx S (unR (S 1) (S 6) x1) (S 0 17) (S 0 18)) 1) ((sx S (unR (S 1) (S 6) x1) (S 0 17) (S 0 18)) 6) x9)) 6)) ∧ (nuR ((sx (sx S (unR (S 1) (S 6) x1) (S 0 17) (S 0 18)) (rlR ((sx S (unR (S 1) (S 6) x1) (S 0 17) (S 0 18)) 1) ((sx S (unR (S 1) (S 6) x1) (S 0 17) (S 0 18)) 6) x9) (rlN ((sx S (unR (S 1) (S 6) x1) (S 0 17) (S 0 18)) 1) ((sx S (unR (S 1) (S 6) x1) (S 0 17) (S 0 18)) 6) x9) (rlW ((sx S (unR (S 1) (S 6) x1) (S 0 17) (S 0 18)) 1) ((sx S (unR (S 1) (S 6) x1) (S 0 17) (S 0 18)) 6) x9)) 6)) < (n_ : Int)) ∧ (R32 ((sx (sx S (unR (S 1) (S 6) x1) (S 0 17) (S 0 18)) (rlR ((sx S (unR (S 1) (S 6) x1) (S 0 17) (S 0 18)) 1) ((sx S (unR (S 1) (S 6) x1) (S 0 17) (S 0 18)) 6) x9) (rlN ((sx S (unR (S 1) (S 6) x1) (S 0 17) (S 0 18)) 1) ((sx S (unR (S 1) (S 6) x1) (S 0 17) (S 0 18)) 6) x9) (rlW ((sx S (unR (S 1) (S 6) x1) (S 0 17) (S 0 18)) 1) ((sx S (unR (S 1) (S 6) x1) (S 0 17) (S 0 18)) 6) x9)) h6 ((nuR ((sx (sx S (unR (S 1) (S 6) x1) (S 0 17) (S 0 18)) (rlR ((sx S (unR (S 1) (S 6) x1) (S 0 17) (S 0 18)) 1) ((sx S (unR (S 1) (S 6) x1) (S 0 17) (S 0 18)) 6) x9) (rlN ((sx S (unR (S 1) (S 6) x1) (S 0 17) (S 0 18)) 1) ((sx S (unR (S 1) (S 6) x1) (S 0 17) (S 0 18)) 6) x9) (rlW ((sx S (unR (S 1) (S 6) x1) (S 0 17) (S 0 18)) 1) ((sx S (unR (S 1) (S 6) x1) (S 0 17) (S 0 18)) 6) x9)) 6)).toNat)) ∧ (zz_J zpX9_had (zz_ret Q X 0 0) 118 [some (vr 0), some (vi x1), some (vi x2), some (vi x3), some (vi x4), some (vi x5), some (vr h6), some (vl (x7 + ((S 1 (((0 + (12 * ((4 * x2) + x3))) + x9).toNat)) * ((sx (sx S (unR (S 1) (S 6) x1) (S 0 17) (S 0 18)) (rlR ((sx S (unR (S 1) (S 6) x1) (S 0 17) (S 0 18)) 1) ((sx S (unR (S 1) (S 6) x1) (S 0 17) (S 0 18)) 6) x9) (rlN ((sx S (unR (S 1) (S 6) x1) (S 0 17) (S 0 18)) 1) ((sx S (unR (S 1) (S 6) x1) (S 0 17) (S 0 18)) 6) x9) (rlW ((sx S (unR (S 1) (S 6) x1) (S 0 17) (S 0 18)) 1) ((sx S (unR (S 1) (S 6) x1) (S 0 17) (S 0 18)) 6) x9)) h6 ((nuR ((sx (sx S (unR (S 1) (S 6) x1) (S 0 17) (S 0 18)) (rlR ((sx S (unR (S 1) (S 6) x1) (S 0 17) (S 0 18)) 1) ((sx S (unR (S 1) (S 6) x1) (S 0 17) (S 0 18)) 6) x9) (rlN ((sx S (unR (S 1) (S 6) x1) (S 0 17) (S 0 18)) 1) ((sx S (unR (S 1) (S 6) x1) (S 0 17) (S 0 18)) 6) x9) (rlW ((sx S (unR (S 1) (S 6) x1) (S 0 17) (S 0 18)) 1) ((sx S (unR (S 1) (S 6) x1) (S 0 17) (S 0 18)) 6) x9)) 6)).toNat))))), none, some (vi x9), none] [] (zm (sx (sx S (unR (S 1) (S 6) x1) (S 0 17) (S 0 18)) (rlR ((sx S (unR (S 1) (S 6) x1) (S 0 17) (S 0 18)) 1) ((sx S (unR (S 1) (S 6) x1) (S 0 17) (S 0 18)) 6) x9) (rlN ((sx S (unR (S 1) (S 6) x1) (S 0 17) (S 0 18)) 1) ((sx S (unR (S 1) (S 6) x1) (S 0 17) (S 0 18)) 6) x9) (rlW ((sx S (unR (S 1) (S 6) x1) (S 0 17) (S 0 18)) 1) ((sx S (unR (S 1) (S 6) x1) (S 0 17) (S 0 18)) 6) x9)) L) (0, 0))))))))))))) ∧ ((S 1 (((0 + (12 * ((4 * x2) + x3))) + x9).toNat)) = 0 → zz_J zpX9_had (zz_ret Q X 0 0) 118 [some (vr 0), some (vi x1), some (vi x2), some (vi x3), some (vi x4), some (vi x5), some (vr h6), some (vl x7), none, some (vi x9), none] [] (zm S L) (0, 0))))))) : zz_J zpX9_had (zz_ret Q X 0 0) 6 [some (vr 0), some (vi x1), some (vi x2), some (vi x3), some (vi x4), some (vi x5), some (vr h6), some (vl x7), none, some (vi x9), none] [] (zm S L) (0, 0) := zz_J.go [(6, [8, 10]), (118, [8, 10])] 400 h
theorem zwX9_had_118 {Q : Option zv → zz_M → Prop} {X : Nat → zz_M → Prop} {S L : Nat → Nat → Int} {x1 : Int} {x2 : Int} {x3 : Int} {x4 : Int} {x5 : Int} {h6 : Nat} {x7 : Int} {x9 : Int} (h : zz_J zpX9_had (zz_ret Q X 0 0) 6 [some (vr 0), some (vi x1), some (vi x2), some (vi x3), some (vi x4), some (vi x5), some (vr h6), some (vl x7), none, some (vi (x9 + 1)), none] [] (zm S L) (0, 0)) : zz_J zpX9_had (zz_ret Q X 0 0) 118 [some (vr 0), some (vi x1), some (vi x2), some (vi x3), some (vi x4), some (vi x5), some (vr h6), some (vl x7), none, some (vi x9), none] [] (zm S L) (0, 0) := zz_J.go [(6, [8, 10]), (118, [8, 10])] 400 h

theorem zmX9_had (l : Launch) (hl : l.stackTraces = false) : mm_Spec l yX9_had (ws_ yX9_had cX9_had 11 (some .int)) (mm_rm 4 0 0) (zE zX9_had) := by
  refine zz_Met.J hl (by decide) (fun C G hnh => ztX9_had G hnh) ?_
  rintro as ⟨⟨t_, f⟩, S, L, P⟩ Q X h
  unfold zX9_had at h
  split at h
  rotate_left
  · exact h.elim
  rename_i h_ k s v p th t
  obtain ⟨e1_, e2_, h⟩ := mm_and2 h (fun q => q)
  cases mm_beq e1_
  cases mm_beq e2_
  try dsimp only at h
  refine ⟨rfl, ?_⟩
  refine zz_Jev (M' := zm S L) rfl rfl rfl ?_
  obtain ⟨hk, hcb, hs, hh, hp, hth, ht, htb, ⟨hcg, hw, hgm⟩, hx, hq⟩ := h
  have hX : scV (scX (S 1) k) := unR_V hk.1 hk.2 hcb
  have hXB : xB 6 (scX (S 1) k) := scX_B hk.1 hgm
  have hXG : xG (scX (S 1) k) := hX.xG hXB (by decide)
  have ht6 : t ≠ 6 ∧ t ≠ 0 := by omega
  generalize hix : (12 * (4 * s + v)).toNat = ix at hq
  have eix : (ix : Int) = 12 * (4 * s + v) := by omega
  have lp : ∀ (r i : Nat) (x : Nat → Int) (a b : Int), i + r = 12 → xG x → zz_J zpX9_had (zz_ret Q X 0 0) 6 [some (vr 0), some (vi k), some (vi s), some (vi v), some (vi p), some (vi th), some (vr t), some (vl (hdS (S t) (S 1) (scX (S 1) k) ix p th i)), none, some (vi i), none] [] (zm (sx S x a b) L) (0, 0) := by
    intro r
    induction r with
    | zero =>
      intro i x a b hi hxg
      have ei : i = 12 := by omega
      subst ei
      have hn := hdS_in (p := p) (th := th) htb hcg hw hX (by omega : ix + 12 ≤ 192) 12 (by decide)
      refine zwX9_had_6 ⟨by omega, fun _ => ⟨by omega, by omega, hq x a b hxg⟩, fun c => absurd c (by decide)⟩
    | succ r ih =>
      intro i x a b hi hxg
      have hn := hdS_in (p := p) (th := th) htb hcg hw hX (by omega : ix + 12 ≤ 192) i (by omega)
      have hc := hcg.1 (ix + i) (by omega)
      have hT := hdT_in (p := p) (th := th) (how := (i : Int)) htb hw hX (by omega) (by omega)
      have hm := mul_in hc.1 hc.2 hT.1 hT.2
      -- behind a rally
      have t118 : ∀ (n' : Int) (x' : Nat → Int) (a' b' : Int), xG x' → n' = hdS (S t) (S 1) (scX (S 1) k) ix p th i + S 1 (ix + i) * hdT (S t) (S 1) (scX (S 1) k) p th i → zz_J zpX9_had (zz_ret Q X 0 0) 118 [some (vr 0), some (vi k), some (vi s), some (vi v), some (vi p), some (vi th), some (vr t), some (vl n'), none, some (vi i), none] [] (zm (sx S x' a' b') L) (0, 0) := by
        intro n' x' a' b' hx' hn'
        refine zwX9_had_118 ?_
        rw [hn']
        exact ih (i + 1) x' a' b' (by omega) hx'
      have hR := rlR_V hw hX (how := (i : Int)) (by omega) (by omega) (fun _ => by omega)
      have hRB := rlR_B (w := S 1) hX hXB (how := (i : Int)) (by omega) (by omega)
      have hRG : xG (rlR (S 1) (scX (S 1) k) i) := hR.xG hRB (by decide)
      have hN := rlW_in (S 1) (scX (S 1) k) i hX.2.1
      have hN2 : rlN (S 1) (scX (S 1) k) i = -1 ∨ rlN (S 1) (scX (S 1) k) i = 0 ∨ rlN (S 1) (scX (S 1) k) i = 1 := by
        unfold rlN
        split
        · exact Or.inl rfl
        · split
          · exact hN
          · exact Or.inl rfl
      have hnu := nuR_in hR
      have e1 : ((0 : Int) + 12 * (4 * s + v) + i).toNat = ix + i := by omega
      refine zwX9_had_6 ?_
      simp only [sx_sx, sx_1, sx_6, sx_17, sx_18, scX_eq hxg, sx_t _ _ _ _ ht6.1 ht6.2, e1]
      refine ⟨by omega, fun c => by omega, fun _ => ⟨by omega, by omega, fun c0 => ?_, fun c0 => ?_⟩⟩
      · refine ⟨by omega, by omega, hXG.1, hw.bw, hX.2.1, by omega, fun w1 => ⟨by omega, by omega, fun w2 => ?_, fun w2 => ⟨by omega, fun w3 => ⟨by omega, ?_⟩, fun w3 => ⟨by have := hR.2.1; omega, by omega, fun w4 => ?_, fun w4 => ⟨by omega, ?_⟩⟩⟩⟩, fun w1 => ⟨by omega, hRG.1.bx, 15488, zsh_t ht, by decide, hnu, ?_⟩⟩
        · refine t118 _ _ _ _ hRG ?_
          rw [hdT, if_neg w1, if_neg (fun q => w2 q.1)]
          omega
        · refine t118 _ _ _ _ hRG ?_
          rw [hdT, if_neg w1, if_pos ⟨w2, Or.inl w3⟩]
        · refine t118 _ _ _ _ hRG ?_
          rw [hdT, if_neg w1, if_neg (fun q => q.2.elim w3 w4)]
          omega
        · refine t118 _ _ _ _ hRG ?_
          rw [hdT, if_neg w1, if_pos ⟨w2, Or.inr w4⟩]
        · have hb := htb _ (show (nuR (rlR (S 1) (scX (S 1) k) i)).toNat < 15488 by omega)
          refine ⟨by omega, t118 _ _ _ _ hRG ?_⟩
          rw [hdT, if_pos w1]
      · refine t118 _ _ _ _ hxg ?_
        rw [c0]
        omega
  have e0 : sx S (S 6) (S 0 17) (S 0 18) = S := sx_id S
  have := lp 12 0 (S 6) (S 0 17) (S 0 18) (by decide) hx
  rw [e0] at this
  exact zwX9_had_0 this
