/-! ===== the JDK: StringBuilder ===== -/
set_option maxRecDepth 100000
theorem zshr_0 {x : Int} (h : R32 x) : zshr x 0 = x := by
  unfold zshr
  show (zI x >>> (zI 0 &&& 31)).toBitVec.toInt = _
  rw [Int32.toBitVec_shiftRight]
  show ((zI x).toBitVec.sshiftRight 0).toInt = _
  rw [BitVec.toInt_sshiftRight]
  show (zI x).toInt >>> 0 = _
  rw [zI_toInt h.1 h.2]
  exact Int.shiftRight_zero x
theorem zshl_0 {x : Int} (h : R32 x) : zshl x 0 = x := by
  unfold zshl
  show (zI x <<< (zI 0 &&& 31)).toBitVec.toInt = _
  rw [Int32.toBitVec_shiftLeft]
  show ((zI x).toBitVec <<< (0#32)).toInt = _
  rw [BitVec.shiftLeft_eq']
  show ((zI x).toBitVec <<< (0 : Nat)).toInt = _
  rw [BitVec.shiftLeft_zero]
  exact zI_toInt h.1 h.2
/-- a builder h with its row b of m bytes, n of them taken -/
def sbR (M : zz_M) (h b m n : Nat) : Prop := zsh M h = (1, 18) ∧ zpt M h 0 = some b ∧ zfx M.1.1 h 0 = false ∧ M.2.1 h 1 = 0 ∧ M.2.1 h 3 = (n : Int) ∧ zsh M b = (4, m) ∧ zfs M.1.1 b = false ∧ n ≤ m ∧ (16 ≤ m ∧ m ≤ 100000) ∧ ∀ i, i < m → -128 ≤ M.2.1 b i ∧ M.2.1 b i ≤ 127
abbrev cJ10_canEncode : ByteArray := prog_41_method_3_code
def yJ10_canEncode : MethodName := ⟨RJ10, "canEncode", "(C)Z"⟩
def dkwJ10_canEncode_0 : List UInt8 := [26, 17, 0, 255, 163, 0, 7, 4, 167, 0, 4, 3, 172]
abbrev dktJ10_canEncode_0 : List UInt8 := dkwJ10_canEncode_0 ++ []
theorem dksJ10_canEncode_0 : cJ10_canEncode.data.toList.drop 0 = dktJ10_canEncode_0 := by decide +kernel
theorem dJ10_canEncode_0 : decode cJ10_canEncode 0 = .ok (.iload_n 0, 1) := dk_26 (dk_at dksJ10_canEncode_0 0 rfl rfl)
theorem dJ10_canEncode_1 : decode cJ10_canEncode 1 = .ok (.sipush 255, 3) := dk_17 0 255 (dk_at dksJ10_canEncode_0 1 rfl rfl)
theorem dJ10_canEncode_4 : decode cJ10_canEncode 4 = .ok (.if_icmp .gt 7, 3) := dk_163 0 7 (dk_at dksJ10_canEncode_0 4 rfl rfl)
theorem dJ10_canEncode_7 : decode cJ10_canEncode 7 = .ok (.iconst 1, 1) := dk_4 (dk_at dksJ10_canEncode_0 7 rfl rfl)
theorem dJ10_canEncode_8 : decode cJ10_canEncode 8 = .ok (.goto 4, 3) := dk_167 0 4 (dk_at dksJ10_canEncode_0 8 rfl rfl)
theorem dJ10_canEncode_11 : decode cJ10_canEncode 11 = .ok (.iconst 0, 1) := dk_3 (dk_at dksJ10_canEncode_0 11 rfl rfl)
theorem dJ10_canEncode_12 : decode cJ10_canEncode 12 = .ok (.ireturn, 1) := dk_172 (dk_at dksJ10_canEncode_0 12 rfl rfl)
def zJ6_isLatin1 : zz_Sp := fun as M Q X => match as with
  | [.inr (.inr (some h_))] => zsh M h_ = (1, 18) ∧ M.2.1 h_ 1 = 0 ∧ Q (some (vi 1)) M
  | _ => False

def zpJ6_isLatin1 : zz_P := [(0, zo_c 3 (vi 1)), (3, zo_ifeq false 6 17), (6, zo_ald 7 0), (7, zo_getp 10 18 0 1), (10, zo_ifne false 13 17), (13, zo_c 14 (vi 1)), (14, zo_goto 18), (17, zo_c 18 (vi 0)), (18, zo_zret true)]
theorem ztJ6_isLatin1 {C : mm_C} (G : mm_G C RJ6 cJ6_isLatin1 (some .boolean) 1 (mm_rm 1 0 0)) (hnh : mm_nh C) : zz_OKs C zpJ6_isLatin1 :=
  ⟨zz_of (ok_gs G (c := "java/lang/String") (n := "COMPACT_STRINGS") (d := "Z") (by decide +kernel) q645 dJ6_isLatin1_0 rfl) (z_cn 3 1),
   zz_of (ok_ifeq G dJ6_isLatin1_3 rfl rfl) (z_ifeq _ _ _),
   zz_of (ok_aload_n G dJ6_isLatin1_6 rfl rfl) (z_ald _ _),
   zz_of (ok_get G (nx := 10) (ci := 18) (kd := 0) (k := 1) (RJ7, TJ7, 4) rfl (by decide) rfl q655 dJ6_isLatin1_7 rfl) (z_getp _ _ _ _),
   zz_of (ok_ifne G dJ6_isLatin1_10 rfl rfl) (z_ifne _ _ _),
   zz_of (ok_iconst G (v := 1) dJ6_isLatin1_13 (by decide) rfl) (z_cn 14 1),
   zz_of (ok_goto G dJ6_isLatin1_14 rfl) (z_goto _),
   zz_of (ok_iconst G (v := 0) dJ6_isLatin1_17 (by decide) rfl) (z_cn 18 0),
   zz_of (ok_zret G dJ6_isLatin1_18) (z_zret _), trivial⟩

theorem zwJ6_isLatin1_0 {Q : Option zv → zz_M → Prop} {X : Nat → zz_M → Prop} {M : zz_M} {h_ : Nat} (h : R32 1 ∧ (((1 : Int) = 0 → Q (some (vi 0)) M) ∧ (¬ (1 : Int) = 0 → zsh M h_ = (1, 18) ∧ (R32 (M.2.1 h_ 1) ∧ ((¬ (M.2.1 h_ 1) = 0 → Q (some (vi 0)) M) ∧ ((M.2.1 h_ 1) = 0 → Q (some (vi 1)) M)))))) : zz_J zpJ6_isLatin1 (zz_ret Q X 0 0) 0 [some (vr h_)] [] M (0, 0) := zz_J.go [] 400 h

theorem zmJ6_isLatin1 (l : Launch) (hl : l.stackTraces = false) : mm_Spec l yJ6_isLatin1 (ws_ yJ6_isLatin1 cJ6_isLatin1 1 (some .boolean)) (mm_rm 1 0 0) (zE zJ6_isLatin1) := by
  refine zz_Met.J hl (by decide) (fun C G hnh => ztJ6_isLatin1 G hnh) ?_
  rintro as M Q X h
  unfold zJ6_isLatin1 at h
  split at h
  rotate_left
  · exact h.elim
  rename_i h_
  refine ⟨rfl, ?_⟩
  obtain ⟨h1, h2, hq⟩ := h
  exact zwJ6_isLatin1_0 ⟨by decide, fun c => absurd c (by decide), fun _ => ⟨h1, by rw [h2]; decide, fun c => absurd h2 c, fun _ => hq⟩⟩
def zJ6_getValue : zz_Sp := fun as M Q X => match as with
  | [.inr (.inr (some h_))] => zsh M h_ = (1, 18) ∧ ∃ b_ : Nat, zpt M h_ 0 = some b_ ∧ Q (some (vr b_)) M
  | _ => False

def zpJ6_getValue : zz_P := [(0, zo_ald 1 0), (1, zo_getq 4 18 0), (4, zo_aret)]
theorem ztJ6_getValue {C : mm_C} (G : mm_G C RJ6 cJ6_getValue (some (.array .byte)) 1 (mm_rm 1 0 0)) (hnh : mm_nh C) : zz_OKs C zpJ6_getValue :=
  ⟨zz_of (ok_aload_n G dJ6_getValue_0 rfl rfl) (z_ald _ _),
   zz_of (ok_get G (nx := 4) (ci := 18) (kd := 2) (k := 0) (RJ7, TJ7, 4) rfl (by decide) rfl q654 dJ6_getValue_1 rfl) (z_getq _ _ _),
   zz_of (ok_aret G (Or.inr ⟨_, rfl⟩) dJ6_getValue_4) (z_aret), trivial⟩

theorem zwJ6_getValue_0 {Q : Option zv → zz_M → Prop} {X : Nat → zz_M → Prop} {M : zz_M} {h_ : Nat} (h : zsh M h_ = (1, 18) ∧ (∀ b1 : Nat, zpt M h_ 0 = some b1 → Q (some (vr b1)) M) ∧ (zpt M h_ 0 = none → Q (some (vn)) M)) : zz_J zpJ6_getValue (zz_ret Q X 0 0) 0 [some (vr h_)] [] M (0, 0) := zz_J.go [] 400 h

theorem zmJ6_getValue (l : Launch) (hl : l.stackTraces = false) : mm_Spec l yJ6_getValue (ws_ yJ6_getValue cJ6_getValue 1 (some (.array .byte))) (mm_rm 1 0 0) (zE zJ6_getValue) := by
  refine zz_Met.J hl (by decide) (fun C G hnh => ztJ6_getValue G hnh) ?_
  rintro as M Q X h
  unfold zJ6_getValue at h
  split at h
  rotate_left
  · exact h.elim
  rename_i h_
  refine ⟨rfl, ?_⟩
  obtain ⟨h1, b, h2, hq⟩ := h
  exact zwJ6_getValue_0 (q_go h1 h2 hq)
def zJ6_length : zz_Sp := fun as M Q X => match as with
  | [.inr (.inr (some h_))] => zsh M h_ = (1, 18) ∧ Q (some (vi (M.2.1 h_ 3))) M
  | _ => False

def zpJ6_length : zz_P := [(0, zo_ald 1 0), (1, zo_getp 4 18 0 3), (4, zo_iret)]
theorem ztJ6_length {C : mm_C} (G : mm_G C RJ6 cJ6_length (some .int) 1 (mm_rm 1 0 0)) (hnh : mm_nh C) : zz_OKs C zpJ6_length :=
  ⟨zz_of (ok_aload_n G dJ6_length_0 rfl rfl) (z_ald _ _),
   zz_of (ok_get G (nx := 4) (ci := 18) (kd := 0) (k := 3) (RJ7, TJ7, 4) rfl (by decide) rfl q657 dJ6_length_1 rfl) (z_getp _ _ _ _),
   zz_of (ok_iret G dJ6_length_4) (z_iret), trivial⟩

theorem zwJ6_length_0 {Q : Option zv → zz_M → Prop} {X : Nat → zz_M → Prop} {M : zz_M} {h_ : Nat} (h : zsh M h_ = (1, 18) ∧ (Q (some (vi (M.2.1 h_ 3))) M)) : zz_J zpJ6_length (zz_ret Q X 0 0) 0 [some (vr h_)] [] M (0, 0) := zz_J.go [] 400 h

theorem zmJ6_length (l : Launch) (hl : l.stackTraces = false) : mm_Spec l yJ6_length (ws_ yJ6_length cJ6_length 1 (some .int)) (mm_rm 1 0 0) (zE zJ6_length) := by
  refine zz_Met.J hl (by decide) (fun C G hnh => ztJ6_length G hnh) ?_
  rintro as M Q X h
  unfold zJ6_length at h
  split at h
  rotate_left
  · exact h.elim
  rename_i h_
  refine ⟨rfl, ?_⟩
  exact zwJ6_length_0 h
def zJ7_length : zz_Sp := fun as M Q X => match as with
  | [.inr (.inr (some h_))] => zsh M h_ = (1, 18) ∧ Q (some (vi (M.2.1 h_ 3))) M
  | _ => False

def zpJ7_length : zz_P := [(0, zo_ald 1 0), (1, zo_cvLp (mm_rm 2 0 0) 4 1 18 0 0 zJ6_length), (4, zo_iret)]
theorem ztJ7_length {C : mm_C} (G : mm_G C RJ7 cJ7_length (some .int) 1 (mm_rm 2 0 0)) (hnh : mm_nh C) : zz_OKs C zpJ7_length :=
  ⟨zz_of (ok_aload_n G dJ7_length_0 rfl rfl) (z_ald _ _),
   zz_of (ok_calpF G (hnh.q 1) (zmJ6_length _ G.hst) (RJ7, TJ7, 4) rfl q771 q767 q666 q766 q98 q772 (by decide +kernel) ⟨Nat.le_of_ble_eq_true rfl, Nat.le_of_ble_eq_true rfl⟩ dJ7_length_1 rfl) (z_cvLp _ _ _ _ _ _ _),
   zz_of (ok_iret G dJ7_length_4) (z_iret), trivial⟩

theorem zwJ7_length_0 {Q : Option zv → zz_M → Prop} {X : Nat → zz_M → Prop} {M : zz_M} {h_ : Nat} (h : (zsh M h_ = (1, 18) ∨ zsh M h_ = (17, 18)) ∧ (zsh M h_ = (1, 18) ∧ (Q (some (vi (M.2.1 h_ 3))) M))) : zz_J zpJ7_length (zz_ret Q X 0 0) 0 [some (vr h_)] [] M (0, 0) := zz_J.go [] 400 h

theorem zmJ7_length (l : Launch) (hl : l.stackTraces = false) : mm_Spec l yJ7_length (ws_ yJ7_length cJ7_length 1 (some .int)) (mm_rm 2 0 0) (zE zJ7_length) := by
  refine zz_Met.J hl (by decide) (fun C G hnh => ztJ7_length G hnh) ?_
  rintro as M Q X h
  unfold zJ7_length at h
  split at h
  rotate_left
  · exact h.elim
  rename_i h_
  refine ⟨rfl, ?_⟩
  exact zwJ7_length_0 ⟨Or.inl h.1, h⟩
def zJ10_canEncode : zz_Sp := fun as M Q X => match as with
  | [.inl c] => (0 ≤ c ∧ c ≤ 255) ∧ Q (some (vi 1)) M
  | _ => False

def zpJ10_canEncode : zz_P := [(0, zo_ild 1 0), (1, zo_c 4 (vi 255)), (4, zo_cgt false true 7 11), (7, zo_c 8 (vi 1)), (8, zo_goto 12), (11, zo_c 12 (vi 0)), (12, zo_zret true)]
theorem ztJ10_canEncode {C : mm_C} (G : mm_G C RJ10 cJ10_canEncode (some .boolean) 1 (mm_rm 1 0 0)) (hnh : mm_nh C) : zz_OKs C zpJ10_canEncode :=
  ⟨zz_of (ok_iload_n G dJ10_canEncode_0 rfl rfl) (z_ild _ _),
   zz_of (ok_sipush G (v := 255) dJ10_canEncode_1 (by decide) rfl) (z_cn 4 255),
   zz_of (ok_cgt G dJ10_canEncode_4 rfl rfl) (z_cgt _ _ _ _),
   zz_of (ok_iconst G (v := 1) dJ10_canEncode_7 (by decide) rfl) (z_cn 8 1),
   zz_of (ok_goto G dJ10_canEncode_8 rfl) (z_goto _),
   zz_of (ok_iconst G (v := 0) dJ10_canEncode_11 (by decide) rfl) (z_cn 12 0),
   zz_of (ok_zret G dJ10_canEncode_12) (z_zret _), trivial⟩

theorem zwJ10_canEncode_0 {Q : Option zv → zz_M → Prop} {X : Nat → zz_M → Prop} {M : zz_M} {c : Int} (h : R32 c ∧ ((255 < c → Q (some (vi 0)) M) ∧ (¬ 255 < c → Q (some (vi 1)) M))) : zz_J zpJ10_canEncode (zz_ret Q X 0 0) 0 [some (vi c)] [] M (0, 0) := zz_J.go [] 400 h

theorem zmJ10_canEncode (l : Launch) (hl : l.stackTraces = false) : mm_Spec l yJ10_canEncode (ws_ yJ10_canEncode cJ10_canEncode 1 (some .boolean)) (mm_rm 1 0 0) (zE zJ10_canEncode) := by
  refine zz_Met.J hl (by decide) (fun C G hnh => ztJ10_canEncode G hnh) ?_
  rintro as M Q X h
  unfold zJ10_canEncode at h
  split at h
  rotate_left
  · exact h.elim
  rename_i c
  refine ⟨rfl, ?_⟩
  obtain ⟨h1, hq⟩ := h
  exact zwJ10_canEncode_0 ⟨by omega, fun c => by omega, fun _ => hq⟩
theorem al_S {S : Nat → Nat → Int} {b j : Nat} {r : Nat → Int} (e : j ≠ b) : zrw S b r j = S j := zrw_n S r e
def zJ3_copyOf_3 (c_ s_ : Nat) : zz_Sp := fun as M Q X => match as with
  | [.inr (.inr (some a)), .inl n] => ∃ b_ m_ : Nat, zfree M b_ ∧ zsh M a = (4, m_) ∧ ¬ n = (m_ : Int) ∧ m_ ≤ 100000 ∧ (0 ≤ n ∧ n ≤ 1000000) ∧ (m_ : Int) ≤ n ∧ (1 ≤ c_ ∧ n.toNat ≤ s_) ∧ (∀ i : Nat, i < m_ → -128 ≤ M.2.1 a i ∧ M.2.1 a i ≤ 127) ∧ (∀ S_ : Nat → Nat → Int, (∀ j, j ≠ b_ → S_ j = M.2.1 j) → (∀ i : Nat, i < m_ → S_ b_ i = M.2.1 a i) → (∀ i : Nat, m_ ≤ i → S_ b_ i = 0) → Q (some (vr b_)) ((M.1.1, zrw M.1.2 b_ (4, n.toNat)), S_, zrw M.2.2.1 b_ (fun _ => 0), zrw M.2.2.2 b_ (fun _ => none)))
  | _ => False

def zpJ3_copyOf_3 (c_ s_ : Nat) : zz_P := [(0, zo_ild 1 1), (1, zo_ald 2 0), (2, zo_alenp 3), (3, zo_cne false false 6 14), (6, zo_ald 7 0), (7, zo_clob (mm_rm 3 c_ s_) 10), (10, zo_casta 13 4), (13, zo_aret), (14, zo_ild 15 1), (15, zo_newa (mm_rm 3 c_ s_) 17 4 1), (17, zo_ast 18 2), (18, zo_ald 19 0), (19, zo_c 20 (vi 0)), (20, zo_ald 21 2), (21, zo_c 22 (vi 0)), (22, zo_ald 23 0), (23, zo_alenp 24), (24, zo_ild 25 1), (25, zo_calls 28 2 zJ4_min), (28, zo_acpi 31 4), (31, zo_ald 32 2), (32, zo_aret)]
theorem ztJ3_copyOf_3 (c_ s_ : Nat) {C : mm_C} (G : mm_G C RJ3 cJ3_copyOf_3 (some (.array .byte)) 3 (mm_rm 3 c_ s_)) (hnh : mm_nh C) : zz_OKs C (zpJ3_copyOf_3 c_ s_) :=
  ⟨zz_of (ok_iload_n G dJ3_copyOf_3_0 rfl rfl) (z_ild _ _),
   zz_of (ok_aload_n G dJ3_copyOf_3_1 rfl rfl) (z_ald _ _),
   zz_of (ok_alen G dJ3_copyOf_3_2 rfl) (z_alenp _),
   zz_of (ok_cne G dJ3_copyOf_3_3 rfl rfl) (z_cne _ _ _ _),
   zz_of (ok_aload_n G dJ3_copyOf_3_6 rfl rfl) (z_ald _ _),
   zz_of (ok_clob G q687 q688 q689 q690 q691 q692 ⟨Nat.le_of_ble_eq_true rfl, Nat.le_of_ble_eq_true rfl⟩ dJ3_copyOf_3_7 rfl) (z_clob _ _),
   zz_of (ok_casta G (t := 4) (by decide) rfl (fun h => h) q693 dJ3_copyOf_3_10 rfl) (z_casta _ _),
   zz_of (ok_aret G (Or.inr ⟨_, rfl⟩) dJ3_copyOf_3_13) (z_aret),
   zz_of (ok_iload_n G dJ3_copyOf_3_14 rfl rfl) (z_ild _ _),
   zz_of (ok_newa G (t := 4) (ty := .byte) rfl rfl q297 rfl (by decide) (by decide) (fun h => h) (fun M h n j ad => by rw [mm_al_ea]; rfl) dJ3_copyOf_3_15 rfl) (z_newa _ _ _ _),
   zz_of (ok_astore_n G dJ3_copyOf_3_17 rfl rfl (by decide)) (z_ast _ _),
   zz_of (ok_aload_n G dJ3_copyOf_3_18 rfl rfl) (z_ald _ _),
   zz_of (ok_iconst G (v := 0) dJ3_copyOf_3_19 (by decide) rfl) (z_cn 20 0),
   zz_of (ok_aload_n G dJ3_copyOf_3_20 rfl rfl) (z_ald _ _),
   zz_of (ok_iconst G (v := 0) dJ3_copyOf_3_21 (by decide) rfl) (z_cn 22 0),
   zz_of (ok_aload_n G dJ3_copyOf_3_22 rfl rfl) (z_ald _ _),
   zz_of (ok_alen G dJ3_copyOf_3_23 rfl) (z_alenp _),
   zz_of (ok_iload_n G dJ3_copyOf_3_24 rfl rfl) (z_ild _ _),
   zz_of (ok_calls G hnh (zmJ4_min _ G.hst) rfl rfl q558 q559 q96 q560 (by decide +kernel) ⟨Nat.le_of_ble_eq_true rfl, Nat.le_of_ble_eq_true rfl⟩ dJ3_copyOf_3_25 rfl) (z_calls _ _ _),
   zz_of (ok_acpi G (t := 4) (ty := .byte) (Or.inr ⟨rfl, rfl⟩) q561 q501 q500 q94 ⟨Nat.le_of_ble_eq_true rfl, Nat.le_of_ble_eq_true rfl⟩ dJ3_copyOf_3_28 rfl) (z_acpi _ _),
   zz_of (ok_aload_n G dJ3_copyOf_3_31 rfl rfl) (z_ald _ _),
   zz_of (ok_aret G (Or.inr ⟨_, rfl⟩) dJ3_copyOf_3_32) (z_aret), trivial⟩

theorem zwJ3_copyOf_3_0 {Q : Option zv → zz_M → Prop} {X : Nat → zz_M → Prop} {M : zz_M} {c_ s_ : Nat} {a : Nat} {n : Int} (h : ∃ (t_ n1 : Nat), zsh M a = (t_, n1) ∧ (2 ≤ t_ % 16 ∧ t_ % 16 ≤ 8 ∧ t_ ≤ 31) ∧ (R32 n ∧ (R32 (n1 : Int) ∧ ((¬ n = (n1 : Int) → ∃ h2_ : Nat, zfree M h2_ ∧ (0 ≤ n ∧ n < 2147483648 ∧ n.toNat * 1 ≤ 536870912) ∧ (0 + 1 ≤ c_ ∧ 0 + n.toNat ≤ s_) ∧ (∃ (t_ n3 : Nat), zsh ((M.1.1, zrw M.1.2 h2_ (4, n.toNat)), zrw M.2.1 h2_ (fun _ => 0), zrw M.2.2.1 h2_ (fun _ => 0), zrw M.2.2.2 h2_ (fun _ => none)) a = (t_, n3) ∧ (2 ≤ t_ % 16 ∧ t_ % 16 ≤ 8 ∧ t_ ≤ 31) ∧ ((R32 (n3 : Int) ∧ R32 n ∧ ((n3 : Int) ≤ n → (∃ a_ b_ : Nat, zsh ((M.1.1, zrw M.1.2 h2_ (4, n.toNat)), zrw M.2.1 h2_ (fun _ => 0), zrw M.2.2.1 h2_ (fun _ => 0), zrw M.2.2.2 h2_ (fun _ => none)) a = (4, a_) ∧ zsh ((M.1.1, zrw M.1.2 h2_ (4, n.toNat)), zrw M.2.1 h2_ (fun _ => 0), zrw M.2.2.1 h2_ (fun _ => 0), zrw M.2.2.2 h2_ (fun _ => none)) h2_ = (4, b_) ∧ (a_ ≤ 2147483647 ∧ b_ ≤ 2147483647) ∧ (a : Nat) ≠ h2_ ∧ (0 ≤ (0 : Int) ∧ 0 ≤ (0 : Int) ∧ 0 ≤ (n3 : Int)) ∧ (0 : Int) + (n3 : Int) ≤ (a_ : Int) ∧ (0 : Int) + (n3 : Int) ≤ (b_ : Int) ∧ ((4 : Nat) = 4 → ∀ i : Nat, i < (n3 : Int).toNat → -128 ≤ (zrw M.2.1 h2_ (fun _ => 0)) a ((0 : Int).toNat + i) ∧ (zrw M.2.1 h2_ (fun _ => 0)) a ((0 : Int).toNat + i) ≤ 127) ∧ ((1 ≤ c_ ∧ 0 + n.toNat ≤ s_) ∧ (Q (some (vr h2_)) ((M.1.1, zrw M.1.2 h2_ (4, n.toNat)), zrw (zrw M.2.1 h2_ (fun _ => 0)) h2_ (va_cpy ((zrw M.2.1 h2_ (fun _ => 0)) a) ((zrw M.2.1 h2_ (fun _ => 0)) h2_) (0 : Int).toNat (0 : Int).toNat (n3 : Int).toNat), zrw M.2.2.1 h2_ (fun _ => 0), zrw M.2.2.2 h2_ (fun _ => none)))))) ∧ (¬ (n3 : Int) ≤ n → (∃ a_ b_ : Nat, zsh ((M.1.1, zrw M.1.2 h2_ (4, n.toNat)), zrw M.2.1 h2_ (fun _ => 0), zrw M.2.2.1 h2_ (fun _ => 0), zrw M.2.2.2 h2_ (fun _ => none)) a = (4, a_) ∧ zsh ((M.1.1, zrw M.1.2 h2_ (4, n.toNat)), zrw M.2.1 h2_ (fun _ => 0), zrw M.2.2.1 h2_ (fun _ => 0), zrw M.2.2.2 h2_ (fun _ => none)) h2_ = (4, b_) ∧ (a_ ≤ 2147483647 ∧ b_ ≤ 2147483647) ∧ (a : Nat) ≠ h2_ ∧ (0 ≤ (0 : Int) ∧ 0 ≤ (0 : Int) ∧ 0 ≤ n) ∧ (0 : Int) + n ≤ (a_ : Int) ∧ (0 : Int) + n ≤ (b_ : Int) ∧ ((4 : Nat) = 4 → ∀ i : Nat, i < n.toNat → -128 ≤ (zrw M.2.1 h2_ (fun _ => 0)) a ((0 : Int).toNat + i) ∧ (zrw M.2.1 h2_ (fun _ => 0)) a ((0 : Int).toNat + i) ≤ 127) ∧ ((1 ≤ c_ ∧ 0 + n.toNat ≤ s_) ∧ (Q (some (vr h2_)) ((M.1.1, zrw M.1.2 h2_ (4, n.toNat)), zrw (zrw M.2.1 h2_ (fun _ => 0)) h2_ (va_cpy ((zrw M.2.1 h2_ (fun _ => 0)) a) ((zrw M.2.1 h2_ (fun _ => 0)) h2_) (0 : Int).toNat (0 : Int).toNat n.toNat), zrw M.2.2.1 h2_ (fun _ => 0), zrw M.2.2.2 h2_ (fun _ => none)))))))))) ∧ (n = (n1 : Int) → ∃ n5 h5_ : Nat, zsh M a = (4, n5) ∧ zfree M h5_ ∧ (∀ i : Nat, i < n5 → -128 ≤ M.2.1 a i ∧ M.2.1 a i ≤ 127) ∧ (0 + 1 ≤ c_ ∧ 0 + n5 ≤ s_) ∧ ((∃ n_ : Nat, zsh ((M.1.1, zrw M.1.2 h5_ (4, n5)), zrw M.2.1 h5_ (M.2.1 a), zrw M.2.2.1 h5_ (fun _ => 0), zrw M.2.2.2 h5_ (fun _ => none)) h5_ = (4, n_) ∨ zsh ((M.1.1, zrw M.1.2 h5_ (4, n5)), zrw M.2.1 h5_ (M.2.1 a), zrw M.2.2.1 h5_ (fun _ => 0), zrw M.2.2.2 h5_ (fun _ => none)) h5_ = (4 + 16, n_)) ∧ ((1 ≤ c_ ∧ 0 + n5 ≤ s_) ∧ (Q (some (vr h5_)) ((M.1.1, zrw M.1.2 h5_ (4, n5)), zrw M.2.1 h5_ (M.2.1 a), zrw M.2.2.1 h5_ (fun _ => 0), zrw M.2.2.2 h5_ (fun _ => none)))))))))) : zz_J (zpJ3_copyOf_3 c_ s_) (zz_retP Q X c_ s_) 0 [some (vr a), some (vi n), none] [] M (0, 0) := zz_J.go [] 400 h

theorem zmJ3_copyOf_3 (l : Launch) (hl : l.stackTraces = false) (c_ s_ : Nat) : mm_Spec l yJ3_copyOf_3 (ws_ yJ3_copyOf_3 cJ3_copyOf_3 3 (some (.array .byte))) (mm_rm 3 c_ s_) (zE (zJ3_copyOf_3 c_ s_)) := by
  refine zz_Met.J hl (by decide) (fun C G hnh => ztJ3_copyOf_3 c_ s_ G hnh) ?_
  rintro as M Q X h
  unfold zJ3_copyOf_3 at h
  split at h
  rotate_left
  · exact h.elim
  rename_i a n
  refine ⟨rfl, ?_⟩
  refine zz_retP_J ?_
  obtain ⟨b, m, hb, ha, hne, hm, hn, hmn, hc, hby, hq⟩ := h
  have nb : a ≠ b := zfree_ne hb ha (by show (4 : Nat) ≠ 0; decide)
  have ha' : ∀ (S L : Nat → Nat → Int) (P : Nat → Nat → Option Nat), zsh ((M.1.1, zrw M.1.2 b (4, n.toNat)), S, L, P) a = (4, m) := fun S L P => by rw [zsh_al hb.1, if_neg nb]; exact ha
  refine zwJ3_copyOf_3_0 ⟨4, m, ha, by decide, by omega, by omega, fun _ => ⟨b, hb, by omega, by omega, 4, m, ha' _ _ _, by decide, by omega, by omega, fun _ => ⟨m, n.toNat, ha' _ _ _, by rw [zsh_al hb.1, if_pos rfl], by omega, nb, by omega, by omega, by omega, fun _ i hi => ?_, ?_⟩, fun c => absurd hmn c⟩, fun c => absurd c hne⟩
  · rw [zrw_n _ _ nb, show (0 : Int).toNat + i = i by omega]
    exact hby i (by omega)
  · refine ⟨by omega, hq _ (fun j hj => by rw [zrw_n _ _ hj, zrw_n _ _ hj]) (fun i hi => ?_) (fun i hi => ?_)⟩
    · rw [zrw_s]
      unfold va_cpy
      rw [if_pos (by simp; omega), zrw_n _ _ nb]
      simp
    · rw [zrw_s]
      unfold va_cpy
      rw [if_neg (by omega), zrw_s]
def zJ3_checkLength : zz_Sp := fun as M Q X => match as with
  | [.inl a, .inl b] => R32 a ∧ R32 b ∧ (0 ≤ b - a ∧ b - a < 2147483648) ∧ Q none M
  | _ => False

def zpJ3_checkLength : zz_P := [(0, zo_ild 1 1), (1, zo_ild 2 0), (2, zo_cge false false 5 37), (5, zo_bad), (37, zo_vret)]
theorem ztJ3_checkLength {C : mm_C} (G : mm_G C RJ3 cJ3_checkLength none 2 (mm_rm 1 0 0)) (hnh : mm_nh C) : zz_OKs C zpJ3_checkLength :=
  ⟨zz_of (ok_iload_n G dJ3_checkLength_0 rfl rfl) (z_ild _ _),
   zz_of (ok_iload_n G dJ3_checkLength_1 rfl rfl) (z_ild _ _),
   zz_of (ok_cge G dJ3_checkLength_2 rfl rfl) (z_cge _ _ _ _),
   zz_of (ok_bad) (z_bad),
   zz_of (ok_vret G dJ3_checkLength_37) (z_vret), trivial⟩

theorem zwJ3_checkLength_0 {Q : Option zv → zz_M → Prop} {X : Nat → zz_M → Prop} {M : zz_M} {a : Int} {b : Int} (h : R32 b ∧ (R32 a ∧ ((a ≤ b → Q none M) ∧ (¬ a ≤ b → False)))) : zz_J zpJ3_checkLength (zz_ret Q X 0 0) 0 [some (vi a), some (vi b)] [] M (0, 0) := zz_J.go [] 400 h

theorem zmJ3_checkLength (l : Launch) (hl : l.stackTraces = false) : mm_Spec l yJ3_checkLength (ws_ yJ3_checkLength cJ3_checkLength 2 none) (mm_rm 1 0 0) (zE zJ3_checkLength) := by
  refine zz_Met.J hl (by decide) (fun C G hnh => ztJ3_checkLength G hnh) ?_
  rintro as M Q X h
  unfold zJ3_checkLength at h
  split at h
  rotate_left
  · exact h.elim
  rename_i a b
  refine ⟨rfl, ?_⟩
  obtain ⟨h1, h2, h3, hq⟩ := h
  exact zwJ3_checkLength_0 ⟨h2, h1, fun _ => hq, fun c => by omega⟩
def zJ3_copyOfRangeByte (c_ s_ : Nat) : zz_Sp := fun as M Q X => match as with
  | [.inr (.inr (some a)), .inl x, .inl n] => ∃ b_ m_ : Nat, zfree M b_ ∧ zsh M a = (4, m_) ∧ x = 0 ∧ m_ ≤ 1000000 ∧ (0 ≤ n ∧ n ≤ (m_ : Int)) ∧ (1 ≤ c_ ∧ n.toNat ≤ s_) ∧ (∀ i : Nat, i < m_ → -128 ≤ M.2.1 a i ∧ M.2.1 a i ≤ 127) ∧ (∀ S_ : Nat → Nat → Int, (∀ j, j ≠ b_ → S_ j = M.2.1 j) → (∀ i : Nat, (i : Int) < n → S_ b_ i = M.2.1 a i) → Q (some (vr b_)) ((M.1.1, zrw M.1.2 b_ (4, n.toNat)), S_, zrw M.2.2.1 b_ (fun _ => 0), zrw M.2.2.2 b_ (fun _ => none)))
  | _ => False

def zpJ3_copyOfRangeByte (c_ s_ : Nat) : zz_P := [(0, zo_ild 1 1), (1, zo_ild 2 2), (2, zo_calls 5 2 zJ3_checkLength), (5, zo_ild 6 2), (6, zo_ild 7 1), (7, zo_isub 8), (8, zo_ist 9 3), (9, zo_ild 10 3), (10, zo_newa (mm_rm 3 c_ s_) 12 4 1), (12, zo_ast 14 4), (14, zo_ald 15 0), (15, zo_ild 16 1), (16, zo_ald 18 4), (18, zo_c 19 (vi 0)), (19, zo_ald 20 0), (20, zo_alenp 21), (21, zo_ild 22 1), (22, zo_isub 23), (23, zo_ild 24 3), (24, zo_calls 27 2 zJ4_min), (27, zo_acpi 30 4), (30, zo_ald 32 4), (32, zo_aret)]
theorem ztJ3_copyOfRangeByte (c_ s_ : Nat) {C : mm_C} (G : mm_G C RJ3 cJ3_copyOfRangeByte (some (.array .byte)) 5 (mm_rm 3 c_ s_)) (hnh : mm_nh C) : zz_OKs C (zpJ3_copyOfRangeByte c_ s_) :=
  ⟨zz_of (ok_iload_n G dJ3_copyOfRangeByte_0 rfl rfl) (z_ild _ _),
   zz_of (ok_iload_n G dJ3_copyOfRangeByte_1 rfl rfl) (z_ild _ _),
   zz_of (ok_calls G hnh (zmJ3_checkLength _ G.hst) rfl rfl q780 q781 q95 q782 (by decide +kernel) ⟨Nat.le_of_ble_eq_true rfl, Nat.le_of_ble_eq_true rfl⟩ dJ3_copyOfRangeByte_2 rfl) (z_calls _ _ _),
   zz_of (ok_iload_n G dJ3_copyOfRangeByte_5 rfl rfl) (z_ild _ _),
   zz_of (ok_iload_n G dJ3_copyOfRangeByte_6 rfl rfl) (z_ild _ _),
   zz_of (ok_isub G dJ3_copyOfRangeByte_7 rfl) (z_isub _),
   zz_of (ok_istore_n G dJ3_copyOfRangeByte_8 rfl rfl (by decide)) (z_ist _ _),
   zz_of (ok_iload_n G dJ3_copyOfRangeByte_9 rfl rfl) (z_ild _ _),
   zz_of (ok_newa G (t := 4) (ty := .byte) rfl rfl q297 rfl (by decide) (by decide) (fun h => h) (fun M h n j ad => by rw [mm_al_ea]; rfl) dJ3_copyOfRangeByte_10 rfl) (z_newa _ _ _ _),
   zz_of (ok_astore G dJ3_copyOfRangeByte_12 rfl (by decide)) (z_ast _ _),
   zz_of (ok_aload_n G dJ3_copyOfRangeByte_14 rfl rfl) (z_ald _ _),
   zz_of (ok_iload_n G dJ3_copyOfRangeByte_15 rfl rfl) (z_ild _ _),
   zz_of (ok_aload G dJ3_copyOfRangeByte_16 rfl) (z_ald _ _),
   zz_of (ok_iconst G (v := 0) dJ3_copyOfRangeByte_18 (by decide) rfl) (z_cn 19 0),
   zz_of (ok_aload_n G dJ3_copyOfRangeByte_19 rfl rfl) (z_ald _ _),
   zz_of (ok_alen G dJ3_copyOfRangeByte_20 rfl) (z_alenp _),
   zz_of (ok_iload_n G dJ3_copyOfRangeByte_21 rfl rfl) (z_ild _ _),
   zz_of (ok_isub G dJ3_copyOfRangeByte_22 rfl) (z_isub _),
   zz_of (ok_iload_n G dJ3_copyOfRangeByte_23 rfl rfl) (z_ild _ _),
   zz_of (ok_calls G hnh (zmJ4_min _ G.hst) rfl rfl q558 q559 q96 q560 (by decide +kernel) ⟨Nat.le_of_ble_eq_true rfl, Nat.le_of_ble_eq_true rfl⟩ dJ3_copyOfRangeByte_24 rfl) (z_calls _ _ _),
   zz_of (ok_acpi G (t := 4) (ty := .byte) (Or.inr ⟨rfl, rfl⟩) q561 q501 q500 q94 ⟨Nat.le_of_ble_eq_true rfl, Nat.le_of_ble_eq_true rfl⟩ dJ3_copyOfRangeByte_27 rfl) (z_acpi _ _),
   zz_of (ok_aload G dJ3_copyOfRangeByte_30 rfl) (z_ald _ _),
   zz_of (ok_aret G (Or.inr ⟨_, rfl⟩) dJ3_copyOfRangeByte_32) (z_aret), trivial⟩

theorem zwJ3_copyOfRangeByte_0 {Q : Option zv → zz_M → Prop} {X : Nat → zz_M → Prop} {M : zz_M} {c_ s_ : Nat} {a : Nat} {x : Int} {n : Int} (h : (R32 x ∧ R32 n ∧ (0 ≤ n - x ∧ n - x < 2147483648) ∧ (∃ h2_ : Nat, zfree M h2_ ∧ (0 ≤ (n - x) ∧ (n - x) < 2147483648 ∧ (n - x).toNat * 1 ≤ 536870912) ∧ (0 + 1 ≤ c_ ∧ 0 + ((n - x).toNat) ≤ s_) ∧ (∃ (t_ n3 : Nat), zsh ((M.1.1, zrw M.1.2 h2_ (4, (n - x).toNat)), zrw M.2.1 h2_ (fun _ => 0), zrw M.2.2.1 h2_ (fun _ => 0), zrw M.2.2.2 h2_ (fun _ => none)) a = (t_, n3) ∧ (2 ≤ t_ % 16 ∧ t_ % 16 ≤ 8 ∧ t_ ≤ 31) ∧ ((R32 ((n3 : Int) - x) ∧ R32 (n - x) ∧ (((n3 : Int) - x) ≤ (n - x) → (∃ a_ b_ : Nat, zsh ((M.1.1, zrw M.1.2 h2_ (4, (n - x).toNat)), zrw M.2.1 h2_ (fun _ => 0), zrw M.2.2.1 h2_ (fun _ => 0), zrw M.2.2.2 h2_ (fun _ => none)) a = (4, a_) ∧ zsh ((M.1.1, zrw M.1.2 h2_ (4, (n - x).toNat)), zrw M.2.1 h2_ (fun _ => 0), zrw M.2.2.1 h2_ (fun _ => 0), zrw M.2.2.2 h2_ (fun _ => none)) h2_ = (4, b_) ∧ (a_ ≤ 2147483647 ∧ b_ ≤ 2147483647) ∧ (a : Nat) ≠ h2_ ∧ (0 ≤ x ∧ 0 ≤ (0 : Int) ∧ 0 ≤ ((n3 : Int) - x)) ∧ x + ((n3 : Int) - x) ≤ (a_ : Int) ∧ (0 : Int) + ((n3 : Int) - x) ≤ (b_ : Int) ∧ ((4 : Nat) = 4 → ∀ i : Nat, i < ((n3 : Int) - x).toNat → -128 ≤ (zrw M.2.1 h2_ (fun _ => 0)) a (x.toNat + i) ∧ (zrw M.2.1 h2_ (fun _ => 0)) a (x.toNat + i) ≤ 127) ∧ ((1 ≤ c_ ∧ 0 + ((n - x).toNat) ≤ s_) ∧ (Q (some (vr h2_)) ((M.1.1, zrw M.1.2 h2_ (4, (n - x).toNat)), zrw (zrw M.2.1 h2_ (fun _ => 0)) h2_ (va_cpy ((zrw M.2.1 h2_ (fun _ => 0)) a) ((zrw M.2.1 h2_ (fun _ => 0)) h2_) x.toNat (0 : Int).toNat ((n3 : Int) - x).toNat), zrw M.2.2.1 h2_ (fun _ => 0), zrw M.2.2.2 h2_ (fun _ => none)))))) ∧ (¬ ((n3 : Int) - x) ≤ (n - x) → (∃ a_ b_ : Nat, zsh ((M.1.1, zrw M.1.2 h2_ (4, (n - x).toNat)), zrw M.2.1 h2_ (fun _ => 0), zrw M.2.2.1 h2_ (fun _ => 0), zrw M.2.2.2 h2_ (fun _ => none)) a = (4, a_) ∧ zsh ((M.1.1, zrw M.1.2 h2_ (4, (n - x).toNat)), zrw M.2.1 h2_ (fun _ => 0), zrw M.2.2.1 h2_ (fun _ => 0), zrw M.2.2.2 h2_ (fun _ => none)) h2_ = (4, b_) ∧ (a_ ≤ 2147483647 ∧ b_ ≤ 2147483647) ∧ (a : Nat) ≠ h2_ ∧ (0 ≤ x ∧ 0 ≤ (0 : Int) ∧ 0 ≤ (n - x)) ∧ x + (n - x) ≤ (a_ : Int) ∧ (0 : Int) + (n - x) ≤ (b_ : Int) ∧ ((4 : Nat) = 4 → ∀ i : Nat, i < (n - x).toNat → -128 ≤ (zrw M.2.1 h2_ (fun _ => 0)) a (x.toNat + i) ∧ (zrw M.2.1 h2_ (fun _ => 0)) a (x.toNat + i) ≤ 127) ∧ ((1 ≤ c_ ∧ 0 + ((n - x).toNat) ≤ s_) ∧ (Q (some (vr h2_)) ((M.1.1, zrw M.1.2 h2_ (4, (n - x).toNat)), zrw (zrw M.2.1 h2_ (fun _ => 0)) h2_ (va_cpy ((zrw M.2.1 h2_ (fun _ => 0)) a) ((zrw M.2.1 h2_ (fun _ => 0)) h2_) x.toNat (0 : Int).toNat (n - x).toNat), zrw M.2.2.1 h2_ (fun _ => 0), zrw M.2.2.2 h2_ (fun _ => none)))))))))))) : zz_J (zpJ3_copyOfRangeByte c_ s_) (zz_retP Q X c_ s_) 0 [some (vr a), some (vi x), some (vi n), none, none] [] M (0, 0) := zz_J.go [] 400 h

theorem zmJ3_copyOfRangeByte (l : Launch) (hl : l.stackTraces = false) (c_ s_ : Nat) : mm_Spec l yJ3_copyOfRangeByte (ws_ yJ3_copyOfRangeByte cJ3_copyOfRangeByte 5 (some (.array .byte))) (mm_rm 3 c_ s_) (zE (zJ3_copyOfRangeByte c_ s_)) := by
  refine zz_Met.J hl (by decide) (fun C G hnh => ztJ3_copyOfRangeByte c_ s_ G hnh) ?_
  rintro as M Q X h
  unfold zJ3_copyOfRangeByte at h
  split at h
  rotate_left
  · exact h.elim
  rename_i a x n
  refine ⟨rfl, ?_⟩
  refine zz_retP_J ?_
  obtain ⟨b, m, hb, ha, rfl, hm, hn, hc, hby, hq⟩ := h
  have nb : a ≠ b := zfree_ne hb ha (by show (4 : Nat) ≠ 0; decide)
  have e0 : n - 0 = n := Int.sub_zero n
  have ha' : ∀ (S L : Nat → Nat → Int) (P : Nat → Nat → Option Nat), zsh ((M.1.1, zrw M.1.2 b (4, n.toNat)), S, L, P) a = (4, m) := fun S L P => by rw [zsh_al hb.1, if_neg nb]; exact ha
  have key : ∀ k : Nat, (∀ i : Nat, (i : Int) < n → i < k) → Q (some (vr b)) ((M.1.1, zrw M.1.2 b (4, n.toNat)), zrw (zrw M.2.1 b (fun _ => 0)) b (va_cpy ((zrw M.2.1 b (fun _ => 0)) a) ((zrw M.2.1 b (fun _ => 0)) b) (0 : Int).toNat (0 : Int).toNat k), zrw M.2.2.1 b (fun _ => 0), zrw M.2.2.2 b (fun _ => none)) := by
    intro k hk
    refine hq _ (fun j hj => by rw [zrw_n _ _ hj, zrw_n _ _ hj]) (fun i hi => ?_)
    rw [zrw_s]
    unfold va_cpy
    rw [if_pos (by have := hk i hi; simp; omega), zrw_n _ _ nb]
    simp
  refine zwJ3_copyOfRangeByte_0 ⟨by decide, by omega, by omega, b, hb, by omega, by omega, ?_⟩
  rw [e0]
  refine ⟨4, m, ha' _ _ _, by decide, by omega, by omega, fun c => ⟨m, n.toNat, ha' _ _ _, by rw [zsh_al hb.1, if_pos rfl], by omega, nb, by omega, by omega, by omega, fun _ i hi => ?_, ?_⟩, fun c => ⟨m, n.toNat, ha' _ _ _, by rw [zsh_al hb.1, if_pos rfl], by omega, nb, by omega, by omega, by omega, fun _ i hi => ?_, ?_⟩⟩
  · rw [zrw_n _ _ nb, show (0 : Int).toNat + i = i by omega]
    exact hby i (by omega)
  · exact ⟨by omega, key _ (fun i hi => by omega)⟩
  · rw [zrw_n _ _ nb, show (0 : Int).toNat + i = i by omega]
    exact hby i (by omega)
  · exact ⟨by omega, key _ (fun i hi => by omega)⟩
def zJ3_copyOfRange (c_ s_ : Nat) : zz_Sp := fun as M Q X => match as with
  | [.inr (.inr (some a)), .inl x, .inl n] => ∃ b_ m_ : Nat, zfree M b_ ∧ zsh M a = (4, m_) ∧ x = 0 ∧ m_ ≤ 1000000 ∧ (0 ≤ n ∧ n ≤ (m_ : Int)) ∧ (1 ≤ c_ ∧ n.toNat ≤ s_) ∧ (∀ i : Nat, i < m_ → -128 ≤ M.2.1 a i ∧ M.2.1 a i ≤ 127) ∧ (∀ S_ : Nat → Nat → Int, (∀ j, j ≠ b_ → S_ j = M.2.1 j) → (∀ i : Nat, (i : Int) < n → S_ b_ i = M.2.1 a i) → Q (some (vr b_)) ((M.1.1, zrw M.1.2 b_ (4, n.toNat)), S_, zrw M.2.2.1 b_ (fun _ => 0), zrw M.2.2.2 b_ (fun _ => none)))
  | _ => False

def zpJ3_copyOfRange (c_ s_ : Nat) : zz_P := [(0, zo_ild 1 1), (1, zo_ifne false 4 10), (4, zo_ild 5 2), (5, zo_ald 6 0), (6, zo_alenp 7), (7, zo_ceq false false 10 17), (10, zo_ald 11 0), (11, zo_ild 12 1), (12, zo_ild 13 2), (13, zo_csG (mm_rm 4 c_ s_) 16 3 zJ3_copyOfRangeByte), (16, zo_aret), (17, zo_ald 18 0), (18, zo_clob (mm_rm 4 c_ s_) 21), (21, zo_casta 24 4), (24, zo_aret)]
theorem ztJ3_copyOfRange (c_ s_ : Nat) {C : mm_C} (G : mm_G C RJ3 cJ3_copyOfRange (some (.array .byte)) 3 (mm_rm 4 c_ s_)) (hnh : mm_nh C) : zz_OKs C (zpJ3_copyOfRange c_ s_) :=
  ⟨zz_of (ok_iload_n G dJ3_copyOfRange_0 rfl rfl) (z_ild _ _),
   zz_of (ok_ifne G dJ3_copyOfRange_1 rfl rfl) (z_ifne _ _ _),
   zz_of (ok_iload_n G dJ3_copyOfRange_4 rfl rfl) (z_ild _ _),
   zz_of (ok_aload_n G dJ3_copyOfRange_5 rfl rfl) (z_ald _ _),
   zz_of (ok_alen G dJ3_copyOfRange_6 rfl) (z_alenp _),
   zz_of (ok_ceq G dJ3_copyOfRange_7 rfl rfl) (z_ceq _ _ _ _),
   zz_of (ok_aload_n G dJ3_copyOfRange_10 rfl rfl) (z_ald _ _),
   zz_of (ok_iload_n G dJ3_copyOfRange_11 rfl rfl) (z_ild _ _),
   zz_of (ok_iload_n G dJ3_copyOfRange_12 rfl rfl) (z_ild _ _),
   zz_of (ok_cals G (hnh.q 13) (zmJ3_copyOfRangeByte _ G.hst) q777 q778 q95 q779 (by decide +kernel) ⟨Nat.le_of_ble_eq_true rfl, Nat.le_of_ble_eq_true rfl⟩ dJ3_copyOfRange_13 rfl) (z_csG _ _ _ _),
   zz_of (ok_aret G (Or.inr ⟨_, rfl⟩) dJ3_copyOfRange_16) (z_aret),
   zz_of (ok_aload_n G dJ3_copyOfRange_17 rfl rfl) (z_ald _ _),
   zz_of (ok_clob G q687 q688 q689 q690 q691 q692 ⟨Nat.le_of_ble_eq_true rfl, Nat.le_of_ble_eq_true rfl⟩ dJ3_copyOfRange_18 rfl) (z_clob _ _),
   zz_of (ok_casta G (t := 4) (by decide) rfl (fun h => h) q693 dJ3_copyOfRange_21 rfl) (z_casta _ _),
   zz_of (ok_aret G (Or.inr ⟨_, rfl⟩) dJ3_copyOfRange_24) (z_aret), trivial⟩

theorem zwJ3_copyOfRange_0 {Q : Option zv → zz_M → Prop} {X : Nat → zz_M → Prop} {M : zz_M} {c_ s_ : Nat} {a : Nat} {x : Int} {n : Int} (h : R32 x ∧ ((¬ x = 0 → ∃ c1 s1 : Nat, (0 + c1 ≤ c_ ∧ 0 + s1 ≤ s_) ∧ (∃ b_2 m_2 : Nat, zfree M b_2 ∧ zsh M a = (4, m_2) ∧ x = 0 ∧ m_2 ≤ 1000000 ∧ (0 ≤ n ∧ n ≤ (m_2 : Int)) ∧ (1 ≤ c1 ∧ n.toNat ≤ s1) ∧ (∀ i : Nat, i < m_2 → -128 ≤ M.2.1 a i ∧ M.2.1 a i ≤ 127) ∧ (∀ S_2 : Nat → Nat → Int, (∀ j, j ≠ b_2 → S_2 j = M.2.1 j) → (∀ i : Nat, (i : Int) < n → S_2 b_2 i = M.2.1 a i) → ((0 + c1 ≤ c_ ∧ 0 + s1 ≤ s_) ∧ (Q (some (vr b_2)) ((M.1.1, zrw M.1.2 b_2 (4, n.toNat)), S_2, zrw M.2.2.1 b_2 (fun _ => 0), zrw M.2.2.2 b_2 (fun _ => none))))))) ∧ (x = 0 → ∃ (t_ n3 : Nat), zsh M a = (t_, n3) ∧ (2 ≤ t_ % 16 ∧ t_ % 16 ≤ 8 ∧ t_ ≤ 31) ∧ (R32 n ∧ (R32 (n3 : Int) ∧ ((n = (n3 : Int) → ∃ n4 h4_ : Nat, zsh M a = (4, n4) ∧ zfree M h4_ ∧ (∀ i : Nat, i < n4 → -128 ≤ M.2.1 a i ∧ M.2.1 a i ≤ 127) ∧ (0 + 1 ≤ c_ ∧ 0 + n4 ≤ s_) ∧ ((∃ n_ : Nat, zsh ((M.1.1, zrw M.1.2 h4_ (4, n4)), zrw M.2.1 h4_ (M.2.1 a), zrw M.2.2.1 h4_ (fun _ => 0), zrw M.2.2.2 h4_ (fun _ => none)) h4_ = (4, n_) ∨ zsh ((M.1.1, zrw M.1.2 h4_ (4, n4)), zrw M.2.1 h4_ (M.2.1 a), zrw M.2.2.1 h4_ (fun _ => 0), zrw M.2.2.2 h4_ (fun _ => none)) h4_ = (4 + 16, n_)) ∧ ((1 ≤ c_ ∧ 0 + n4 ≤ s_) ∧ (Q (some (vr h4_)) ((M.1.1, zrw M.1.2 h4_ (4, n4)), zrw M.2.1 h4_ (M.2.1 a), zrw M.2.2.1 h4_ (fun _ => 0), zrw M.2.2.2 h4_ (fun _ => none)))))) ∧ (¬ n = (n3 : Int) → ∃ c5 s5 : Nat, (0 + c5 ≤ c_ ∧ 0 + s5 ≤ s_) ∧ (∃ b_6 m_6 : Nat, zfree M b_6 ∧ zsh M a = (4, m_6) ∧ x = 0 ∧ m_6 ≤ 1000000 ∧ (0 ≤ n ∧ n ≤ (m_6 : Int)) ∧ (1 ≤ c5 ∧ n.toNat ≤ s5) ∧ (∀ i : Nat, i < m_6 → -128 ≤ M.2.1 a i ∧ M.2.1 a i ≤ 127) ∧ (∀ S_6 : Nat → Nat → Int, (∀ j, j ≠ b_6 → S_6 j = M.2.1 j) → (∀ i : Nat, (i : Int) < n → S_6 b_6 i = M.2.1 a i) → ((0 + c5 ≤ c_ ∧ 0 + s5 ≤ s_) ∧ (Q (some (vr b_6)) ((M.1.1, zrw M.1.2 b_6 (4, n.toNat)), S_6, zrw M.2.2.1 b_6 (fun _ => 0), zrw M.2.2.2 b_6 (fun _ => none))))))))))))) : zz_J (zpJ3_copyOfRange c_ s_) (zz_retP Q X c_ s_) 0 [some (vr a), some (vi x), some (vi n)] [] M (0, 0) := zz_J.go [] 400 h

theorem zmJ3_copyOfRange (l : Launch) (hl : l.stackTraces = false) (c_ s_ : Nat) : mm_Spec l yJ3_copyOfRange (ws_ yJ3_copyOfRange cJ3_copyOfRange 3 (some (.array .byte))) (mm_rm 4 c_ s_) (zE (zJ3_copyOfRange c_ s_)) := by
  refine zz_Met.J hl (by decide) (fun C G hnh => ztJ3_copyOfRange c_ s_ G hnh) ?_
  rintro as M Q X h
  unfold zJ3_copyOfRange at h
  split at h
  rotate_left
  · exact h.elim
  rename_i a x n
  refine ⟨rfl, ?_⟩
  refine zz_retP_J ?_
  obtain ⟨b, m, hb, ha, rfl, hm, hn, hc, hby, hq⟩ := h
  refine zwJ3_copyOfRange_0 ⟨by decide, fun c => absurd rfl c, fun _ => ⟨4, m, ha, by decide, by omega, by omega, fun c => ⟨m, b, ha, hb, hby, by omega, ⟨m, Or.inl (by rw [zsh_al hb.1, if_pos rfl])⟩, ?_⟩, fun c => ⟨c_, s_, by omega, b, m, hb, ha, rfl, hm, hn, hc, hby, fun S6 e1 e2 => ⟨by omega, hq S6 e1 e2⟩⟩⟩⟩
  have hq := hq (zrw M.2.1 b (M.2.1 a)) (fun j hj => zrw_n _ _ hj) (fun i hi => by rw [zrw_s])
  have en : n.toNat = m := by omega
  rw [en] at hq
  exact ⟨by omega, hq⟩
def zJ6_newCapacity : zz_Sp := fun as M Q X => match as with
  | [.inr (.inr (some h_)), .inl n] => ∃ b_ m_ : Nat, zsh M h_ = (1, 18) ∧ zpt M h_ 0 = some b_ ∧ M.2.1 h_ 1 = 0 ∧ zsh M b_ = (4, m_) ∧ (16 ≤ m_ ∧ m_ ≤ 100000) ∧ n = (m_ : Int) + 1 ∧ Q (some (vi (2 * (m_ : Int) + 2))) M
  | _ => False

def zpJ6_newCapacity : zz_P := [(0, zo_ald 1 0), (1, zo_getq 4 18 0), (4, zo_alenp 5), (5, zo_ist 6 2), (6, zo_ild 7 1), (7, zo_ald 8 0), (8, zo_getp 11 18 0 1), (11, zo_ishl 12), (12, zo_ist 13 3), (13, zo_ild 14 3), (14, zo_ild 15 2), (15, zo_isub 16), (16, zo_ist 18 4), (18, zo_ild 19 2), (19, zo_ild 21 4), (21, zo_ild 22 2), (22, zo_c 23 (vi 2)), (23, zo_ald 24 0), (24, zo_getp 27 18 0 1), (27, zo_ishl 28), (28, zo_iadd 29), (29, zo_calls 32 3 zJ5_newLength), (32, zo_ist 34 5), (34, zo_ild 36 5), (36, zo_c 38 (vi 2147483647)), (38, zo_cne false true 41 51), (41, zo_bad), (51, zo_ild 53 5), (53, zo_ald 54 0), (54, zo_getp 57 18 0 1), (57, zo_ishr 58), (58, zo_iret)]
theorem ztJ6_newCapacity {C : mm_C} (G : mm_G C RJ6 cJ6_newCapacity (some .int) 6 (mm_rm 3 0 0)) (hnh : mm_nh C) : zz_OKs C zpJ6_newCapacity :=
  ⟨zz_of (ok_aload_n G dJ6_newCapacity_0 rfl rfl) (z_ald _ _),
   zz_of (ok_get G (nx := 4) (ci := 18) (kd := 2) (k := 0) (RJ7, TJ7, 4) rfl (by decide) rfl q654 dJ6_newCapacity_1 rfl) (z_getq _ _ _),
   zz_of (ok_alen G dJ6_newCapacity_4 rfl) (z_alenp _),
   zz_of (ok_istore_n G dJ6_newCapacity_5 rfl rfl (by decide)) (z_ist _ _),
   zz_of (ok_iload_n G dJ6_newCapacity_6 rfl rfl) (z_ild _ _),
   zz_of (ok_aload_n G dJ6_newCapacity_7 rfl rfl) (z_ald _ _),
   zz_of (ok_get G (nx := 11) (ci := 18) (kd := 0) (k := 1) (RJ7, TJ7, 4) rfl (by decide) rfl q655 dJ6_newCapacity_8 rfl) (z_getp _ _ _ _),
   zz_of (ok_ishl G dJ6_newCapacity_11 rfl) (z_ishl _),
   zz_of (ok_istore_n G dJ6_newCapacity_12 rfl rfl (by decide)) (z_ist _ _),
   zz_of (ok_iload_n G dJ6_newCapacity_13 rfl rfl) (z_ild _ _),
   zz_of (ok_iload_n G dJ6_newCapacity_14 rfl rfl) (z_ild _ _),
   zz_of (ok_isub G dJ6_newCapacity_15 rfl) (z_isub _),
   zz_of (ok_istore G dJ6_newCapacity_16 rfl (by decide)) (z_ist _ _),
   zz_of (ok_iload_n G dJ6_newCapacity_18 rfl rfl) (z_ild _ _),
   zz_of (ok_iload G dJ6_newCapacity_19 rfl) (z_ild _ _),
   zz_of (ok_iload_n G dJ6_newCapacity_21 rfl rfl) (z_ild _ _),
   zz_of (ok_iconst G (v := 2) dJ6_newCapacity_22 (by decide) rfl) (z_cn 23 2),
   zz_of (ok_aload_n G dJ6_newCapacity_23 rfl rfl) (z_ald _ _),
   zz_of (ok_get G (nx := 27) (ci := 18) (kd := 0) (k := 1) (RJ7, TJ7, 4) rfl (by decide) rfl q655 dJ6_newCapacity_24 rfl) (z_getp _ _ _ _),
   zz_of (ok_ishl G dJ6_newCapacity_27 rfl) (z_ishl _),
   zz_of (ok_iadd G dJ6_newCapacity_28 rfl) (z_iadd _),
   zz_of (ok_calls G hnh (zmJ5_newLength _ G.hst) rfl rfl q682 q567 q97 q568 (by decide +kernel) ⟨by decide, by decide⟩ dJ6_newCapacity_29 rfl) (z_calls _ _ _),
   zz_of (ok_istore G dJ6_newCapacity_32 rfl (by decide)) (z_ist _ _),
   zz_of (ok_iload G dJ6_newCapacity_34 rfl) (z_ild _ _),
   zz_of (ok_ldc G (v := 2147483647) q683 dJ6_newCapacity_36 rfl) (z_cn 38 2147483647),
   zz_of (ok_cne G dJ6_newCapacity_38 rfl rfl) (z_cne _ _ _ _),
   zz_of (ok_bad) (z_bad),
   zz_of (ok_iload G dJ6_newCapacity_51 rfl) (z_ild _ _),
   zz_of (ok_aload_n G dJ6_newCapacity_53 rfl rfl) (z_ald _ _),
   zz_of (ok_get G (nx := 57) (ci := 18) (kd := 0) (k := 1) (RJ7, TJ7, 4) rfl (by decide) rfl q655 dJ6_newCapacity_54 rfl) (z_getp _ _ _ _),
   zz_of (ok_ishr G dJ6_newCapacity_57 rfl) (z_ishr _),
   zz_of (ok_iret G dJ6_newCapacity_58) (z_iret), trivial⟩

theorem zwJ6_newCapacity_0 {Q : Option zv → zz_M → Prop} {X : Nat → zz_M → Prop} {M : zz_M} {n : Int} {h_ : Nat} (h : zsh M h_ = (1, 18) ∧ (∀ b1 : Nat, zpt M h_ 0 = some b1 → ∃ (t_ n2 : Nat), zsh M b1 = (t_, n2) ∧ (2 ≤ t_ % 16 ∧ t_ % 16 ≤ 8 ∧ t_ ≤ 31) ∧ (zsh M h_ = (1, 18) ∧ (zsh M h_ = (1, 18) ∧ (((0 ≤ (n2 : Int) ∧ (n2 : Int) ≤ 1000000) ∧ (0 ≤ ((zshl n (M.2.1 h_ 1)) - (n2 : Int)) ∧ ((zshl n (M.2.1 h_ 1)) - (n2 : Int)) ≤ 1000000) ∧ (0 ≤ ((n2 : Int) + (zshl 2 (M.2.1 h_ 1))) ∧ ((n2 : Int) + (zshl 2 (M.2.1 h_ 1))) ≤ 1000000) ∧ 0 < (n2 : Int) + ((zshl n (M.2.1 h_ 1)) - (n2 : Int)) ∧ (((zshl n (M.2.1 h_ 1)) - (n2 : Int)) ≤ ((n2 : Int) + (zshl 2 (M.2.1 h_ 1))) → (R32 ((n2 : Int) + ((n2 : Int) + (zshl 2 (M.2.1 h_ 1)))) ∧ ((¬ ((n2 : Int) + ((n2 : Int) + (zshl 2 (M.2.1 h_ 1)))) = 2147483647 → zsh M h_ = (1, 18) ∧ (Q (some (vi (zshr ((n2 : Int) + ((n2 : Int) + (zshl 2 (M.2.1 h_ 1)))) (M.2.1 h_ 1)))) M)) ∧ (((n2 : Int) + ((n2 : Int) + (zshl 2 (M.2.1 h_ 1)))) = 2147483647 → False)))) ∧ (((n2 : Int) + (zshl 2 (M.2.1 h_ 1))) < ((zshl n (M.2.1 h_ 1)) - (n2 : Int)) → (R32 ((n2 : Int) + ((zshl n (M.2.1 h_ 1)) - (n2 : Int))) ∧ ((¬ ((n2 : Int) + ((zshl n (M.2.1 h_ 1)) - (n2 : Int))) = 2147483647 → zsh M h_ = (1, 18) ∧ (Q (some (vi (zshr ((n2 : Int) + ((zshl n (M.2.1 h_ 1)) - (n2 : Int))) (M.2.1 h_ 1)))) M)) ∧ (((n2 : Int) + ((zshl n (M.2.1 h_ 1)) - (n2 : Int))) = 2147483647 → False))))))))) ∧ (zpt M h_ 0 = none → False)) : zz_J zpJ6_newCapacity (zz_ret Q X 0 0) 0 [some (vr h_), some (vi n), none, none, none, none] [] M (0, 0) := zz_J.go [] 400 h

theorem zmJ6_newCapacity (l : Launch) (hl : l.stackTraces = false) : mm_Spec l yJ6_newCapacity (ws_ yJ6_newCapacity cJ6_newCapacity 6 (some .int)) (mm_rm 3 0 0) (zE zJ6_newCapacity) := by
  refine zz_Met.J hl (by decide) (fun C G hnh => ztJ6_newCapacity G hnh) ?_
  rintro as M Q X h
  unfold zJ6_newCapacity at h
  split at h
  rotate_left
  · exact h.elim
  rename_i h_ n
  refine ⟨rfl, ?_⟩
  obtain ⟨b, m, h1, h2, h3, h4, h5, rfl, hq⟩ := h
  refine zwJ6_newCapacity_0 (q_go h1 h2 ⟨4, m, h4, by decide, h1, h1, ?_⟩)
  rw [h3, zshl_0 (by omega), zshl_0 (by decide)]
  refine ⟨by omega, by omega, by omega, by omega, fun _ => ⟨by omega, fun _ => ⟨h1, ?_⟩, fun c => by omega⟩, fun c => by omega⟩
  rw [zshr_0 (by omega), show (m : Int) + (m + 2) = 2 * (m : Int) + 2 by omega]
  exact hq
def zJ6_ensureCapacityInternal (c_ s_ : Nat) : zz_Sp := fun as M Q X => match as with
  | [.inr (.inr (some h_)), .inl n] => ∃ b_ d_ m_ k_ : Nat, sbR M h_ d_ m_ k_ ∧ n = (k_ : Int) + 1 ∧ (k_ < m_ → Q none M) ∧ (k_ = m_ → zfree M b_ ∧ (1 ≤ c_ ∧ 2 * m_ + 2 ≤ s_) ∧ (∀ (S_ : Nat → Nat → Int) (P_ : Nat → Nat → Option Nat), (∀ j, j ≠ b_ → S_ j = M.2.1 j) → (∀ i : Nat, i < m_ → S_ b_ i = M.2.1 d_ i) → (∀ i : Nat, m_ ≤ i → S_ b_ i = 0) → (∀ j k, j ≠ b_ → ¬ (j = h_ ∧ k = 0) → P_ j k = M.2.2.2 j k) → P_ h_ 0 = some b_ → Q none ((M.1.1, zrw M.1.2 b_ (4, 2 * m_ + 2)), S_, zrw M.2.2.1 b_ (fun _ => 0), P_)))
  | _ => False

def zpJ6_ensureCapacityInternal (c_ s_ : Nat) : zz_P := [(0, zo_ald 1 0), (1, zo_getq 4 18 0), (4, zo_alenp 5), (5, zo_ald 6 0), (6, zo_getp 9 18 0 1), (9, zo_ishr 10), (10, zo_ist 11 2), (11, zo_ild 12 1), (12, zo_ild 13 2), (13, zo_isub 14), (14, zo_ifle false 17 38), (17, zo_ald 18 0), (18, zo_ald 19 0), (19, zo_getq 22 18 0), (22, zo_ald 23 0), (23, zo_ild 24 1), (24, zo_cvFp (mm_rm 4 c_ s_) 27 2 18 0 0 zJ6_newCapacity), (27, zo_ald 28 0), (28, zo_getp 31 18 0 1), (31, zo_ishl 32), (32, zo_csG (mm_rm 4 c_ s_) 35 2 zJ3_copyOf_3), (35, zo_putrp 38 18 0), (38, zo_vret)]
theorem ztJ6_ensureCapacityInternal (c_ s_ : Nat) {C : mm_C} (G : mm_G C RJ6 cJ6_ensureCapacityInternal none 3 (mm_rm 4 c_ s_)) (hnh : mm_nh C) : zz_OKs C (zpJ6_ensureCapacityInternal c_ s_) :=
  ⟨zz_of (ok_aload_n G dJ6_ensureCapacityInternal_0 rfl rfl) (z_ald _ _),
   zz_of (ok_get G (nx := 4) (ci := 18) (kd := 2) (k := 0) (RJ7, TJ7, 4) rfl (by decide) rfl q654 dJ6_ensureCapacityInternal_1 rfl) (z_getq _ _ _),
   zz_of (ok_alen G dJ6_ensureCapacityInternal_4 rfl) (z_alenp _),
   zz_of (ok_aload_n G dJ6_ensureCapacityInternal_5 rfl rfl) (z_ald _ _),
   zz_of (ok_get G (nx := 9) (ci := 18) (kd := 0) (k := 1) (RJ7, TJ7, 4) rfl (by decide) rfl q655 dJ6_ensureCapacityInternal_6 rfl) (z_getp _ _ _ _),
   zz_of (ok_ishr G dJ6_ensureCapacityInternal_9 rfl) (z_ishr _),
   zz_of (ok_istore_n G dJ6_ensureCapacityInternal_10 rfl rfl (by decide)) (z_ist _ _),
   zz_of (ok_iload_n G dJ6_ensureCapacityInternal_11 rfl rfl) (z_ild _ _),
   zz_of (ok_iload_n G dJ6_ensureCapacityInternal_12 rfl rfl) (z_ild _ _),
   zz_of (ok_isub G dJ6_ensureCapacityInternal_13 rfl) (z_isub _),
   zz_of (ok_ifle G dJ6_ensureCapacityInternal_14 rfl rfl) (z_ifle _ _ _),
   zz_of (ok_aload_n G dJ6_ensureCapacityInternal_17 rfl rfl) (z_ald _ _),
   zz_of (ok_aload_n G dJ6_ensureCapacityInternal_18 rfl rfl) (z_ald _ _),
   zz_of (ok_get G (nx := 22) (ci := 18) (kd := 2) (k := 0) (RJ7, TJ7, 4) rfl (by decide) rfl q654 dJ6_ensureCapacityInternal_19 rfl) (z_getq _ _ _),
   zz_of (ok_aload_n G dJ6_ensureCapacityInternal_22 rfl rfl) (z_ald _ _),
   zz_of (ok_iload_n G dJ6_ensureCapacityInternal_23 rfl rfl) (z_ild _ _),
   zz_of (ok_calrF G (hnh.q 24) (zmJ6_newCapacity _ G.hst) (RJ7, TJ7, 4) rfl q678 q2227 q679 q680 q98 q681 (by decide +kernel) ⟨Nat.le_of_ble_eq_true rfl, Nat.le_of_ble_eq_true rfl⟩ dJ6_ensureCapacityInternal_24 rfl) (z_cvFp _ _ _ _ _ _ _),
   zz_of (ok_aload_n G dJ6_ensureCapacityInternal_27 rfl rfl) (z_ald _ _),
   zz_of (ok_get G (nx := 31) (ci := 18) (kd := 0) (k := 1) (RJ7, TJ7, 4) rfl (by decide) rfl q655 dJ6_ensureCapacityInternal_28 rfl) (z_getp _ _ _ _),
   zz_of (ok_ishl G dJ6_ensureCapacityInternal_31 rfl) (z_ishl _),
   zz_of (ok_cals G (hnh.q 32) (zmJ3_copyOf_3 _ G.hst) q684 q685 q95 q686 (by decide +kernel) ⟨Nat.le_of_ble_eq_true rfl, Nat.le_of_ble_eq_true rfl⟩ dJ6_ensureCapacityInternal_32 rfl) (z_csG _ _ _ _),
   zz_of (ok_putr G (nx := 38) (idx := 15) (ci := 18) (k := 0) (RJ7, TJ7, 4) rfl (by decide) rfl (mm_pw G (ci := 18) (k := 0) (RJ7, TJ7, 4) rfl (by decide) rfl q654 dJ6_ensureCapacityInternal_35) rfl) (z_putrp _ _ _),
   zz_of (ok_vret G dJ6_ensureCapacityInternal_38) (z_vret), trivial⟩

theorem zwJ6_ensureCapacityInternal_0 {Q : Option zv → zz_M → Prop} {X : Nat → zz_M → Prop} {M : zz_M} {c_ s_ : Nat} {n : Int} {h_ : Nat} (h : zsh M h_ = (1, 18) ∧ (∀ b1 : Nat, zpt M h_ 0 = some b1 → ∃ (t_ n2 : Nat), zsh M b1 = (t_, n2) ∧ (2 ≤ t_ % 16 ∧ t_ % 16 ≤ 8 ∧ t_ ≤ 31) ∧ (zsh M h_ = (1, 18) ∧ (R32 (n - (zshr (n2 : Int) (M.2.1 h_ 1))) ∧ (((n - (zshr (n2 : Int) (M.2.1 h_ 1))) ≤ 0 → (0 ≤ c_ ∧ 0 ≤ s_) ∧ (Q none M)) ∧ (¬ (n - (zshr (n2 : Int) (M.2.1 h_ 1))) ≤ 0 → zsh M h_ = (1, 18) ∧ (∀ b3 : Nat, zpt M h_ 0 = some b3 → (zsh M h_ = (1, 18) ∨ zsh M h_ = (17, 18)) ∧ (0 + 0 ≤ c_ ∧ 0 + 0 ≤ s_) ∧ (∃ b_4 m_4 : Nat, zsh M h_ = (1, 18) ∧ zpt M h_ 0 = some b_4 ∧ M.2.1 h_ 1 = 0 ∧ zsh M b_4 = (4, m_4) ∧ (16 ≤ m_4 ∧ m_4 ≤ 100000) ∧ n = (m_4 : Int) + 1 ∧ (zsh M h_ = (1, 18) ∧ (∃ c5 s5 : Nat, (0 + c5 ≤ c_ ∧ 0 + s5 ≤ s_) ∧ (∃ b_6 m_6 : Nat, zfree M b_6 ∧ zsh M b3 = (4, m_6) ∧ ¬ (zshl (2 * (m_4 : Int) + 2) (M.2.1 h_ 1)) = (m_6 : Int) ∧ m_6 ≤ 100000 ∧ (0 ≤ (zshl (2 * (m_4 : Int) + 2) (M.2.1 h_ 1)) ∧ (zshl (2 * (m_4 : Int) + 2) (M.2.1 h_ 1)) ≤ 1000000) ∧ (m_6 : Int) ≤ (zshl (2 * (m_4 : Int) + 2) (M.2.1 h_ 1)) ∧ (1 ≤ c5 ∧ (zshl (2 * (m_4 : Int) + 2) (M.2.1 h_ 1)).toNat ≤ s5) ∧ (∀ i : Nat, i < m_6 → -128 ≤ M.2.1 b3 i ∧ M.2.1 b3 i ≤ 127) ∧ (∀ S_6 : Nat → Nat → Int, (∀ j, j ≠ b_6 → S_6 j = M.2.1 j) → (∀ i : Nat, i < m_6 → S_6 b_6 i = M.2.1 b3 i) → (∀ i : Nat, m_6 ≤ i → S_6 b_6 i = 0) → (zsh ((M.1.1, zrw M.1.2 b_6 (4, (zshl (2 * (m_4 : Int) + 2) (M.2.1 h_ 1)).toNat)), S_6, zrw M.2.2.1 b_6 (fun _ => 0), zrw M.2.2.2 b_6 (fun _ => none)) h_ = (1, 18) ∧ (zfx (((M.1.1, zrw M.1.2 b_6 (4, (zshl (2 * (m_4 : Int) + 2) (M.2.1 h_ 1)).toNat)), S_6, zrw M.2.2.1 b_6 (fun _ => 0), zrw M.2.2.2 b_6 (fun _ => none)).1.1) h_ 0 = false ∧ ((0 + c5 ≤ c_ ∧ 0 + s5 ≤ s_) ∧ (Q none ((M.1.1, zrw M.1.2 b_6 (4, (zshl (2 * (m_4 : Int) + 2) (M.2.1 h_ 1)).toNat)), S_6, zrw M.2.2.1 b_6 (fun _ => 0), mm_up (zrw M.2.2.2 b_6 (fun _ => none)) h_ 0 (some b_6)))))))))))) ∧ (zpt M h_ 0 = none → (zsh M h_ = (1, 18) ∨ zsh M h_ = (17, 18)) ∧ (0 + 0 ≤ c_ ∧ 0 + 0 ≤ s_) ∧ (∃ b_7 m_7 : Nat, zsh M h_ = (1, 18) ∧ zpt M h_ 0 = some b_7 ∧ M.2.1 h_ 1 = 0 ∧ zsh M b_7 = (4, m_7) ∧ (16 ≤ m_7 ∧ m_7 ≤ 100000) ∧ n = (m_7 : Int) + 1 ∧ (zsh M h_ = (1, 18) ∧ (∃ c8 s8 : Nat, (0 + c8 ≤ c_ ∧ 0 + s8 ≤ s_) ∧ (False)))))))))) ∧ (zpt M h_ 0 = none → False)) : zz_J (zpJ6_ensureCapacityInternal c_ s_) (zz_retP Q X c_ s_) 0 [some (vr h_), some (vi n), none] [] M (0, 0) := zz_J.go [] 400 h

theorem zmJ6_ensureCapacityInternal (l : Launch) (hl : l.stackTraces = false) (c_ s_ : Nat) : mm_Spec l yJ6_ensureCapacityInternal (ws_ yJ6_ensureCapacityInternal cJ6_ensureCapacityInternal 3 none) (mm_rm 4 c_ s_) (zE (zJ6_ensureCapacityInternal c_ s_)) := by
  refine zz_Met.J hl (by decide) (fun C G hnh => ztJ6_ensureCapacityInternal c_ s_ G hnh) ?_
  rintro as M Q X h
  unfold zJ6_ensureCapacityInternal at h
  split at h
  rotate_left
  · exact h.elim
  rename_i h_ n
  refine ⟨rfl, ?_⟩
  refine zz_retP_J ?_
  obtain ⟨b, d, m, k, ⟨h1, h2, h3, h4, h5, h6, h7, h8, h9, h10⟩, rfl, q1, q2⟩ := h
  refine zwJ6_ensureCapacityInternal_0 (q_go h1 h2 ⟨4, m, h6, by decide, h1, ?_⟩)
  rw [h4, zshr_0 (by omega)]
  refine ⟨by omega, fun c => ⟨by omega, q1 (by omega)⟩, fun c => ⟨h1, ?_⟩⟩
  obtain ⟨hb, hc, hq⟩ := q2 (by omega)
  have nh : h_ ≠ b := zfree_ne hb h1 (by decide)
  have e2 : zshl (2 * (m : Int) + 2) 0 = 2 * (m : Int) + 2 := zshl_0 (by omega)
  refine (q_go h1 h2 ⟨Or.inl h1, by omega, d, m, h1, h2, rfl, h6, by omega, by omega, h1, ?_⟩ : _ ∧ _ ∧ _).2
  refine ⟨c_, s_, by omega, b, m, hb, h6, ?_⟩
  rw [e2]
  refine ⟨by omega, by omega, by omega, by omega, by omega, h10, fun S6 e6 e7 e8 => ⟨by rw [zsh_al hb.1, if_neg nh]; exact h1, h3, ?_⟩⟩
  have en : (2 * (m : Int) + 2).toNat = 2 * m + 2 := by omega
  rw [en]
  refine ⟨by omega, hq S6 _ e6 e7 e8 (fun j x hj hx => ?_) ?_⟩
  · rw [up_eq, if_neg hx, zrw_n _ _ hj]
  · rw [up_eq, if_pos ⟨rfl, rfl⟩]
def zJ6_append (c_ s_ : Nat) : zz_Sp := fun as M Q X => match as with
  | [.inr (.inr (some h_)), .inl c] => ∃ b_ d_ m_ k_ : Nat, sbR M h_ d_ m_ k_ ∧ (0 ≤ c ∧ c ≤ 127) ∧ (k_ < m_ → (∀ S_ : Nat → Nat → Int, (∀ j k, ¬ (j = h_ ∧ k = 3) → ¬ (j = d_ ∧ k = k_) → S_ j k = M.2.1 j k) → S_ h_ 3 = (k_ : Int) + 1 → S_ d_ k_ = c → Q (some (vr h_)) ((M.1.1, M.1.2), S_, M.2.2.1, M.2.2.2))) ∧ (k_ = m_ → zfree M b_ ∧ (1 ≤ c_ ∧ 2 * m_ + 2 ≤ s_) ∧ (∀ (S_ : Nat → Nat → Int) (P_ : Nat → Nat → Option Nat), (∀ j k, j ≠ b_ → ¬ (j = h_ ∧ k = 3) → S_ j k = M.2.1 j k) → S_ h_ 3 = (k_ : Int) + 1 → (∀ i : Nat, i < m_ → S_ b_ i = M.2.1 d_ i) → S_ b_ k_ = c → (∀ i : Nat, m_ < i → S_ b_ i = 0) → (∀ j k, j ≠ b_ → ¬ (j = h_ ∧ k = 0) → P_ j k = M.2.2.2 j k) → P_ h_ 0 = some b_ → Q (some (vr h_)) ((M.1.1, zrw M.1.2 b_ (4, 2 * m_ + 2)), S_, zrw M.2.2.1 b_ (fun _ => 0), P_)))
  | _ => False

def zpJ6_append (c_ s_ : Nat) : zz_P := [(0, zo_ald 1 0), (1, zo_ald 2 0), (2, zo_getp 5 18 0 3), (5, zo_c 6 (vi 1)), (6, zo_iadd 7), (7, zo_cvGp (mm_rm 5 c_ s_) 10 2 18 zJ6_ensureCapacityInternal), (10, zo_ald 11 0), (11, zo_cvFp (mm_rm 5 c_ s_) 14 1 18 0 0 zJ6_isLatin1), (14, zo_zifeq 17 45), (17, zo_ild 18 1), (18, zo_calls 21 1 zJ10_canEncode), (21, zo_zifeq 24 45), (24, zo_ald 25 0), (25, zo_getq 28 18 0), (28, zo_ald 29 0), (29, zo_dup 30), (30, zo_getp 33 18 0 3), (33, zo_dup_x1 34), (34, zo_c 35 (vi 1)), (35, zo_iadd 36), (36, zo_putip 39 18 3), (39, zo_ild 40 1), (40, zo_i2b 41), (41, zo_bastp 42), (42, zo_goto 75), (45, zo_ald 46 0), (46, zo_cvF (mm_rm 5 c_ s_) 49 1 18 0 0 zJ6_isLatin1), (49, zo_zifeq 52 56), (52, zo_ald 53 0), (53, zo_bad), (56, zo_ald 57 0), (57, zo_get 60 18 2 0), (60, zo_ald 61 0), (61, zo_dup 62), (62, zo_get 65 18 0 3), (65, zo_dup_x1 66), (66, zo_c 67 (vi 1)), (67, zo_iadd 68), (68, zo_puti 71 18 3), (71, zo_ild 72 1), (72, zo_bad), (75, zo_ald 76 0), (76, zo_aret)]
theorem ztJ6_append (c_ s_ : Nat) {C : mm_C} (G : mm_G C RJ6 cJ6_append (some (.object "java/lang/AbstractStringBuilder")) 2 (mm_rm 5 c_ s_)) (hnh : mm_nh C) : zz_OKs C (zpJ6_append c_ s_) :=
  ⟨zz_of (ok_aload_n G dJ6_append_0 rfl rfl) (z_ald _ _),
   zz_of (ok_aload_n G dJ6_append_1 rfl rfl) (z_ald _ _),
   zz_of (ok_get G (nx := 5) (ci := 18) (kd := 0) (k := 3) (RJ7, TJ7, 4) rfl (by decide) rfl q657 dJ6_append_2 rfl) (z_getp _ _ _ _),
   zz_of (ok_iconst G (v := 1) dJ6_append_5 (by decide) rfl) (z_cn 6 1),
   zz_of (ok_iadd G dJ6_append_6 rfl) (z_iadd _),
   zz_of (ok_famv (fun c_1 s_1 => ok_calrF G (hnh.q 7) (zmJ6_ensureCapacityInternal _ G.hst c_1 s_1) (RJ7, TJ7, 4) rfl q674 q2226 q675 q676 q98 q677 (by decide +kernel) ⟨Nat.le_of_ble_eq_true rfl, Nat.le_of_ble_eq_true rfl⟩ dJ6_append_7 rfl)) (z_cvGp _ _ _ _ _),
   zz_of (ok_aload_n G dJ6_append_10 rfl rfl) (z_ald _ _),
   zz_of (ok_caluF G (hnh.q 11) (zmJ6_isLatin1 _ G.hst) (RJ7, TJ7, 4) rfl q694 q696 q695 q697 q98 q698 rfl (by decide +kernel) ⟨Nat.le_of_ble_eq_true rfl, Nat.le_of_ble_eq_true rfl⟩ dJ6_append_11 rfl) (z_cvFp _ _ _ _ _ _ _),
   zz_of (ok_ifeq G dJ6_append_14 rfl rfl) (z_zifeq _ _),
   zz_of (ok_iload_n G dJ6_append_17 rfl rfl) (z_ild _ _),
   zz_of (ok_calls G hnh (zmJ10_canEncode _ G.hst) rfl rfl q699 q700 q102 q701 (by decide +kernel) ⟨Nat.le_of_ble_eq_true rfl, Nat.le_of_ble_eq_true rfl⟩ dJ6_append_18 rfl) (z_calls _ _ _),
   zz_of (ok_ifeq G dJ6_append_21 rfl rfl) (z_zifeq _ _),
   zz_of (ok_aload_n G dJ6_append_24 rfl rfl) (z_ald _ _),
   zz_of (ok_get G (nx := 28) (ci := 18) (kd := 2) (k := 0) (RJ7, TJ7, 4) rfl (by decide) rfl q654 dJ6_append_25 rfl) (z_getq _ _ _),
   zz_of (ok_aload_n G dJ6_append_28 rfl rfl) (z_ald _ _),
   zz_of (ok_dup G dJ6_append_29 rfl) (z_dup _),
   zz_of (ok_get G (nx := 33) (ci := 18) (kd := 0) (k := 3) (RJ7, TJ7, 4) rfl (by decide) rfl q657 dJ6_append_30 rfl) (z_getp _ _ _ _),
   zz_of (ok_dup_x1 G dJ6_append_33 rfl) (z_dup_x1 _),
   zz_of (ok_iconst G (v := 1) dJ6_append_34 (by decide) rfl) (z_cn 35 1),
   zz_of (ok_iadd G dJ6_append_35 rfl) (z_iadd _),
   zz_of (ok_puti G (nx := 39) (idx := 79) (ci := 18) (k := 3) (RJ7, TJ7, 4) rfl (by decide) rfl (mm_pw G (ci := 18) (k := 3) (RJ7, TJ7, 4) rfl (by decide) rfl q657 dJ6_append_36) rfl) (z_putip _ _ _),
   zz_of (ok_iload_n G dJ6_append_39 rfl rfl) (z_ild _ _),
   zz_of (ok_i2b G dJ6_append_40 rfl) (z_i2b _),
   zz_of (ok_bast G dJ6_append_41 rfl) (z_bastp _),
   zz_of (ok_goto G dJ6_append_42 rfl) (z_goto _),
   zz_of (ok_aload_n G dJ6_append_45 rfl rfl) (z_ald _ _),
   zz_of (ok_caluF G (hnh.q 46) (zmJ6_isLatin1 _ G.hst) (RJ7, TJ7, 4) rfl q694 q696 q695 q697 q98 q698 rfl (by decide +kernel) ⟨Nat.le_of_ble_eq_true rfl, Nat.le_of_ble_eq_true rfl⟩ dJ6_append_46 rfl) (z_cvF _ _ _ _ _ _ _),
   zz_of (ok_ifeq G dJ6_append_49 rfl rfl) (z_zifeq _ _),
   zz_of (ok_aload_n G dJ6_append_52 rfl rfl) (z_ald _ _),
   zz_of (ok_bad) (z_bad),
   zz_of (ok_aload_n G dJ6_append_56 rfl rfl) (z_ald _ _),
   zz_of (ok_get G (nx := 60) (ci := 18) (kd := 2) (k := 0) (RJ7, TJ7, 4) rfl (by decide) rfl q654 dJ6_append_57 rfl) (z_get _ _ _ _),
   zz_of (ok_aload_n G dJ6_append_60 rfl rfl) (z_ald _ _),
   zz_of (ok_dup G dJ6_append_61 rfl) (z_dup _),
   zz_of (ok_get G (nx := 65) (ci := 18) (kd := 0) (k := 3) (RJ7, TJ7, 4) rfl (by decide) rfl q657 dJ6_append_62 rfl) (z_get _ _ _ _),
   zz_of (ok_dup_x1 G dJ6_append_65 rfl) (z_dup_x1 _),
   zz_of (ok_iconst G (v := 1) dJ6_append_66 (by decide) rfl) (z_cn 67 1),
   zz_of (ok_iadd G dJ6_append_67 rfl) (z_iadd _),
   zz_of (ok_puti G (nx := 71) (idx := 79) (ci := 18) (k := 3) (RJ7, TJ7, 4) rfl (by decide) rfl (mm_pw G (ci := 18) (k := 3) (RJ7, TJ7, 4) rfl (by decide) rfl q657 dJ6_append_68) rfl) (z_puti _ _ _),
   zz_of (ok_iload_n G dJ6_append_71 rfl rfl) (z_ild _ _),
   zz_of (ok_bad) (z_bad),
   zz_of (ok_aload_n G dJ6_append_75 rfl rfl) (z_ald _ _),
   zz_of (ok_aret G (Or.inl ⟨_, rfl⟩) dJ6_append_76) (z_aret), trivial⟩

theorem zwJ6_append_0 {Q : Option zv → zz_M → Prop} {X : Nat → zz_M → Prop} {M : zz_M} {c_ s_ : Nat} {c : Int} {h_ : Nat} (h : zsh M h_ = (1, 18) ∧ ((zsh M h_ = (1, 18) ∨ zsh M h_ = (17, 18)) ∧ ∃ c1 s1 : Nat, (0 + c1 ≤ c_ ∧ 0 + s1 ≤ s_) ∧ (∃ b_2 d_2 m_2 k_2 : Nat, sbR M h_ d_2 m_2 k_2 ∧ ((M.2.1 h_ 3) + 1) = (k_2 : Int) + 1 ∧ (k_2 < m_2 → ((zsh M h_ = (1, 18) ∨ zsh M h_ = (17, 18)) ∧ (0 + c1 + 0 ≤ c_ ∧ 0 + s1 + 0 ≤ s_) ∧ (zsh M h_ = (1, 18) ∧ M.2.1 h_ 1 = 0 ∧ (((0 ≤ c ∧ c ≤ 255) ∧ (zsh M h_ = (1, 18) ∧ (∀ b5 : Nat, zpt M h_ 0 = some b5 → zsh M h_ = (1, 18) ∧ (zsh M h_ = (1, 18) ∧ (∃ n_ : Nat, zsh ((M.1.1, M.1.2), mm_up M.2.1 h_ 3 ((M.2.1 h_ 3) + 1), M.2.2.1, M.2.2.2) b5 = (4, n_) ∧ (n_ : Int) ≤ 2147483647 ∧ (-128 ≤ (zbyte c) ∧ (zbyte c) ≤ 127) ∧ (0 ≤ (M.2.1 h_ 3) ∧ (M.2.1 h_ 3) < (n_ : Int)) ∧ ((0 + c1 + 0 ≤ c_ ∧ 0 + s1 + 0 ≤ s_) ∧ (Q (some (vr h_)) ((M.1.1, M.1.2), mm_up (mm_up M.2.1 h_ 3 ((M.2.1 h_ 3) + 1)) b5 ((M.2.1 h_ 3).toNat) (zbyte c), M.2.2.1, M.2.2.2)))))) ∧ (zpt M h_ 0 = none → zsh M h_ = (1, 18) ∧ (zsh M h_ = (1, 18) ∧ (False))))))))) ∧ (k_2 = m_2 → zfree M b_2 ∧ (1 ≤ c1 ∧ 2 * m_2 + 2 ≤ s1) ∧ (∀ (S_2 : Nat → Nat → Int) (P_2 : Nat → Nat → Option Nat), (∀ j, j ≠ b_2 → S_2 j = M.2.1 j) → (∀ i : Nat, i < m_2 → S_2 b_2 i = M.2.1 d_2 i) → (∀ i : Nat, m_2 ≤ i → S_2 b_2 i = 0) → (∀ j k, j ≠ b_2 → ¬ (j = h_ ∧ k = 0) → P_2 j k = M.2.2.2 j k) → P_2 h_ 0 = some b_2 → ((zsh ((M.1.1, zrw M.1.2 b_2 (4, 2 * m_2 + 2)), S_2, zrw M.2.2.1 b_2 (fun _ => 0), P_2) h_ = (1, 18) ∨ zsh ((M.1.1, zrw M.1.2 b_2 (4, 2 * m_2 + 2)), S_2, zrw M.2.2.1 b_2 (fun _ => 0), P_2) h_ = (17, 18)) ∧ (0 + c1 + 0 ≤ c_ ∧ 0 + s1 + 0 ≤ s_) ∧ (zsh ((M.1.1, zrw M.1.2 b_2 (4, 2 * m_2 + 2)), S_2, zrw M.2.2.1 b_2 (fun _ => 0), P_2) h_ = (1, 18) ∧ ((M.1.1, zrw M.1.2 b_2 (4, 2 * m_2 + 2)), S_2, zrw M.2.2.1 b_2 (fun _ => 0), P_2).2.1 h_ 1 = 0 ∧ (((0 ≤ c ∧ c ≤ 255) ∧ (zsh ((M.1.1, zrw M.1.2 b_2 (4, 2 * m_2 + 2)), S_2, zrw M.2.2.1 b_2 (fun _ => 0), P_2) h_ = (1, 18) ∧ (∀ b8 : Nat, zpt ((M.1.1, zrw M.1.2 b_2 (4, 2 * m_2 + 2)), S_2, zrw M.2.2.1 b_2 (fun _ => 0), P_2) h_ 0 = some b8 → zsh ((M.1.1, zrw M.1.2 b_2 (4, 2 * m_2 + 2)), S_2, zrw M.2.2.1 b_2 (fun _ => 0), P_2) h_ = (1, 18) ∧ (zsh ((M.1.1, zrw M.1.2 b_2 (4, 2 * m_2 + 2)), S_2, zrw M.2.2.1 b_2 (fun _ => 0), P_2) h_ = (1, 18) ∧ (∃ n_ : Nat, zsh ((M.1.1, zrw M.1.2 b_2 (4, 2 * m_2 + 2)), mm_up S_2 h_ 3 ((S_2 h_ 3) + 1), zrw M.2.2.1 b_2 (fun _ => 0), P_2) b8 = (4, n_) ∧ (n_ : Int) ≤ 2147483647 ∧ (-128 ≤ (zbyte c) ∧ (zbyte c) ≤ 127) ∧ (0 ≤ (S_2 h_ 3) ∧ (S_2 h_ 3) < (n_ : Int)) ∧ ((0 + c1 + 0 ≤ c_ ∧ 0 + s1 + 0 ≤ s_) ∧ (Q (some (vr h_)) ((M.1.1, zrw M.1.2 b_2 (4, 2 * m_2 + 2)), mm_up (mm_up S_2 h_ 3 ((S_2 h_ 3) + 1)) b8 ((S_2 h_ 3).toNat) (zbyte c), zrw M.2.2.1 b_2 (fun _ => 0), P_2)))))) ∧ (zpt ((M.1.1, zrw M.1.2 b_2 (4, 2 * m_2 + 2)), S_2, zrw M.2.2.1 b_2 (fun _ => 0), P_2) h_ 0 = none → zsh ((M.1.1, zrw M.1.2 b_2 (4, 2 * m_2 + 2)), S_2, zrw M.2.2.1 b_2 (fun _ => 0), P_2) h_ = (1, 18) ∧ (zsh ((M.1.1, zrw M.1.2 b_2 (4, 2 * m_2 + 2)), S_2, zrw M.2.2.1 b_2 (fun _ => 0), P_2) h_ = (1, 18) ∧ (False))))))))))))) : zz_J (zpJ6_append c_ s_) (zz_retP Q X c_ s_) 0 [some (vr h_), some (vi c)] [] M (0, 0) := zz_J.go [] 400 h

theorem zmJ6_append (l : Launch) (hl : l.stackTraces = false) (c_ s_ : Nat) : mm_Spec l yJ6_append (ws_ yJ6_append cJ6_append 2 (some (.object "java/lang/AbstractStringBuilder"))) (mm_rm 5 c_ s_) (zE (zJ6_append c_ s_)) := by
  refine zz_Met.J hl (by decide) (fun C G hnh => ztJ6_append c_ s_ G hnh) ?_
  rintro as M Q X h
  unfold zJ6_append at h
  split at h
  rotate_left
  · exact h.elim
  rename_i h_ c
  refine ⟨rfl, ?_⟩
  refine zz_retP_J ?_
  obtain ⟨b, d, m, k, ⟨h1, h2, h3, h4, h5, h6, h7, h8, h9, h10⟩, hc, q1, q2⟩ := h
  have nd : h_ ≠ d := by
    rintro rfl
    rw [h1] at h6
    cases h6
  have zb : zbyte c = c := zbyte_id (by omega) (by omega)
  refine zwJ6_append_0 ⟨h1, Or.inl h1, c_, s_, by omega, b, d, m, k, ⟨h1, h2, h3, h4, h5, h6, h7, h8, h9, h10⟩, by rw [h5], fun hk => ⟨Or.inl h1, by omega, h1, h4, by omega, h1, (q_go h1 h2 ⟨h1, h1, m, h6, by omega, by rw [zb]; omega, by rw [h5]; omega, ?_⟩ : _ ∧ _ ∧ _).2⟩, fun hk => ?_⟩
  · obtain ⟨hb, hcs, hq⟩ := q2 hk
    refine ⟨hb, hcs, fun S2 P2 e1 e2 e3 e4 e5 => ?_⟩
    have nh : h_ ≠ b := zfree_ne hb h1 (by decide)
    have sh' : ∀ S L P, zsh ((M.1.1, zrw M.1.2 b (4, 2 * m + 2)), S, L, P) h_ = (1, 18) := fun S L P => by rw [zsh_al hb.1, if_neg nh]; exact h1
    have s3 : S2 h_ 3 = (k : Int) := by rw [e1 h_ nh]; exact h5
    have s1 : S2 h_ 1 = 0 := by rw [e1 h_ nh]; exact h4
    have hz : zpt ((M.1.1, zrw M.1.2 b (4, 2 * m + 2)), S2, zrw M.2.2.1 b (fun _ => 0), P2) h_ 0 = some b := (zpt_o (M := ((M.1.1, zrw M.1.2 b (4, 2 * m + 2)), S2, zrw M.2.2.1 b (fun _ => 0), P2)) h3).trans e5
    refine ⟨Or.inl (sh' _ _ _), by omega, sh' _ _ _, s1, by omega, sh' _ _ _, (q_go (sh' _ _ _) hz ⟨sh' _ _ _, sh' _ _ _, 2 * m + 2, by rw [zsh_al hb.1, if_pos rfl], by omega, by rw [zb]; omega, by rw [s3]; omega, ?_⟩ : _ ∧ _ ∧ _).2⟩
    rw [s3, Int.toNat_natCast, zb]
    refine ⟨by omega, hq _ _ (fun j x a1 a2 => ?_) ?_ (fun i hi => ?_) ?_ (fun i hi => ?_) e4 e5⟩
    · rw [up_eq, if_neg (fun e => a1 e.1), up_eq, if_neg a2, e1 j a1]
    · rw [up_eq, if_neg (fun e => nh e.1), up_eq, if_pos ⟨rfl, rfl⟩]
    · rw [up_eq, if_neg (by omega), up_eq, if_neg (fun e => nh e.1.symm)]
      exact e2 i hi
    · rw [up_eq, if_pos ⟨rfl, rfl⟩]
    · rw [up_eq, if_neg (by omega), up_eq, if_neg (fun e => nh e.1.symm)]
      exact e3 i (by omega)
  · rw [h5, Int.toNat_natCast, zb]
    refine ⟨by omega, q1 hk _ (fun j x a1 a2 => ?_) ?_ ?_⟩
    · rw [up_eq, if_neg a2, up_eq, if_neg a1]
    · rw [up_eq, if_neg (fun e => nd e.1), up_eq, if_pos ⟨rfl, rfl⟩]
    · rw [up_eq, if_pos ⟨rfl, rfl⟩]
def zJ7_append (c_ s_ : Nat) : zz_Sp := fun as M Q X => match as with
  | [.inr (.inr (some h_)), .inl c] => ∃ b_ d_ m_ k_ : Nat, sbR M h_ d_ m_ k_ ∧ (0 ≤ c ∧ c ≤ 127) ∧ (k_ < m_ → (∀ S_ : Nat → Nat → Int, (∀ j k, ¬ (j = h_ ∧ k = 3) → ¬ (j = d_ ∧ k = k_) → S_ j k = M.2.1 j k) → S_ h_ 3 = (k_ : Int) + 1 → S_ d_ k_ = c → Q (some (vr h_)) ((M.1.1, M.1.2), S_, M.2.2.1, M.2.2.2))) ∧ (k_ = m_ → zfree M b_ ∧ (1 ≤ c_ ∧ 2 * m_ + 2 ≤ s_) ∧ (∀ (S_ : Nat → Nat → Int) (P_ : Nat → Nat → Option Nat), (∀ j k, j ≠ b_ → ¬ (j = h_ ∧ k = 3) → S_ j k = M.2.1 j k) → S_ h_ 3 = (k_ : Int) + 1 → (∀ i : Nat, i < m_ → S_ b_ i = M.2.1 d_ i) → S_ b_ k_ = c → (∀ i : Nat, m_ < i → S_ b_ i = 0) → (∀ j k, j ≠ b_ → ¬ (j = h_ ∧ k = 0) → P_ j k = M.2.2.2 j k) → P_ h_ 0 = some b_ → Q (some (vr h_)) ((M.1.1, zrw M.1.2 b_ (4, 2 * m_ + 2)), S_, zrw M.2.2.1 b_ (fun _ => 0), P_)))
  | _ => False

def zpJ7_append (c_ s_ : Nat) : zz_P := [(0, zo_ald 1 0), (1, zo_ild 2 1), (2, zo_cvGp (mm_rm 6 c_ s_) 5 2 18 zJ6_append), (5, zo_pop 6), (6, zo_ald 7 0), (7, zo_aret)]
theorem ztJ7_append (c_ s_ : Nat) {C : mm_C} (G : mm_G C RJ7 cJ7_append (some (.object "java/lang/StringBuilder")) 2 (mm_rm 6 c_ s_)) (hnh : mm_nh C) : zz_OKs C (zpJ7_append c_ s_) :=
  ⟨zz_of (ok_aload_n G dJ7_append_0 rfl rfl) (z_ald _ _),
   zz_of (ok_iload_n G dJ7_append_1 rfl rfl) (z_ild _ _),
   zz_of (ok_famv (fun c_1 s_1 => ok_calpF G (hnh.q 2) (zmJ6_append _ G.hst c_1 s_1) (RJ7, TJ7, 4) rfl q671 q2225 q666 q672 q98 q673 (by decide +kernel) ⟨Nat.le_of_ble_eq_true rfl, Nat.le_of_ble_eq_true rfl⟩ dJ7_append_2 rfl)) (z_cvGp _ _ _ _ _),
   zz_of (ok_pop G dJ7_append_5 rfl) (z_pop _),
   zz_of (ok_aload_n G dJ7_append_6 rfl rfl) (z_ald _ _),
   zz_of (ok_aret G (Or.inl ⟨_, rfl⟩) dJ7_append_7) (z_aret), trivial⟩

theorem zwJ7_append_0 {Q : Option zv → zz_M → Prop} {X : Nat → zz_M → Prop} {M : zz_M} {c_ s_ : Nat} {c : Int} {h_ : Nat} (h : (zsh M h_ = (1, 18) ∨ zsh M h_ = (17, 18)) ∧ ∃ c1 s1 : Nat, (0 + c1 ≤ c_ ∧ 0 + s1 ≤ s_) ∧ (∃ b_2 d_2 m_2 k_2 : Nat, sbR M h_ d_2 m_2 k_2 ∧ (0 ≤ c ∧ c ≤ 127) ∧ (k_2 < m_2 → (∀ S_2 : Nat → Nat → Int, (∀ j k, ¬ (j = h_ ∧ k = 3) → ¬ (j = d_2 ∧ k = k_2) → S_2 j k = M.2.1 j k) → S_2 h_ 3 = (k_2 : Int) + 1 → S_2 d_2 k_2 = c → ((0 + c1 ≤ c_ ∧ 0 + s1 ≤ s_) ∧ (Q (some (vr h_)) ((M.1.1, M.1.2), S_2, M.2.2.1, M.2.2.2))))) ∧ (k_2 = m_2 → zfree M b_2 ∧ (1 ≤ c1 ∧ 2 * m_2 + 2 ≤ s1) ∧ (∀ (S_2 : Nat → Nat → Int) (P_2 : Nat → Nat → Option Nat), (∀ j k, j ≠ b_2 → ¬ (j = h_ ∧ k = 3) → S_2 j k = M.2.1 j k) → S_2 h_ 3 = (k_2 : Int) + 1 → (∀ i : Nat, i < m_2 → S_2 b_2 i = M.2.1 d_2 i) → S_2 b_2 k_2 = c → (∀ i : Nat, m_2 < i → S_2 b_2 i = 0) → (∀ j k, j ≠ b_2 → ¬ (j = h_ ∧ k = 0) → P_2 j k = M.2.2.2 j k) → P_2 h_ 0 = some b_2 → ((0 + c1 ≤ c_ ∧ 0 + s1 ≤ s_) ∧ (Q (some (vr h_)) ((M.1.1, zrw M.1.2 b_2 (4, 2 * m_2 + 2)), S_2, zrw M.2.2.1 b_2 (fun _ => 0), P_2))))))) : zz_J (zpJ7_append c_ s_) (zz_retP Q X c_ s_) 0 [some (vr h_), some (vi c)] [] M (0, 0) := zz_J.go [] 400 h

theorem zmJ7_append (l : Launch) (hl : l.stackTraces = false) (c_ s_ : Nat) : mm_Spec l yJ7_append (ws_ yJ7_append cJ7_append 2 (some (.object "java/lang/StringBuilder"))) (mm_rm 6 c_ s_) (zE (zJ7_append c_ s_)) := by
  refine zz_Met.J hl (by decide) (fun C G hnh => ztJ7_append c_ s_ G hnh) ?_
  rintro as M Q X h
  unfold zJ7_append at h
  split at h
  rotate_left
  · exact h.elim
  rename_i h_ c
  refine ⟨rfl, ?_⟩
  refine zz_retP_J ?_
  obtain ⟨b, d, m, k, hs, hc, q1, q2⟩ := h
  exact zwJ7_append_0 ⟨Or.inl hs.1, c_, s_, by omega, b, d, m, k, hs, hc, fun c S e1 e2 e3 => ⟨by omega, q1 c S e1 e2 e3⟩, fun c => ⟨(q2 c).1, (q2 c).2.1, fun S P e1 e2 e3 e4 e5 e6 e7 => ⟨by omega, (q2 c).2.2 S P e1 e2 e3 e4 e5 e6 e7⟩⟩⟩
def zJ6_init : zz_Sp := fun as M Q X => match as with
  | [.inr (.inr (some h_)), .inl n] => ∃ b_ : Nat, zsh M h_ = (1, 18) ∧ n = 16 ∧ zfx M.1.1 h_ 0 = false ∧ zfree M b_ ∧ (∀ (S_ : Nat → Nat → Int) (P_ : Nat → Nat → Option Nat), (∀ j k, j ≠ b_ → ¬ (j = h_ ∧ k = 1) → S_ j k = M.2.1 j k) → S_ h_ 1 = 0 → (∀ i, S_ b_ i = 0) → (∀ j k, j ≠ b_ → ¬ (j = h_ ∧ k = 0) → P_ j k = M.2.2.2 j k) → P_ h_ 0 = some b_ → Q none ((M.1.1, zrw M.1.2 b_ (4, 16)), S_, zrw M.2.2.1 b_ (fun _ => 0), P_))
  | _ => False

def zpJ6_init : zz_P := [(0, zo_ald 1 0), (1, zo_oi 4), (4, zo_c 7 (vi 1)), (7, zo_ifeq false 10 25), (10, zo_ald 11 0), (11, zo_ild 12 1), (12, zo_newa (mm_rm 2 1 16) 14 4 1), (14, zo_putrp 17 18 0), (17, zo_ald 18 0), (18, zo_c 19 (vi 0)), (19, zo_putb 22 18 1), (22, zo_goto 38), (25, zo_ald 26 0), (26, zo_ild 27 1), (27, zo_bad), (30, zo_putr 33 18 0), (33, zo_ald 34 0), (34, zo_c 35 (vi 1)), (35, zo_putb 38 18 1), (38, zo_vret)]
theorem ztJ6_init {C : mm_C} (G : mm_G C RJ6 cJ6_init none 2 (mm_rm 2 1 16)) (hnh : mm_nh C) (hin : (c_t C).name = "<init>") : zz_OKs C zpJ6_init :=
  ⟨zz_of (ok_aload_n G dJ6_init_0 rfl rfl) (z_ald _ _),
   zz_of (ok_oi G q644 q133 q134 ⟨Nat.le_of_ble_eq_true rfl, Nat.le_of_ble_eq_true rfl⟩ dJ6_init_1 rfl) (z_oi _),
   zz_of (ok_gs G (c := "java/lang/String") (n := "COMPACT_STRINGS") (d := "Z") (by decide +kernel) q645 dJ6_init_4 rfl) (z_cn 7 1),
   zz_of (ok_ifeq G dJ6_init_7 rfl rfl) (z_ifeq _ _ _),
   zz_of (ok_aload_n G dJ6_init_10 rfl rfl) (z_ald _ _),
   zz_of (ok_iload_n G dJ6_init_11 rfl rfl) (z_ild _ _),
   zz_of (ok_newa G (t := 4) (ty := .byte) rfl rfl q297 rfl (by decide) (by decide) (fun h => h) (fun M h n j ad => by rw [mm_al_ea]; rfl) dJ6_init_12 rfl) (z_newa _ _ _ _),
   zz_of (ok_putr G (nx := 17) (idx := 15) (ci := 18) (k := 0) (RJ7, TJ7, 4) rfl (by decide) rfl (mm_pw G (ci := 18) (k := 0) (RJ7, TJ7, 4) rfl (by decide) rfl q654 dJ6_init_14) rfl) (z_putrp _ _ _),
   zz_of (ok_aload_n G dJ6_init_17 rfl rfl) (z_ald _ _),
   zz_of (ok_iconst G (v := 0) dJ6_init_18 (by decide) rfl) (z_cn 19 0),
   zz_of (ok_putb G (nx := 22) (idx := 22) (ci := 18) (k := 1) (RJ7, TJ7, 4) rfl (by decide) rfl (mm_pw G (ci := 18) (k := 1) (RJ7, TJ7, 4) rfl (by decide) rfl q655 dJ6_init_19) rfl) (z_putb _ _ _),
   zz_of (ok_goto G dJ6_init_22 rfl) (z_goto _),
   zz_of (ok_aload_n G dJ6_init_25 rfl rfl) (z_ald _ _),
   zz_of (ok_iload_n G dJ6_init_26 rfl rfl) (z_ild _ _),
   zz_of (ok_bad) (z_bad),
   zz_of (ok_putr G (nx := 33) (idx := 15) (ci := 18) (k := 0) (RJ7, TJ7, 4) rfl (by decide) rfl (mm_pw G (ci := 18) (k := 0) (RJ7, TJ7, 4) rfl (by decide) rfl q654 dJ6_init_30) rfl) (z_putr _ _ _),
   zz_of (ok_aload_n G dJ6_init_33 rfl rfl) (z_ald _ _),
   zz_of (ok_iconst G (v := 1) dJ6_init_34 (by decide) rfl) (z_cn 35 1),
   zz_of (ok_putb G (nx := 38) (idx := 22) (ci := 18) (k := 1) (RJ7, TJ7, 4) rfl (by decide) rfl (mm_pw G (ci := 18) (k := 1) (RJ7, TJ7, 4) rfl (by decide) rfl q655 dJ6_init_35) rfl) (z_putb _ _ _),
   zz_of (ok_vret G dJ6_init_38) (z_vret), trivial⟩

theorem zwJ6_init_0 {Q : Option zv → zz_M → Prop} {X : Nat → zz_M → Prop} {M : zz_M} {n : Int} {h_ : Nat} (h : R32 1 ∧ (((1 : Int) = 0 → False) ∧ (¬ (1 : Int) = 0 → ∃ h1_ : Nat, zfree M h1_ ∧ (0 ≤ n ∧ n < 2147483648 ∧ n.toNat * 1 ≤ 536870912) ∧ (0 + 1 ≤ 1 ∧ 0 + n.toNat ≤ 16) ∧ (zsh ((M.1.1, zrw M.1.2 h1_ (4, n.toNat)), zrw M.2.1 h1_ (fun _ => 0), zrw M.2.2.1 h1_ (fun _ => 0), zrw M.2.2.2 h1_ (fun _ => none)) h_ = (1, 18) ∧ (zfx (((M.1.1, zrw M.1.2 h1_ (4, n.toNat)), zrw M.2.1 h1_ (fun _ => 0), zrw M.2.2.1 h1_ (fun _ => 0), zrw M.2.2.2 h1_ (fun _ => none)).1.1) h_ 0 = false ∧ (zsh ((M.1.1, zrw M.1.2 h1_ (4, n.toNat)), zrw M.2.1 h1_ (fun _ => 0), zrw M.2.2.1 h1_ (fun _ => 0), mm_up (zrw M.2.2.2 h1_ (fun _ => none)) h_ 0 (some h1_)) h_ = (1, 18) ∧ (-128 ≤ (0 : Int) ∧ (0 : Int) ≤ 127) ∧ ((1 ≤ 1 ∧ 0 + n.toNat ≤ 16) ∧ (Q none ((M.1.1, zrw M.1.2 h1_ (4, n.toNat)), mm_up (zrw M.2.1 h1_ (fun _ => 0)) h_ 1 0, zrw M.2.2.1 h1_ (fun _ => 0), mm_up (zrw M.2.2.2 h1_ (fun _ => none)) h_ 0 (some h1_)))))))))) : zz_J zpJ6_init (zz_retP Q X 1 16) 0 [some (vr h_), some (vi n)] [] M (0, 0) := zz_J.go [] 400 h

theorem zmJ6_init (l : Launch) (hl : l.stackTraces = false) : mm_Spec l yJ6_init (ws_ yJ6_init cJ6_init 2 none) (mm_rm 2 1 16) (zE zJ6_init) := by
  refine zz_Met.JN hl (by decide) rfl (fun C G hnh hin => ztJ6_init G hnh hin) ?_
  rintro as M Q X h
  unfold zJ6_init at h
  split at h
  rotate_left
  · exact h.elim
  rename_i h_ n
  refine ⟨rfl, ?_⟩
  refine zz_retP_J ?_
  obtain ⟨b, h1, rfl, h2, hb, hq⟩ := h
  have nh : h_ ≠ b := zfree_ne hb h1 (by decide)
  have sh' : ∀ S L P, zsh ((M.1.1, zrw M.1.2 b (4, (16 : Int).toNat)), S, L, P) h_ = (1, 18) := fun S L P => by rw [zsh_al hb.1, if_neg nh]; exact h1
  refine zwJ6_init_0 ⟨by decide, fun c => absurd c (by decide), fun _ => ⟨b, hb, by decide, by decide, sh' _ _ _, h2, sh' _ _ _, by decide, ?_⟩⟩
  refine ⟨by decide, hq _ _ (fun j x a1 a2 => ?_) ?_ (fun i => ?_) (fun j x a1 a2 => ?_) ?_⟩
  · rw [up_eq, if_neg a2, zrw_n _ _ a1]
  · rw [up_eq, if_pos ⟨rfl, rfl⟩]
  · rw [up_eq, if_neg (fun e => nh e.1.symm), zrw_s]
  · rw [up_eq, if_neg a2, zrw_n _ _ a1]
  · rw [up_eq, if_pos ⟨rfl, rfl⟩]
def zJ7_init : zz_Sp := fun as M Q X => match as with
  | [.inr (.inr (some h_))] => ∃ b_ : Nat, zsh M h_ = (1, 18) ∧ zfx M.1.1 h_ 0 = false ∧ zfree M b_ ∧ (∀ (S_ : Nat → Nat → Int) (P_ : Nat → Nat → Option Nat), (∀ j k, j ≠ b_ → ¬ (j = h_ ∧ k = 1) → S_ j k = M.2.1 j k) → S_ h_ 1 = 0 → (∀ i, S_ b_ i = 0) → (∀ j k, j ≠ b_ → ¬ (j = h_ ∧ k = 0) → P_ j k = M.2.2.2 j k) → P_ h_ 0 = some b_ → Q none ((M.1.1, zrw M.1.2 b_ (4, 16)), S_, zrw M.2.2.1 b_ (fun _ => 0), P_))
  | _ => False

def zpJ7_init : zz_P := [(0, zo_ald 1 0), (1, zo_c 3 (vi 16)), (3, zo_ciL (mm_rm 3 1 16) 6 2 1 16 zJ6_init), (6, zo_vret)]
theorem ztJ7_init {C : mm_C} (G : mm_G C RJ7 cJ7_init none 1 (mm_rm 3 1 16)) (hnh : mm_nh C) (hin : (c_t C).name = "<init>") : zz_OKs C zpJ7_init :=
  ⟨zz_of (ok_aload_n G dJ7_init_0 rfl rfl) (z_ald _ _),
   zz_of (ok_bipush G (v := 16) dJ7_init_1 (by decide) rfl) (z_cn 3 16),
   zz_of (ok_caliF G (hnh.q 3) (zmJ6_init _ G.hst) q641 q642 q98 q643 rfl (by decide +kernel) ⟨Nat.le_of_ble_eq_true rfl, Nat.le_of_ble_eq_true rfl⟩ dJ7_init_3 rfl) (z_ciL _ _ _ _ _ _),
   zz_of (ok_vret G dJ7_init_6) (z_vret), trivial⟩

theorem zwJ7_init_0 {Q : Option zv → zz_M → Prop} {X : Nat → zz_M → Prop} {M : zz_M} {h_ : Nat} (h : (∃ b_1 : Nat, zsh M h_ = (1, 18) ∧ (16 : Int) = 16 ∧ zfx M.1.1 h_ 0 = false ∧ zfree M b_1 ∧ (∀ (S_1 : Nat → Nat → Int) (P_1 : Nat → Nat → Option Nat), (∀ j k, j ≠ b_1 → ¬ (j = h_ ∧ k = 1) → S_1 j k = M.2.1 j k) → S_1 h_ 1 = 0 → (∀ i, S_1 b_1 i = 0) → (∀ j k, j ≠ b_1 → ¬ (j = h_ ∧ k = 0) → P_1 j k = M.2.2.2 j k) → P_1 h_ 0 = some b_1 → (Q none ((M.1.1, zrw M.1.2 b_1 (4, 16)), S_1, zrw M.2.2.1 b_1 (fun _ => 0), P_1))))) : zz_J zpJ7_init (zz_ret Q X 1 16) 0 [some (vr h_)] [] M (0, 0) := zz_J.go [] 400 h

theorem zmJ7_init (l : Launch) (hl : l.stackTraces = false) : mm_Spec l yJ7_init (ws_ yJ7_init cJ7_init 1 none) (mm_rm 3 1 16) (zE zJ7_init) := by
  refine zz_Met.JN hl (by decide) rfl (fun C G hnh hin => ztJ7_init G hnh hin) ?_
  rintro as M Q X h
  unfold zJ7_init at h
  split at h
  rotate_left
  · exact h.elim
  rename_i h_
  refine ⟨rfl, ?_⟩
  obtain ⟨b, h1, h2, hb, hq⟩ := h
  exact zwJ7_init_0 ⟨b, h1, rfl, h2, hb, hq⟩
def zJ8_init_2 (c_ s_ : Nat) : zz_Sp := fun as M Q X => match as with
  | [.inr (.inr (some h_)), .inr (.inr (some a)), .inr (.inr v)] => ∃ b_ d_ m_ k_ : Nat, zsh M h_ = (1, 19) ∧ zfx M.1.1 h_ 0 = false ∧ sbR M a d_ m_ k_ ∧ zfree M b_ ∧ (1 ≤ c_ ∧ k_ ≤ s_) ∧ (∀ (S_ : Nat → Nat → Int) (P_ : Nat → Nat → Option Nat), (∀ j k, j ≠ b_ → ¬ (j = h_ ∧ k = 1) → S_ j k = M.2.1 j k) → S_ h_ 1 = 0 → (∀ i, i < k_ → S_ b_ i = M.2.1 d_ i) → (∀ j k, j ≠ b_ → ¬ (j = h_ ∧ k = 0) → P_ j k = M.2.2.2 j k) → P_ h_ 0 = some b_ → Q none ((M.1.1, zrw M.1.2 b_ (4, k_)), S_, zrw M.2.2.1 b_ (fun _ => 0), P_))
  | _ => False

def zpJ8_init_2 (c_ s_ : Nat) : zz_P := [(0, zo_ald 1 0), (1, zo_oi 4), (4, zo_ald 5 1), (5, zo_cvFp (mm_rm 5 c_ s_) 8 1 18 0 0 zJ6_getValue), (8, zo_ast 9 3), (9, zo_ald 10 1), (10, zo_cvFp (mm_rm 5 c_ s_) 13 1 18 0 0 zJ7_length), (13, zo_ist 15 4), (15, zo_ald 16 1), (16, zo_cvFp (mm_rm 5 c_ s_) 19 1 18 0 0 zJ6_isLatin1), (19, zo_zifeq 22 41), (22, zo_ald 23 0), (23, zo_c 24 (vi 0)), (24, zo_putb 27 19 1), (27, zo_ald 28 0), (28, zo_ald 29 3), (29, zo_c 30 (vi 0)), (30, zo_ild 32 4), (32, zo_csG (mm_rm 5 c_ s_) 35 3 zJ3_copyOfRange), (35, zo_putrp 38 19 0), (38, zo_goto 97), (41, zo_c 44 (vi 1)), (44, zo_ifeq false 47 79), (47, zo_ald 48 1), (48, zo_get 51 18 0 2), (51, zo_ifeq false 54 79), (54, zo_ald 55 0), (55, zo_ald 56 3), (56, zo_c 57 (vi 0)), (57, zo_ild 59 4), (59, zo_bad), (62, zo_putr 65 19 0), (65, zo_ald 66 0), (66, zo_ald 67 0), (67, zo_get 70 19 2 0), (70, zo_ild 72 4), (72, zo_bad), (75, zo_putb 78 19 1), (78, zo_vret), (79, zo_ald 80 0), (80, zo_c 81 (vi 1)), (81, zo_putb 84 19 1), (84, zo_ald 85 0), (85, zo_ald 86 3), (86, zo_c 87 (vi 0)), (87, zo_ild 89 4), (89, zo_c 90 (vi 1)), (90, zo_ishl 91), (91, zo_csG (mm_rm 5 c_ s_) 94 3 zJ3_copyOfRange), (94, zo_putr 97 19 0), (97, zo_vret)]
theorem ztJ8_init_2 (c_ s_ : Nat) {C : mm_C} (G : mm_G C RJ8 cJ8_init_2 none 5 (mm_rm 5 c_ s_)) (hnh : mm_nh C) (hin : (c_t C).name = "<init>") : zz_OKs C (zpJ8_init_2 c_ s_) :=
  ⟨zz_of (ok_aload_n G dJ8_init_2_0 rfl rfl) (z_ald _ _),
   zz_of (ok_oi G q759 q133 q134 ⟨Nat.le_of_ble_eq_true rfl, Nat.le_of_ble_eq_true rfl⟩ dJ8_init_2_1 rfl) (z_oi _),
   zz_of (ok_aload_n G dJ8_init_2_4 rfl rfl) (z_ald _ _),
   zz_of (ok_caluF G (hnh.q 5) (zmJ6_getValue _ G.hst) (RJ7, TJ7, 4) rfl q760 q762 q761 q763 q98 q764 rfl (by decide +kernel) ⟨Nat.le_of_ble_eq_true rfl, Nat.le_of_ble_eq_true rfl⟩ dJ8_init_2_5 rfl) (z_cvFp _ _ _ _ _ _ _),
   zz_of (ok_astore_n G dJ8_init_2_8 rfl rfl (by decide)) (z_ast _ _),
   zz_of (ok_aload_n G dJ8_init_2_9 rfl rfl) (z_ald _ _),
   zz_of (ok_caloF G (hnh.q 10) (zmJ7_length _ G.hst) (RJ7, TJ7, 4) rfl q765 q767 q766 q772 q769 q768 q99 q770 (by decide +kernel) ⟨Nat.le_of_ble_eq_true rfl, Nat.le_of_ble_eq_true rfl⟩ dJ8_init_2_10 rfl) (z_cvFp _ _ _ _ _ _ _),
   zz_of (ok_istore G dJ8_init_2_13 rfl (by decide)) (z_ist _ _),
   zz_of (ok_aload_n G dJ8_init_2_15 rfl rfl) (z_ald _ _),
   zz_of (ok_caluF G (hnh.q 16) (zmJ6_isLatin1 _ G.hst) (RJ7, TJ7, 4) rfl q773 q696 q695 q697 q98 q698 rfl (by decide +kernel) ⟨Nat.le_of_ble_eq_true rfl, Nat.le_of_ble_eq_true rfl⟩ dJ8_init_2_16 rfl) (z_cvFp _ _ _ _ _ _ _),
   zz_of (ok_ifeq G dJ8_init_2_19 rfl rfl) (z_zifeq _ _),
   zz_of (ok_aload_n G dJ8_init_2_22 rfl rfl) (z_ald _ _),
   zz_of (ok_iconst G (v := 0) dJ8_init_2_23 (by decide) rfl) (z_cn 24 0),
   zz_of (ok_putb G (nx := 27) (idx := 15) (ci := 19) (k := 1) (RJ8, TJ8, 4) rfl (by decide) rfl (mm_pwF G (ci := 19) (k := 1) (RJ8, TJ8, 4) rfl (by decide) rfl hin rfl q943 dJ8_init_2_24) rfl) (z_putb _ _ _),
   zz_of (ok_aload_n G dJ8_init_2_27 rfl rfl) (z_ald _ _),
   zz_of (ok_aload_n G dJ8_init_2_28 rfl rfl) (z_ald _ _),
   zz_of (ok_iconst G (v := 0) dJ8_init_2_29 (by decide) rfl) (z_cn 30 0),
   zz_of (ok_iload G dJ8_init_2_30 rfl) (z_ild _ _),
   zz_of (ok_cals G (hnh.q 32) (zmJ3_copyOfRange _ G.hst) q774 q775 q95 q776 (by decide +kernel) ⟨Nat.le_of_ble_eq_true rfl, Nat.le_of_ble_eq_true rfl⟩ dJ8_init_2_32 rfl) (z_csG _ _ _ _),
   zz_of (ok_putr G (nx := 38) (idx := 9) (ci := 19) (k := 0) (RJ8, TJ8, 4) rfl (by decide) rfl (mm_pwF G (ci := 19) (k := 0) (RJ8, TJ8, 4) rfl (by decide) rfl hin rfl q942 dJ8_init_2_35) rfl) (z_putrp _ _ _),
   zz_of (ok_goto G dJ8_init_2_38 rfl) (z_goto _),
   zz_of (ok_gs G (c := "java/lang/String") (n := "COMPACT_STRINGS") (d := "Z") (by decide +kernel) q887 dJ8_init_2_41 rfl) (z_cn 44 1),
   zz_of (ok_ifeq G dJ8_init_2_44 rfl rfl) (z_ifeq _ _ _),
   zz_of (ok_aload_n G dJ8_init_2_47 rfl rfl) (z_ald _ _),
   zz_of (ok_get G (nx := 51) (ci := 18) (kd := 0) (k := 2) (RJ7, TJ7, 4) rfl (by decide) rfl q656 dJ8_init_2_48 rfl) (z_get _ _ _ _),
   zz_of (ok_ifeq G dJ8_init_2_51 rfl rfl) (z_ifeq _ _ _),
   zz_of (ok_aload_n G dJ8_init_2_54 rfl rfl) (z_ald _ _),
   zz_of (ok_aload_n G dJ8_init_2_55 rfl rfl) (z_ald _ _),
   zz_of (ok_iconst G (v := 0) dJ8_init_2_56 (by decide) rfl) (z_cn 57 0),
   zz_of (ok_iload G dJ8_init_2_57 rfl) (z_ild _ _),
   zz_of (ok_bad) (z_bad),
   zz_of (ok_putr G (nx := 65) (idx := 9) (ci := 19) (k := 0) (RJ8, TJ8, 4) rfl (by decide) rfl (mm_pwF G (ci := 19) (k := 0) (RJ8, TJ8, 4) rfl (by decide) rfl hin rfl q942 dJ8_init_2_62) rfl) (z_putr _ _ _),
   zz_of (ok_aload_n G dJ8_init_2_65 rfl rfl) (z_ald _ _),
   zz_of (ok_aload_n G dJ8_init_2_66 rfl rfl) (z_ald _ _),
   zz_of (ok_get G (nx := 70) (ci := 19) (kd := 2) (k := 0) (RJ8, TJ8, 4) rfl (by decide) rfl q942 dJ8_init_2_67 rfl) (z_get _ _ _ _),
   zz_of (ok_iload G dJ8_init_2_70 rfl) (z_ild _ _),
   zz_of (ok_bad) (z_bad),
   zz_of (ok_putb G (nx := 78) (idx := 15) (ci := 19) (k := 1) (RJ8, TJ8, 4) rfl (by decide) rfl (mm_pwF G (ci := 19) (k := 1) (RJ8, TJ8, 4) rfl (by decide) rfl hin rfl q943 dJ8_init_2_75) rfl) (z_putb _ _ _),
   zz_of (ok_vret G dJ8_init_2_78) (z_vret),
   zz_of (ok_aload_n G dJ8_init_2_79 rfl rfl) (z_ald _ _),
   zz_of (ok_iconst G (v := 1) dJ8_init_2_80 (by decide) rfl) (z_cn 81 1),
   zz_of (ok_putb G (nx := 84) (idx := 15) (ci := 19) (k := 1) (RJ8, TJ8, 4) rfl (by decide) rfl (mm_pwF G (ci := 19) (k := 1) (RJ8, TJ8, 4) rfl (by decide) rfl hin rfl q943 dJ8_init_2_81) rfl) (z_putb _ _ _),
   zz_of (ok_aload_n G dJ8_init_2_84 rfl rfl) (z_ald _ _),
   zz_of (ok_aload_n G dJ8_init_2_85 rfl rfl) (z_ald _ _),
   zz_of (ok_iconst G (v := 0) dJ8_init_2_86 (by decide) rfl) (z_cn 87 0),
   zz_of (ok_iload G dJ8_init_2_87 rfl) (z_ild _ _),
   zz_of (ok_iconst G (v := 1) dJ8_init_2_89 (by decide) rfl) (z_cn 90 1),
   zz_of (ok_ishl G dJ8_init_2_90 rfl) (z_ishl _),
   zz_of (ok_cals G (hnh.q 91) (zmJ3_copyOfRange _ G.hst) q774 q775 q95 q776 (by decide +kernel) ⟨Nat.le_of_ble_eq_true rfl, Nat.le_of_ble_eq_true rfl⟩ dJ8_init_2_91 rfl) (z_csG _ _ _ _),
   zz_of (ok_putr G (nx := 97) (idx := 9) (ci := 19) (k := 0) (RJ8, TJ8, 4) rfl (by decide) rfl (mm_pwF G (ci := 19) (k := 0) (RJ8, TJ8, 4) rfl (by decide) rfl hin rfl q942 dJ8_init_2_94) rfl) (z_putr _ _ _),
   zz_of (ok_vret G dJ8_init_2_97) (z_vret), trivial⟩

theorem zwJ8_init_2_0 {Q : Option zv → zz_M → Prop} {X : Nat → zz_M → Prop} {M : zz_M} {c_ s_ : Nat} {a : Nat} {v : Option Nat} {h_ : Nat} (h : (zsh M a = (1, 18) ∨ zsh M a = (17, 18)) ∧ (0 + 0 ≤ c_ ∧ 0 + 0 ≤ s_) ∧ (zsh M a = (1, 18) ∧ ∃ b_1 : Nat, zpt M a 0 = some b_1 ∧ ((zsh M a = (1, 18) ∨ zsh M a = (17, 18)) ∧ (0 + 0 ≤ c_ ∧ 0 + 0 ≤ s_) ∧ (zsh M a = (1, 18) ∧ ((zsh M a = (1, 18) ∨ zsh M a = (17, 18)) ∧ (0 + 0 ≤ c_ ∧ 0 + 0 ≤ s_) ∧ (zsh M a = (1, 18) ∧ M.2.1 a 1 = 0 ∧ (zsh M h_ = (1, 19) ∧ (-128 ≤ (0 : Int) ∧ (0 : Int) ≤ 127) ∧ (∃ c4 s4 : Nat, (0 + c4 ≤ c_ ∧ 0 + s4 ≤ s_) ∧ (∃ b_5 m_5 : Nat, zfree ((M.1.1, M.1.2), mm_up M.2.1 h_ 1 0, M.2.2.1, M.2.2.2) b_5 ∧ zsh ((M.1.1, M.1.2), mm_up M.2.1 h_ 1 0, M.2.2.1, M.2.2.2) b_1 = (4, m_5) ∧ (0 : Int) = 0 ∧ m_5 ≤ 1000000 ∧ (0 ≤ (M.2.1 a 3) ∧ (M.2.1 a 3) ≤ (m_5 : Int)) ∧ (1 ≤ c4 ∧ (M.2.1 a 3).toNat ≤ s4) ∧ (∀ i : Nat, i < m_5 → -128 ≤ ((M.1.1, M.1.2), mm_up M.2.1 h_ 1 0, M.2.2.1, M.2.2.2).2.1 b_1 i ∧ ((M.1.1, M.1.2), mm_up M.2.1 h_ 1 0, M.2.2.1, M.2.2.2).2.1 b_1 i ≤ 127) ∧ (∀ S_5 : Nat → Nat → Int, (∀ j, j ≠ b_5 → S_5 j = (mm_up M.2.1 h_ 1 0) j) → (∀ i : Nat, (i : Int) < (M.2.1 a 3) → S_5 b_5 i = (mm_up M.2.1 h_ 1 0) b_1 i) → (zsh ((M.1.1, zrw M.1.2 b_5 (4, (M.2.1 a 3).toNat)), S_5, zrw M.2.2.1 b_5 (fun _ => 0), zrw M.2.2.2 b_5 (fun _ => none)) h_ = (1, 19) ∧ (zfx (((M.1.1, zrw M.1.2 b_5 (4, (M.2.1 a 3).toNat)), S_5, zrw M.2.2.1 b_5 (fun _ => 0), zrw M.2.2.2 b_5 (fun _ => none)).1.1) h_ 0 = false ∧ ((0 + c4 ≤ c_ ∧ 0 + s4 ≤ s_) ∧ (Q none ((M.1.1, zrw M.1.2 b_5 (4, (M.2.1 a 3).toNat)), S_5, zrw M.2.2.1 b_5 (fun _ => 0), mm_up (zrw M.2.2.2 b_5 (fun _ => none)) h_ 0 (some b_5)))))))))))))))) : zz_J (zpJ8_init_2 c_ s_) (zz_retP Q X c_ s_) 0 [some (vr h_), some (vr a), some (.inr (.inr v)), none, none] [] M (0, 0) := zz_J.go [] 400 h

theorem zmJ8_init_2 (l : Launch) (hl : l.stackTraces = false) (c_ s_ : Nat) : mm_Spec l yJ8_init_2 (ws_ yJ8_init_2 cJ8_init_2 5 none) (mm_rm 5 c_ s_) (zE (zJ8_init_2 c_ s_)) := by
  refine zz_Met.JN hl (by decide) rfl (fun C G hnh hin => ztJ8_init_2 c_ s_ G hnh hin) ?_
  rintro as M Q X h
  unfold zJ8_init_2 at h
  split at h
  rotate_left
  · exact h.elim
  rename_i h_ a v
  refine ⟨rfl, ?_⟩
  refine zz_retP_J ?_
  obtain ⟨b, d, m, k, h1, h2, ⟨a1, a2, a3, a4, a5, a6, a7, a8, a9, a10⟩, hb, hc, hq⟩ := h
  have nh : h_ ≠ b := zfree_ne hb h1 (by decide)
  have nd : d ≠ h_ := by
    rintro rfl
    rw [h1] at a6
    cases a6
  have ud : ∀ i, mm_up M.2.1 h_ 1 0 d i = M.2.1 d i := fun i => by rw [up_eq, if_neg (fun e => nd e.1)]
  refine zwJ8_init_2_0 ⟨Or.inl a1, by omega, a1, d, a2, Or.inl a1, by omega, a1, Or.inl a1, by omega, a1, a4, h1, by decide, c_, s_, by omega, b, m, hb, a6, rfl, by omega, ?_⟩
  rw [a5, Int.toNat_natCast]
  refine ⟨by omega, by omega, fun i hi => ?_, fun S5 e1 e2 => ⟨by rw [zsh_al hb.1, if_neg nh]; exact h1, h2, ?_⟩⟩
  · show -128 ≤ mm_up M.2.1 h_ 1 0 d i ∧ mm_up M.2.1 h_ 1 0 d i ≤ 127
    rw [ud]
    exact a10 i hi
  · refine ⟨by omega, hq _ _ (fun j x b1 b2 => ?_) ?_ (fun i hi => ?_) (fun j x b1 b2 => ?_) ?_⟩
    · rw [e1 j b1, up_eq, if_neg b2]
    · rw [e1 h_ nh, up_eq, if_pos ⟨rfl, rfl⟩]
    · rw [e2 i (by omega), ud]
    · rw [up_eq, if_neg b2, zrw_n _ _ b1]
    · rw [up_eq, if_pos ⟨rfl, rfl⟩]
def zJ8_init (c_ s_ : Nat) : zz_Sp := fun as M Q X => match as with
  | [.inr (.inr (some h_)), .inr (.inr (some a))] => ∃ b_ d_ m_ k_ : Nat, zsh M h_ = (1, 19) ∧ zfx M.1.1 h_ 0 = false ∧ sbR M a d_ m_ k_ ∧ zfree M b_ ∧ (1 ≤ c_ ∧ k_ ≤ s_) ∧ (∀ (S_ : Nat → Nat → Int) (P_ : Nat → Nat → Option Nat), (∀ j k, j ≠ b_ → ¬ (j = h_ ∧ k = 1) → S_ j k = M.2.1 j k) → S_ h_ 1 = 0 → (∀ i, i < k_ → S_ b_ i = M.2.1 d_ i) → (∀ j k, j ≠ b_ → ¬ (j = h_ ∧ k = 0) → P_ j k = M.2.2.2 j k) → P_ h_ 0 = some b_ → Q none ((M.1.1, zrw M.1.2 b_ (4, k_)), S_, zrw M.2.2.1 b_ (fun _ => 0), P_))
  | _ => False

def zpJ8_init (c_ s_ : Nat) : zz_P := [(0, zo_ald 1 0), (1, zo_ald 2 1), (2, zo_c 3 vn), (3, zo_ciG (mm_rm 6 c_ s_) 6 3 zJ8_init_2), (6, zo_vret)]
theorem ztJ8_init (c_ s_ : Nat) {C : mm_C} (G : mm_G C RJ8 cJ8_init none 2 (mm_rm 6 c_ s_)) (hnh : mm_nh C) (hin : (c_t C).name = "<init>") : zz_OKs C (zpJ8_init c_ s_) :=
  ⟨zz_of (ok_aload_n G dJ8_init_0 rfl rfl) (z_ald _ _),
   zz_of (ok_aload_n G dJ8_init_1 rfl rfl) (z_ald _ _),
   zz_of (ok_null G dJ8_init_2 rfl) (z_c0 3),
   zz_of (ok_cali G (hnh.q 3) (zmJ8_init_2 _ G.hst) q756 q757 q100 q758 rfl (by decide +kernel) ⟨Nat.le_of_ble_eq_true rfl, Nat.le_of_ble_eq_true rfl⟩ dJ8_init_3 rfl) (z_ciG _ _ _ _),
   zz_of (ok_vret G dJ8_init_6) (z_vret), trivial⟩

theorem zwJ8_init_0 {Q : Option zv → zz_M → Prop} {X : Nat → zz_M → Prop} {M : zz_M} {c_ s_ : Nat} {a : Nat} {h_ : Nat} (h : ∃ c1 s1 : Nat, (0 + c1 ≤ c_ ∧ 0 + s1 ≤ s_) ∧ (∃ b_2 d_2 m_2 k_2 : Nat, zsh M h_ = (1, 19) ∧ zfx M.1.1 h_ 0 = false ∧ sbR M a d_2 m_2 k_2 ∧ zfree M b_2 ∧ (1 ≤ c1 ∧ k_2 ≤ s1) ∧ (∀ (S_2 : Nat → Nat → Int) (P_2 : Nat → Nat → Option Nat), (∀ j k, j ≠ b_2 → ¬ (j = h_ ∧ k = 1) → S_2 j k = M.2.1 j k) → S_2 h_ 1 = 0 → (∀ i, i < k_2 → S_2 b_2 i = M.2.1 d_2 i) → (∀ j k, j ≠ b_2 → ¬ (j = h_ ∧ k = 0) → P_2 j k = M.2.2.2 j k) → P_2 h_ 0 = some b_2 → ((0 + c1 ≤ c_ ∧ 0 + s1 ≤ s_) ∧ (Q none ((M.1.1, zrw M.1.2 b_2 (4, k_2)), S_2, zrw M.2.2.1 b_2 (fun _ => 0), P_2)))))) : zz_J (zpJ8_init c_ s_) (zz_retP Q X c_ s_) 0 [some (vr h_), some (vr a)] [] M (0, 0) := zz_J.go [] 400 h

theorem zmJ8_init (l : Launch) (hl : l.stackTraces = false) (c_ s_ : Nat) : mm_Spec l yJ8_init (ws_ yJ8_init cJ8_init 2 none) (mm_rm 6 c_ s_) (zE (zJ8_init c_ s_)) := by
  refine zz_Met.JN hl (by decide) rfl (fun C G hnh hin => ztJ8_init c_ s_ G hnh hin) ?_
  rintro as M Q X h
  unfold zJ8_init at h
  split at h
  rotate_left
  · exact h.elim
  rename_i h_ a
  refine ⟨rfl, ?_⟩
  refine zz_retP_J ?_
  obtain ⟨b, d, m, k, h1, h2, hs, hb, hc, hq⟩ := h
  exact zwJ8_init_0 ⟨c_, s_, by omega, b, d, m, k, h1, h2, hs, hb, hc, fun S P e1 e2 e3 e4 e5 => ⟨by omega, hq S P e1 e2 e3 e4 e5⟩⟩
def zJ7_toString (c_ s_ : Nat) : zz_Sp := fun as M Q X => match as with
  | [.inr (.inr (some h_))] => ∃ a_ b_ d_ m_ k_ : Nat, sbR M h_ d_ m_ k_ ∧ zfree M a_ ∧ zfree M b_ ∧ a_ ≠ b_ ∧ (2 ≤ c_ ∧ 4 + k_ ≤ s_) ∧ (∀ (S_ L_ : Nat → Nat → Int) (P_ : Nat → Nat → Option Nat), (∀ j, j ≠ a_ → j ≠ b_ → S_ j = M.2.1 j) → (∀ i, S_ a_ i = 0) → (∀ i, i < k_ → S_ b_ i = M.2.1 d_ i) → (∀ j, j ≠ a_ → j ≠ b_ → L_ j = M.2.2.1 j) → (∀ j, j ≠ a_ → j ≠ b_ → P_ j = M.2.2.2 j) → P_ a_ 0 = some b_ → Q (some (vr a_)) ((M.1.1, zrw (zrw M.1.2 a_ (1, 19)) b_ (4, k_)), S_, L_, P_))
  | _ => False

def zpJ7_toString (c_ s_ : Nat) : zz_P := [(0, zo_new (mm_rm 7 c_ s_) 3 19 4), (3, zo_dup 4), (4, zo_ald 5 0), (5, zo_ciG (mm_rm 7 c_ s_) 8 2 zJ8_init), (8, zo_aret)]
theorem ztJ7_toString (c_ s_ : Nat) {C : mm_C} (G : mm_G C RJ7 cJ7_toString (some (.object "java/lang/String")) 1 (mm_rm 7 c_ s_)) (hnh : mm_nh C) : zz_OKs C (zpJ7_toString c_ s_) :=
  ⟨zz_of (ok_new G (ci := 19) (RJ8, TJ8, 4) rfl rfl q751 q752 q100 (by decide) dJ7_toString_0 rfl) (z_new _ _ _ _),
   zz_of (ok_dup G dJ7_toString_3 rfl) (z_dup _),
   zz_of (ok_aload_n G dJ7_toString_4 rfl rfl) (z_ald _ _),
   zz_of (ok_cali G (hnh.q 5) (zmJ8_init _ G.hst) q753 q754 q100 q755 rfl (by decide +kernel) ⟨Nat.le_of_ble_eq_true rfl, Nat.le_of_ble_eq_true rfl⟩ dJ7_toString_5 rfl) (z_ciG _ _ _ _),
   zz_of (ok_aret G (Or.inl ⟨_, rfl⟩) dJ7_toString_8) (z_aret), trivial⟩

theorem zwJ7_toString_0 {Q : Option zv → zz_M → Prop} {X : Nat → zz_M → Prop} {M : zz_M} {c_ s_ : Nat} {h_ : Nat} (h : ∃ h1_ : Nat, zfree M h1_ ∧ (0 + 1 ≤ c_ ∧ 0 + 4 ≤ s_) ∧ (∃ c2 s2 : Nat, (1 + c2 ≤ c_ ∧ 4 + s2 ≤ s_) ∧ (∃ b_3 d_3 m_3 k_3 : Nat, zsh ((M.1.1, zrw M.1.2 h1_ (1, 19)), zrw M.2.1 h1_ (fun _ => 0), zrw M.2.2.1 h1_ (fun _ => 0), zrw M.2.2.2 h1_ (fun _ => none)) h1_ = (1, 19) ∧ zfx ((M.1.1, zrw M.1.2 h1_ (1, 19)), zrw M.2.1 h1_ (fun _ => 0), zrw M.2.2.1 h1_ (fun _ => 0), zrw M.2.2.2 h1_ (fun _ => none)).1.1 h1_ 0 = false ∧ sbR ((M.1.1, zrw M.1.2 h1_ (1, 19)), zrw M.2.1 h1_ (fun _ => 0), zrw M.2.2.1 h1_ (fun _ => 0), zrw M.2.2.2 h1_ (fun _ => none)) h_ d_3 m_3 k_3 ∧ zfree ((M.1.1, zrw M.1.2 h1_ (1, 19)), zrw M.2.1 h1_ (fun _ => 0), zrw M.2.2.1 h1_ (fun _ => 0), zrw M.2.2.2 h1_ (fun _ => none)) b_3 ∧ (1 ≤ c2 ∧ k_3 ≤ s2) ∧ (∀ (S_3 : Nat → Nat → Int) (P_3 : Nat → Nat → Option Nat), (∀ j k, j ≠ b_3 → ¬ (j = h1_ ∧ k = 1) → S_3 j k = (zrw M.2.1 h1_ (fun _ => 0)) j k) → S_3 h1_ 1 = 0 → (∀ i, i < k_3 → S_3 b_3 i = (zrw M.2.1 h1_ (fun _ => 0)) d_3 i) → (∀ j k, j ≠ b_3 → ¬ (j = h1_ ∧ k = 0) → P_3 j k = (zrw M.2.2.2 h1_ (fun _ => none)) j k) → P_3 h1_ 0 = some b_3 → ((1 + c2 ≤ c_ ∧ 4 + s2 ≤ s_) ∧ (Q (some (vr h1_)) ((M.1.1, zrw (zrw M.1.2 h1_ (1, 19)) b_3 (4, k_3)), S_3, zrw (zrw M.2.2.1 h1_ (fun _ => 0)) b_3 (fun _ => 0), P_3))))))) : zz_J (zpJ7_toString c_ s_) (zz_retP Q X c_ s_) 0 [some (vr h_)] [] M (0, 0) := zz_J.go [] 400 h

theorem sbR.al {M : zz_M} {a h d m k : Nat} {r : Nat × Nat} (hs : sbR M h d m k) (ha : zfree M a) : sbR ((M.1.1, zrw M.1.2 a r), zrw M.2.1 a (fun _ => 0), zrw M.2.2.1 a (fun _ => 0), zrw M.2.2.2 a (fun _ => none)) h d m k := by
  obtain ⟨h1, h2, h3, h4, h5, h6, h7, h8, h9, h10⟩ := hs
  have nh : h ≠ a := zfree_ne ha h1 (by decide)
  have nd : d ≠ a := zfree_ne ha h6 (by show (4 : Nat) ≠ 0; decide)
  refine ⟨by rw [zsh_al ha.1, if_neg nh]; exact h1, by rw [zpt_al nh]; exact h2, h3, ?_, ?_, by rw [zsh_al ha.1, if_neg nd]; exact h6, h7, h8, h9, fun i hi => ?_⟩
  · show zrw M.2.1 a (fun _ => 0) h 1 = 0
    rw [zrw_n _ _ nh]
    exact h4
  · show zrw M.2.1 a (fun _ => 0) h 3 = _
    rw [zrw_n _ _ nh]
    exact h5
  · show -128 ≤ zrw M.2.1 a (fun _ => 0) d i ∧ zrw M.2.1 a (fun _ => 0) d i ≤ 127
    rw [zrw_n _ _ nd]
    exact h10 i hi
theorem zfree.al {M : zz_M} {a b : Nat} {r : Nat × Nat} {S L : Nat → Nat → Int} {P : Nat → Nat → Option Nat} (hb : zfree M b) (ne : b ≠ a) : zfree ((M.1.1, zrw M.1.2 a r), S, L, P) b := ⟨hb.1, by show (zrw M.1.2 a r b).1 = 0; rw [zrw_n _ _ ne]; exact hb.2⟩
theorem zmJ7_toString (l : Launch) (hl : l.stackTraces = false) (c_ s_ : Nat) : mm_Spec l yJ7_toString (ws_ yJ7_toString cJ7_toString 1 (some (.object "java/lang/String"))) (mm_rm 7 c_ s_) (zE (zJ7_toString c_ s_)) := by
  refine zz_Met.J hl (by decide) (fun C G hnh => ztJ7_toString c_ s_ G hnh) ?_
  rintro as M Q X h
  unfold zJ7_toString at h
  split at h
  rotate_left
  · exact h.elim
  rename_i h_
  refine ⟨rfl, ?_⟩
  refine zz_retP_J ?_
  obtain ⟨a, b, d, m, k, hs, ha, hb, nab, hc, hq⟩ := h
  have nd : d ≠ a := zfree_ne ha hs.2.2.2.2.2.1 (by show (4 : Nat) ≠ 0; decide)
  refine zwJ7_toString_0 ⟨a, ha, by omega, c_ - 1, s_ - 4, by omega, b, d, m, k, by rw [zsh_al ha.1, if_pos rfl], zfx_of ha.1 0, hs.al ha, hb.al (Ne.symm nab), by omega, fun S3 P3 e1 e2 e3 e4 e5 => ?_⟩
  refine ⟨by omega, hq _ _ _ (fun j h1 h2 => ?_) (fun i => ?_) (fun i hi => ?_) (fun j h1 h2 => ?_) (fun j h1 h2 => ?_) e5⟩
  · funext x
    rw [e1 j x h2 (fun e => h1 e.1), zrw_n _ _ h1]
  · by_cases ei : i = 1
    · rw [ei]
      exact e2
    · rw [e1 a i nab (fun e => ei e.2), zrw_s]
  · rw [e3 i hi, zrw_n _ _ nd]
  · rw [zrw_n _ _ h2, zrw_n _ _ h1]
  · funext x
    rw [e4 j x h2 (fun e => h1 e.1), zrw_n _ _ h1]
