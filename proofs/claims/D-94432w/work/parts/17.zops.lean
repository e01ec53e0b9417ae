/-! ===== the transformers by whole numbers ===== -/
set_option maxRecDepth 100000
def zo_c (nx : Nat) (v : zv) : zz_O := fun lv st M N K => K (nx + 2) lv (v :: st) M N
theorem z_c {nx : Nat} {v : zv} {w : Value} (e : ev v = w) : zz_ok (zo_c nx v) (o_c nx w) := by
  intro lv st M N K K' hK h
  have h := hK _ _ _ _ _ h
  show K' (nx + 2) (eL lv) (w :: st.map ev) (eM M) N
  rw [← e]
  exact h
theorem z_cn (nx n : Nat) : zz_ok (zo_c nx (.inl (OfNat.ofNat n))) (o_c nx (.int (OfNat.ofNat n))) := z_c (congrArg Value.int (zI_n n).symm)
theorem z_cz (nx : Nat) (z : Int) : zz_ok (zo_c nx (.inl z)) (o_c nx (.int (zI z))) := z_c rfl
theorem z_cl (nx n : Nat) : zz_ok (zo_c nx (.inr (.inl (OfNat.ofNat n)))) (o_c nx (.long (OfNat.ofNat n))) := z_c (congrArg Value.long (zL_n n).symm)
theorem z_clz (nx : Nat) (z : Int) : zz_ok (zo_c nx (.inr (.inl z))) (o_c nx (.long (zL z))) := z_c rfl
theorem z_cr (nx h : Nat) : zz_ok (zo_c nx (.inr (.inr (some h)))) (o_c nx (.ref h)) := z_c rfl
theorem z_c0 (nx : Nat) : zz_ok (zo_c nx (.inr (.inr none))) (o_c nx .null) := z_c rfl
def zo_ild (nx i : Nat) : zz_O := fun lv st M N K => match zz_get lv i with
  | some (.inl x) => K (nx + 2) lv (.inl x :: st) M N
  | _ => False
theorem z_ild (nx i : Nat) : zz_ok (zo_ild nx i) (o_ild nx i) := by
  intro lv st M N K K' hK h
  unfold zo_ild at h
  unfold o_ild
  rw [zz_get_e]
  split at h
  · next x hx =>
    rw [hx]
    exact hK _ _ _ _ _ h
  · exact h.elim
def zo_lld (nx i : Nat) : zz_O := fun lv st M N K => match zz_get lv i with
  | some (.inr (.inl x)) => K (nx + 2) lv (.inr (.inl x) :: st) M N
  | _ => False
theorem z_lld (nx i : Nat) : zz_ok (zo_lld nx i) (o_lld nx i) := by
  intro lv st M N K K' hK h
  unfold zo_lld at h
  unfold o_lld
  rw [zz_get_e]
  split at h
  · next x hx =>
    rw [hx]
    exact hK _ _ _ _ _ h
  · exact h.elim
def zo_ald (nx i : Nat) : zz_O := fun lv st M N K => match zz_get lv i with
  | some (.inr (.inr x)) => K (nx + 2) lv (.inr (.inr x) :: st) M N
  | _ => False
theorem z_ald (nx i : Nat) : zz_ok (zo_ald nx i) (o_ald nx i) := by
  intro lv st M N K K' hK h
  unfold zo_ald at h
  unfold o_ald
  rw [zz_get_e]
  split at h
  · next x hx =>
    rw [hx]
    cases x with
    | none => exact hK _ _ _ _ _ h
    | some b => exact hK _ _ _ _ _ h
  · exact h.elim
def zo_ist (nx i : Nat) : zz_O := fun lv st M N K => match st with
  | .inl x :: r => zz_setK lv i (.inl x) (fun lv' => K (nx + 2) lv' r M N)
  | _ => False
theorem z_ist (nx i : Nat) : zz_ok (zo_ist nx i) (o_ist nx i) := by
  intro lv st M N K K' hK h
  unfold zo_ist at h
  split at h
  · next x r => exact zz_setK_e lv i (.inl x) _ _ (fun l hl => hK _ _ _ _ _ hl) h
  · exact h.elim
def zo_lst (nx i : Nat) : zz_O := fun lv st M N K => match st with
  | .inr (.inl x) :: r => zz_setK lv i (.inr (.inl x)) (fun lv' => zz_clrK lv' (i + 1) (fun lv'' => K (nx + 2) lv'' r M N))
  | _ => False
theorem z_lst (nx i : Nat) : zz_ok (zo_lst nx i) (o_lst nx i) := by
  intro lv st M N K K' hK h
  unfold zo_lst at h
  split at h
  · next x r => exact zz_setK_e lv i (.inr (.inl x)) _ _ (fun l hl => zz_clrK_e l (i + 1) _ _ (fun l2 hl2 => hK _ _ _ _ _ hl2) hl) h
  · exact h.elim
def zo_ast (nx i : Nat) : zz_O := fun lv st M N K => match st with
  | .inr (.inr x) :: r => zz_setK lv i (.inr (.inr x)) (fun lv' => K (nx + 2) lv' r M N)
  | _ => False
theorem z_ast (nx i : Nat) : zz_ok (zo_ast nx i) (o_ast nx i) := by
  intro lv st M N K K' hK h
  unfold zo_ast at h
  split at h
  · next x r =>
    cases x with
    | none => exact zz_setK_e lv i (.inr (.inr none)) _ _ (fun l hl => hK _ _ _ _ _ hl) h
    | some b => exact zz_setK_e lv i (.inr (.inr (some b))) _ _ (fun l hl => hK _ _ _ _ _ hl) h
  · exact h.elim
def zo_inc (nx i : Nat) (n : Int) : zz_O := fun lv st M N K => match zz_get lv i with
  | some (.inl x) => zz_setK lv i (.inl (x + n)) (fun lv' => K (nx + 2) lv' st M N)
  | _ => False
theorem z_inc {nx i : Nat} {n : Int} {w : Int32} (e : zI n = w) : zz_ok (zo_inc nx i n) (o_inc nx i w) := by
  intro lv st M N K K' hK h
  unfold zo_inc at h
  unfold o_inc
  rw [zz_get_e]
  split at h
  · next x hx =>
    rw [hx]
    have h := zz_setK_e lv i (.inl (x + n)) _ (fun lv' => K' (nx + 2) lv' (st.map ev) (eM M) N) (fun l hl => hK _ _ _ _ _ hl) h
    show mm_setK (eL lv) i (.int (zI x + w)) _
    rw [← e, zI_add]
    exact h
  · exact h.elim
theorem z_incn (nx i n : Nat) : zz_ok (zo_inc nx i (OfNat.ofNat n)) (o_inc nx i (OfNat.ofNat n)) := z_inc (zI_n n).symm
theorem z_incz (nx i : Nat) (z : Int) : zz_ok (zo_inc nx i z) (o_inc nx i (zI z)) := z_inc rfl
def zo_iadd (nx : Nat) : zz_O := fun lv st M N K => match st with
  | .inl y :: .inl x :: r => K (nx + 2) lv (.inl (x + y) :: r) M N
  | _ => False
theorem z_iadd (nx : Nat) : zz_ok (zo_iadd nx) (o_iadd nx) := by
  intro lv st M N K K' hK h
  unfold zo_iadd at h
  split at h
  · next y x r =>
    have h := hK _ _ _ _ _ h
    show K' (nx + 2) (eL lv) (.int (zI x + zI y) :: r.map ev) (eM M) N
    have e : zI x + zI y = zI (x + y) := zI_add x y
    rw [e]
    exact h
  · exact h.elim
def zo_isub (nx : Nat) : zz_O := fun lv st M N K => match st with
  | .inl y :: .inl x :: r => K (nx + 2) lv (.inl (x - y) :: r) M N
  | _ => False
theorem z_isub (nx : Nat) : zz_ok (zo_isub nx) (o_isub nx) := by
  intro lv st M N K K' hK h
  unfold zo_isub at h
  split at h
  · next y x r =>
    have h := hK _ _ _ _ _ h
    show K' (nx + 2) (eL lv) (.int (zI x - zI y) :: r.map ev) (eM M) N
    have e : zI x - zI y = zI (x - y) := zI_sub x y
    rw [e]
    exact h
  · exact h.elim
def zo_imul (nx : Nat) : zz_O := fun lv st M N K => match st with
  | .inl y :: .inl x :: r => K (nx + 2) lv (.inl (x * y) :: r) M N
  | _ => False
theorem z_imul (nx : Nat) : zz_ok (zo_imul nx) (o_imul nx) := by
  intro lv st M N K K' hK h
  unfold zo_imul at h
  split at h
  · next y x r =>
    have h := hK _ _ _ _ _ h
    show K' (nx + 2) (eL lv) (.int (zI x * zI y) :: r.map ev) (eM M) N
    have e : zI x * zI y = zI (x * y) := zI_mul x y
    rw [e]
    exact h
  · exact h.elim
def zo_iand (nx : Nat) : zz_O := fun lv st M N K => match st with
  | .inl y :: .inl x :: r => K (nx + 2) lv (.inl (zand x y) :: r) M N
  | _ => False
theorem z_iand (nx : Nat) : zz_ok (zo_iand nx) (o_iand nx) := by
  intro lv st M N K K' hK h
  unfold zo_iand at h
  split at h
  · next y x r =>
    have h := hK _ _ _ _ _ h
    show K' (nx + 2) (eL lv) (.int (zI x &&& zI y) :: r.map ev) (eM M) N
    have e : zI x &&& zI y = zI (zand x y) := zI_of _
    rw [e]
    exact h
  · exact h.elim
def zo_ior (nx : Nat) : zz_O := fun lv st M N K => match st with
  | .inl y :: .inl x :: r => K (nx + 2) lv (.inl (zor x y) :: r) M N
  | _ => False
theorem z_ior (nx : Nat) : zz_ok (zo_ior nx) (o_ior nx) := by
  intro lv st M N K K' hK h
  unfold zo_ior at h
  split at h
  · next y x r =>
    have h := hK _ _ _ _ _ h
    show K' (nx + 2) (eL lv) (.int (zI x ||| zI y) :: r.map ev) (eM M) N
    have e : zI x ||| zI y = zI (zor x y) := zI_of _
    rw [e]
    exact h
  · exact h.elim
def zo_ishr (nx : Nat) : zz_O := fun lv st M N K => match st with
  | .inl y :: .inl x :: r => K (nx + 2) lv (.inl (zshr x y) :: r) M N
  | _ => False
theorem z_ishr (nx : Nat) : zz_ok (zo_ishr nx) (o_ishr nx) := by
  intro lv st M N K K' hK h
  unfold zo_ishr at h
  split at h
  · next y x r =>
    have h := hK _ _ _ _ _ h
    show K' (nx + 2) (eL lv) (.int (zI x >>> (zI y &&& 31)) :: r.map ev) (eM M) N
    have e : zI x >>> (zI y &&& 31) = zI (zshr x y) := zI_of _
    rw [e]
    exact h
  · exact h.elim
def zo_ishl (nx : Nat) : zz_O := fun lv st M N K => match st with
  | .inl y :: .inl x :: r => K (nx + 2) lv (.inl (zshl x y) :: r) M N
  | _ => False
theorem z_ishl (nx : Nat) : zz_ok (zo_ishl nx) (o_ishl nx) := by
  intro lv st M N K K' hK h
  unfold zo_ishl at h
  split at h
  · next y x r =>
    have h := hK _ _ _ _ _ h
    show K' (nx + 2) (eL lv) (.int (zI x <<< (zI y &&& 31)) :: r.map ev) (eM M) N
    have e : zI x <<< (zI y &&& 31) = zI (zshl x y) := zI_of _
    rw [e]
    exact h
  · exact h.elim
def zo_iushr (nx : Nat) : zz_O := fun lv st M N K => match st with
  | .inl y :: .inl x :: r => K (nx + 2) lv (.inl (zushr x y) :: r) M N
  | _ => False
theorem z_iushr (nx : Nat) : zz_ok (zo_iushr nx) (o_iushr nx) := by
  intro lv st M N K K' hK h
  unfold zo_iushr at h
  split at h
  · next y x r =>
    have h := hK _ _ _ _ _ h
    show K' (nx + 2) (eL lv) (.int (((zI x).toUInt32 >>> ((zI y).toUInt32 &&& Int32.toUInt32 31)).toInt32) :: r.map ev) (eM M) N
    have e : ((zI x).toUInt32 >>> ((zI y).toUInt32 &&& Int32.toUInt32 31)).toInt32 = zI (zushr x y) := zI_of _
    rw [e]
    exact h
  · exact h.elim
def zo_ladd (nx : Nat) : zz_O := fun lv st M N K => match st with
  | .inr (.inl y) :: .inr (.inl x) :: r => K (nx + 2) lv (.inr (.inl (x + y)) :: r) M N
  | _ => False
theorem z_ladd (nx : Nat) : zz_ok (zo_ladd nx) (o_ladd nx) := by
  intro lv st M N K K' hK h
  unfold zo_ladd at h
  split at h
  · next y x r =>
    have h := hK _ _ _ _ _ h
    show K' (nx + 2) (eL lv) (.long (zL x + zL y) :: r.map ev) (eM M) N
    have e : zL x + zL y = zL (x + y) := zL_add x y
    rw [e]
    exact h
  · exact h.elim
def zo_lmul (nx : Nat) : zz_O := fun lv st M N K => match st with
  | .inr (.inl y) :: .inr (.inl x) :: r => K (nx + 2) lv (.inr (.inl (x * y)) :: r) M N
  | _ => False
theorem z_lmul (nx : Nat) : zz_ok (zo_lmul nx) (o_lmul nx) := by
  intro lv st M N K K' hK h
  unfold zo_lmul at h
  split at h
  · next y x r =>
    have h := hK _ _ _ _ _ h
    show K' (nx + 2) (eL lv) (.long (zL x * zL y) :: r.map ev) (eM M) N
    have e : zL x * zL y = zL (x * y) := zL_mul x y
    rw [e]
    exact h
  · exact h.elim
def zo_idiv (nx : Nat) : zz_O := fun lv st M N K => match st with
  | .inl y :: .inl x :: r => bif zpos 2147483647 y then (0 ≤ x ∧ x < 2147483648) ∧ K (nx + 2) lv (.inl (x / y) :: r) M N else False
  | _ => False
theorem zI_nz {y : Int} (h1 : 0 < y) (h2 : y ≤ 2147483647) : Nat.beq (zI y).toBitVec.toNat 0 = false := by
  cases hq : Nat.beq (zI y).toBitVec.toNat 0 with
  | false => rfl
  | true =>
    exfalso
    have e : (zI y).toBitVec.toNat = 0 := Nat.eq_of_beq_eq_true hq
    have e1 := (mm_cidx e (by decide)).2
    rw [zI_cl (by omega) (by omega)] at e1
    omega
theorem zL_nz {y : Int} (h1 : 0 < y) (h2 : y ≤ 9223372036854775807) : Nat.beq (zL y).toBitVec.toNat 0 = false := by
  cases hq : Nat.beq (zL y).toBitVec.toNat 0 with
  | false => rfl
  | true =>
    exfalso
    have e : (zL y).toBitVec.toNat = 0 := Nat.eq_of_beq_eq_true hq
    have e1 : (zL y).toInt = 0 := by
      show (zL y).toBitVec.toInt = 0
      have : (zL y).toBitVec = 0 := BitVec.eq_of_toNat_eq (by rw [e]; rfl)
      rw [this]
      rfl
    rw [zL_toInt (by omega) (by omega)] at e1
    omega
theorem z_idiv (nx : Nat) : zz_ok (zo_idiv nx) (o_idiv nx) := by
  intro lv st M N K K' hK h
  unfold zo_idiv at h
  split at h
  · next y x r =>
    obtain ⟨hp, hx, h⟩ := mm_bif h (fun q => q)
    obtain ⟨p1, p2⟩ := zpos_t hp
    have h := hK _ _ _ _ _ h
    show (bif Nat.beq (zI y).toBitVec.toNat 0 then False else K' (nx + 2) (eL lv) (.int (zI x / zI y) :: r.map ev) (eM M) N)
    rw [zI_nz p1 (by omega), zI_div hx.1 hx.2 p1 (by omega)]
    exact h
  · exact h.elim
def zo_irem (nx : Nat) : zz_O := fun lv st M N K => match st with
  | .inl y :: .inl x :: r => bif zpos 2147483647 y then (0 ≤ x ∧ x < 2147483648) ∧ K (nx + 2) lv (.inl (x % y) :: r) M N else False
  | _ => False
theorem z_irem (nx : Nat) : zz_ok (zo_irem nx) (o_irem nx) := by
  intro lv st M N K K' hK h
  unfold zo_irem at h
  split at h
  · next y x r =>
    obtain ⟨hp, hx, h⟩ := mm_bif h (fun q => q)
    obtain ⟨p1, p2⟩ := zpos_t hp
    have h := hK _ _ _ _ _ h
    show (bif Nat.beq (zI y).toBitVec.toNat 0 then False else K' (nx + 2) (eL lv) (.int (zI x - zI x / zI y * zI y) :: r.map ev) (eM M) N)
    rw [zI_nz p1 (by omega), zI_rem hx.1 hx.2 p1 (by omega)]
    exact h
  · exact h.elim
def zo_ldiv (nx : Nat) : zz_O := fun lv st M N K => match st with
  | .inr (.inl y) :: .inr (.inl x) :: r => bif zpos 9223372036854775807 y then (0 ≤ x ∧ x < 9223372036854775808) ∧ K (nx + 2) lv (.inr (.inl (x / y)) :: r) M N else False
  | _ => False
theorem z_ldiv (nx : Nat) : zz_ok (zo_ldiv nx) (o_ldiv nx) := by
  intro lv st M N K K' hK h
  unfold zo_ldiv at h
  split at h
  · next y x r =>
    obtain ⟨hp, hx, h⟩ := mm_bif h (fun q => q)
    obtain ⟨p1, p2⟩ := zpos_t hp
    have h := hK _ _ _ _ _ h
    show (bif Nat.beq (zL y).toBitVec.toNat 0 then False else K' (nx + 2) (eL lv) (.long (zL x / zL y) :: r.map ev) (eM M) N)
    rw [zL_nz p1 (by omega), zL_div hx.1 hx.2 p1 (by omega)]
    exact h
  · exact h.elim
def zo_lcmp (nx : Nat) : zz_O := fun lv st M N K => match st with
  | .inr (.inl y) :: .inr (.inl x) :: r => R64 x ∧ R64 y ∧ K (nx + 2) lv (.inl (zcmp x y) :: r) M N
  | _ => False
theorem z_lcmp (nx : Nat) : zz_ok (zo_lcmp nx) (o_lcmp nx) := by
  intro lv st M N K K' hK h
  unfold zo_lcmp at h
  split at h
  · next y x r =>
    obtain ⟨hx, hy, h⟩ := h
    have h := hK _ _ _ _ _ h
    show K' (nx + 2) (eL lv) (.int (lg_cmp (zL x) (zL y)) :: r.map ev) (eM M) N
    rw [zcmp_e hx hy]
    exact h
  · exact h.elim
def zo_ineg (nx : Nat) : zz_O := fun lv st M N K => match st with
  | .inl x :: r => K (nx + 2) lv (.inl (-x) :: r) M N
  | _ => False
theorem z_ineg (nx : Nat) : zz_ok (zo_ineg nx) (o_ineg nx) := by
  intro lv st M N K K' hK h
  unfold zo_ineg at h
  split at h
  · next x r =>
    have h := hK _ _ _ _ _ h
    show K' (nx + 2) (eL lv) (Value.int (-zI x) :: r.map ev) (eM M) N
    rw [show Value.int (-zI x) = ev (.inl (-x)) from congrArg Value.int (zI_neg x)]
    exact h
  · exact h.elim
def zo_i2l (nx : Nat) : zz_O := fun lv st M N K => match st with
  | .inl x :: r => R32 x ∧ K (nx + 2) lv (.inr (.inl x) :: r) M N
  | _ => False
theorem z_i2l (nx : Nat) : zz_ok (zo_i2l nx) (o_i2l nx) := by
  intro lv st M N K K' hK h
  unfold zo_i2l at h
  split at h
  · next x r =>
    obtain ⟨hx, h⟩ := h
    have h := hK _ _ _ _ _ h
    show K' (nx + 2) (eL lv) (Value.long (zI x).toInt64 :: r.map ev) (eM M) N
    rw [show Value.long (zI x).toInt64 = ev (.inr (.inl x)) from congrArg Value.long (zI_l hx.1 hx.2)]
    exact h
  · exact h.elim
def zo_l2i (nx : Nat) : zz_O := fun lv st M N K => match st with
  | .inr (.inl x) :: r => R64 x ∧ K (nx + 2) lv (.inl x :: r) M N
  | _ => False
theorem z_l2i (nx : Nat) : zz_ok (zo_l2i nx) (o_l2i nx) := by
  intro lv st M N K K' hK h
  unfold zo_l2i at h
  split at h
  · next x r =>
    obtain ⟨hx, h⟩ := h
    have h := hK _ _ _ _ _ h
    show K' (nx + 2) (eL lv) (Value.int (zL x).toInt32 :: r.map ev) (eM M) N
    rw [show Value.int (zL x).toInt32 = ev (.inl x) from congrArg Value.int (zL_i hx.1 hx.2)]
    exact h
  · exact h.elim
def zo_i2b (nx : Nat) : zz_O := fun lv st M N K => match st with
  | .inl x :: r => K (nx + 2) lv (.inl (zbyte x) :: r) M N
  | _ => False
theorem z_i2b (nx : Nat) : zz_ok (zo_i2b nx) (o_i2b nx) := by
  intro lv st M N K K' hK h
  unfold zo_i2b at h
  split at h
  · next x r =>
    have h := hK _ _ _ _ _ h
    show K' (nx + 2) (eL lv) (Value.int (zI x).toInt8.toInt32 :: r.map ev) (eM M) N
    rw [show Value.int (zI x).toInt8.toInt32 = ev (.inl (zbyte x)) from congrArg Value.int (zI_of _)]
    exact h
  · exact h.elim
def zo_i2c (nx : Nat) : zz_O := fun lv st M N K => match st with
  | .inl x :: r => K (nx + 2) lv (.inl (zchar x) :: r) M N
  | _ => False
theorem z_i2c (nx : Nat) : zz_ok (zo_i2c nx) (o_i2c nx) := by
  intro lv st M N K K' hK h
  unfold zo_i2c at h
  split at h
  · next x r =>
    have h := hK _ _ _ _ _ h
    show K' (nx + 2) (eL lv) (Value.int ((zI x).toUInt32 % 65536).toInt32 :: r.map ev) (eM M) N
    rw [show Value.int ((zI x).toUInt32 % 65536).toInt32 = ev (.inl (zchar x)) from congrArg Value.int (zI_of _)]
    exact h
  · exact h.elim
def zo_dup (nx : Nat) : zz_O := fun lv st M N K => match st with
  | a :: r => bif zc1 a then K (nx + 2) lv (a :: a :: r) M N else False
  | _ => False
theorem z_dup (nx : Nat) : zz_ok (zo_dup nx) (o_dup nx) := by
  intro lv st M N K K' hK h
  unfold zo_dup at h
  split at h
  · next a r =>
    obtain ⟨e, h⟩ := mm_bif h (fun q => q)
    have h := hK _ _ _ _ _ h
    show (bif mm_c1 (ev a) then K' (nx + 2) (eL lv) (ev a :: ev a :: r.map ev) (eM M) N else False)
    rw [zc1_e e]
    exact h
  · exact h.elim
def zo_dup_x1 (nx : Nat) : zz_O := fun lv st M N K => match st with
  | a :: b :: r => bif zc1 a && zc1 b then K (nx + 2) lv (a :: b :: a :: r) M N else False
  | _ => False
theorem z_dup_x1 (nx : Nat) : zz_ok (zo_dup_x1 nx) (o_dup_x1 nx) := by
  intro lv st M N K K' hK h
  unfold zo_dup_x1 at h
  split at h
  · next a b r =>
    obtain ⟨e, e2, h⟩ := mm_and2 h (fun q => q)
    have h := hK _ _ _ _ _ h
    show (bif mm_c1 (ev a) && mm_c1 (ev b) then K' (nx + 2) (eL lv) (ev a :: ev b :: ev a :: r.map ev) (eM M) N else False)
    rw [zc1_e e, zc1_e e2]
    exact h
  · exact h.elim
def zo_dup2 (nx : Nat) : zz_O := fun lv st M N K => match st with
  | a :: b :: r => bif zc1 a && zc1 b then K (nx + 2) lv (a :: b :: a :: b :: r) M N else False
  | _ => False
theorem z_dup2 (nx : Nat) : zz_ok (zo_dup2 nx) (o_dup2 nx) := by
  intro lv st M N K K' hK h
  unfold zo_dup2 at h
  split at h
  · next a b r =>
    obtain ⟨e, e2, h⟩ := mm_and2 h (fun q => q)
    have h := hK _ _ _ _ _ h
    show (bif mm_c1 (ev a) && mm_c1 (ev b) then K' (nx + 2) (eL lv) (ev a :: ev b :: ev a :: ev b :: r.map ev) (eM M) N else False)
    rw [zc1_e e, zc1_e e2]
    exact h
  · exact h.elim
def zo_pop (nx : Nat) : zz_O := fun lv st M N K => match st with
  | a :: r => bif zc1 a then K (nx + 2) lv r M N else False
  | _ => False
theorem z_pop (nx : Nat) : zz_ok (zo_pop nx) (o_pop nx) := by
  intro lv st M N K K' hK h
  unfold zo_pop at h
  split at h
  · next a r =>
    obtain ⟨e, h⟩ := mm_bif h (fun q => q)
    have h := hK _ _ _ _ _ h
    show (bif mm_c1 (ev a) then K' (nx + 2) (eL lv) (r.map ev) (eM M) N else False)
    rw [zc1_e e]
    exact h
  · exact h.elim
def zo_goto (tgt : Nat) : zz_O := fun lv st M N K => K (tgt + 2) lv st M N
theorem z_goto (tgt : Nat) : zz_ok (zo_goto tgt) (o_goto tgt) := fun lv st M N K K' hK h => hK _ _ _ _ _ h
def zo_bad : zz_O := fun _ _ _ _ _ => False
theorem z_bad : zz_ok zo_bad o_bad := fun _ _ _ _ _ _ _ h => h.elim
def zo_ifeq (f : Bool) (nx tgt : Nat) : zz_O := fun lv st M N K => match st with
  | .inl x :: r => zr f x ((x = 0 → K (tgt + 2) lv r M N) ∧ (¬ x = 0 → K (nx + 2) lv r M N))
  | _ => False
theorem z_ifeq (f : Bool) (nx tgt : Nat) : zz_ok (zo_ifeq f nx tgt) (o_ifeq nx tgt) := by
  intro lv st M N K K' hK h
  unfold zo_ifeq at h
  split at h
  · next x r =>
    obtain ⟨hx, h1, h2⟩ := zr_ok h
    have iff : zI x = 0 ↔ x = 0 := by rw [zI_n]; exact zI_eq hx.1 hx.2 (by decide) (by decide)
    exact And.intro (fun c => hK _ _ _ _ _ (h1 (iff.mp c))) (fun c => hK _ _ _ _ _ (h2 (fun q => c (iff.mpr q))))
  · exact h.elim
def zo_iflt (f : Bool) (nx tgt : Nat) : zz_O := fun lv st M N K => match st with
  | .inl x :: r => zr f x ((x < 0 → K (tgt + 2) lv r M N) ∧ (¬ x < 0 → K (nx + 2) lv r M N))
  | _ => False
theorem z_iflt (f : Bool) (nx tgt : Nat) : zz_ok (zo_iflt f nx tgt) (o_iflt nx tgt) := by
  intro lv st M N K K' hK h
  unfold zo_iflt at h
  split at h
  · next x r =>
    obtain ⟨hx, h1, h2⟩ := zr_ok h
    have iff : zI x < 0 ↔ x < 0 := by rw [zI_n]; exact zI_lt hx.1 hx.2 (by decide) (by decide)
    exact And.intro (fun c => hK _ _ _ _ _ (h1 (iff.mp c))) (fun c => hK _ _ _ _ _ (h2 (fun q => c (iff.mpr q))))
  · exact h.elim
def zo_ifge (f : Bool) (nx tgt : Nat) : zz_O := fun lv st M N K => match st with
  | .inl x :: r => zr f x ((0 ≤ x → K (tgt + 2) lv r M N) ∧ (¬ 0 ≤ x → K (nx + 2) lv r M N))
  | _ => False
theorem z_ifge (f : Bool) (nx tgt : Nat) : zz_ok (zo_ifge f nx tgt) (o_ifge nx tgt) := by
  intro lv st M N K K' hK h
  unfold zo_ifge at h
  split at h
  · next x r =>
    obtain ⟨hx, h1, h2⟩ := zr_ok h
    have iff : 0 ≤ zI x ↔ 0 ≤ x := by rw [zI_n]; exact zI_le (by decide) (by decide) hx.1 hx.2
    exact And.intro (fun c => hK _ _ _ _ _ (h1 (iff.mp c))) (fun c => hK _ _ _ _ _ (h2 (fun q => c (iff.mpr q))))
  · exact h.elim
def zo_ifgt (f : Bool) (nx tgt : Nat) : zz_O := fun lv st M N K => match st with
  | .inl x :: r => zr f x ((0 < x → K (tgt + 2) lv r M N) ∧ (¬ 0 < x → K (nx + 2) lv r M N))
  | _ => False
theorem z_ifgt (f : Bool) (nx tgt : Nat) : zz_ok (zo_ifgt f nx tgt) (o_ifgt nx tgt) := by
  intro lv st M N K K' hK h
  unfold zo_ifgt at h
  split at h
  · next x r =>
    obtain ⟨hx, h1, h2⟩ := zr_ok h
    have iff : 0 < zI x ↔ 0 < x := by rw [zI_n]; exact zI_lt (by decide) (by decide) hx.1 hx.2
    exact And.intro (fun c => hK _ _ _ _ _ (h1 (iff.mp c))) (fun c => hK _ _ _ _ _ (h2 (fun q => c (iff.mpr q))))
  · exact h.elim
def zo_ifle (f : Bool) (nx tgt : Nat) : zz_O := fun lv st M N K => match st with
  | .inl x :: r => zr f x ((x ≤ 0 → K (tgt + 2) lv r M N) ∧ (¬ x ≤ 0 → K (nx + 2) lv r M N))
  | _ => False
theorem z_ifle (f : Bool) (nx tgt : Nat) : zz_ok (zo_ifle f nx tgt) (o_ifle nx tgt) := by
  intro lv st M N K K' hK h
  unfold zo_ifle at h
  split at h
  · next x r =>
    obtain ⟨hx, h1, h2⟩ := zr_ok h
    have iff : zI x ≤ 0 ↔ x ≤ 0 := by rw [zI_n]; exact zI_le hx.1 hx.2 (by decide) (by decide)
    exact And.intro (fun c => hK _ _ _ _ _ (h1 (iff.mp c))) (fun c => hK _ _ _ _ _ (h2 (fun q => c (iff.mpr q))))
  · exact h.elim
def zo_ifne (f : Bool) (nx tgt : Nat) : zz_O := fun lv st M N K => match st with
  | .inl x :: r => zr f x ((¬ x = 0 → K (tgt + 2) lv r M N) ∧ (x = 0 → K (nx + 2) lv r M N))
  | _ => False
theorem z_ifne (f : Bool) (nx tgt : Nat) : zz_ok (zo_ifne f nx tgt) (o_ifne nx tgt) := by
  intro lv st M N K K' hK h
  unfold zo_ifne at h
  split at h
  · next x r =>
    obtain ⟨hx, h1, h2⟩ := zr_ok h
    have iff : zI x = 0 ↔ x = 0 := by rw [zI_n]; exact zI_eq hx.1 hx.2 (by decide) (by decide)
    exact And.intro (fun c => hK _ _ _ _ _ (h1 (fun q => c (iff.mpr q)))) (fun c => hK _ _ _ _ _ (h2 (iff.mp c)))
  · exact h.elim
def zo_zifeq (nx tgt : Nat) : zz_O := fun lv st M N K => match st with
  | .inl x :: r => bif zlit x then (bif zeq x 0 then K (tgt + 2) lv r M N else K (nx + 2) lv r M N) else False
  | _ => False
theorem z_zifeq (nx tgt : Nat) : zz_ok (zo_zifeq nx tgt) (o_ifeq nx tgt) := by
  intro lv st M N K K' hK h
  unfold zo_zifeq at h
  split at h
  · next x r =>
    obtain ⟨hx, h⟩ := mm_bif h (fun q => q)
    have hx := zlit_r hx
    have iff : zI x = 0 ↔ x = 0 := by rw [zI_n]; exact zI_eq hx.1 hx.2 (by decide) (by decide)
    cases hz : zeq x 0 with
    | true =>
      rw [hz] at h
      have e : x = 0 := zeq_t hz
      exact And.intro (fun c => hK _ _ _ _ _ h) (fun c => absurd (iff.mpr e) c)
    | false =>
      rw [hz] at h
      have e : ¬ x = 0 := zeq_f hz
      exact And.intro (fun c => absurd (iff.mp c) e) (fun c => hK _ _ _ _ _ h)
  · exact h.elim
def zo_zifne (nx tgt : Nat) : zz_O := fun lv st M N K => match st with
  | .inl x :: r => bif zlit x then (bif zeq x 0 then K (nx + 2) lv r M N else K (tgt + 2) lv r M N) else False
  | _ => False
theorem z_zifne (nx tgt : Nat) : zz_ok (zo_zifne nx tgt) (o_ifne nx tgt) := by
  intro lv st M N K K' hK h
  unfold zo_zifne at h
  split at h
  · next x r =>
    obtain ⟨hx, h⟩ := mm_bif h (fun q => q)
    have hx := zlit_r hx
    have iff : zI x = 0 ↔ x = 0 := by rw [zI_n]; exact zI_eq hx.1 hx.2 (by decide) (by decide)
    cases hz : zeq x 0 with
    | true =>
      rw [hz] at h
      have e : x = 0 := zeq_t hz
      exact And.intro (fun c => absurd (iff.mpr e) c) (fun c => hK _ _ _ _ _ h)
    | false =>
      rw [hz] at h
      have e : ¬ x = 0 := zeq_f hz
      exact And.intro (fun c => hK _ _ _ _ _ h) (fun c => absurd (iff.mp c) e)
  · exact h.elim
def zo_ceq (f g : Bool) (nx tgt : Nat) : zz_O := fun lv st M N K => match st with
  | .inl y :: .inl x :: r => zr f x (zr g y ((x = y → K (tgt + 2) lv r M N) ∧ (¬ x = y → K (nx + 2) lv r M N)))
  | _ => False
theorem z_ceq (f g : Bool) (nx tgt : Nat) : zz_ok (zo_ceq f g nx tgt) (o_ceq nx tgt) := by
  intro lv st M N K K' hK h
  unfold zo_ceq at h
  split at h
  · next y x r =>
    obtain ⟨hx, h⟩ := zr_ok h
    obtain ⟨hy, h1, h2⟩ := zr_ok h
    have iff : zI x = zI y ↔ x = y := zI_eq hx.1 hx.2 hy.1 hy.2
    exact And.intro (fun c => hK _ _ _ _ _ (h1 (iff.mp c))) (fun c => hK _ _ _ _ _ (h2 (fun q => c (iff.mpr q))))
  · exact h.elim
def zo_clt (f g : Bool) (nx tgt : Nat) : zz_O := fun lv st M N K => match st with
  | .inl y :: .inl x :: r => zr f x (zr g y ((x < y → K (tgt + 2) lv r M N) ∧ (¬ x < y → K (nx + 2) lv r M N)))
  | _ => False
theorem z_clt (f g : Bool) (nx tgt : Nat) : zz_ok (zo_clt f g nx tgt) (o_clt nx tgt) := by
  intro lv st M N K K' hK h
  unfold zo_clt at h
  split at h
  · next y x r =>
    obtain ⟨hx, h⟩ := zr_ok h
    obtain ⟨hy, h1, h2⟩ := zr_ok h
    have iff : zI x < zI y ↔ x < y := zI_lt hx.1 hx.2 hy.1 hy.2
    exact And.intro (fun c => hK _ _ _ _ _ (h1 (iff.mp c))) (fun c => hK _ _ _ _ _ (h2 (fun q => c (iff.mpr q))))
  · exact h.elim
def zo_cge (f g : Bool) (nx tgt : Nat) : zz_O := fun lv st M N K => match st with
  | .inl y :: .inl x :: r => zr f x (zr g y ((y ≤ x → K (tgt + 2) lv r M N) ∧ (¬ y ≤ x → K (nx + 2) lv r M N)))
  | _ => False
theorem z_cge (f g : Bool) (nx tgt : Nat) : zz_ok (zo_cge f g nx tgt) (o_cge nx tgt) := by
  intro lv st M N K K' hK h
  unfold zo_cge at h
  split at h
  · next y x r =>
    obtain ⟨hx, h⟩ := zr_ok h
    obtain ⟨hy, h1, h2⟩ := zr_ok h
    have iff : zI y ≤ zI x ↔ y ≤ x := zI_le hy.1 hy.2 hx.1 hx.2
    exact And.intro (fun c => hK _ _ _ _ _ (h1 (iff.mp c))) (fun c => hK _ _ _ _ _ (h2 (fun q => c (iff.mpr q))))
  · exact h.elim
def zo_cgt (f g : Bool) (nx tgt : Nat) : zz_O := fun lv st M N K => match st with
  | .inl y :: .inl x :: r => zr f x (zr g y ((y < x → K (tgt + 2) lv r M N) ∧ (¬ y < x → K (nx + 2) lv r M N)))
  | _ => False
theorem z_cgt (f g : Bool) (nx tgt : Nat) : zz_ok (zo_cgt f g nx tgt) (o_cgt nx tgt) := by
  intro lv st M N K K' hK h
  unfold zo_cgt at h
  split at h
  · next y x r =>
    obtain ⟨hx, h⟩ := zr_ok h
    obtain ⟨hy, h1, h2⟩ := zr_ok h
    have iff : zI y < zI x ↔ y < x := zI_lt hy.1 hy.2 hx.1 hx.2
    exact And.intro (fun c => hK _ _ _ _ _ (h1 (iff.mp c))) (fun c => hK _ _ _ _ _ (h2 (fun q => c (iff.mpr q))))
  · exact h.elim
def zo_cle (f g : Bool) (nx tgt : Nat) : zz_O := fun lv st M N K => match st with
  | .inl y :: .inl x :: r => zr f x (zr g y ((x ≤ y → K (tgt + 2) lv r M N) ∧ (¬ x ≤ y → K (nx + 2) lv r M N)))
  | _ => False
theorem z_cle (f g : Bool) (nx tgt : Nat) : zz_ok (zo_cle f g nx tgt) (o_cle nx tgt) := by
  intro lv st M N K K' hK h
  unfold zo_cle at h
  split at h
  · next y x r =>
    obtain ⟨hx, h⟩ := zr_ok h
    obtain ⟨hy, h1, h2⟩ := zr_ok h
    have iff : zI x ≤ zI y ↔ x ≤ y := zI_le hx.1 hx.2 hy.1 hy.2
    exact And.intro (fun c => hK _ _ _ _ _ (h1 (iff.mp c))) (fun c => hK _ _ _ _ _ (h2 (fun q => c (iff.mpr q))))
  · exact h.elim
def zo_cne (f g : Bool) (nx tgt : Nat) : zz_O := fun lv st M N K => match st with
  | .inl y :: .inl x :: r => zr f x (zr g y ((¬ x = y → K (tgt + 2) lv r M N) ∧ (x = y → K (nx + 2) lv r M N)))
  | _ => False
theorem z_cne (f g : Bool) (nx tgt : Nat) : zz_ok (zo_cne f g nx tgt) (o_cne nx tgt) := by
  intro lv st M N K K' hK h
  unfold zo_cne at h
  split at h
  · next y x r =>
    obtain ⟨hx, h⟩ := zr_ok h
    obtain ⟨hy, h1, h2⟩ := zr_ok h
    have iff : zI x = zI y ↔ x = y := zI_eq hx.1 hx.2 hy.1 hy.2
    exact And.intro (fun c => hK _ _ _ _ _ (h1 (fun q => c (iff.mpr q)))) (fun c => hK _ _ _ _ _ (h2 (iff.mp c)))
  · exact h.elim
def zo_ifnull (nx tgt : Nat) : zz_O := fun lv st M N K => match st with
  | .inr (.inr (some _)) :: r => K (nx + 2) lv r M N
  | .inr (.inr none) :: r => K (tgt + 2) lv r M N
  | _ => False
theorem z_ifnull (nx tgt : Nat) : zz_ok (zo_ifnull nx tgt) (o_ifnull nx tgt) := by
  intro lv st M N K K' hK h
  unfold zo_ifnull at h
  split at h
  · exact hK _ _ _ _ _ h
  · exact hK _ _ _ _ _ h
  · exact h.elim
def zo_ifnonnull (nx tgt : Nat) : zz_O := fun lv st M N K => match st with
  | .inr (.inr (some _)) :: r => K (tgt + 2) lv r M N
  | .inr (.inr none) :: r => K (nx + 2) lv r M N
  | _ => False
theorem z_ifnonnull (nx tgt : Nat) : zz_ok (zo_ifnonnull nx tgt) (o_ifnonnull nx tgt) := by
  intro lv st M N K K' hK h
  unfold zo_ifnonnull at h
  split at h
  · exact hK _ _ _ _ _ h
  · exact hK _ _ _ _ _ h
  · exact h.elim
def zo_iret : zz_O := fun lv st M N K => match st with
  | [.inl x] => K 0 lv [.inl x] M N
  | _ => False
theorem z_iret : zz_ok zo_iret o_iret := by
  intro lv st M N K K' hK h
  unfold zo_iret at h
  split at h
  · exact hK _ _ _ _ _ h
  · exact h.elim
def zbl : Int → Bool
  | .ofNat n => Nat.ble n 1
  | .negSucc _ => false
theorem zbl_t : ∀ {x : Int}, zbl x = true → x = 0 ∨ x = 1
  | .ofNat n, h => by
    have h1 := Nat.le_of_ble_eq_true h
    have h2 : n = 0 ∨ n = 1 := by omega
    rcases h2 with e | e
    · rw [e]; exact Or.inl rfl
    · rw [e]; exact Or.inr rfl
  | .negSucc _, h => by cases h
/-- 0 or 1: by its writing (f), or as a premise -/
def zrb (f : Bool) (x : Int) (P : Prop) : Prop := bif f then (bif zbl x then P else False) else ((x = 0 ∨ x = 1) ∧ P)
theorem zrb_ok {f : Bool} {x : Int} {P : Prop} (h : zrb f x P) : (x = 0 ∨ x = 1) ∧ P := by
  unfold zrb at h
  cases f with
  | false => exact h
  | true =>
    cases hz : zbl x with
    | true => rw [hz] at h; exact ⟨zbl_t hz, h⟩
    | false => rw [hz] at h; exact h.elim
theorem zI_01 {x : Int} (h : x = 0 ∨ x = 1) : zI x = 0 ∨ zI x = 1 := by
  rcases h with e | e
  · rw [e]; exact Or.inl rfl
  · rw [e]; exact Or.inr rfl
def zo_zret (f : Bool) : zz_O := fun lv st M N K => match st with
  | [.inl x] => zrb f x (K 0 lv [.inl x] M N)
  | _ => False
theorem z_zret (f : Bool) : zz_ok (zo_zret f) o_zret := by
  intro lv st M N K K' hK h
  unfold zo_zret at h
  split at h
  · obtain ⟨h1, h2⟩ := zrb_ok h
    exact ⟨zI_01 h1, hK _ _ _ _ _ h2⟩
  · exact h.elim
theorem nar_byte {x : Int} (h1 : -128 ≤ x) (h2 : x ≤ 127) : narrow .byte (.int (zI x)) = .int (zI x) := by
  have : ∀ k : Fin 256, narrow .byte (.int (zI ((k.val : Int) - 128))) = .int (zI ((k.val : Int) - 128)) := by decide +kernel
  have h := this ⟨(x + 128).toNat, by omega⟩
  have e : (((⟨(x + 128).toNat, by omega⟩ : Fin 256).val : Nat) : Int) - 128 = x := by
    show (((x + 128).toNat : Nat) : Int) - 128 = x
    omega
  rw [e] at h
  exact h
def zo_bret : zz_O := fun lv st M N K => match st with
  | [.inl x] => (-128 ≤ x ∧ x ≤ 127) ∧ K 0 lv [.inl x] M N
  | _ => False
theorem z_bret : zz_ok zo_bret o_bret := by
  intro lv st M N K K' hK h
  unfold zo_bret at h
  split at h
  · obtain ⟨h1, h2⟩ := h
    exact ⟨nar_byte h1.1 h1.2, hK _ _ _ _ _ h2⟩
  · exact h.elim
def zo_lret : zz_O := fun lv st M N K => match st with
  | [.inr (.inl x)] => K 0 lv [.inr (.inl x)] M N
  | _ => False
theorem z_lret : zz_ok zo_lret o_lret := by
  intro lv st M N K K' hK h
  unfold zo_lret at h
  split at h
  · exact hK _ _ _ _ _ h
  · exact h.elim
def zo_aret : zz_O := fun lv st M N K => match st with
  | [.inr (.inr x)] => K 0 lv [.inr (.inr x)] M N
  | _ => False
theorem z_aret : zz_ok zo_aret o_aret := by
  intro lv st M N K K' hK h
  unfold zo_aret at h
  split at h
  · next x =>
    cases x with
    | none => exact hK _ _ _ _ _ h
    | some b => exact hK _ _ _ _ _ h
  · exact h.elim
def zo_vret : zz_O := fun lv st M N K => match st with
  | [] => K 0 lv [] M N
  | _ => False
theorem z_vret : zz_ok zo_vret o_vret := by
  intro lv st M N K K' hK h
  unfold zo_vret at h
  split at h
  · exact hK _ _ _ _ _ h
  · exact h.elim
theorem beq_of {a b : Nat} (h : a = b) : Nat.beq a b = true := by rw [h]; exact Nat.beq_refl b
def zo_get (nx ci kd k : Nat) : zz_O := fun lv st M N K => match st with
  | .inr (.inr (some h)) :: r => bif Nat.beq (zsh M h).2 ci && Nat.beq (zsh M h).1 1 then K (nx + 2) lv (zz_fa M h kd k :: r) M N else False
  | _ => False
theorem o_get_1 {nx ci kd k h : Nat} {lv : mm_L} {r : List Value} {M : mm_M} {N : mm_N} {K : mm_K} (e1 : (M.1 h).2 = ci) (e2 : (M.1 h).1 = 1) (hk : K (nx + 2) lv (mm_fa M h kd k :: r) M N) : o_get nx ci kd k lv (.ref h :: r) M N K := by
  unfold o_get
  show (bif Nat.beq (M.1 h).2 ci then (bif Nat.beq (M.1 h).1 1 then K (nx + 2) lv (mm_fa M h kd k :: r) M N else bif Nat.beq (M.1 h).1 17 then K (nx + 2) lv (mm_fa mm_kM h kd k :: r) M N else False) else False)
  rw [beq_of e1, beq_of e2]
  exact hk
theorem z_get (nx ci kd k : Nat) : zz_ok (zo_get nx ci kd k) (o_get nx ci kd k) := by
  intro lv st M N K K' hK h
  unfold zo_get at h
  split at h
  · next x r =>
    obtain ⟨e1, e2, h⟩ := mm_and2 h (fun q => q)
    have h := hK _ _ _ _ _ h
    refine o_get_1 (mm_beq e1) (mm_beq e2) ?_
    rw [zz_fa_e]
    exact h
  · exact h.elim
/-- the shape as a premise -/
def zo_getp (nx ci kd k : Nat) : zz_O := fun lv st M N K => match st with
  | .inr (.inr (some h)) :: r => zsh M h = (1, ci) ∧ K (nx + 2) lv (zz_fa M h kd k :: r) M N
  | _ => False
theorem z_getp (nx ci kd k : Nat) : zz_ok (zo_getp nx ci kd k) (o_get nx ci kd k) := by
  intro lv st M N K K' hK h
  unfold zo_getp at h
  split at h
  · next x r =>
    obtain ⟨e1, h⟩ := h
    have h := hK _ _ _ _ _ h
    refine o_get_1 (by show (zsh M x).2 = ci; rw [e1]) (by show (zsh M x).1 = 1; rw [e1]) ?_
    rw [zz_fa_e]
    exact h
  · exact h.elim
/-- a reference that is read: the cases -/
def zo_getq (nx ci k : Nat) : zz_O := fun lv st M N K => match st with
  | .inr (.inr (some h)) :: r => zsh M h = (1, ci) ∧ (∀ b, zpt M h k = some b → K (nx + 2) lv (.inr (.inr (some b)) :: r) M N) ∧ (zpt M h k = none → K (nx + 2) lv (.inr (.inr none) :: r) M N)
  | _ => False
theorem z_getq (nx ci k : Nat) : zz_ok (zo_getq nx ci k) (o_get nx ci 2 k) := by
  intro lv st M N K K' hK h
  unfold zo_getq at h
  split at h
  · next x r =>
    obtain ⟨e1, h1, h2⟩ := h
    refine o_get_1 (by show (zsh M x).2 = ci; rw [e1]) (by show (zsh M x).1 = 1; rw [e1]) ?_
    show K' (nx + 2) (eL lv) (va_rf (zpt M x k) :: r.map ev) (eM M) N
    cases e : zpt M x k with
    | none => exact hK _ _ _ _ _ (h2 e)
    | some b => exact hK _ _ _ _ _ (h1 b e)
  · exact h.elim
def zo_puti (nx ci k : Nat) : zz_O := fun lv st M N K => match st with
  | .inl x :: .inr (.inr (some h)) :: r => bif Nat.beq (zsh M h).2 ci && Nat.beq (zsh M h).1 1 then K (nx + 2) lv r (zz_wI M h k x) N else False
  | _ => False
theorem z_puti (nx ci k : Nat) : zz_ok (zo_puti nx ci k) (o_puti nx ci k) := by
  intro lv st M N K K' hK h
  unfold zo_puti at h
  split at h
  · next v x r =>
    obtain ⟨e1, e2, h⟩ := mm_and2 h (fun q => q)
    have e1 := mm_beq e1
    have e2 := mm_beq e2
    have h := hK _ _ _ _ _ h
    show (bif Nat.beq (zsh M x).2 ci && Nat.beq (zsh M x).1 1 then K' (nx + 2) (eL lv) (r.map ev) (mm_wI (eM M) x k (zI v)) N else False)
    rw [beq_of e1, beq_of e2, eM_wI]
    exact h
  · exact h.elim
def zo_putz (f : Bool) (nx ci k : Nat) : zz_O := fun lv st M N K => match st with
  | .inl x :: .inr (.inr (some h)) :: r => bif Nat.beq (zsh M h).2 ci && Nat.beq (zsh M h).1 1 then zrb f x (K (nx + 2) lv r (zz_wI M h k x) N) else False
  | _ => False
theorem z_putz (f : Bool) (nx ci k : Nat) : zz_ok (zo_putz f nx ci k) (o_putz nx ci k) := by
  intro lv st M N K K' hK h
  unfold zo_putz at h
  split at h
  · next v x r =>
    obtain ⟨e1, e2, h⟩ := mm_and2 h (fun q => q)
    have e1 := mm_beq e1
    have e2 := mm_beq e2
    obtain ⟨hb, h⟩ := zrb_ok h
    have h := hK _ _ _ _ _ h
    show (bif Nat.beq (zsh M x).2 ci && Nat.beq (zsh M x).1 1 then (zI v = 0 ∨ zI v = 1) ∧ K' (nx + 2) (eL lv) (r.map ev) (mm_wI (eM M) x k (zI v)) N else False)
    rw [beq_of e1, beq_of e2, eM_wI]
    exact ⟨zI_01 hb, h⟩
  · exact h.elim
def zo_putr (nx ci k : Nat) : zz_O := fun lv st M N K => match st with
  | .inr (.inr x) :: .inr (.inr (some h)) :: r => bif Nat.beq (zsh M h).2 ci && (Nat.beq (zsh M h).1 1 && !zfx M.1.1 h k) then K (nx + 2) lv r (zz_wP M h k x) N else False
  | _ => False
theorem z_putr (nx ci k : Nat) : zz_ok (zo_putr nx ci k) (o_putr nx ci k) := by
  intro lv st M N K K' hK h
  unfold zo_putr at h
  split at h
  · next v x r =>
    obtain ⟨e1, e2, h⟩ := mm_and2 h (fun q => q)
    have e1 := mm_beq e1
    rw [Bool.and_eq_true, Bool.not_eq_true'] at e2
    have ef := e2.2
    have e2 := mm_beq e2.1
    have h := hK _ _ _ _ _ h
    cases v with
    | none =>
      show (bif Nat.beq (zsh M x).2 ci && Nat.beq (zsh M x).1 1 then K' (nx + 2) (eL lv) (r.map ev) (mm_wP (eM M) x k none) N else False)
      rw [beq_of e1, beq_of e2, eM_wP ef]
      exact h
    | some b =>
      show (bif Nat.beq (zsh M x).2 ci && Nat.beq (zsh M x).1 1 then K' (nx + 2) (eL lv) (r.map ev) (mm_wP (eM M) x k (some b)) N else False)
      rw [beq_of e1, beq_of e2, eM_wP ef]
      exact h
  · exact h.elim
def zo_putip (nx ci k : Nat) : zz_O := fun lv st M N K => match st with
  | .inl x :: .inr (.inr (some h)) :: r => zsh M h = (1, ci) ∧ K (nx + 2) lv r (zz_wI M h k x) N
  | _ => False
theorem z_putip (nx ci k : Nat) : zz_ok (zo_putip nx ci k) (o_puti nx ci k) := by
  intro lv st M N K K' hK h
  unfold zo_putip at h
  split at h
  · next v x r =>
    obtain ⟨e0, h⟩ := h
    have e1 : (zsh M x).2 = ci := by rw [e0]
    have e2 : (zsh M x).1 = 1 := by rw [e0]
    have h := hK _ _ _ _ _ h
    show (bif Nat.beq (zsh M x).2 ci && Nat.beq (zsh M x).1 1 then K' (nx + 2) (eL lv) (r.map ev) (mm_wI (eM M) x k (zI v)) N else False)
    rw [beq_of e1, beq_of e2, eM_wI]
    exact h
  · exact h.elim
def zo_putzp (f : Bool) (nx ci k : Nat) : zz_O := fun lv st M N K => match st with
  | .inl x :: .inr (.inr (some h)) :: r => zsh M h = (1, ci) ∧ zrb f x (K (nx + 2) lv r (zz_wI M h k x) N)
  | _ => False
theorem z_putzp (f : Bool) (nx ci k : Nat) : zz_ok (zo_putzp f nx ci k) (o_putz nx ci k) := by
  intro lv st M N K K' hK h
  unfold zo_putzp at h
  split at h
  · next v x r =>
    obtain ⟨e0, h⟩ := h
    have e1 : (zsh M x).2 = ci := by rw [e0]
    have e2 : (zsh M x).1 = 1 := by rw [e0]
    obtain ⟨hb, h⟩ := zrb_ok h
    have h := hK _ _ _ _ _ h
    show (bif Nat.beq (zsh M x).2 ci && Nat.beq (zsh M x).1 1 then (zI v = 0 ∨ zI v = 1) ∧ K' (nx + 2) (eL lv) (r.map ev) (mm_wI (eM M) x k (zI v)) N else False)
    rw [beq_of e1, beq_of e2, eM_wI]
    exact ⟨zI_01 hb, h⟩
  · exact h.elim
def zo_putrp (nx ci k : Nat) : zz_O := fun lv st M N K => match st with
  | .inr (.inr x) :: .inr (.inr (some h)) :: r => zsh M h = (1, ci) ∧ zfx M.1.1 h k = false ∧ K (nx + 2) lv r (zz_wP M h k x) N
  | _ => False
theorem z_putrp (nx ci k : Nat) : zz_ok (zo_putrp nx ci k) (o_putr nx ci k) := by
  intro lv st M N K K' hK h
  unfold zo_putrp at h
  split at h
  · next v x r =>
    obtain ⟨e0, ef, h⟩ := h
    have e1 : (zsh M x).2 = ci := by rw [e0]
    have e2 : (zsh M x).1 = 1 := by rw [e0]
    have h := hK _ _ _ _ _ h
    cases v with
    | none =>
      show (bif Nat.beq (zsh M x).2 ci && Nat.beq (zsh M x).1 1 then K' (nx + 2) (eL lv) (r.map ev) (mm_wP (eM M) x k none) N else False)
      rw [beq_of e1, beq_of e2, eM_wP ef]
      exact h
    | some b =>
      show (bif Nat.beq (zsh M x).2 ci && Nat.beq (zsh M x).1 1 then K' (nx + 2) (eL lv) (r.map ev) (mm_wP (eM M) x k (some b)) N else False)
      rw [beq_of e1, beq_of e2, eM_wP ef]
      exact h
  · exact h.elim
theorem o_iald_w {nx h : Nat} {i : Int} {lv : mm_L} {r : List Value} {M : zz_M} {N : mm_N} {K : mm_K} (e : (zsh M h).1 = 2) (el : (zsh M h).2 ≤ 2147483647) (hi : 0 ≤ i ∧ i < (zsh M h).2) (hk : K (nx + 2) lv (.int (zI (M.2.1 h i.toNat)) :: r) (eM M) N) : o_iald nx lv (.int (zI i) :: .ref h :: r) (eM M) N K := by
  show (bif Nat.beq (zsh M h).1 2 then vp_in (zI i) (zsh M h).2 ∧ K (nx + 2) lv (.int (zI (M.2.1 h (zI i).toNatClampNeg)) :: r) (eM M) N else False)
  rw [beq_of e, zI_cl hi.1 (by omega)]
  exact ⟨zI_in hi.1 hi.2 (by omega), hk⟩
theorem o_iast_w {nx h : Nat} {i v : Int} {lv : mm_L} {r : List Value} {M : zz_M} {N : mm_N} {K : mm_K} (e : (zsh M h).1 = 2) (el : (zsh M h).2 ≤ 2147483647) (hi : 0 ≤ i ∧ i < (zsh M h).2) (hk : K (nx + 2) lv r (eM (zz_wI M h i.toNat v)) N) : o_iast nx lv (.int (zI v) :: .int (zI i) :: .ref h :: r) (eM M) N K := by
  show (bif Nat.beq (zsh M h).1 2 then vp_in (zI i) (zsh M h).2 ∧ K (nx + 2) lv r (mm_wI (eM M) h (zI i).toNatClampNeg (zI v)) N else False)
  rw [beq_of e, zI_cl hi.1 (by omega), eM_wI]
  exact ⟨zI_in hi.1 hi.2 (by omega), hk⟩
def zo_iald (nx : Nat) : zz_O := fun lv st M N K => match st with
  | .inl i :: .inr (.inr (some h)) :: r => bif Nat.beq (zsh M h).1 2 && Nat.ble (zsh M h).2 2147483647 then (0 ≤ i ∧ i < ((zsh M h).2 : Int)) ∧ K (nx + 2) lv (.inl (M.2.1 h i.toNat) :: r) M N else False
  | _ => False
theorem z_iald (nx : Nat) : zz_ok (zo_iald nx) (o_iald nx) := by
  intro lv st M N K K' hK h
  unfold zo_iald at h
  split at h
  · next i x r =>
    obtain ⟨e1, e2, hi, h⟩ := mm_and2 h (fun q => q)
    have e1 := mm_beq e1
    have e2 := Nat.le_of_ble_eq_true e2
    have h := hK _ _ _ _ _ h
    exact o_iald_w e1 (by omega) hi h
  · exact h.elim
def zo_iasd (nx : Nat) : zz_O := fun lv st M N K => match st with
  | .inl v :: .inl i :: .inr (.inr (some h)) :: r => bif Nat.beq (zsh M h).1 2 && Nat.ble (zsh M h).2 2147483647 then (0 ≤ i ∧ i < ((zsh M h).2 : Int)) ∧ K (nx + 2) lv r (zz_wI M h i.toNat v) N else False
  | _ => False
theorem z_iasd (nx : Nat) : zz_ok (zo_iasd nx) (o_iast nx) := by
  intro lv st M N K K' hK h
  unfold zo_iasd at h
  split at h
  · next v i x r =>
    obtain ⟨e1, e2, hi, h⟩ := mm_and2 h (fun q => q)
    have e1 := mm_beq e1
    have e2 := Nat.le_of_ble_eq_true e2
    have h := hK _ _ _ _ _ h
    exact o_iast_w e1 (by omega) hi h
  · exact h.elim
def zo_ialc (nx c : Nat) : zz_O := fun lv st M N K => match st with
  | .inl i :: .inr (.inr (some h)) :: r => bif Nat.beq (zsh M h).1 2 && (Nat.ble (zsh M h).2 2147483647 && (Nat.ble (c + 1) (zsh M h).2 && zeq i c)) then K (nx + 2) lv (.inl (M.2.1 h c) :: r) M N else False
  | _ => False
theorem z_ialc (nx c : Nat) : zz_ok (zo_ialc nx c) (o_iald nx) := by
  intro lv st M N K K' hK h
  unfold zo_ialc at h
  split at h
  · next i x r =>
    obtain ⟨e1, e2, h⟩ := mm_and2 h (fun q => q)
    have e1 := mm_beq e1
    rw [Bool.and_eq_true, Bool.and_eq_true] at e2
    have e3 := zeq_t e2.2.2
    have e4 := Nat.le_of_ble_eq_true e2.2.1
    have e2 := Nat.le_of_ble_eq_true e2.1
    have hi : 0 ≤ i ∧ i < (zsh M x).2 := by omega
    have e5 : i.toNat = c := by omega
    rw [← e5] at h
    have h := hK _ _ _ _ _ h
    exact o_iald_w e1 (by omega) hi h
  · exact h.elim
def zo_iasc (nx c : Nat) : zz_O := fun lv st M N K => match st with
  | .inl v :: .inl i :: .inr (.inr (some h)) :: r => bif Nat.beq (zsh M h).1 2 && (Nat.ble (zsh M h).2 2147483647 && (Nat.ble (c + 1) (zsh M h).2 && zeq i c)) then K (nx + 2) lv r (zz_wI M h c v) N else False
  | _ => False
theorem z_iasc (nx c : Nat) : zz_ok (zo_iasc nx c) (o_iast nx) := by
  intro lv st M N K K' hK h
  unfold zo_iasc at h
  split at h
  · next v i x r =>
    obtain ⟨e1, e2, h⟩ := mm_and2 h (fun q => q)
    have e1 := mm_beq e1
    rw [Bool.and_eq_true, Bool.and_eq_true] at e2
    have e3 := zeq_t e2.2.2
    have e4 := Nat.le_of_ble_eq_true e2.2.1
    have e2 := Nat.le_of_ble_eq_true e2.1
    have hi : 0 ≤ i ∧ i < (zsh M x).2 := by omega
    have e5 : i.toNat = c := by omega
    rw [← e5] at h
    have h := hK _ _ _ _ _ h
    exact o_iast_w e1 (by omega) hi h
  · exact h.elim
def zo_ialp (nx : Nat) : zz_O := fun lv st M N K => match st with
  | .inl i :: .inr (.inr (some h)) :: r => ∃ n, zsh M h = (2, n) ∧ (n : Int) ≤ 2147483647 ∧ (0 ≤ i ∧ i < (n : Int)) ∧ K (nx + 2) lv (.inl (M.2.1 h i.toNat) :: r) M N
  | _ => False
theorem z_ialp (nx : Nat) : zz_ok (zo_ialp nx) (o_iald nx) := by
  intro lv st M N K K' hK h
  unfold zo_ialp at h
  split at h
  · next i x r =>
    obtain ⟨n, e0, e2, hi, h⟩ := h
    have e1 : (zsh M x).1 = 2 := by rw [e0]
    have e3 : (zsh M x).2 = n := by rw [e0]
    rw [← e3] at e2 hi
    have h := hK _ _ _ _ _ h
    exact o_iald_w e1 (by omega) hi h
  · exact h.elim
def zo_iasp (nx : Nat) : zz_O := fun lv st M N K => match st with
  | .inl v :: .inl i :: .inr (.inr (some h)) :: r => ∃ n, zsh M h = (2, n) ∧ (n : Int) ≤ 2147483647 ∧ (0 ≤ i ∧ i < (n : Int)) ∧ K (nx + 2) lv r (zz_wI M h i.toNat v) N
  | _ => False
theorem z_iasp (nx : Nat) : zz_ok (zo_iasp nx) (o_iast nx) := by
  intro lv st M N K K' hK h
  unfold zo_iasp at h
  split at h
  · next v i x r =>
    obtain ⟨n, e0, e2, hi, h⟩ := h
    have e1 : (zsh M x).1 = 2 := by rw [e0]
    have e3 : (zsh M x).2 = n := by rw [e0]
    rw [← e3] at e2 hi
    have h := hK _ _ _ _ _ h
    exact o_iast_w e1 (by omega) hi h
  · exact h.elim
theorem o_lald_w {nx h : Nat} {i : Int} {lv : mm_L} {r : List Value} {M : zz_M} {N : mm_N} {K : mm_K} (e : (zsh M h).1 = 3) (el : (zsh M h).2 ≤ 2147483647) (hi : 0 ≤ i ∧ i < (zsh M h).2) (hk : K (nx + 2) lv (.long (zL (M.2.2.1 h i.toNat)) :: r) (eM M) N) : o_lald nx lv (.int (zI i) :: .ref h :: r) (eM M) N K := by
  show (bif Nat.beq (zsh M h).1 3 then vp_in (zI i) (zsh M h).2 ∧ K (nx + 2) lv (.long (zL (M.2.2.1 h (zI i).toNatClampNeg)) :: r) (eM M) N else False)
  rw [beq_of e, zI_cl hi.1 (by omega)]
  exact ⟨zI_in hi.1 hi.2 (by omega), hk⟩
theorem o_last_w {nx h : Nat} {i v : Int} {lv : mm_L} {r : List Value} {M : zz_M} {N : mm_N} {K : mm_K} (e : (zsh M h).1 = 3) (el : (zsh M h).2 ≤ 2147483647) (hi : 0 ≤ i ∧ i < (zsh M h).2) (hk : K (nx + 2) lv r (eM (zz_wJ M h i.toNat v)) N) : o_last nx lv (.long (zL v) :: .int (zI i) :: .ref h :: r) (eM M) N K := by
  show (bif Nat.beq (zsh M h).1 3 then vp_in (zI i) (zsh M h).2 ∧ K (nx + 2) lv r (mm_wJ (eM M) h (zI i).toNatClampNeg (zL v)) N else False)
  rw [beq_of e, zI_cl hi.1 (by omega), eM_wJ]
  exact ⟨zI_in hi.1 hi.2 (by omega), hk⟩
def zo_lald (nx : Nat) : zz_O := fun lv st M N K => match st with
  | .inl i :: .inr (.inr (some h)) :: r => bif Nat.beq (zsh M h).1 3 && Nat.ble (zsh M h).2 2147483647 then (0 ≤ i ∧ i < ((zsh M h).2 : Int)) ∧ K (nx + 2) lv (.inr (.inl (M.2.2.1 h i.toNat)) :: r) M N else False
  | _ => False
theorem z_lald (nx : Nat) : zz_ok (zo_lald nx) (o_lald nx) := by
  intro lv st M N K K' hK h
  unfold zo_lald at h
  split at h
  · next i x r =>
    obtain ⟨e1, e2, hi, h⟩ := mm_and2 h (fun q => q)
    have e1 := mm_beq e1
    have e2 := Nat.le_of_ble_eq_true e2
    have h := hK _ _ _ _ _ h
    exact o_lald_w e1 (by omega) hi h
  · exact h.elim
def zo_lasd (nx : Nat) : zz_O := fun lv st M N K => match st with
  | .inr (.inl v) :: .inl i :: .inr (.inr (some h)) :: r => bif Nat.beq (zsh M h).1 3 && Nat.ble (zsh M h).2 2147483647 then (0 ≤ i ∧ i < ((zsh M h).2 : Int)) ∧ K (nx + 2) lv r (zz_wJ M h i.toNat v) N else False
  | _ => False
theorem z_lasd (nx : Nat) : zz_ok (zo_lasd nx) (o_last nx) := by
  intro lv st M N K K' hK h
  unfold zo_lasd at h
  split at h
  · next v i x r =>
    obtain ⟨e1, e2, hi, h⟩ := mm_and2 h (fun q => q)
    have e1 := mm_beq e1
    have e2 := Nat.le_of_ble_eq_true e2
    have h := hK _ _ _ _ _ h
    exact o_last_w e1 (by omega) hi h
  · exact h.elim
def zo_lalc (nx c : Nat) : zz_O := fun lv st M N K => match st with
  | .inl i :: .inr (.inr (some h)) :: r => bif Nat.beq (zsh M h).1 3 && (Nat.ble (zsh M h).2 2147483647 && (Nat.ble (c + 1) (zsh M h).2 && zeq i c)) then K (nx + 2) lv (.inr (.inl (M.2.2.1 h c)) :: r) M N else False
  | _ => False
theorem z_lalc (nx c : Nat) : zz_ok (zo_lalc nx c) (o_lald nx) := by
  intro lv st M N K K' hK h
  unfold zo_lalc at h
  split at h
  · next i x r =>
    obtain ⟨e1, e2, h⟩ := mm_and2 h (fun q => q)
    have e1 := mm_beq e1
    rw [Bool.and_eq_true, Bool.and_eq_true] at e2
    have e3 := zeq_t e2.2.2
    have e4 := Nat.le_of_ble_eq_true e2.2.1
    have e2 := Nat.le_of_ble_eq_true e2.1
    have hi : 0 ≤ i ∧ i < (zsh M x).2 := by omega
    have e5 : i.toNat = c := by omega
    rw [← e5] at h
    have h := hK _ _ _ _ _ h
    exact o_lald_w e1 (by omega) hi h
  · exact h.elim
def zo_lasc (nx c : Nat) : zz_O := fun lv st M N K => match st with
  | .inr (.inl v) :: .inl i :: .inr (.inr (some h)) :: r => bif Nat.beq (zsh M h).1 3 && (Nat.ble (zsh M h).2 2147483647 && (Nat.ble (c + 1) (zsh M h).2 && zeq i c)) then K (nx + 2) lv r (zz_wJ M h c v) N else False
  | _ => False
theorem z_lasc (nx c : Nat) : zz_ok (zo_lasc nx c) (o_last nx) := by
  intro lv st M N K K' hK h
  unfold zo_lasc at h
  split at h
  · next v i x r =>
    obtain ⟨e1, e2, h⟩ := mm_and2 h (fun q => q)
    have e1 := mm_beq e1
    rw [Bool.and_eq_true, Bool.and_eq_true] at e2
    have e3 := zeq_t e2.2.2
    have e4 := Nat.le_of_ble_eq_true e2.2.1
    have e2 := Nat.le_of_ble_eq_true e2.1
    have hi : 0 ≤ i ∧ i < (zsh M x).2 := by omega
    have e5 : i.toNat = c := by omega
    rw [← e5] at h
    have h := hK _ _ _ _ _ h
    exact o_last_w e1 (by omega) hi h
  · exact h.elim
def zo_lalp (nx : Nat) : zz_O := fun lv st M N K => match st with
  | .inl i :: .inr (.inr (some h)) :: r => ∃ n, zsh M h = (3, n) ∧ (n : Int) ≤ 2147483647 ∧ (0 ≤ i ∧ i < (n : Int)) ∧ K (nx + 2) lv (.inr (.inl (M.2.2.1 h i.toNat)) :: r) M N
  | _ => False
theorem z_lalp (nx : Nat) : zz_ok (zo_lalp nx) (o_lald nx) := by
  intro lv st M N K K' hK h
  unfold zo_lalp at h
  split at h
  · next i x r =>
    obtain ⟨n, e0, e2, hi, h⟩ := h
    have e1 : (zsh M x).1 = 3 := by rw [e0]
    have e3 : (zsh M x).2 = n := by rw [e0]
    rw [← e3] at e2 hi
    have h := hK _ _ _ _ _ h
    exact o_lald_w e1 (by omega) hi h
  · exact h.elim
def zo_lasp (nx : Nat) : zz_O := fun lv st M N K => match st with
  | .inr (.inl v) :: .inl i :: .inr (.inr (some h)) :: r => ∃ n, zsh M h = (3, n) ∧ (n : Int) ≤ 2147483647 ∧ (0 ≤ i ∧ i < (n : Int)) ∧ K (nx + 2) lv r (zz_wJ M h i.toNat v) N
  | _ => False
theorem z_lasp (nx : Nat) : zz_ok (zo_lasp nx) (o_last nx) := by
  intro lv st M N K K' hK h
  unfold zo_lasp at h
  split at h
  · next v i x r =>
    obtain ⟨n, e0, e2, hi, h⟩ := h
    have e1 : (zsh M x).1 = 3 := by rw [e0]
    have e3 : (zsh M x).2 = n := by rw [e0]
    rw [← e3] at e2 hi
    have h := hK _ _ _ _ _ h
    exact o_last_w e1 (by omega) hi h
  · exact h.elim
theorem nar_b {v : Int} (h : -128 ≤ v ∧ v ≤ 127) : vp_nar .byte (zI v) = zI v := by
  unfold vp_nar
  rw [nar_byte h.1 h.2]
theorem nar_z {v : Int} (h : v = 0 ∨ v = 1) : vp_nar .boolean (zI v) = zI v := by
  rcases h with e | e <;> rw [e] <;> decide
def zo_bald (nx : Nat) : zz_O := fun lv st M N K => match st with
  | .inl i :: .inr (.inr (some h)) :: r => bif (Nat.beq (zsh M h).1 4 || Nat.beq (zsh M h).1 5) && Nat.ble (zsh M h).2 2147483647 then (0 ≤ i ∧ i < ((zsh M h).2 : Int)) ∧ K (nx + 2) lv (.inl (M.2.1 h i.toNat) :: r) M N else False
  | _ => False
theorem z_bald (nx : Nat) : zz_ok (zo_bald nx) (o_bald nx) := by
  intro lv st M N K K' hK h
  unfold zo_bald at h
  split at h
  · next i x r =>
    obtain ⟨e1, e2, hi, h⟩ := mm_and2 h (fun q => q)
    have e2 := Nat.le_of_ble_eq_true e2
    have h := hK _ _ _ _ _ h
    show (bif Nat.beq (zsh M x).1 4 || Nat.beq (zsh M x).1 5 then vp_in (zI i) (zsh M x).2 ∧ K' (nx + 2) (eL lv) (.int (zI (M.2.1 x (zI i).toNatClampNeg)) :: r.map ev) (eM M) N else _)
    rw [e1, zI_cl hi.1 (by omega)]
    exact ⟨zI_in hi.1 hi.2 (by omega), h⟩
  · exact h.elim
def zo_baldp (nx : Nat) : zz_O := fun lv st M N K => match st with
  | .inl i :: .inr (.inr (some h)) :: r => ∃ n, zsh M h = (4, n) ∧ (n : Int) ≤ 2147483647 ∧ (0 ≤ i ∧ i < (n : Int)) ∧ K (nx + 2) lv (.inl (M.2.1 h i.toNat) :: r) M N
  | _ => False
theorem z_baldp (nx : Nat) : zz_ok (zo_baldp nx) (o_bald nx) := by
  intro lv st M N K K' hK h
  unfold zo_baldp at h
  split at h
  · next i x r =>
    obtain ⟨n, e0, e2, hi, h⟩ := h
    have h := hK _ _ _ _ _ h
    show (bif Nat.beq (zsh M x).1 4 || Nat.beq (zsh M x).1 5 then vp_in (zI i) (zsh M x).2 ∧ K' (nx + 2) (eL lv) (.int (zI (M.2.1 x (zI i).toNatClampNeg)) :: r.map ev) (eM M) N else _)
    rw [e0, zI_cl hi.1 (by omega)]
    exact ⟨zI_in hi.1 hi.2 (by omega), h⟩
  · exact h.elim
def zo_bast (nx : Nat) : zz_O := fun lv st M N K => match st with
  | .inl v :: .inl i :: .inr (.inr (some h)) :: r => bif Nat.beq (zsh M h).1 4 && Nat.ble (zsh M h).2 2147483647 then (-128 ≤ v ∧ v ≤ 127) ∧ (0 ≤ i ∧ i < ((zsh M h).2 : Int)) ∧ K (nx + 2) lv r (zz_wI M h i.toNat v) N else False
  | _ => False
theorem z_bast (nx : Nat) : zz_ok (zo_bast nx) (o_bast nx) := by
  intro lv st M N K K' hK h
  unfold zo_bast at h
  split at h
  · next v i x r =>
    obtain ⟨e1, e2, hv, hi, h⟩ := mm_and2 h (fun q => q)
    have e2 := Nat.le_of_ble_eq_true e2
    have h := hK _ _ _ _ _ h
    show (bif Nat.beq (zsh M x).1 4 then vp_in (zI i) (zsh M x).2 ∧ K' (nx + 2) (eL lv) (r.map ev) (mm_wI (eM M) x (zI i).toNatClampNeg (vp_nar .byte (zI v))) N else _)
    rw [e1, zI_cl hi.1 (by omega), nar_b hv, eM_wI]
    exact ⟨zI_in hi.1 hi.2 (by omega), h⟩
  · exact h.elim
def zo_bastp (nx : Nat) : zz_O := fun lv st M N K => match st with
  | .inl v :: .inl i :: .inr (.inr (some h)) :: r => ∃ n, zsh M h = (4, n) ∧ (n : Int) ≤ 2147483647 ∧ (-128 ≤ v ∧ v ≤ 127) ∧ (0 ≤ i ∧ i < (n : Int)) ∧ K (nx + 2) lv r (zz_wI M h i.toNat v) N
  | _ => False
theorem z_bastp (nx : Nat) : zz_ok (zo_bastp nx) (o_bast nx) := by
  intro lv st M N K K' hK h
  unfold zo_bastp at h
  split at h
  · next v i x r =>
    obtain ⟨n, e0, e2, hv, hi, h⟩ := h
    have h := hK _ _ _ _ _ h
    show (bif Nat.beq (zsh M x).1 4 then vp_in (zI i) (zsh M x).2 ∧ K' (nx + 2) (eL lv) (r.map ev) (mm_wI (eM M) x (zI i).toNatClampNeg (vp_nar .byte (zI v))) N else _)
    rw [e0, zI_cl hi.1 (by omega), nar_b hv, eM_wI]
    exact ⟨zI_in hi.1 hi.2 (by omega), h⟩
  · exact h.elim
def zo_zast (f : Bool) (nx : Nat) : zz_O := fun lv st M N K => match st with
  | .inl v :: .inl i :: .inr (.inr (some h)) :: r => bif Nat.beq (zsh M h).1 5 && Nat.ble (zsh M h).2 2147483647 then zrb f v ((0 ≤ i ∧ i < ((zsh M h).2 : Int)) ∧ K (nx + 2) lv r (zz_wI M h i.toNat v) N) else False
  | _ => False
theorem z_zast (f : Bool) (nx : Nat) : zz_ok (zo_zast f nx) (o_bast nx) := by
  intro lv st M N K K' hK h
  unfold zo_zast at h
  split at h
  · next v i x r =>
    obtain ⟨e1, e2, h⟩ := mm_and2 h (fun q => q)
    obtain ⟨hv, hi, h⟩ := zrb_ok h
    have e2 := Nat.le_of_ble_eq_true e2
    have e1 := mm_beq e1
    have h := hK _ _ _ _ _ h
    show (bif Nat.beq (zsh M x).1 4 then _ else bif Nat.beq (zsh M x).1 5 then vp_in (zI i) (zsh M x).2 ∧ K' (nx + 2) (eL lv) (r.map ev) (mm_wI (eM M) x (zI i).toNatClampNeg (vp_nar .boolean (zI v))) N else False)
    rw [e1, zI_cl hi.1 (by omega), nar_z hv, eM_wI]
    exact ⟨zI_in hi.1 hi.2 (by omega), h⟩
  · exact h.elim
/-- a reference out of an array: the cases -/
def zo_aald (nx : Nat) : zz_O := fun lv st M N K => match st with
  | .inl i :: .inr (.inr (some h)) :: r => ∃ t n, zsh M h = (t, n) ∧ (t = 6 ∨ t = 7 ∨ t = 8) ∧ (n : Int) ≤ 2147483647 ∧ (0 ≤ i ∧ i < (n : Int)) ∧ (∀ b, zpt M h i.toNat = some b → K (nx + 2) lv (.inr (.inr (some b)) :: r) M N) ∧ (zpt M h i.toNat = none → K (nx + 2) lv (.inr (.inr none) :: r) M N)
  | _ => False
theorem z_aald (nx : Nat) : zz_ok (zo_aald nx) (o_aald nx) := by
  intro lv st M N K K' hK h
  unfold zo_aald at h
  split at h
  · next i x r =>
    obtain ⟨t, n, e0, et, e2, hi, h1, h2⟩ := h
    have e3 : (Nat.beq (zsh M x).1 6 || Nat.beq (zsh M x).1 7 || Nat.beq (zsh M x).1 8) = true := by
      rw [e0]
      rcases et with e | e | e <;> rw [e] <;> rfl
    show (bif Nat.beq (zsh M x).1 6 || Nat.beq (zsh M x).1 7 || Nat.beq (zsh M x).1 8 then vp_in (zI i) (zsh M x).2 ∧ K' (nx + 2) (eL lv) (va_rf (zpt M x (zI i).toNatClampNeg) :: r.map ev) (eM M) N else False)
    rw [e3, zI_cl hi.1 (by omega), e0]
    refine ⟨zI_in hi.1 hi.2 (by omega), ?_⟩
    cases e : zpt M x i.toNat with
    | none => exact hK _ _ _ _ _ (h2 e)
    | some b => exact hK _ _ _ _ _ (h1 b e)
  · exact h.elim
def zo_alen (nx : Nat) : zz_O := fun lv st M N K => match st with
  | .inr (.inr (some h)) :: r => bif Nat.ble 2 ((zsh M h).1 % 16) && (Nat.ble ((zsh M h).1 % 16) 8 && Nat.ble (zsh M h).1 31) then K (nx + 2) lv (.inl ((zsh M h).2 : Int) :: r) M N else False
  | _ => False
theorem z_alen (nx : Nat) : zz_ok (zo_alen nx) (o_alen nx) := by
  intro lv st M N K K' hK h
  unfold zo_alen at h
  split at h
  · next x r =>
    obtain ⟨e1, e2, h⟩ := mm_and2 h (fun q => q)
    have h := hK _ _ _ _ _ h
    show (bif Nat.ble 2 ((zsh M x).1 % 16) && (Nat.ble ((zsh M x).1 % 16) 8 && Nat.ble (zsh M x).1 31) then K' (nx + 2) (eL lv) (.int (nI (zsh M x).2) :: r.map ev) (eM M) N else False)
    rw [e1, e2, zI_nI]
    exact h
  · exact h.elim
def zo_alenp (nx : Nat) : zz_O := fun lv st M N K => match st with
  | .inr (.inr (some h)) :: r => ∃ t n, zsh M h = (t, n) ∧ (2 ≤ t % 16 ∧ t % 16 ≤ 8 ∧ t ≤ 31) ∧ K (nx + 2) lv (.inl (n : Int) :: r) M N
  | _ => False
theorem z_alenp (nx : Nat) : zz_ok (zo_alenp nx) (o_alen nx) := by
  intro lv st M N K K' hK h
  unfold zo_alenp at h
  split at h
  · next x r =>
    obtain ⟨t, n, e0, ⟨t1, t2, t3⟩, h⟩ := h
    have h := hK _ _ _ _ _ h
    show (bif Nat.ble 2 ((zsh M x).1 % 16) && (Nat.ble ((zsh M x).1 % 16) 8 && Nat.ble (zsh M x).1 31) then K' (nx + 2) (eL lv) (.int (nI (zsh M x).2) :: r.map ev) (eM M) N else False)
    rw [e0]
    show (bif Nat.ble 2 (t % 16) && (Nat.ble (t % 16) 8 && Nat.ble t 31) then K' (nx + 2) (eL lv) (.int (nI n) :: r.map ev) (eM M) N else False)
    rw [Nat.ble_eq_true_of_le t1, Nat.ble_eq_true_of_le t2, Nat.ble_eq_true_of_le t3, zI_nI]
    exact h
  · exact h.elim
/-! calls -/
def zz_pop : Nat → List zv → List zv → (List zv → List zv → Prop) → Prop
  | 0, st, acc, f => f acc st
  | n + 1, v :: st, acc, f => zz_pop n st (v :: acc) f
  | _ + 1, [], _, _ => False
theorem zz_pop_e : ∀ (n : Nat) (st acc : List zv) (f : List zv → List zv → Prop) (f' : List Value → List Value → Prop), (∀ as r, f as r → f' (as.map ev) (r.map ev)) → zz_pop n st acc f → mm_pop n (st.map ev) (acc.map ev) f'
  | 0, _, _, _, _, hf, h => hf _ _ h
  | n + 1, v :: st, acc, f, f', hf, h => zz_pop_e n st (v :: acc) f f' hf h
  | _ + 1, [], _, _, _, _, h => h.elim
def zz_dep : List zv → Nat
  | [] => 0
  | v :: r => (match v with
    | .inr (.inl _) => 2
    | _ => 1) + zz_dep r
theorem zz_dep_e : ∀ (st : List zv), mm_dep (st.map ev) = zz_dep st
  | [] => rfl
  | .inl a :: r => by show 1 + mm_dep (r.map ev) = 1 + zz_dep r; rw [zz_dep_e r]
  | .inr (.inl a) :: r => by show 2 + mm_dep (r.map ev) = 2 + zz_dep r; rw [zz_dep_e r]
  | .inr (.inr none) :: r => by show 1 + mm_dep (r.map ev) = 1 + zz_dep r; rw [zz_dep_e r]
  | .inr (.inr (some a)) :: r => by show 1 + mm_dep (r.map ev) = 1 + zz_dep r; rw [zz_dep_e r]
def zz_rcv (ci : Nat) (as : List zv) (M : zz_M) : Bool := match as with
  | .inr (.inr (some h)) :: _ => Nat.beq (zsh M h).2 ci && (Nat.beq (zsh M h).1 1 || Nat.beq (zsh M h).1 17)
  | _ => false
theorem zz_rcv_e {ci : Nat} {as : List zv} {M : zz_M} (h : zz_rcv ci as M = true) : mm_rcv ci (as.map ev) (eM M) = true := by
  unfold zz_rcv at h
  split at h
  · exact h
  · cases h
def zz_rcvp (ci : Nat) (as : List zv) (M : zz_M) : Prop := match as with
  | .inr (.inr (some h)) :: _ => zsh M h = (1, ci) ∨ zsh M h = (17, ci)
  | _ => False
theorem zz_rcvp_e {ci : Nat} {as : List zv} {M : zz_M} (h : zz_rcvp ci as M) : mm_rcv ci (as.map ev) (eM M) = true := by
  unfold zz_rcvp at h
  split at h
  · next x r =>
    show (Nat.beq (zsh M x).2 ci && (Nat.beq (zsh M x).1 1 || Nat.beq (zsh M x).1 17)) = true
    rcases h with e | e <;> rw [e] <;> show (Nat.beq ci ci && _) = true <;> rw [beq_of rfl] <;> rfl
  · exact h.elim
def zz_thr (K : zz_K) (N : mm_N) (i : Nat) (M : zz_M) : Prop := bif Nat.ble i 5 then K 1 (List.replicate i none) [] M N else False
theorem zz_thr_e {K : zz_K} {K' : mm_K} (hK : ∀ q lv st M N, K q lv st M N → K' q (eL lv) (st.map ev) (eM M) N) {N : mm_N} {i : Nat} {E : String} {M : zz_M} (hE : mm_ex[i]? = some E) (h : zz_thr K N i M) : mm_thr K' N E (eM M) := by
  obtain ⟨h1, h2⟩ := mm_bif h (fun q => q)
  have h3 := hK _ _ _ _ _ h2
  refine ⟨i, hE, ?_⟩
  have e : eL (List.replicate i none) = List.replicate i none := by simp [eL]
  rw [e] at h3
  exact h3
theorem zE_call {sp : zz_Sp} {as : List zv} {M : zz_M} {K : zz_K} {K' : mm_K} {N : mm_N} {nx : Nat} {lv : zz_L} {r : List zv} (hK : ∀ q lv st M N, K q lv st M N → K' q (eL lv) (st.map ev) (eM M) N) (h : sp as M (fun v M' => K (nx + 2) lv (v.toList ++ r) M' N) (zz_thr K N)) : zE sp (as.map ev) (eM M) (fun v M' => K' (nx + 2) (eL lv) (v.toList ++ r.map ev) M' N) (mm_thr K' N) := by
  refine ⟨as, M, _, _, rfl, rfl, h, fun v m hm => ?_, fun i m E hE hm => zz_thr_e hK hE hm⟩
  have h := hK _ _ _ _ _ hm
  cases v with
  | none => exact h
  | some w => exact h
def zo_callv (nx n ci : Nat) (sp : zz_Sp) : zz_O := fun lv st M N K => zz_pop n st [] (fun as r => bif zz_rcv ci as M && Nat.ble (zz_dep r) 8 then sp as M (fun v M' => K (nx + 2) lv (v.toList ++ r) M' N) (zz_thr K N) else False)
theorem z_callv (nx n ci : Nat) (sp : zz_Sp) : zz_ok (zo_callv nx n ci sp) (o_callv nx n ci (zE sp)) := by
  intro lv st M N K K' hK h
  refine zz_pop_e n st [] _ _ (fun as r h => ?_) h
  obtain ⟨e1, e2, h⟩ := mm_and2 h (fun q => q)
  show (bif mm_rcv ci (as.map ev) (eM M) && Nat.ble (mm_dep (r.map ev)) 8 then _ else False)
  rw [zz_rcv_e e1, zz_dep_e, e2]
  exact zE_call hK h
def zo_callvp (nx n ci : Nat) (sp : zz_Sp) : zz_O := fun lv st M N K => zz_pop n st [] (fun as r => bif Nat.ble (zz_dep r) 8 then zz_rcvp ci as M ∧ sp as M (fun v M' => K (nx + 2) lv (v.toList ++ r) M' N) (zz_thr K N) else False)
theorem z_callvp (nx n ci : Nat) (sp : zz_Sp) : zz_ok (zo_callvp nx n ci sp) (o_callv nx n ci (zE sp)) := by
  intro lv st M N K K' hK h
  refine zz_pop_e n st [] _ _ (fun as r h => ?_) h
  obtain ⟨e2, e1, h⟩ := mm_bif h (fun q => q)
  show (bif mm_rcv ci (as.map ev) (eM M) && Nat.ble (mm_dep (r.map ev)) 8 then _ else False)
  rw [zz_rcvp_e e1, zz_dep_e, e2]
  exact zE_call hK h
def zo_calls (nx n : Nat) (sp : zz_Sp) : zz_O := fun lv st M N K => zz_pop n st [] (fun as r => bif Nat.ble (zz_dep r) 8 then sp as M (fun v M' => K (nx + 2) lv (v.toList ++ r) M' N) (zz_thr K N) else False)
theorem z_calls (nx n : Nat) (sp : zz_Sp) : zz_ok (zo_calls nx n sp) (o_calls nx n (zE sp)) := by
  intro lv st M N K K' hK h
  refine zz_pop_e n st [] _ _ (fun as r h => ?_) h
  obtain ⟨e2, h⟩ := mm_bif h (fun q => q)
  show (bif Nat.ble (mm_dep (r.map ev)) 8 then _ else False)
  rw [zz_dep_e, e2]
  exact zE_call hK h
