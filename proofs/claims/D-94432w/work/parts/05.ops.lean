/-! ===== the transformers of the instructions, and that they hold ===== -/
set_option maxRecDepth 100000
def o_c (nx : Nat) (v : Value) : mm_O := fun lv st M N K => K (nx + 2) lv (v :: st) M N
def o_ild (nx i : Nat) : mm_O := fun lv st M N K => match mm_get lv i with
  | some (.int x) => K (nx + 2) lv (.int x :: st) M N
  | _ => False
def o_lld (nx i : Nat) : mm_O := fun lv st M N K => match mm_get lv i with
  | some (.long x) => K (nx + 2) lv (.long x :: st) M N
  | _ => False
def o_ald (nx i : Nat) : mm_O := fun lv st M N K => match mm_get lv i with
  | some (.ref x) => K (nx + 2) lv (.ref x :: st) M N
  | some .null => K (nx + 2) lv (.null :: st) M N
  | _ => False
def o_ist (nx i : Nat) : mm_O := fun lv st M N K => match st with
  | .int x :: r => mm_setK lv i (.int x) (fun lv' => K (nx + 2) lv' r M N)
  | _ => False
def o_lst (nx i : Nat) : mm_O := fun lv st M N K => match st with
  | .long x :: r => mm_setK lv i (.long x) (fun lv' => mm_clrK lv' (i + 1) (fun lv'' => K (nx + 2) lv'' r M N))
  | _ => False
def o_ast (nx i : Nat) : mm_O := fun lv st M N K => match st with
  | .ref x :: r => mm_setK lv i (.ref x) (fun lv' => K (nx + 2) lv' r M N)
  | .null :: r => mm_setK lv i .null (fun lv' => K (nx + 2) lv' r M N)
  | _ => False
def o_inc (nx i : Nat) (n : Int32) : mm_O := fun lv st M N K => match mm_get lv i with
  | some (.int x) => mm_setK lv i (.int (x + n)) (fun lv' => K (nx + 2) lv' st M N)
  | _ => False
def o_iadd (nx : Nat) : mm_O := fun lv st M N K => match st with
  | .int y :: .int x :: r => K (nx + 2) lv (.int (x + y) :: r) M N
  | _ => False
def o_isub (nx : Nat) : mm_O := fun lv st M N K => match st with
  | .int y :: .int x :: r => K (nx + 2) lv (.int (x - y) :: r) M N
  | _ => False
def o_imul (nx : Nat) : mm_O := fun lv st M N K => match st with
  | .int y :: .int x :: r => K (nx + 2) lv (.int (x * y) :: r) M N
  | _ => False
def o_iand (nx : Nat) : mm_O := fun lv st M N K => match st with
  | .int y :: .int x :: r => K (nx + 2) lv (.int (x &&& y) :: r) M N
  | _ => False
def o_ior (nx : Nat) : mm_O := fun lv st M N K => match st with
  | .int y :: .int x :: r => K (nx + 2) lv (.int (x ||| y) :: r) M N
  | _ => False
def o_idiv (nx : Nat) : mm_O := fun lv st M N K => match st with
  | .int y :: .int x :: r => bif Nat.beq y.toBitVec.toNat 0 then False else K (nx + 2) lv (.int (x / y) :: r) M N
  | _ => False
def o_irem (nx : Nat) : mm_O := fun lv st M N K => match st with
  | .int y :: .int x :: r => bif Nat.beq y.toBitVec.toNat 0 then False else K (nx + 2) lv (.int (x - x / y * y) :: r) M N
  | _ => False
def o_ineg (nx : Nat) : mm_O := fun lv st M N K => match st with
  | .int x :: r => K (nx + 2) lv (.int (-x) :: r) M N
  | _ => False
def o_ishr (nx : Nat) : mm_O := fun lv st M N K => match st with
  | .int y :: .int x :: r => K (nx + 2) lv (.int (x >>> (y &&& 31)) :: r) M N
  | _ => False
def o_ishl (nx : Nat) : mm_O := fun lv st M N K => match st with
  | .int y :: .int x :: r => K (nx + 2) lv (.int (x <<< (y &&& 31)) :: r) M N
  | _ => False
def o_iushr (nx : Nat) : mm_O := fun lv st M N K => match st with
  | .int y :: .int x :: r => K (nx + 2) lv (.int (x.toUInt32 >>> (y.toUInt32 &&& Int32.toUInt32 31)).toInt32 :: r) M N
  | _ => False
def o_i2l (nx : Nat) : mm_O := fun lv st M N K => match st with
  | .int x :: r => K (nx + 2) lv (.long x.toInt64 :: r) M N
  | _ => False
def o_l2i (nx : Nat) : mm_O := fun lv st M N K => match st with
  | .long x :: r => K (nx + 2) lv (.int x.toInt32 :: r) M N
  | _ => False
def o_i2b (nx : Nat) : mm_O := fun lv st M N K => match st with
  | .int x :: r => K (nx + 2) lv (.int x.toInt8.toInt32 :: r) M N
  | _ => False
def o_i2c (nx : Nat) : mm_O := fun lv st M N K => match st with
  | .int x :: r => K (nx + 2) lv (.int (x.toUInt32 % 65536).toInt32 :: r) M N
  | _ => False
def o_ladd (nx : Nat) : mm_O := fun lv st M N K => match st with
  | .long y :: .long x :: r => K (nx + 2) lv (.long (x + y) :: r) M N
  | _ => False
def o_lmul (nx : Nat) : mm_O := fun lv st M N K => match st with
  | .long y :: .long x :: r => K (nx + 2) lv (.long (x * y) :: r) M N
  | _ => False
def o_ldiv (nx : Nat) : mm_O := fun lv st M N K => match st with
  | .long y :: .long x :: r => bif Nat.beq y.toBitVec.toNat 0 then False else K (nx + 2) lv (.long (x / y) :: r) M N
  | _ => False
def o_lcmp (nx : Nat) : mm_O := fun lv st M N K => match st with
  | .long y :: .long x :: r => K (nx + 2) lv (.int (lg_cmp x y) :: r) M N
  | _ => False
def mm_c1 (v : Value) : Bool := match v with
  | .long _ => false
  | .double _ => false
  | _ => true
theorem mm_c1_cat {v : Value} (h : mm_c1 v = true) (ad : Nat → Nat) : (mm_v ad v).category = 1 := by cases v <;> first | rfl | (exfalso; simp [mm_c1] at h; done)
def o_dup (nx : Nat) : mm_O := fun lv st M N K => match st with
  | a :: r => bif mm_c1 a then K (nx + 2) lv (a :: a :: r) M N else False
  | _ => False
def o_dup_x1 (nx : Nat) : mm_O := fun lv st M N K => match st with
  | a :: b :: r => bif mm_c1 a && mm_c1 b then K (nx + 2) lv (a :: b :: a :: r) M N else False
  | _ => False
def o_dup2 (nx : Nat) : mm_O := fun lv st M N K => match st with
  | a :: b :: r => bif mm_c1 a && mm_c1 b then K (nx + 2) lv (a :: b :: a :: b :: r) M N else False
  | _ => False
def o_pop (nx : Nat) : mm_O := fun lv st M N K => match st with
  | a :: r => bif mm_c1 a then K (nx + 2) lv r M N else False
  | _ => False
def o_goto (tgt : Nat) : mm_O := fun lv st M N K => K (tgt + 2) lv st M N
def o_ifeq (nx tgt : Nat) : mm_O := fun lv st M N K => match st with
  | .int x :: r => (x = 0 → K (tgt + 2) lv r M N) ∧ (¬ x = 0 → K (nx + 2) lv r M N)
  | _ => False
def o_ifne (nx tgt : Nat) : mm_O := fun lv st M N K => match st with
  | .int x :: r => (¬ x = 0 → K (tgt + 2) lv r M N) ∧ (x = 0 → K (nx + 2) lv r M N)
  | _ => False
def o_iflt (nx tgt : Nat) : mm_O := fun lv st M N K => match st with
  | .int x :: r => (x < 0 → K (tgt + 2) lv r M N) ∧ (¬ x < 0 → K (nx + 2) lv r M N)
  | _ => False
def o_ifge (nx tgt : Nat) : mm_O := fun lv st M N K => match st with
  | .int x :: r => (0 ≤ x → K (tgt + 2) lv r M N) ∧ (¬ 0 ≤ x → K (nx + 2) lv r M N)
  | _ => False
def o_ifgt (nx tgt : Nat) : mm_O := fun lv st M N K => match st with
  | .int x :: r => (0 < x → K (tgt + 2) lv r M N) ∧ (¬ 0 < x → K (nx + 2) lv r M N)
  | _ => False
def o_ifle (nx tgt : Nat) : mm_O := fun lv st M N K => match st with
  | .int x :: r => (x ≤ 0 → K (tgt + 2) lv r M N) ∧ (¬ x ≤ 0 → K (nx + 2) lv r M N)
  | _ => False
def o_ceq (nx tgt : Nat) : mm_O := fun lv st M N K => match st with
  | .int y :: .int x :: r => (x = y → K (tgt + 2) lv r M N) ∧ (¬ x = y → K (nx + 2) lv r M N)
  | _ => False
def o_cne (nx tgt : Nat) : mm_O := fun lv st M N K => match st with
  | .int y :: .int x :: r => (¬ x = y → K (tgt + 2) lv r M N) ∧ (x = y → K (nx + 2) lv r M N)
  | _ => False
def o_clt (nx tgt : Nat) : mm_O := fun lv st M N K => match st with
  | .int y :: .int x :: r => (x < y → K (tgt + 2) lv r M N) ∧ (¬ x < y → K (nx + 2) lv r M N)
  | _ => False
def o_cge (nx tgt : Nat) : mm_O := fun lv st M N K => match st with
  | .int y :: .int x :: r => (y ≤ x → K (tgt + 2) lv r M N) ∧ (¬ y ≤ x → K (nx + 2) lv r M N)
  | _ => False
def o_cgt (nx tgt : Nat) : mm_O := fun lv st M N K => match st with
  | .int y :: .int x :: r => (y < x → K (tgt + 2) lv r M N) ∧ (¬ y < x → K (nx + 2) lv r M N)
  | _ => False
def o_cle (nx tgt : Nat) : mm_O := fun lv st M N K => match st with
  | .int y :: .int x :: r => (x ≤ y → K (tgt + 2) lv r M N) ∧ (¬ x ≤ y → K (nx + 2) lv r M N)
  | _ => False
def o_ifnull (nx tgt : Nat) : mm_O := fun lv st M N K => match st with
  | .ref _ :: r => K (nx + 2) lv r M N
  | .null :: r => K (tgt + 2) lv r M N
  | _ => False
def o_ifnonnull (nx tgt : Nat) : mm_O := fun lv st M N K => match st with
  | .ref _ :: r => K (tgt + 2) lv r M N
  | .null :: r => K (nx + 2) lv r M N
  | _ => False
def o_iret : mm_O := fun lv st M N K => match st with
  | [.int x] => K 0 lv [.int x] M N
  | _ => False
/-- a boolean's return -/
def o_zret : mm_O := fun lv st M N K => match st with
  | [.int x] => (x = 0 ∨ x = 1) ∧ K 0 lv [.int x] M N
  | _ => False
def o_lret : mm_O := fun lv st M N K => match st with
  | [.long x] => K 0 lv [.long x] M N
  | _ => False
def o_aret : mm_O := fun lv st M N K => match st with
  | [.ref x] => K 0 lv [.ref x] M N
  | [.null] => K 0 lv [.null] M N
  | _ => False
def o_vret : mm_O := fun lv st M N K => match st with
  | [] => K 0 lv [] M N
  | _ => False
/-! memory -/
def mm_up {α : Type} (f : Nat → Nat → α) (h k : Nat) (x : α) : Nat → Nat → α := fun a => if a = h then (fun j => if j = k then x else f h j) else f a
theorem mm_up_s {α : Type} (f : Nat → Nat → α) (h k : Nat) (x : α) : mm_up f h k x h = fun j => if j = k then x else f h j := by simp [mm_up]
theorem mm_up_a {α : Type} (f : Nat → Nat → α) (h k : Nat) (x : α) (j : Nat) : mm_up f h k x h j = if j = k then x else f h j := by simp [mm_up]
theorem mm_up_n {α : Type} (f : Nat → Nat → α) {h a : Nat} (k : Nat) (x : α) (e : a ≠ h) : mm_up f h k x a = f a := by simp [mm_up, e]
def mm_wI (M : mm_M) (h k : Nat) (x : Int32) : mm_M := (M.1, mm_up M.2.1 h k x, M.2.2.1, M.2.2.2)
def mm_wJ (M : mm_M) (h k : Nat) (x : Int64) : mm_M := (M.1, M.2.1, mm_up M.2.2.1 h k x, M.2.2.2)
def mm_wP (M : mm_M) (h k : Nat) (x : Option Nat) : mm_M := (M.1, M.2.1, M.2.2.1, mm_up M.2.2.2 h k x)
/-- a field that is read: of the class ci, kind kd, number k -/
def o_get (nx ci kd k : Nat) : mm_O := fun lv st M N K => match st with
  | .ref h :: r => bif Nat.beq (M.1 h).2 ci then (bif Nat.beq (M.1 h).1 1 then K (nx + 2) lv (mm_fa M h kd k :: r) M N else bif Nat.beq (M.1 h).1 17 then K (nx + 2) lv (mm_fa mm_kM h kd k :: r) M N else False) else False
  | _ => False
/-- an int field that is written -/
def o_puti (nx ci k : Nat) : mm_O := fun lv st M N K => match st with
  | .int x :: .ref h :: r => bif Nat.beq (M.1 h).2 ci && Nat.beq (M.1 h).1 1 then K (nx + 2) lv r (mm_wI M h k x) N else False
  | _ => False
/-- a boolean field that is written -/
def o_putz (nx ci k : Nat) : mm_O := fun lv st M N K => match st with
  | .int x :: .ref h :: r => bif Nat.beq (M.1 h).2 ci && Nat.beq (M.1 h).1 1 then (x = 0 ∨ x = 1) ∧ K (nx + 2) lv r (mm_wI M h k x) N else False
  | _ => False
def o_putr (nx ci k : Nat) : mm_O := fun lv st M N K => match st with
  | .ref x :: .ref h :: r => bif Nat.beq (M.1 h).2 ci && Nat.beq (M.1 h).1 1 then K (nx + 2) lv r (mm_wP M h k (some x)) N else False
  | .null :: .ref h :: r => bif Nat.beq (M.1 h).2 ci && Nat.beq (M.1 h).1 1 then K (nx + 2) lv r (mm_wP M h k none) N else False
  | _ => False
/-- int[]: the index is within; or it is the constant c -/
def o_iald (nx : Nat) : mm_O := fun lv st M N K => match st with
  | .int i :: .ref h :: r => bif Nat.beq (M.1 h).1 2 then vp_in i (M.1 h).2 ∧ K (nx + 2) lv (.int (M.2.1 h i.toNatClampNeg) :: r) M N else False
  | _ => False
def o_ialc (nx c : Nat) : mm_O := fun lv st M N K => match st with
  | .int i :: .ref h :: r => bif Nat.beq (M.1 h).1 2 && (Nat.beq i.toBitVec.toNat c && Nat.ble (c + 1) (M.1 h).2) then K (nx + 2) lv (.int (M.2.1 h c) :: r) M N else False
  | _ => False
def o_iast (nx : Nat) : mm_O := fun lv st M N K => match st with
  | .int x :: .int i :: .ref h :: r => bif Nat.beq (M.1 h).1 2 then vp_in i (M.1 h).2 ∧ K (nx + 2) lv r (mm_wI M h i.toNatClampNeg x) N else False
  | _ => False
def o_iasc (nx c : Nat) : mm_O := fun lv st M N K => match st with
  | .int x :: .int i :: .ref h :: r => bif Nat.beq (M.1 h).1 2 && (Nat.beq i.toBitVec.toNat c && Nat.ble (c + 1) (M.1 h).2) then K (nx + 2) lv r (mm_wI M h c x) N else False
  | _ => False
def o_lald (nx : Nat) : mm_O := fun lv st M N K => match st with
  | .int i :: .ref h :: r => bif Nat.beq (M.1 h).1 3 then vp_in i (M.1 h).2 ∧ K (nx + 2) lv (.long (M.2.2.1 h i.toNatClampNeg) :: r) M N else False
  | _ => False
def o_last (nx : Nat) : mm_O := fun lv st M N K => match st with
  | .long x :: .int i :: .ref h :: r => bif Nat.beq (M.1 h).1 3 then vp_in i (M.1 h).2 ∧ K (nx + 2) lv r (mm_wJ M h i.toNatClampNeg x) N else False
  | _ => False
def o_lalc (nx c : Nat) : mm_O := fun lv st M N K => match st with
  | .int i :: .ref h :: r => bif Nat.beq (M.1 h).1 3 && (Nat.beq i.toBitVec.toNat c && Nat.ble (c + 1) (M.1 h).2) then K (nx + 2) lv (.long (M.2.2.1 h c) :: r) M N else False
  | _ => False
def o_lasc (nx c : Nat) : mm_O := fun lv st M N K => match st with
  | .long x :: .int i :: .ref h :: r => bif Nat.beq (M.1 h).1 3 && (Nat.beq i.toBitVec.toNat c && Nat.ble (c + 1) (M.1 h).2) then K (nx + 2) lv r (mm_wJ M h c x) N else False
  | _ => False
/-- byte[] and boolean[] -/
def o_bald (nx : Nat) : mm_O := fun lv st M N K => match st with
  | .int i :: .ref h :: r => bif Nat.beq (M.1 h).1 4 || Nat.beq (M.1 h).1 5 then vp_in i (M.1 h).2 ∧ K (nx + 2) lv (.int (M.2.1 h i.toNatClampNeg) :: r) M N else bif Nat.beq (M.1 h).1 20 then vp_in i (M.1 h).2 ∧ K (nx + 2) lv (.int (mm_kI h i.toNatClampNeg) :: r) M N else False
  | _ => False
def o_bast (nx : Nat) : mm_O := fun lv st M N K => match st with
  | .int x :: .int i :: .ref h :: r => bif Nat.beq (M.1 h).1 4 then vp_in i (M.1 h).2 ∧ K (nx + 2) lv r (mm_wI M h i.toNatClampNeg (vp_nar .byte x)) N else bif Nat.beq (M.1 h).1 5 then vp_in i (M.1 h).2 ∧ K (nx + 2) lv r (mm_wI M h i.toNatClampNeg (vp_nar .boolean x)) N else False
  | _ => False
def o_aald (nx : Nat) : mm_O := fun lv st M N K => match st with
  | .int i :: .ref h :: r => bif Nat.beq (M.1 h).1 6 || Nat.beq (M.1 h).1 7 || Nat.beq (M.1 h).1 8 then vp_in i (M.1 h).2 ∧ K (nx + 2) lv (va_rf (M.2.2.2 h i.toNatClampNeg) :: r) M N else False
  | _ => False
def o_alen (nx : Nat) : mm_O := fun lv st M N K => match st with
  | .ref h :: r => bif Nat.ble 2 ((M.1 h).1 % 16) && (Nat.ble ((M.1 h).1 % 16) 8 && Nat.ble (M.1 h).1 31) then K (nx + 2) lv (.int (nI (M.1 h).2) :: r) M N else False
  | _ => False
