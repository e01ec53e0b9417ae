/-! ===== ints by whole numbers: zI z is the int of z ===== -/
set_option maxRecDepth 100000
def zI (z : Int) : Int32 := Int32.ofInt z
def zL (z : Int) : Int64 := Int64.ofInt z
theorem zI_of (x : Int32) : x = zI x.toInt := (Int32.ofInt_toInt x).symm
theorem zL_of (x : Int64) : x = zL x.toInt := (Int64.ofInt_toInt x).symm
theorem zI_add (a b : Int) : zI a + zI b = zI (a + b) := (Int32.ofInt_add a b).symm
theorem zI_sub (a b : Int) : zI a - zI b = zI (a - b) := (Int32.ofInt_sub a b).symm
theorem zI_mul (a b : Int) : zI a * zI b = zI (a * b) := (Int32.ofInt_mul a b).symm
theorem zI_neg (a : Int) : -zI a = zI (-a) := (Int32.ofInt_neg a).symm
theorem zL_add (a b : Int) : zL a + zL b = zL (a + b) := (Int64.ofInt_add a b).symm
theorem zL_sub (a b : Int) : zL a - zL b = zL (a - b) := (Int64.ofInt_sub a b).symm
theorem zL_mul (a b : Int) : zL a * zL b = zL (a * b) := (Int64.ofInt_mul a b).symm
theorem zI_toInt {z : Int} (h1 : -2147483648 ≤ z) (h2 : z < 2147483648) : (zI z).toInt = z := Int32.toInt_ofInt_of_le (by omega) (by omega)
theorem zL_toInt {z : Int} (h1 : -9223372036854775808 ≤ z) (h2 : z < 9223372036854775808) : (zL z).toInt = z := Int64.toInt_ofInt_of_le (by omega) (by omega)
theorem zI_le {a b : Int} (h1 : -2147483648 ≤ a) (h2 : a < 2147483648) (h3 : -2147483648 ≤ b) (h4 : b < 2147483648) : zI a ≤ zI b ↔ a ≤ b := by
  rw [Int32.le_iff_toInt_le, zI_toInt h1 h2, zI_toInt h3 h4]
theorem zI_lt {a b : Int} (h1 : -2147483648 ≤ a) (h2 : a < 2147483648) (h3 : -2147483648 ≤ b) (h4 : b < 2147483648) : zI a < zI b ↔ a < b := by
  rw [Int32.lt_iff_toInt_lt, zI_toInt h1 h2, zI_toInt h3 h4]
theorem zI_eq {a b : Int} (h1 : -2147483648 ≤ a) (h2 : a < 2147483648) (h3 : -2147483648 ≤ b) (h4 : b < 2147483648) : zI a = zI b ↔ a = b := by
  rw [← Int32.toInt_inj, zI_toInt h1 h2, zI_toInt h3 h4]
theorem zI_n (n : Nat) : (OfNat.ofNat n : Int32) = zI (OfNat.ofNat n) := (Int32.ofInt_eq_ofNat (n := n)).symm
theorem zL_n (n : Nat) : (OfNat.ofNat n : Int64) = zL (OfNat.ofNat n) := (Int64.ofInt_eq_ofNat (n := n)).symm
theorem zI_nI (n : Nat) : nI n = zI (n : Int) := (Int32.ofInt_eq_ofNat (n := n)).symm
theorem zI_div {a b : Int} (h1 : 0 ≤ a) (h2 : a < 2147483648) (h3 : 0 < b) (h4 : b < 2147483648) : zI a / zI b = zI (a / b) := by
  rw [← Int.tdiv_eq_ediv_of_nonneg h1]
  exact (Int32.ofInt_tdiv (by show (-2147483648 : Int) ≤ a; omega) (by show a ≤ (2147483647 : Int); omega) (by show (-2147483648 : Int) ≤ b; omega) (by show b ≤ (2147483647 : Int); omega)).symm
theorem zL_div {a b : Int} (h1 : 0 ≤ a) (h2 : a < 9223372036854775808) (h3 : 0 < b) (h4 : b < 9223372036854775808) : zL a / zL b = zL (a / b) := by
  rw [← Int.tdiv_eq_ediv_of_nonneg h1]
  exact (Int64.ofInt_tdiv (by show (-9223372036854775808 : Int) ≤ a; omega) (by show a ≤ (9223372036854775807 : Int); omega) (by show (-9223372036854775808 : Int) ≤ b; omega) (by show b ≤ (9223372036854775807 : Int); omega)).symm
theorem zI_rem {a b : Int} (h1 : 0 ≤ a) (h2 : a < 2147483648) (h3 : 0 < b) (h4 : b < 2147483648) : zI a - zI a / zI b * zI b = zI (a % b) := by
  rw [zI_div h1 h2 h3 h4, zI_mul, zI_sub]
  congr 1
  have := Int.mul_ediv_add_emod a b
  rw [Int.mul_comm] at this
  omega
theorem zI_cl {z : Int} (h1 : 0 ≤ z) (h2 : z < 2147483648) : (zI z).toNatClampNeg = z.toNat := by
  show (zI z).toInt.toNat = _
  rw [zI_toInt (by omega) h2]
theorem zI_in {z : Int} {n : Nat} (h1 : 0 ≤ z) (h2 : z < n) (h3 : n < 2147483648) : vp_in (zI z) n := by
  rw [vp_in_iff, zI_toInt (by omega) (by omega)]
  exact ⟨h1, h2⟩
theorem zI_l {z : Int} (h1 : -2147483648 ≤ z) (h2 : z < 2147483648) : (zI z).toInt64 = zL z := by
  have : (zI z).toInt64 = Int64.ofInt (zI z).toInt := (Int64.ofInt_int32ToInt _).symm
  rw [this, zI_toInt h1 h2]
  rfl
theorem zL_i {z : Int} (h1 : -9223372036854775808 ≤ z) (h2 : z < 9223372036854775808) : (zL z).toInt32 = zI z := by
  have : (zL z).toInt32 = Int32.ofInt (zL z).toInt := (Int32.ofInt_int64ToInt _).symm
  rw [this, zL_toInt h1 h2]
  rfl
/-- a memory of ints by whole numbers -/
def zS (S : Nat → Nat → Int) : Nat → Nat → Int32 := fun h k => zI (S h k)
def zJ (S : Nat → Nat → Int) : Nat → Nat → Int64 := fun h k => zL (S h k)
theorem zS_at (S : Nat → Nat → Int) (h k : Nat) : zS S h k = zI (S h k) := rfl
theorem zJ_at (S : Nat → Nat → Int) (h k : Nat) : zJ S h k = zL (S h k) := rfl
theorem zS_up (S : Nat → Nat → Int) (h k : Nat) (v : Int) : mm_up (zS S) h k (zI v) = zS (mm_up S h k v) := by
  funext a b
  unfold zS mm_up
  split
  · dsimp only
    split <;> rfl
  · rfl
theorem zJ_up (S : Nat → Nat → Int) (h k : Nat) (v : Int) : mm_up (zJ S) h k (zL v) = zJ (mm_up S h k v) := by
  funext a b
  unfold zJ mm_up
  split
  · dsimp only
    split <;> rfl
  · rfl
theorem zS_of (I : Nat → Nat → Int32) : I = zS (fun h k => (I h k).toInt) := by
  funext h k
  exact zI_of _
theorem up_eq {α : Type} (f : Nat → Nat → α) (h k : Nat) (x : α) (a b : Nat) : mm_up f h k x a b = if a = h ∧ b = k then x else f a b := by
  unfold mm_up
  by_cases e : a = h
  · subst e
    by_cases e2 : b = k
    · simp [e2]
    · simp [e2]
  · simp [e]
theorem in_z {x : Int32} {z : Int} {n : Nat} (e : x = zI z) (h1 : 0 ≤ z) (h2 : z < n) (h3 : n < 2147483648) : vp_in x n := by
  rw [e]
  exact zI_in h1 h2 h3
theorem cl_z {x : Int32} {z : Int} {k : Nat} (e : x = zI z) (h1 : z = k) (h2 : k < 2147483648) : x.toNatClampNeg = k := by
  rw [e, zI_cl (by omega) (by omega), h1]
  rfl
