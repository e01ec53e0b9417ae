/-! ===== shifts: the draw, the bytes that are told ===== -/
theorem zI_i (a : Int32) : zI a.toInt = a := Int32.ofInt_toInt a
theorem shr_bb (a : Int32) : (∀ k : Nat, k = 0 ∨ k = 8 ∨ k = 16 ∨ k = 24 → (zI (zshr a.toInt (k : Int))).toBitVec = a.toBitVec.sshiftRight k ∧ (zI (zushr a.toInt (k : Int))).toBitVec = a.toBitVec >>> k) := by
  intro k hk
  unfold zshr zushr
  rw [zI_i, zI_i, zI_i, Int32.toBitVec_shiftRight]
  rcases hk with e | e | e | e <;> subst e <;> refine ⟨rfl, ?_⟩ <;> (show (a.toUInt32 >>> _).toBitVec = _; rw [UInt32.toBitVec_shiftRight]; rfl)
theorem bits_a (b : BitVec 32) : b.sshiftRight 16 &&& 32767#32 = (b >>> 16) &&& 32767#32 := by
  apply BitVec.eq_of_getLsbD_eq
  intro i hi
  rw [BitVec.getLsbD_and, BitVec.getLsbD_and, BitVec.getLsbD_sshiftRight, BitVec.getLsbD_ushiftRight]
  have hh : ∀ i, i < 32 → 15 ≤ i → BitVec.getLsbD 32767#32 i = false := by decide
  by_cases h : i < 15
  · have e1 : decide (32 ≤ i) = false := by simp; omega
    have e2 : 16 + i < 32 := by omega
    simp [e1, e2]
  · rw [hh i hi (by omega)]
    simp
theorem bits_b (b : BitVec 32) {k : Nat} (hk : k ≤ 24) : (b.sshiftRight k).setWidth 8 = (b >>> k).setWidth 8 := by
  apply BitVec.eq_of_getLsbD_eq
  intro i hi
  rw [BitVec.getLsbD_setWidth, BitVec.getLsbD_setWidth, BitVec.getLsbD_sshiftRight, BitVec.getLsbD_ushiftRight]
  have e1 : decide (32 ≤ i) = false := by simp; omega
  have e2 : k + i < 32 := by omega
  simp [e1, e2]
theorem bits_c (b : BitVec 32) : (b &&& 255#32).toInt = ((b.setWidth 8).toNat : Int) := by
  have e : (b &&& 255#32).toNat = b.toNat % 256 := by
    rw [BitVec.toNat_and]
    exact Nat.and_two_pow_sub_one_eq_mod b.toNat 8
  rw [BitVec.toInt_eq_toNat_of_lt (by omega), e, BitVec.toNat_setWidth]
theorem zI_self (s : Int) : ∃ a : Int32, zI s = a ∧ ∀ k, zshr s k = zshr a.toInt k ∧ zushr s k = zushr a.toInt k := by
  refine ⟨zI s, rfl, fun k => ?_⟩
  unfold zshr zushr
  rw [zI_i]
  exact ⟨rfl, rfl⟩
theorem drw_sh (s : Int) : zand (zshr s 16) 32767 = zand (zushr s 16) 32767 := by
  obtain ⟨a, -, h⟩ := zI_self s
  obtain ⟨h1, h2⟩ := h 16
  obtain ⟨g1, g2⟩ := shr_bb a 16 (by omega)
  rw [h1, h2]
  unfold zand
  rw [Int32.toInt_inj]
  apply Int32.toBitVec_inj.mp
  rw [Int32.toBitVec_and, Int32.toBitVec_and]
  have e1 : (zI (zshr a.toInt 16)).toBitVec = a.toBitVec.sshiftRight 16 := g1
  have e2 : (zI (zushr a.toInt 16)).toBitVec = a.toBitVec >>> 16 := g2
  rw [e1, e2]
  exact bits_a _
theorem byte_sh (s : Int) {k : Nat} (hk : k = 0 ∨ k = 8 ∨ k = 16 ∨ k = 24) : zbyte (zshr s k) = cby (zand (zushr s k) 255) := by
  obtain ⟨a, -, h⟩ := zI_self s
  obtain ⟨h1, h2⟩ := h k
  obtain ⟨g1, g2⟩ := shr_bb a k hk
  rw [h1, h2]
  have l : zbyte (zshr a.toInt k) = ((a.toBitVec >>> k).setWidth 8).toInt := by
    unfold zbyte
    rw [Int8.toInt_toInt32]
    have : (zI (zshr a.toInt k)).toInt8.toBitVec = (zI (zshr a.toInt k)).toBitVec.signExtend 8 := rfl
    show (zI (zshr a.toInt k)).toInt8.toBitVec.toInt = _
    rw [this, g1, BitVec.signExtend_eq_setWidth_of_le _ (by decide), bits_b _ (by omega)]
  have r : zand (zushr a.toInt k) 255 = (((a.toBitVec >>> k).setWidth 8).toNat : Int) := by
    unfold zand
    show (zI (zushr a.toInt k) &&& zI 255).toBitVec.toInt = _
    rw [Int32.toBitVec_and, g2]
    exact bits_c _
  rw [l, r, BitVec.toInt_eq_toNat_cond]
  have := (((a.toBitVec >>> k).setWidth 8)).isLt
  unfold cby
  split <;> split <;> omega
