/-! ===== Strings: coder, length, isLatin1, checkIndex, charAt ===== -/
set_option maxRecDepth 100000
theorem mm_J.op {c : mm_P} {K : mm_K} {pc : Nat} {lv : mm_L} {st : List Value} {M : mm_M} {N : mm_N} {op : mm_O} (hf : mm_find c pc = some op) (h : op lv st M N (mm_JK c K)) : mm_J c K pc lv st M N := by
  intro C hc h0 h1
  refine mm_find_ok hc hf lv st M N _ ?_ h
  intro q lv st M N hq
  match q, hq with
  | 0, hq => exact h0 _ _ _ _ hq
  | 1, hq => exact h1 _ _ _ _ hq
  | p + 2, hq => exact hq C hc h0 h1
theorem o_get_w {nx ci kd k h : Nat} {lv : mm_L} {r : List Value} {M : mm_M} {N : mm_N} {K : mm_K} (hs : M.1 h = (1, ci)) (hk : K (nx + 2) lv (mm_fa M h kd k :: r) M N) : o_get nx ci kd k lv (.ref h :: r) M N K := by
  unfold o_get
  simp only [hs]
  have : Nat.beq ci ci = true := Nat.beq_refl ci
  rw [this]
  exact hk
theorem o_get_k {nx ci kd k h : Nat} {lv : mm_L} {r : List Value} {M : mm_M} {N : mm_N} {K : mm_K} (hs : M.1 h = (17, ci)) (hk : K (nx + 2) lv (mm_fa mm_kM h kd k :: r) M N) : o_get nx ci kd k lv (.ref h :: r) M N K := by
  unfold o_get
  simp only [hs]
  have : Nat.beq ci ci = true := Nat.beq_refl ci
  rw [this]
  exact hk
theorem o_alen_w {nx h t n : Nat} {lv : mm_L} {r : List Value} {M : mm_M} {N : mm_N} {K : mm_K} (hs : M.1 h = (t, n)) (ht : 2 ≤ t % 16 ∧ t % 16 ≤ 8 ∧ t ≤ 31) (hk : K (nx + 2) lv (.int (nI n) :: r) M N) : o_alen nx lv (.ref h :: r) M N K := by
  unfold o_alen
  simp only [hs]
  rw [Nat.ble_eq_true_of_le ht.1, Nat.ble_eq_true_of_le ht.2.1, Nat.ble_eq_true_of_le ht.2.2]
  exact hk
/-- a String of n signs below 256: its bytes' handle b, its bytes f -/
def isStr (M : mm_M) (h b n : Nat) (f : Nat → Int32) : Prop := (M.1 h = (1, 19) ∧ M.2.2.2 h 0 = some b ∧ M.2.1 h 1 = 0 ∧ M.1 b = (4, n) ∧ f = M.2.1 b) ∨ (M.1 h = (17, 19) ∧ mm_kP h 0 = some b ∧ mm_kI h 1 = 0 ∧ M.1 b = (20, n) ∧ f = mm_kI b)
theorem isStr.coder {M : mm_M} {h b n : Nat} {f : Nat → Int32} {nx : Nat} {lv : mm_L} {r : List Value} {N : mm_N} {K : mm_K} (hs : isStr M h b n f) (hk : K (nx + 2) lv (.int 0 :: r) M N) : o_get nx 19 0 1 lv (.ref h :: r) M N K := by
  rcases hs with ⟨h1, h2, h3, h4, h5⟩ | ⟨h1, h2, h3, h4, h5⟩
  · refine o_get_w h1 ?_
    show K (nx + 2) lv (.int (M.2.1 h 1) :: r) M N
    rw [h3]
    exact hk
  · refine o_get_k h1 ?_
    show K (nx + 2) lv (.int (mm_kI h 1) :: r) M N
    rw [h3]
    exact hk
theorem isStr.value {M : mm_M} {h b n : Nat} {f : Nat → Int32} {nx : Nat} {lv : mm_L} {r : List Value} {N : mm_N} {K : mm_K} (hs : isStr M h b n f) (hk : K (nx + 2) lv (.ref b :: r) M N) : o_get nx 19 2 0 lv (.ref h :: r) M N K := by
  rcases hs with ⟨h1, h2, h3, h4, h5⟩ | ⟨h1, h2, h3, h4, h5⟩
  · refine o_get_w h1 ?_
    show K (nx + 2) lv (va_rf (M.2.2.2 h 0) :: r) M N
    rw [h2]
    exact hk
  · refine o_get_k h1 ?_
    show K (nx + 2) lv (va_rf (mm_kP h 0) :: r) M N
    rw [h2]
    exact hk
theorem isStr.recv {M : mm_M} {h b n : Nat} {f : Nat → Int32} (hs : isStr M h b n f) (r : List Value) : mm_rcv 19 (.ref h :: r) M = true := by
  unfold mm_rcv
  rcases hs with ⟨h1, -⟩ | ⟨h1, -⟩ <;> simp only [h1] <;> rfl
theorem isStr.arr {M : mm_M} {h b n : Nat} {f : Nat → Int32} (hs : isStr M h b n f) : (M.1 b = (4, n) ∧ f = M.2.1 b) ∨ (M.1 b = (20, n) ∧ f = mm_kI b) := by
  rcases hs with ⟨h1, h2, h3, h4, h5⟩ | ⟨h1, h2, h3, h4, h5⟩
  · exact Or.inl ⟨h4, h5⟩
  · exact Or.inr ⟨h4, h5⟩
theorem o_bald_w {nx b n : Nat} {i : Int32} {f : Nat → Int32} {lv : mm_L} {r : List Value} {M : mm_M} {N : mm_N} {K : mm_K} (hs : (M.1 b = (4, n) ∧ f = M.2.1 b) ∨ (M.1 b = (20, n) ∧ f = mm_kI b)) (hin : vp_in i n) (hk : K (nx + 2) lv (.int (f i.toNatClampNeg) :: r) M N) : o_bald nx lv (.int i :: .ref b :: r) M N K := by
  unfold o_bald
  rcases hs with ⟨h1, rfl⟩ | ⟨h1, rfl⟩
  · simp only [h1]
    exact ⟨hin, hk⟩
  · simp only [h1]
    exact ⟨hin, hk⟩
theorem o_callv_w {nx n ci : Nat} {sp : mm_Sp} {lv : mm_L} {st : List Value} {M : mm_M} {N : mm_N} {K : mm_K} (as r : List Value) (hst : st = as.reverse ++ r) (hn : as.length = n) (hr : mm_rcv ci as M = true) (hd : mm_dep r ≤ 8) (hk : sp as M (fun v M' => K (nx + 2) lv (v.toList ++ r) M' N) (mm_thr K N)) : o_callv nx n ci sp lv st M N K := by
  have key : ∀ (n : Nat) (as : List Value) (acc : List Value) (F : List Value → List Value → Prop), as.length = n → F (as ++ acc) r → mm_pop n (as.reverse ++ r) acc F := by
    intro n
    induction n with
    | zero =>
      intro as acc F h1 h2
      have : as = [] := List.length_eq_zero_iff.mp h1
      subst this
      exact h2
    | succ n ih =>
      intro as acc F h1 h2
      obtain ⟨bs, b, rfl⟩ : ∃ bs b, as = bs ++ [b] := ⟨as.dropLast, as.getLast (by intro e; rw [e] at h1; cases h1), (List.dropLast_concat_getLast _).symm⟩
      rw [List.reverse_append]
      show mm_pop n (bs.reverse ++ r) (b :: acc) F
      refine ih bs (b :: acc) F (by simpa using h1) ?_
      rw [List.append_assoc] at h2
      exact h2
  subst hst
  unfold o_callv
  refine key n as [] _ hn ?_
  rw [List.append_nil, hr, Nat.ble_eq_true_of_le hd]
  exact hk
abbrev cJ8_checkIndex : ByteArray := prog_39_method_155_code
def yJ8_checkIndex : MethodName := ⟨RJ8, "checkIndex", "(II)V"⟩
def dkwJ8_checkIndex_0 : List UInt8 := [26, 27, 178, 4, 29, 184, 4, 35, 87, 177]
abbrev dktJ8_checkIndex_0 : List UInt8 := dkwJ8_checkIndex_0 ++ []
theorem dksJ8_checkIndex_0 : cJ8_checkIndex.data.toList.drop 0 = dktJ8_checkIndex_0 := by decide +kernel
theorem dJ8_checkIndex_0 : decode cJ8_checkIndex 0 = .ok (.iload_n 0, 1) := dk_26 (dk_at dksJ8_checkIndex_0 0 rfl rfl)
theorem dJ8_checkIndex_1 : decode cJ8_checkIndex 1 = .ok (.iload_n 1, 1) := dk_27 (dk_at dksJ8_checkIndex_0 1 rfl rfl)
theorem dJ8_checkIndex_2 : decode cJ8_checkIndex 2 = .ok (.getstatic 1053, 3) := dk_178 4 29 (dk_at dksJ8_checkIndex_0 2 rfl rfl)
theorem dJ8_checkIndex_5 : decode cJ8_checkIndex 5 = .ok (.invokestatic 1059, 3) := dk_184 4 35 (dk_at dksJ8_checkIndex_0 5 rfl rfl)
theorem dJ8_checkIndex_8 : decode cJ8_checkIndex 8 = .ok (.pop, 1) := dk_87 (dk_at dksJ8_checkIndex_0 8 rfl rfl)
theorem dJ8_checkIndex_9 : decode cJ8_checkIndex 9 = .ok (.return_, 1) := dk_177 (dk_at dksJ8_checkIndex_0 9 rfl rfl)
abbrev cJ8_length : ByteArray := prog_39_method_54_code
def yJ8_length : MethodName := ⟨RJ8, "length", "()I"⟩
def dkwJ8_length_0 : List UInt8 := [42, 180, 0, 9, 190, 42, 182, 1, 79, 122, 172]
abbrev dktJ8_length_0 : List UInt8 := dkwJ8_length_0 ++ []
theorem dksJ8_length_0 : cJ8_length.data.toList.drop 0 = dktJ8_length_0 := by decide +kernel
theorem dJ8_length_0 : decode cJ8_length 0 = .ok (.aload_n 0, 1) := dk_42 (dk_at dksJ8_length_0 0 rfl rfl)
theorem dJ8_length_1 : decode cJ8_length 1 = .ok (.getfield 9, 3) := dk_180 0 9 (dk_at dksJ8_length_0 1 rfl rfl)
theorem dJ8_length_4 : decode cJ8_length 4 = .ok (.arraylength, 1) := dk_190 (dk_at dksJ8_length_0 4 rfl rfl)
theorem dJ8_length_5 : decode cJ8_length 5 = .ok (.aload_n 0, 1) := dk_42 (dk_at dksJ8_length_0 5 rfl rfl)
theorem dJ8_length_6 : decode cJ8_length 6 = .ok (.invokevirtual 335, 3) := dk_182 1 79 (dk_at dksJ8_length_0 6 rfl rfl)
theorem dJ8_length_9 : decode cJ8_length 9 = .ok (.ishr, 1) := dk_122 (dk_at dksJ8_length_0 9 rfl rfl)
theorem dJ8_length_10 : decode cJ8_length 10 = .ok (.ireturn, 1) := dk_172 (dk_at dksJ8_length_0 10 rfl rfl)
abbrev cJ8_coder : ByteArray := prog_39_method_152_code
def yJ8_coder : MethodName := ⟨RJ8, "coder", "()B"⟩
def dkwJ8_coder_0 : List UInt8 := [178, 0, 38, 153, 0, 10, 42, 180, 0, 15, 167, 0, 4, 4, 172]
abbrev dktJ8_coder_0 : List UInt8 := dkwJ8_coder_0 ++ []
theorem dksJ8_coder_0 : cJ8_coder.data.toList.drop 0 = dktJ8_coder_0 := by decide +kernel
theorem dJ8_coder_0 : decode cJ8_coder 0 = .ok (.getstatic 38, 3) := dk_178 0 38 (dk_at dksJ8_coder_0 0 rfl rfl)
theorem dJ8_coder_3 : decode cJ8_coder 3 = .ok (.ifCond .eq 10, 3) := dk_153 0 10 (dk_at dksJ8_coder_0 3 rfl rfl)
theorem dJ8_coder_6 : decode cJ8_coder 6 = .ok (.aload_n 0, 1) := dk_42 (dk_at dksJ8_coder_0 6 rfl rfl)
theorem dJ8_coder_7 : decode cJ8_coder 7 = .ok (.getfield 15, 3) := dk_180 0 15 (dk_at dksJ8_coder_0 7 rfl rfl)
theorem dJ8_coder_10 : decode cJ8_coder 10 = .ok (.goto 4, 3) := dk_167 0 4 (dk_at dksJ8_coder_0 10 rfl rfl)
theorem dJ8_coder_13 : decode cJ8_coder 13 = .ok (.iconst 1, 1) := dk_4 (dk_at dksJ8_coder_0 13 rfl rfl)
theorem dJ8_coder_14 : decode cJ8_coder 14 = .ok (.ireturn, 1) := dk_172 (dk_at dksJ8_coder_0 14 rfl rfl)
abbrev cJ8_isLatin1 : ByteArray := prog_39_method_154_code
def yJ8_isLatin1 : MethodName := ⟨RJ8, "isLatin1", "()Z"⟩
def dkwJ8_isLatin1_0 : List UInt8 := [178, 0, 38, 153, 0, 14, 42, 180, 0, 15, 154, 0, 7, 4, 167, 0, 4, 3, 172]
abbrev dktJ8_isLatin1_0 : List UInt8 := dkwJ8_isLatin1_0 ++ []
theorem dksJ8_isLatin1_0 : cJ8_isLatin1.data.toList.drop 0 = dktJ8_isLatin1_0 := by decide +kernel
theorem dJ8_isLatin1_0 : decode cJ8_isLatin1 0 = .ok (.getstatic 38, 3) := dk_178 0 38 (dk_at dksJ8_isLatin1_0 0 rfl rfl)
theorem dJ8_isLatin1_3 : decode cJ8_isLatin1 3 = .ok (.ifCond .eq 14, 3) := dk_153 0 14 (dk_at dksJ8_isLatin1_0 3 rfl rfl)
theorem dJ8_isLatin1_6 : decode cJ8_isLatin1 6 = .ok (.aload_n 0, 1) := dk_42 (dk_at dksJ8_isLatin1_0 6 rfl rfl)
theorem dJ8_isLatin1_7 : decode cJ8_isLatin1 7 = .ok (.getfield 15, 3) := dk_180 0 15 (dk_at dksJ8_isLatin1_0 7 rfl rfl)
theorem dJ8_isLatin1_10 : decode cJ8_isLatin1 10 = .ok (.ifCond .ne 7, 3) := dk_154 0 7 (dk_at dksJ8_isLatin1_0 10 rfl rfl)
theorem dJ8_isLatin1_13 : decode cJ8_isLatin1 13 = .ok (.iconst 1, 1) := dk_4 (dk_at dksJ8_isLatin1_0 13 rfl rfl)
theorem dJ8_isLatin1_14 : decode cJ8_isLatin1 14 = .ok (.goto 4, 3) := dk_167 0 4 (dk_at dksJ8_isLatin1_0 14 rfl rfl)
theorem dJ8_isLatin1_17 : decode cJ8_isLatin1 17 = .ok (.iconst 0, 1) := dk_3 (dk_at dksJ8_isLatin1_0 17 rfl rfl)
theorem dJ8_isLatin1_18 : decode cJ8_isLatin1 18 = .ok (.ireturn, 1) := dk_172 (dk_at dksJ8_isLatin1_0 18 rfl rfl)
abbrev cJ8_charAt : ByteArray := prog_39_method_56_code
def yJ8_charAt : MethodName := ⟨RJ8, "charAt", "(I)C"⟩
def dkwJ8_charAt_1 : List UInt8 := [172]
abbrev dktJ8_charAt_1 : List UInt8 := dkwJ8_charAt_1 ++ []
def dkwJ8_charAt_0 : List UInt8 := [42, 182, 1, 236, 153, 0, 12, 42, 180, 0, 9, 27, 184, 1, 239, 172, 42, 180, 0, 9, 27, 184, 1, 242]
abbrev dktJ8_charAt_0 : List UInt8 := dkwJ8_charAt_0 ++ dktJ8_charAt_1
theorem dksJ8_charAt_0 : cJ8_charAt.data.toList.drop 0 = dktJ8_charAt_0 := by decide +kernel
theorem dksJ8_charAt_1 : cJ8_charAt.data.toList.drop 24 = dktJ8_charAt_1 := dk_seg dksJ8_charAt_0 24 rfl rfl
theorem dJ8_charAt_0 : decode cJ8_charAt 0 = .ok (.aload_n 0, 1) := dk_42 (dk_at dksJ8_charAt_0 0 rfl rfl)
theorem dJ8_charAt_1 : decode cJ8_charAt 1 = .ok (.invokevirtual 492, 3) := dk_182 1 236 (dk_at dksJ8_charAt_0 1 rfl rfl)
theorem dJ8_charAt_4 : decode cJ8_charAt 4 = .ok (.ifCond .eq 12, 3) := dk_153 0 12 (dk_at dksJ8_charAt_0 4 rfl rfl)
theorem dJ8_charAt_7 : decode cJ8_charAt 7 = .ok (.aload_n 0, 1) := dk_42 (dk_at dksJ8_charAt_0 7 rfl rfl)
theorem dJ8_charAt_8 : decode cJ8_charAt 8 = .ok (.getfield 9, 3) := dk_180 0 9 (dk_at dksJ8_charAt_0 8 rfl rfl)
theorem dJ8_charAt_11 : decode cJ8_charAt 11 = .ok (.iload_n 1, 1) := dk_27 (dk_at dksJ8_charAt_0 11 rfl rfl)
theorem dJ8_charAt_12 : decode cJ8_charAt 12 = .ok (.invokestatic 495, 3) := dk_184 1 239 (dk_at dksJ8_charAt_0 12 rfl rfl)
theorem dJ8_charAt_15 : decode cJ8_charAt 15 = .ok (.ireturn, 1) := dk_172 (dk_at dksJ8_charAt_0 15 rfl rfl)
theorem dJ8_charAt_16 : decode cJ8_charAt 16 = .ok (.aload_n 0, 1) := dk_42 (dk_at dksJ8_charAt_0 16 rfl rfl)
theorem dJ8_charAt_17 : decode cJ8_charAt 17 = .ok (.getfield 9, 3) := dk_180 0 9 (dk_at dksJ8_charAt_0 17 rfl rfl)
theorem dJ8_charAt_20 : decode cJ8_charAt 20 = .ok (.iload_n 1, 1) := dk_27 (dk_at dksJ8_charAt_0 20 rfl rfl)
theorem dJ8_charAt_21 : decode cJ8_charAt 21 = .ok (.invokestatic 498, 3) := dk_184 1 242 (dk_at dksJ8_charAt_0 21 rfl rfl)
theorem dJ8_charAt_24 : decode cJ8_charAt 24 = .ok (.ireturn, 1) := dk_172 (dk_at dksJ8_charAt_1 0 rfl rfl)
abbrev cJ10_charAt : ByteArray := prog_41_method_2_code
def yJ10_charAt : MethodName := ⟨RJ10, "charAt", "([BI)C"⟩
def dkwJ10_charAt_0 : List UInt8 := [27, 42, 190, 184, 0, 9, 42, 27, 51, 17, 0, 255, 126, 146, 172]
abbrev dktJ10_charAt_0 : List UInt8 := dkwJ10_charAt_0 ++ []
theorem dksJ10_charAt_0 : cJ10_charAt.data.toList.drop 0 = dktJ10_charAt_0 := by decide +kernel
theorem dJ10_charAt_0 : decode cJ10_charAt 0 = .ok (.iload_n 1, 1) := dk_27 (dk_at dksJ10_charAt_0 0 rfl rfl)
theorem dJ10_charAt_1 : decode cJ10_charAt 1 = .ok (.aload_n 0, 1) := dk_42 (dk_at dksJ10_charAt_0 1 rfl rfl)
theorem dJ10_charAt_2 : decode cJ10_charAt 2 = .ok (.arraylength, 1) := dk_190 (dk_at dksJ10_charAt_0 2 rfl rfl)
theorem dJ10_charAt_3 : decode cJ10_charAt 3 = .ok (.invokestatic 9, 3) := dk_184 0 9 (dk_at dksJ10_charAt_0 3 rfl rfl)
theorem dJ10_charAt_6 : decode cJ10_charAt 6 = .ok (.aload_n 0, 1) := dk_42 (dk_at dksJ10_charAt_0 6 rfl rfl)
theorem dJ10_charAt_7 : decode cJ10_charAt 7 = .ok (.iload_n 1, 1) := dk_27 (dk_at dksJ10_charAt_0 7 rfl rfl)
theorem dJ10_charAt_8 : decode cJ10_charAt 8 = .ok (.baload, 1) := dk_51 (dk_at dksJ10_charAt_0 8 rfl rfl)
theorem dJ10_charAt_9 : decode cJ10_charAt 9 = .ok (.sipush 255, 3) := dk_17 0 255 (dk_at dksJ10_charAt_0 9 rfl rfl)
theorem dJ10_charAt_12 : decode cJ10_charAt 12 = .ok (.iand, 1) := dk_126 (dk_at dksJ10_charAt_0 12 rfl rfl)
theorem dJ10_charAt_13 : decode cJ10_charAt 13 = .ok (.i2c, 1) := dk_146 (dk_at dksJ10_charAt_0 13 rfl rfl)
theorem dJ10_charAt_14 : decode cJ10_charAt 14 = .ok (.ireturn, 1) := dk_172 (dk_at dksJ10_charAt_0 14 rfl rfl)
abbrev cJ11_checkIndex : ByteArray := prog_61_method_11_code
def yJ11_checkIndex : MethodName := ⟨RJ11, "checkIndex", "(IILjava/util/function/BiFunction;)I"⟩
def dkwJ11_checkIndex_0 : List UInt8 := [26, 155, 0, 8, 26, 27, 161, 0, 10, 44, 26, 27, 184, 0, 95, 191, 26, 172]
abbrev dktJ11_checkIndex_0 : List UInt8 := dkwJ11_checkIndex_0 ++ []
theorem dksJ11_checkIndex_0 : cJ11_checkIndex.data.toList.drop 0 = dktJ11_checkIndex_0 := by decide +kernel
theorem dJ11_checkIndex_0 : decode cJ11_checkIndex 0 = .ok (.iload_n 0, 1) := dk_26 (dk_at dksJ11_checkIndex_0 0 rfl rfl)
theorem dJ11_checkIndex_1 : decode cJ11_checkIndex 1 = .ok (.ifCond .lt 8, 3) := dk_155 0 8 (dk_at dksJ11_checkIndex_0 1 rfl rfl)
theorem dJ11_checkIndex_4 : decode cJ11_checkIndex 4 = .ok (.iload_n 0, 1) := dk_26 (dk_at dksJ11_checkIndex_0 4 rfl rfl)
theorem dJ11_checkIndex_5 : decode cJ11_checkIndex 5 = .ok (.iload_n 1, 1) := dk_27 (dk_at dksJ11_checkIndex_0 5 rfl rfl)
theorem dJ11_checkIndex_6 : decode cJ11_checkIndex 6 = .ok (.if_icmp .lt 10, 3) := dk_161 0 10 (dk_at dksJ11_checkIndex_0 6 rfl rfl)
theorem dJ11_checkIndex_9 : decode cJ11_checkIndex 9 = .ok (.aload_n 2, 1) := dk_44 (dk_at dksJ11_checkIndex_0 9 rfl rfl)
theorem dJ11_checkIndex_10 : decode cJ11_checkIndex 10 = .ok (.iload_n 0, 1) := dk_26 (dk_at dksJ11_checkIndex_0 10 rfl rfl)
theorem dJ11_checkIndex_11 : decode cJ11_checkIndex 11 = .ok (.iload_n 1, 1) := dk_27 (dk_at dksJ11_checkIndex_0 11 rfl rfl)
theorem dJ11_checkIndex_12 : decode cJ11_checkIndex 12 = .ok (.invokestatic 95, 3) := dk_184 0 95 (dk_at dksJ11_checkIndex_0 12 rfl rfl)
theorem dJ11_checkIndex_15 : decode cJ11_checkIndex 15 = .ok (.athrow, 1) := dk_191 (dk_at dksJ11_checkIndex_0 15 rfl rfl)
theorem dJ11_checkIndex_16 : decode cJ11_checkIndex 16 = .ok (.iload_n 0, 1) := dk_26 (dk_at dksJ11_checkIndex_0 16 rfl rfl)
theorem dJ11_checkIndex_17 : decode cJ11_checkIndex 17 = .ok (.ireturn, 1) := dk_172 (dk_at dksJ11_checkIndex_0 17 rfl rfl)
def pJ8_coder : mm_P := [(0, o_c 3 (.int 1)), (3, o_ifeq 6 13), (6, o_ald 7 0), (7, o_get 10 19 0 1), (10, o_goto 14), (13, o_c 14 (.int 1)), (14, o_bret)]
theorem tJ8_coder {C : mm_C} (G : mm_G C RJ8 cJ8_coder (some .byte) 1 (mm_rm 1 0 0)) (hnh : mm_nh C) : mm_OKs C pJ8_coder :=
  ⟨ok_gs G (c := "java/lang/String") (n := "COMPACT_STRINGS") (d := "Z") (by decide +kernel) q887 dJ8_coder_0 rfl,
   ok_ifeq G dJ8_coder_3 rfl rfl,
   ok_aload_n G dJ8_coder_6 rfl rfl,
   ok_get G (RJ8, TJ8, 4) rfl (by decide) rfl q943 dJ8_coder_7 rfl,
   ok_goto G dJ8_coder_10 rfl,
   ok_iconst G dJ8_coder_13 (by decide) rfl,
   ok_bret G dJ8_coder_14, trivial⟩

def sJ8_coder : mm_Sp := fun as M Q X => ∃ h b n f, as = [.ref h] ∧ isStr M h b n f ∧ Q (some (.int 0)) M
theorem mJ8_coder (l : Launch) (hl : l.stackTraces = false) : mm_Spec l yJ8_coder (ws_ yJ8_coder cJ8_coder 1 (some .byte)) (mm_rm 1 0 0) sJ8_coder := by
  rintro as M Q X ⟨h, b, n, f, rfl, hs, hQ⟩
  refine mm_Met.J hl (by decide) (Nat.le_of_ble_eq_true rfl) (fun C G hnh => tJ8_coder G hnh) (mm_J.go [7] 20 ?_)
  refine And.intro (fun q => absurd (show (1 : Int32) = 0 from q) (by decide)) (fun _ => ?_)
  refine mm_J.op rfl (hs.coder ?_)
  refine mm_J.go [] 10 ?_
  exact ⟨rfl, hQ, Nat.le_refl _, Nat.le_refl _⟩
def pJ8_isLatin1 : mm_P := [(0, o_c 3 (.int 1)), (3, o_ifeq 6 17), (6, o_ald 7 0), (7, o_get 10 19 0 1), (10, o_ifne 13 17), (13, o_c 14 (.int 1)), (14, o_goto 18), (17, o_c 18 (.int 0)), (18, o_zret)]
theorem tJ8_isLatin1 {C : mm_C} (G : mm_G C RJ8 cJ8_isLatin1 (some .boolean) 1 (mm_rm 1 0 0)) (hnh : mm_nh C) : mm_OKs C pJ8_isLatin1 :=
  ⟨ok_gs G (c := "java/lang/String") (n := "COMPACT_STRINGS") (d := "Z") (by decide +kernel) q887 dJ8_isLatin1_0 rfl,
   ok_ifeq G dJ8_isLatin1_3 rfl rfl,
   ok_aload_n G dJ8_isLatin1_6 rfl rfl,
   ok_get G (RJ8, TJ8, 4) rfl (by decide) rfl q943 dJ8_isLatin1_7 rfl,
   ok_ifne G dJ8_isLatin1_10 rfl rfl,
   ok_iconst G dJ8_isLatin1_13 (by decide) rfl,
   ok_goto G dJ8_isLatin1_14 rfl,
   ok_iconst G dJ8_isLatin1_17 (by decide) rfl,
   ok_zret G dJ8_isLatin1_18, trivial⟩

def sJ8_isLatin1 : mm_Sp := fun as M Q X => ∃ h b n f, as = [.ref h] ∧ isStr M h b n f ∧ Q (some (.int 1)) M
theorem mJ8_isLatin1 (l : Launch) (hl : l.stackTraces = false) : mm_Spec l yJ8_isLatin1 (ws_ yJ8_isLatin1 cJ8_isLatin1 1 (some .boolean)) (mm_rm 1 0 0) sJ8_isLatin1 := by
  rintro as M Q X ⟨h, b, n, f, rfl, hs, hQ⟩
  refine mm_Met.J hl (by decide) (Nat.le_of_ble_eq_true rfl) (fun C G hnh => tJ8_isLatin1 G hnh) (mm_J.go [7] 20 ?_)
  refine And.intro (fun q => absurd (show (1 : Int32) = 0 from q) (by decide)) (fun _ => ?_)
  refine mm_J.op rfl (hs.coder ?_)
  refine mm_J.go [] 10 (And.intro (fun q => absurd rfl q) (fun _ => ?_))
  exact ⟨Or.inr rfl, hQ, Nat.le_refl _, Nat.le_refl _⟩
def pJ8_length : mm_P := [(0, o_ald 1 0), (1, o_get 4 19 2 0), (4, o_alen 5), (5, o_ald 6 0), (6, o_callv 9 1 19 sJ8_coder), (9, o_ishr 10), (10, o_iret)]
theorem tJ8_length {C : mm_C} (G : mm_G C RJ8 cJ8_length (some .int) 1 (mm_rm 2 0 0)) (hnh : mm_nh C) : mm_OKs C pJ8_length :=
  ⟨ok_aload_n G dJ8_length_0 rfl rfl,
   ok_get G (RJ8, TJ8, 4) rfl (by decide) rfl q942 dJ8_length_1 rfl,
   ok_alen G dJ8_length_4 rfl,
   ok_aload_n G dJ8_length_5 rfl rfl,
   ok_callv G hnh (mJ8_coder _ G.hst) rfl rfl (RJ8, TJ8, 4) rfl q883 q884 q885 q100 q886 (by decide +kernel) ⟨by decide, by decide⟩ dJ8_length_6 rfl,
   ok_ishr G dJ8_length_9 rfl,
   ok_iret G dJ8_length_10, trivial⟩

def sJ8_length : mm_Sp := fun as M Q X => ∃ h b n f, as = [.ref h] ∧ isStr M h b n f ∧ Q (some (.int (nI n))) M
theorem mJ8_length (l : Launch) (hl : l.stackTraces = false) : mm_Spec l yJ8_length (ws_ yJ8_length cJ8_length 1 (some .int)) (mm_rm 2 0 0) sJ8_length := by
  rintro as M Q X ⟨h, b, n, f, rfl, hs, hQ⟩
  refine mm_Met.J hl (by decide) (Nat.le_of_ble_eq_true rfl) (fun C G hnh => tJ8_length G hnh) (mm_J.go [1] 20 ?_)
  refine mm_J.op rfl (hs.value ?_)
  refine mm_J.op rfl ?_
  have ha : ∃ t, M.1 b = (t, n) ∧ (2 ≤ t % 16 ∧ t % 16 ≤ 8 ∧ t ≤ 31) := by
    rcases hs.arr with ⟨h1, -⟩ | ⟨h1, -⟩
    · exact ⟨4, h1, by decide⟩
    · exact ⟨20, h1, by decide⟩
  obtain ⟨t, ht, ht2⟩ := ha
  refine o_alen_w ht ht2 ?_
  refine mm_J.go [6] 5 ?_
  refine mm_J.op rfl (o_callv_w [.ref h] [.int (nI n)] rfl rfl (hs.recv _) (by show 1 ≤ 8; decide) ⟨h, b, n, f, rfl, hs, ?_⟩)
  refine mm_J.go [] 10 ?_
  refine ⟨?_, Nat.le_refl _, Nat.le_refl _⟩
  show Q (some (.int (nI n >>> ((0 : Int32) &&& 31)))) M
  rw [sb_shr0]
  exact hQ
def pJ11_checkIndex : mm_P := [(0, o_ild 1 0), (1, o_iflt 4 9), (4, o_ild 5 0), (5, o_ild 6 1), (6, o_clt 9 16), (9, o_ald 10 2), (10, o_ild 11 0), (11, o_ild 12 1), (12, o_bad), (15, o_bad), (16, o_ild 17 0), (17, o_iret)]
theorem tJ11_checkIndex {C : mm_C} (G : mm_G C RJ11 cJ11_checkIndex (some .int) 3 (mm_rm 1 0 0)) (hnh : mm_nh C) : mm_OKs C pJ11_checkIndex :=
  ⟨ok_iload_n G dJ11_checkIndex_0 rfl rfl,
   ok_iflt G dJ11_checkIndex_1 rfl rfl,
   ok_iload_n G dJ11_checkIndex_4 rfl rfl,
   ok_iload_n G dJ11_checkIndex_5 rfl rfl,
   ok_clt G dJ11_checkIndex_6 rfl rfl,
   ok_aload_n G dJ11_checkIndex_9 rfl rfl,
   ok_iload_n G dJ11_checkIndex_10 rfl rfl,
   ok_iload_n G dJ11_checkIndex_11 rfl rfl,
   ok_bad,
   ok_bad,
   ok_iload_n G dJ11_checkIndex_16 rfl rfl,
   ok_iret G dJ11_checkIndex_17, trivial⟩

def sJ11_checkIndex : mm_Sp := fun as M Q X => ∃ (i n : Nat) (v : Value), as = [.int (zI i), .int (zI n), v] ∧ i < n ∧ n < 2147483648 ∧ (v = .null ∨ v = .ref 1302) ∧ Q (some (.int (zI i))) M
theorem mJ11_checkIndex (l : Launch) (hl : l.stackTraces = false) : mm_Spec l yJ11_checkIndex (ws_ yJ11_checkIndex cJ11_checkIndex 3 (some .int)) (mm_rm 1 0 0) sJ11_checkIndex := by
  rintro as M Q X ⟨i, n, v, rfl, h1, h2, hv, hQ⟩
  rcases hv with rfl | rfl
  · refine mm_Met.J hl (by decide) (Nat.le_of_ble_eq_true rfl) (fun C G hnh => tJ11_checkIndex G hnh) ?_
    refine mm_J.go [9] 20 (And.intro (fun h => ?_) (fun _ => And.intro (fun _ => ?_) (fun h => ?_)))
    · rw [zI_n, zI_lt (by omega) (by omega) (by omega) (by omega)] at h
      omega
    · exact ⟨hQ, Nat.le_refl _, Nat.le_refl _⟩
    · rw [zI_lt (by omega) (by omega) (by omega) (by omega)] at h
      omega
  · refine mm_Met.J hl (by decide) (Nat.le_of_ble_eq_true rfl) (fun C G hnh => tJ11_checkIndex G hnh) ?_
    refine mm_J.go [9] 20 (And.intro (fun h => ?_) (fun _ => And.intro (fun _ => ?_) (fun h => ?_)))
    · rw [zI_n, zI_lt (by omega) (by omega) (by omega) (by omega)] at h
      omega
    · exact ⟨hQ, Nat.le_refl _, Nat.le_refl _⟩
    · rw [zI_lt (by omega) (by omega) (by omega) (by omega)] at h
      omega
def pJ8_checkIndex : mm_P := [(0, o_ild 1 0), (1, o_ild 2 1), (2, o_gsq 5), (5, o_calls 8 3 sJ11_checkIndex), (8, o_pop 9), (9, o_vret)]
theorem tJ8_checkIndex {C : mm_C} (G : mm_G C RJ8 cJ8_checkIndex none 2 (mm_rm 2 0 0)) (hnh : mm_nh C) : mm_OKs C pJ8_checkIndex :=
  ⟨ok_iload_n G dJ8_checkIndex_0 rfl rfl,
   ok_iload_n G dJ8_checkIndex_1 rfl rfl,
   ok_gsq G q721 dJ8_checkIndex_2 rfl,
   ok_calls G hnh (mJ11_checkIndex _ G.hst) rfl rfl q744 q745 q103 q746 (by decide +kernel) ⟨by decide, by decide⟩ dJ8_checkIndex_5 rfl,
   ok_pop G dJ8_checkIndex_8 rfl,
   ok_vret G dJ8_checkIndex_9, trivial⟩

def sJ8_checkIndex : mm_Sp := fun as M Q X => ∃ (i n : Nat), as = [.int (zI i), .int (zI n)] ∧ i < n ∧ n < 2147483648 ∧ Q none M
theorem mJ8_checkIndex (l : Launch) (hl : l.stackTraces = false) : mm_Spec l yJ8_checkIndex (ws_ yJ8_checkIndex cJ8_checkIndex 2 none) (mm_rm 2 0 0) sJ8_checkIndex := by
  rintro as M Q X ⟨i, n, rfl, h1, h2, hQ⟩
  refine mm_Met.J hl (by decide) (Nat.le_of_ble_eq_true rfl) (fun C G hnh => tJ8_checkIndex G hnh) (mm_J.go [] 20 ?_)
  refine And.intro ?_ ?_
  · exact ⟨i, n, _, rfl, h1, h2, Or.inl rfl, hQ, Nat.le_refl _, Nat.le_refl _⟩
  · exact ⟨i, n, _, rfl, h1, h2, Or.inr rfl, hQ, Nat.le_refl _, Nat.le_refl _⟩
theorem chr_id : ∀ c : Nat, c < 128 → (((zI c &&& 255).toUInt32 % 65536).toInt32 = zI c ∧ (zI c).toUInt32 % 65536 = (zI c).toUInt32 ∧ ((zI c).toUInt32 % 65536).toInt32 = zI c) := by decide +kernel
def pJ10_charAt : mm_P := [(0, o_ild 1 1), (1, o_ald 2 0), (2, o_alen 3), (3, o_calls 6 2 sJ8_checkIndex), (6, o_ald 7 0), (7, o_ild 8 1), (8, o_bald 9), (9, o_c 12 (.int 255)), (12, o_iand 13), (13, o_i2c 14), (14, o_cret)]
theorem tJ10_charAt {C : mm_C} (G : mm_G C RJ10 cJ10_charAt (some .char) 2 (mm_rm 3 0 0)) (hnh : mm_nh C) : mm_OKs C pJ10_charAt :=
  ⟨ok_iload_n G dJ10_charAt_0 rfl rfl,
   ok_aload_n G dJ10_charAt_1 rfl rfl,
   ok_alen G dJ10_charAt_2 rfl,
   ok_calls G hnh (mJ8_checkIndex _ G.hst) rfl rfl q1954 q742 q100 q743 (by decide +kernel) ⟨by decide, by decide⟩ dJ10_charAt_3 rfl,
   ok_aload_n G dJ10_charAt_6 rfl rfl,
   ok_iload_n G dJ10_charAt_7 rfl rfl,
   ok_bald G dJ10_charAt_8 rfl,
   ok_sipush G dJ10_charAt_9 (by decide) rfl,
   ok_iand G dJ10_charAt_12 rfl,
   ok_i2c G dJ10_charAt_13 rfl,
   ok_cret G dJ10_charAt_14, trivial⟩

def sJ10_charAt : mm_Sp := fun as M Q X => ∃ (b i n : Nat) (f : Nat → Int32), as = [.ref b, .int (zI i)] ∧ ((M.1 b = (4, n) ∧ f = M.2.1 b) ∨ (M.1 b = (20, n) ∧ f = mm_kI b)) ∧ i < n ∧ n < 2147483648 ∧ (∃ c : Nat, f i = zI c ∧ c < 128 ∧ Q (some (.int (zI c))) M)
theorem mJ10_charAt (l : Launch) (hl : l.stackTraces = false) : mm_Spec l yJ10_charAt (ws_ yJ10_charAt cJ10_charAt 2 (some .char)) (mm_rm 3 0 0) sJ10_charAt := by
  rintro as M Q X ⟨b, i, n, f, rfl, hs, h1, h2, c, hc, hc2, hQ⟩
  refine mm_Met.J hl (by decide) (Nat.le_of_ble_eq_true rfl) (fun C G hnh => tJ10_charAt G hnh) (mm_J.go [2] 20 ?_)
  refine mm_J.op rfl ?_
  have ha : ∃ t, M.1 b = (t, n) ∧ (2 ≤ t % 16 ∧ t % 16 ≤ 8 ∧ t ≤ 31) := by
    rcases hs with ⟨h1, -⟩ | ⟨h1, -⟩
    · exact ⟨4, h1, by decide⟩
    · exact ⟨20, h1, by decide⟩
  obtain ⟨t, ht, ht2⟩ := ha
  refine o_alen_w ht ht2 ?_
  refine mm_J.go [8] 10 ?_
  refine ⟨i, n, congrArg (fun z => [Value.int (zI i), Value.int z]) (zI_nI n), h1, h2, ?_⟩
  refine mm_J.op rfl (o_bald_w hs (zI_in (by omega) (by omega) h2) ?_)
  have e2 : f (zI (i : Int)).toNatClampNeg = zI c := by rw [zI_cl (by omega) (by omega)]; exact hc
  rw [e2]
  refine mm_J.go [] 10 ?_
  have e3 := (chr_id c hc2).1
  refine ⟨?_, ?_, Nat.le_refl _, Nat.le_refl _⟩
  · rw [e3]
    exact congrArg Value.int (chr_id c hc2).2.2
  · show Q (some (.int ((zI c &&& 255).toUInt32 % 65536).toInt32)) M
    rw [e3]
    exact hQ
def pJ8_charAt : mm_P := [(0, o_ald 1 0), (1, o_callv 4 1 19 sJ8_isLatin1), (4, o_ifeq 7 16), (7, o_ald 8 0), (8, o_get 11 19 2 0), (11, o_ild 12 1), (12, o_calls 15 2 sJ10_charAt), (15, o_cret), (16, o_ald 17 0), (17, o_get 20 19 2 0), (20, o_ild 21 1), (21, o_bad), (24, o_cret)]
theorem tJ8_charAt {C : mm_C} (G : mm_G C RJ8 cJ8_charAt (some .char) 2 (mm_rm 4 0 0)) (hnh : mm_nh C) : mm_OKs C pJ8_charAt :=
  ⟨ok_aload_n G dJ8_charAt_0 rfl rfl,
   ok_callv G hnh (mJ8_isLatin1 _ G.hst) rfl rfl (RJ8, TJ8, 4) rfl q987 q988 q989 q100 q990 (by decide +kernel) ⟨by decide, by decide⟩ dJ8_charAt_1 rfl,
   ok_ifeq G dJ8_charAt_4 rfl rfl,
   ok_aload_n G dJ8_charAt_7 rfl rfl,
   ok_get G (RJ8, TJ8, 4) rfl (by decide) rfl q942 dJ8_charAt_8 rfl,
   ok_iload_n G dJ8_charAt_11 rfl rfl,
   ok_calls G hnh (mJ10_charAt _ G.hst) rfl rfl q1951 q1952 q102 q1953 (by decide +kernel) ⟨by decide, by decide⟩ dJ8_charAt_12 rfl,
   ok_cret G dJ8_charAt_15,
   ok_aload_n G dJ8_charAt_16 rfl rfl,
   ok_get G (RJ8, TJ8, 4) rfl (by decide) rfl q942 dJ8_charAt_17 rfl,
   ok_iload_n G dJ8_charAt_20 rfl rfl,
   ok_bad,
   ok_cret G dJ8_charAt_24, trivial⟩

def sJ8_charAt : mm_Sp := fun as M Q X => ∃ (h b i n : Nat) (f : Nat → Int32), as = [.ref h, .int (zI i)] ∧ isStr M h b n f ∧ i < n ∧ n < 2147483648 ∧ (∃ c : Nat, f i = zI c ∧ c < 128 ∧ Q (some (.int (zI c))) M)
theorem mJ8_charAt (l : Launch) (hl : l.stackTraces = false) : mm_Spec l yJ8_charAt (ws_ yJ8_charAt cJ8_charAt 2 (some .char)) (mm_rm 4 0 0) sJ8_charAt := by
  rintro as M Q X ⟨h, b, i, n, f, rfl, hs, h1, h2, c, hc, hc2, hQ⟩
  refine mm_Met.J hl (by decide) (Nat.le_of_ble_eq_true rfl) (fun C G hnh => tJ8_charAt G hnh) (mm_J.go [1] 20 ?_)
  refine mm_J.op rfl (o_callv_w [.ref h] [] rfl rfl (hs.recv _) (by show 0 ≤ 8; decide) ⟨h, b, n, f, rfl, hs, ?_⟩)
  refine mm_J.go [8] 20 (And.intro (fun q => absurd (show (1 : Int32) = 0 from q) (by decide)) (fun _ => ?_))
  refine mm_J.op rfl (hs.value ?_)
  refine mm_J.go [] 20 ⟨b, i, n, f, rfl, hs.arr, h1, h2, c, hc, hc2, ?_⟩
  refine ⟨?_, hQ, Nat.le_refl _, Nat.le_refl _⟩
  exact congrArg Value.int (chr_id c hc2).2.2
