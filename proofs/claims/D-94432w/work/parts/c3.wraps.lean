/-! ===== the law's calls that may throw ===== -/
set_option maxRecDepth 100000
/-- an int as it is kept -/
def nz (v : Int) : Int := (zI v).toInt
theorem nz_R (v : Int) : R32 (nz v) := ⟨Int32.le_toInt _, Int32.toInt_lt _⟩
theorem nz_ev (v : Int) : (some (vi v)).map ev = (some (vi (nz v))).map ev := by
  show some (Value.int (zI v)) = some (Value.int (zI (nz v)))
  unfold nz zI
  rw [Int32.ofInt_toInt]
abbrev cX0_court : ByteArray := method_3_code
def yX0_court : MethodName := ⟨RX0, "court", "(LChaseCourt;[J)I"⟩
def dkwX0_court_0 : List UInt8 := [43, 3, 42, 182, 0, 7, 133, 80, 167, 0, 9, 77, 4, 172, 77, 5, 172, 3, 172]
abbrev dktX0_court_0 : List UInt8 := dkwX0_court_0 ++ []
theorem dksX0_court_0 : cX0_court.data.toList.drop 0 = dktX0_court_0 := by decide +kernel
theorem dX0_court_0 : decode cX0_court 0 = .ok (.aload_n 1, 1) := dk_43 (dk_at dksX0_court_0 0 rfl rfl)
theorem dX0_court_1 : decode cX0_court 1 = .ok (.iconst 0, 1) := dk_3 (dk_at dksX0_court_0 1 rfl rfl)
theorem dX0_court_2 : decode cX0_court 2 = .ok (.aload_n 0, 1) := dk_42 (dk_at dksX0_court_0 2 rfl rfl)
theorem dX0_court_3 : decode cX0_court 3 = .ok (.invokevirtual 7, 3) := dk_182 0 7 (dk_at dksX0_court_0 3 rfl rfl)
theorem dX0_court_6 : decode cX0_court 6 = .ok (.i2l, 1) := dk_133 (dk_at dksX0_court_0 6 rfl rfl)
theorem dX0_court_7 : decode cX0_court 7 = .ok (.lastore, 1) := dk_80 (dk_at dksX0_court_0 7 rfl rfl)
theorem dX0_court_8 : decode cX0_court 8 = .ok (.goto 9, 3) := dk_167 0 9 (dk_at dksX0_court_0 8 rfl rfl)
theorem dX0_court_11 : decode cX0_court 11 = .ok (.astore_n 2, 1) := dk_77 (dk_at dksX0_court_0 11 rfl rfl)
theorem dX0_court_12 : decode cX0_court 12 = .ok (.iconst 1, 1) := dk_4 (dk_at dksX0_court_0 12 rfl rfl)
theorem dX0_court_13 : decode cX0_court 13 = .ok (.ireturn, 1) := dk_172 (dk_at dksX0_court_0 13 rfl rfl)
theorem dX0_court_14 : decode cX0_court 14 = .ok (.astore_n 2, 1) := dk_77 (dk_at dksX0_court_0 14 rfl rfl)
theorem dX0_court_15 : decode cX0_court 15 = .ok (.iconst 2, 1) := dk_5 (dk_at dksX0_court_0 15 rfl rfl)
theorem dX0_court_16 : decode cX0_court 16 = .ok (.ireturn, 1) := dk_172 (dk_at dksX0_court_0 16 rfl rfl)
theorem dX0_court_17 : decode cX0_court 17 = .ok (.iconst 0, 1) := dk_3 (dk_at dksX0_court_0 17 rfl rfl)
theorem dX0_court_18 : decode cX0_court 18 = .ok (.ireturn, 1) := dk_172 (dk_at dksX0_court_0 18 rfl rfl)
abbrev cX0_rule : ByteArray := method_4_code
def yX0_rule : MethodName := ⟨RX0, "rule", "(LChaseCourt;[J)I"⟩
def dkwX0_rule_0 : List UInt8 := [43, 3, 42, 182, 0, 17, 133, 80, 167, 0, 9, 77, 4, 172, 77, 5, 172, 3, 172]
abbrev dktX0_rule_0 : List UInt8 := dkwX0_rule_0 ++ []
theorem dksX0_rule_0 : cX0_rule.data.toList.drop 0 = dktX0_rule_0 := by decide +kernel
theorem dX0_rule_0 : decode cX0_rule 0 = .ok (.aload_n 1, 1) := dk_43 (dk_at dksX0_rule_0 0 rfl rfl)
theorem dX0_rule_1 : decode cX0_rule 1 = .ok (.iconst 0, 1) := dk_3 (dk_at dksX0_rule_0 1 rfl rfl)
theorem dX0_rule_2 : decode cX0_rule 2 = .ok (.aload_n 0, 1) := dk_42 (dk_at dksX0_rule_0 2 rfl rfl)
theorem dX0_rule_3 : decode cX0_rule 3 = .ok (.invokevirtual 17, 3) := dk_182 0 17 (dk_at dksX0_rule_0 3 rfl rfl)
theorem dX0_rule_6 : decode cX0_rule 6 = .ok (.i2l, 1) := dk_133 (dk_at dksX0_rule_0 6 rfl rfl)
theorem dX0_rule_7 : decode cX0_rule 7 = .ok (.lastore, 1) := dk_80 (dk_at dksX0_rule_0 7 rfl rfl)
theorem dX0_rule_8 : decode cX0_rule 8 = .ok (.goto 9, 3) := dk_167 0 9 (dk_at dksX0_rule_0 8 rfl rfl)
theorem dX0_rule_11 : decode cX0_rule 11 = .ok (.astore_n 2, 1) := dk_77 (dk_at dksX0_rule_0 11 rfl rfl)
theorem dX0_rule_12 : decode cX0_rule 12 = .ok (.iconst 1, 1) := dk_4 (dk_at dksX0_rule_0 12 rfl rfl)
theorem dX0_rule_13 : decode cX0_rule 13 = .ok (.ireturn, 1) := dk_172 (dk_at dksX0_rule_0 13 rfl rfl)
theorem dX0_rule_14 : decode cX0_rule 14 = .ok (.astore_n 2, 1) := dk_77 (dk_at dksX0_rule_0 14 rfl rfl)
theorem dX0_rule_15 : decode cX0_rule 15 = .ok (.iconst 2, 1) := dk_5 (dk_at dksX0_rule_0 15 rfl rfl)
theorem dX0_rule_16 : decode cX0_rule 16 = .ok (.ireturn, 1) := dk_172 (dk_at dksX0_rule_0 16 rfl rfl)
theorem dX0_rule_17 : decode cX0_rule 17 = .ok (.iconst 0, 1) := dk_3 (dk_at dksX0_rule_0 17 rfl rfl)
theorem dX0_rule_18 : decode cX0_rule 18 = .ok (.ireturn, 1) := dk_172 (dk_at dksX0_rule_0 18 rfl rfl)
abbrev cX0_look : ByteArray := method_5_code
def yX0_look : MethodName := ⟨RX0, "look", "(LChaseCourt;III[J)I"⟩
def dkwX0_look_1 : List UInt8 := [172]
abbrev dktX0_look_1 : List UInt8 := dkwX0_look_1 ++ []
def dkwX0_look_0 : List UInt8 := [25, 4, 3, 42, 27, 28, 29, 182, 0, 20, 133, 80, 167, 0, 11, 58, 5, 4, 172, 58, 5, 5, 172, 3]
abbrev dktX0_look_0 : List UInt8 := dkwX0_look_0 ++ dktX0_look_1
theorem dksX0_look_0 : cX0_look.data.toList.drop 0 = dktX0_look_0 := by decide +kernel
theorem dksX0_look_1 : cX0_look.data.toList.drop 24 = dktX0_look_1 := dk_seg dksX0_look_0 24 rfl rfl
theorem dX0_look_0 : decode cX0_look 0 = .ok (.aload 4, 2) := dk_25 4 (dk_at dksX0_look_0 0 rfl rfl)
theorem dX0_look_2 : decode cX0_look 2 = .ok (.iconst 0, 1) := dk_3 (dk_at dksX0_look_0 2 rfl rfl)
theorem dX0_look_3 : decode cX0_look 3 = .ok (.aload_n 0, 1) := dk_42 (dk_at dksX0_look_0 3 rfl rfl)
theorem dX0_look_4 : decode cX0_look 4 = .ok (.iload_n 1, 1) := dk_27 (dk_at dksX0_look_0 4 rfl rfl)
theorem dX0_look_5 : decode cX0_look 5 = .ok (.iload_n 2, 1) := dk_28 (dk_at dksX0_look_0 5 rfl rfl)
theorem dX0_look_6 : decode cX0_look 6 = .ok (.iload_n 3, 1) := dk_29 (dk_at dksX0_look_0 6 rfl rfl)
theorem dX0_look_7 : decode cX0_look 7 = .ok (.invokevirtual 20, 3) := dk_182 0 20 (dk_at dksX0_look_0 7 rfl rfl)
theorem dX0_look_10 : decode cX0_look 10 = .ok (.i2l, 1) := dk_133 (dk_at dksX0_look_0 10 rfl rfl)
theorem dX0_look_11 : decode cX0_look 11 = .ok (.lastore, 1) := dk_80 (dk_at dksX0_look_0 11 rfl rfl)
theorem dX0_look_12 : decode cX0_look 12 = .ok (.goto 11, 3) := dk_167 0 11 (dk_at dksX0_look_0 12 rfl rfl)
theorem dX0_look_15 : decode cX0_look 15 = .ok (.astore 5, 2) := dk_58 5 (dk_at dksX0_look_0 15 rfl rfl)
theorem dX0_look_17 : decode cX0_look 17 = .ok (.iconst 1, 1) := dk_4 (dk_at dksX0_look_0 17 rfl rfl)
theorem dX0_look_18 : decode cX0_look 18 = .ok (.ireturn, 1) := dk_172 (dk_at dksX0_look_0 18 rfl rfl)
theorem dX0_look_19 : decode cX0_look 19 = .ok (.astore 5, 2) := dk_58 5 (dk_at dksX0_look_0 19 rfl rfl)
theorem dX0_look_21 : decode cX0_look 21 = .ok (.iconst 2, 1) := dk_5 (dk_at dksX0_look_0 21 rfl rfl)
theorem dX0_look_22 : decode cX0_look 22 = .ok (.ireturn, 1) := dk_172 (dk_at dksX0_look_0 22 rfl rfl)
theorem dX0_look_23 : decode cX0_look 23 = .ok (.iconst 0, 1) := dk_3 (dk_at dksX0_look_0 23 rfl rfl)
theorem dX0_look_24 : decode cX0_look 24 = .ok (.ireturn, 1) := dk_172 (dk_at dksX0_look_1 0 rfl rfl)
abbrev cX0_plays : ByteArray := method_6_code
def yX0_plays : MethodName := ⟨RX0, "plays", "(LChaseCourt;II[J)I"⟩
def dkwX0_plays_0 : List UInt8 := [45, 3, 42, 27, 28, 182, 0, 28, 133, 80, 167, 0, 7, 58, 4, 4, 172, 3, 172]
abbrev dktX0_plays_0 : List UInt8 := dkwX0_plays_0 ++ []
theorem dksX0_plays_0 : cX0_plays.data.toList.drop 0 = dktX0_plays_0 := by decide +kernel
theorem dX0_plays_0 : decode cX0_plays 0 = .ok (.aload_n 3, 1) := dk_45 (dk_at dksX0_plays_0 0 rfl rfl)
theorem dX0_plays_1 : decode cX0_plays 1 = .ok (.iconst 0, 1) := dk_3 (dk_at dksX0_plays_0 1 rfl rfl)
theorem dX0_plays_2 : decode cX0_plays 2 = .ok (.aload_n 0, 1) := dk_42 (dk_at dksX0_plays_0 2 rfl rfl)
theorem dX0_plays_3 : decode cX0_plays 3 = .ok (.iload_n 1, 1) := dk_27 (dk_at dksX0_plays_0 3 rfl rfl)
theorem dX0_plays_4 : decode cX0_plays 4 = .ok (.iload_n 2, 1) := dk_28 (dk_at dksX0_plays_0 4 rfl rfl)
theorem dX0_plays_5 : decode cX0_plays 5 = .ok (.invokevirtual 28, 3) := dk_182 0 28 (dk_at dksX0_plays_0 5 rfl rfl)
theorem dX0_plays_8 : decode cX0_plays 8 = .ok (.i2l, 1) := dk_133 (dk_at dksX0_plays_0 8 rfl rfl)
theorem dX0_plays_9 : decode cX0_plays 9 = .ok (.lastore, 1) := dk_80 (dk_at dksX0_plays_0 9 rfl rfl)
theorem dX0_plays_10 : decode cX0_plays 10 = .ok (.goto 7, 3) := dk_167 0 7 (dk_at dksX0_plays_0 10 rfl rfl)
theorem dX0_plays_13 : decode cX0_plays 13 = .ok (.astore 4, 2) := dk_58 4 (dk_at dksX0_plays_0 13 rfl rfl)
theorem dX0_plays_15 : decode cX0_plays 15 = .ok (.iconst 1, 1) := dk_4 (dk_at dksX0_plays_0 15 rfl rfl)
theorem dX0_plays_16 : decode cX0_plays 16 = .ok (.ireturn, 1) := dk_172 (dk_at dksX0_plays_0 16 rfl rfl)
theorem dX0_plays_17 : decode cX0_plays 17 = .ok (.iconst 0, 1) := dk_3 (dk_at dksX0_plays_0 17 rfl rfl)
theorem dX0_plays_18 : decode cX0_plays 18 = .ok (.ireturn, 1) := dk_172 (dk_at dksX0_plays_0 18 rfl rfl)
abbrev cX0_style : ByteArray := method_7_code
def yX0_style : MethodName := ⟨RX0, "style", "(LChaseCourt;I[J)I"⟩
def dkwX0_style_0 : List UInt8 := [44, 3, 42, 27, 182, 0, 32, 133, 80, 167, 0, 6, 78, 4, 172, 3, 172]
abbrev dktX0_style_0 : List UInt8 := dkwX0_style_0 ++ []
theorem dksX0_style_0 : cX0_style.data.toList.drop 0 = dktX0_style_0 := by decide +kernel
theorem dX0_style_0 : decode cX0_style 0 = .ok (.aload_n 2, 1) := dk_44 (dk_at dksX0_style_0 0 rfl rfl)
theorem dX0_style_1 : decode cX0_style 1 = .ok (.iconst 0, 1) := dk_3 (dk_at dksX0_style_0 1 rfl rfl)
theorem dX0_style_2 : decode cX0_style 2 = .ok (.aload_n 0, 1) := dk_42 (dk_at dksX0_style_0 2 rfl rfl)
theorem dX0_style_3 : decode cX0_style 3 = .ok (.iload_n 1, 1) := dk_27 (dk_at dksX0_style_0 3 rfl rfl)
theorem dX0_style_4 : decode cX0_style 4 = .ok (.invokevirtual 32, 3) := dk_182 0 32 (dk_at dksX0_style_0 4 rfl rfl)
theorem dX0_style_7 : decode cX0_style 7 = .ok (.i2l, 1) := dk_133 (dk_at dksX0_style_0 7 rfl rfl)
theorem dX0_style_8 : decode cX0_style 8 = .ok (.lastore, 1) := dk_80 (dk_at dksX0_style_0 8 rfl rfl)
theorem dX0_style_9 : decode cX0_style 9 = .ok (.goto 6, 3) := dk_167 0 6 (dk_at dksX0_style_0 9 rfl rfl)
theorem dX0_style_12 : decode cX0_style 12 = .ok (.astore_n 3, 1) := dk_78 (dk_at dksX0_style_0 12 rfl rfl)
theorem dX0_style_13 : decode cX0_style 13 = .ok (.iconst 1, 1) := dk_4 (dk_at dksX0_style_0 13 rfl rfl)
theorem dX0_style_14 : decode cX0_style 14 = .ok (.ireturn, 1) := dk_172 (dk_at dksX0_style_0 14 rfl rfl)
theorem dX0_style_15 : decode cX0_style 15 = .ok (.iconst 0, 1) := dk_3 (dk_at dksX0_style_0 15 rfl rfl)
theorem dX0_style_16 : decode cX0_style 16 = .ok (.ireturn, 1) := dk_172 (dk_at dksX0_style_0 16 rfl rfl)
abbrev cX0_score : ByteArray := method_8_code
def yX0_score : MethodName := ⟨RX0, "score", "(LChaseCourt;III)I"⟩
def dkwX0_score_0 : List UInt8 := [42, 27, 28, 29, 182, 0, 36, 167, 0, 11, 58, 4, 4, 172, 58, 4, 5, 172, 3, 172]
abbrev dktX0_score_0 : List UInt8 := dkwX0_score_0 ++ []
theorem dksX0_score_0 : cX0_score.data.toList.drop 0 = dktX0_score_0 := by decide +kernel
theorem dX0_score_0 : decode cX0_score 0 = .ok (.aload_n 0, 1) := dk_42 (dk_at dksX0_score_0 0 rfl rfl)
theorem dX0_score_1 : decode cX0_score 1 = .ok (.iload_n 1, 1) := dk_27 (dk_at dksX0_score_0 1 rfl rfl)
theorem dX0_score_2 : decode cX0_score 2 = .ok (.iload_n 2, 1) := dk_28 (dk_at dksX0_score_0 2 rfl rfl)
theorem dX0_score_3 : decode cX0_score 3 = .ok (.iload_n 3, 1) := dk_29 (dk_at dksX0_score_0 3 rfl rfl)
theorem dX0_score_4 : decode cX0_score 4 = .ok (.invokevirtual 36, 3) := dk_182 0 36 (dk_at dksX0_score_0 4 rfl rfl)
theorem dX0_score_7 : decode cX0_score 7 = .ok (.goto 11, 3) := dk_167 0 11 (dk_at dksX0_score_0 7 rfl rfl)
theorem dX0_score_10 : decode cX0_score 10 = .ok (.astore 4, 2) := dk_58 4 (dk_at dksX0_score_0 10 rfl rfl)
theorem dX0_score_12 : decode cX0_score 12 = .ok (.iconst 1, 1) := dk_4 (dk_at dksX0_score_0 12 rfl rfl)
theorem dX0_score_13 : decode cX0_score 13 = .ok (.ireturn, 1) := dk_172 (dk_at dksX0_score_0 13 rfl rfl)
theorem dX0_score_14 : decode cX0_score 14 = .ok (.astore 4, 2) := dk_58 4 (dk_at dksX0_score_0 14 rfl rfl)
theorem dX0_score_16 : decode cX0_score 16 = .ok (.iconst 2, 1) := dk_5 (dk_at dksX0_score_0 16 rfl rfl)
theorem dX0_score_17 : decode cX0_score 17 = .ok (.ireturn, 1) := dk_172 (dk_at dksX0_score_0 17 rfl rfl)
theorem dX0_score_18 : decode cX0_score 18 = .ok (.iconst 0, 1) := dk_3 (dk_at dksX0_score_0 18 rfl rfl)
theorem dX0_score_19 : decode cX0_score 19 = .ok (.ireturn, 1) := dk_172 (dk_at dksX0_score_0 19 rfl rfl)
abbrev cX0_games : ByteArray := method_9_code
def yX0_games : MethodName := ⟨RX0, "games", "(LChaseCourt;II)I"⟩
def dkwX0_games_0 : List UInt8 := [42, 27, 28, 182, 0, 40, 167, 0, 6, 78, 4, 172, 3, 172]
abbrev dktX0_games_0 : List UInt8 := dkwX0_games_0 ++ []
theorem dksX0_games_0 : cX0_games.data.toList.drop 0 = dktX0_games_0 := by decide +kernel
theorem dX0_games_0 : decode cX0_games 0 = .ok (.aload_n 0, 1) := dk_42 (dk_at dksX0_games_0 0 rfl rfl)
theorem dX0_games_1 : decode cX0_games 1 = .ok (.iload_n 1, 1) := dk_27 (dk_at dksX0_games_0 1 rfl rfl)
theorem dX0_games_2 : decode cX0_games 2 = .ok (.iload_n 2, 1) := dk_28 (dk_at dksX0_games_0 2 rfl rfl)
theorem dX0_games_3 : decode cX0_games 3 = .ok (.invokevirtual 40, 3) := dk_182 0 40 (dk_at dksX0_games_0 3 rfl rfl)
theorem dX0_games_6 : decode cX0_games 6 = .ok (.goto 6, 3) := dk_167 0 6 (dk_at dksX0_games_0 6 rfl rfl)
theorem dX0_games_9 : decode cX0_games 9 = .ok (.astore_n 3, 1) := dk_78 (dk_at dksX0_games_0 9 rfl rfl)
theorem dX0_games_10 : decode cX0_games 10 = .ok (.iconst 1, 1) := dk_4 (dk_at dksX0_games_0 10 rfl rfl)
theorem dX0_games_11 : decode cX0_games 11 = .ok (.ireturn, 1) := dk_172 (dk_at dksX0_games_0 11 rfl rfl)
theorem dX0_games_12 : decode cX0_games 12 = .ok (.iconst 0, 1) := dk_3 (dk_at dksX0_games_0 12 rfl rfl)
theorem dX0_games_13 : decode cX0_games 13 = .ok (.ireturn, 1) := dk_172 (dk_at dksX0_games_0 13 rfl rfl)
abbrev cX0_begin : ByteArray := method_10_code
def yX0_begin : MethodName := ⟨RX0, "begin", "(LChaseCourt;II)I"⟩
def dkwX0_begin_0 : List UInt8 := [42, 27, 28, 182, 0, 44, 167, 0, 6, 78, 4, 172, 3, 172]
abbrev dktX0_begin_0 : List UInt8 := dkwX0_begin_0 ++ []
theorem dksX0_begin_0 : cX0_begin.data.toList.drop 0 = dktX0_begin_0 := by decide +kernel
theorem dX0_begin_0 : decode cX0_begin 0 = .ok (.aload_n 0, 1) := dk_42 (dk_at dksX0_begin_0 0 rfl rfl)
theorem dX0_begin_1 : decode cX0_begin 1 = .ok (.iload_n 1, 1) := dk_27 (dk_at dksX0_begin_0 1 rfl rfl)
theorem dX0_begin_2 : decode cX0_begin 2 = .ok (.iload_n 2, 1) := dk_28 (dk_at dksX0_begin_0 2 rfl rfl)
theorem dX0_begin_3 : decode cX0_begin 3 = .ok (.invokevirtual 44, 3) := dk_182 0 44 (dk_at dksX0_begin_0 3 rfl rfl)
theorem dX0_begin_6 : decode cX0_begin 6 = .ok (.goto 6, 3) := dk_167 0 6 (dk_at dksX0_begin_0 6 rfl rfl)
theorem dX0_begin_9 : decode cX0_begin 9 = .ok (.astore_n 3, 1) := dk_78 (dk_at dksX0_begin_0 9 rfl rfl)
theorem dX0_begin_10 : decode cX0_begin 10 = .ok (.iconst 1, 1) := dk_4 (dk_at dksX0_begin_0 10 rfl rfl)
theorem dX0_begin_11 : decode cX0_begin 11 = .ok (.ireturn, 1) := dk_172 (dk_at dksX0_begin_0 11 rfl rfl)
theorem dX0_begin_12 : decode cX0_begin 12 = .ok (.iconst 0, 1) := dk_3 (dk_at dksX0_begin_0 12 rfl rfl)
theorem dX0_begin_13 : decode cX0_begin 13 = .ok (.ireturn, 1) := dk_172 (dk_at dksX0_begin_0 13 rfl rfl)
abbrev cX0_stands : ByteArray := method_11_code
def yX0_stands : MethodName := ⟨RX0, "stands", "(LChaseCourt;I[J)I"⟩
def dkwX0_stands_0 : List UInt8 := [44, 3, 42, 27, 182, 0, 47, 133, 80, 167, 0, 6, 78, 4, 172, 3, 172]
abbrev dktX0_stands_0 : List UInt8 := dkwX0_stands_0 ++ []
theorem dksX0_stands_0 : cX0_stands.data.toList.drop 0 = dktX0_stands_0 := by decide +kernel
theorem dX0_stands_0 : decode cX0_stands 0 = .ok (.aload_n 2, 1) := dk_44 (dk_at dksX0_stands_0 0 rfl rfl)
theorem dX0_stands_1 : decode cX0_stands 1 = .ok (.iconst 0, 1) := dk_3 (dk_at dksX0_stands_0 1 rfl rfl)
theorem dX0_stands_2 : decode cX0_stands 2 = .ok (.aload_n 0, 1) := dk_42 (dk_at dksX0_stands_0 2 rfl rfl)
theorem dX0_stands_3 : decode cX0_stands 3 = .ok (.iload_n 1, 1) := dk_27 (dk_at dksX0_stands_0 3 rfl rfl)
theorem dX0_stands_4 : decode cX0_stands 4 = .ok (.invokevirtual 47, 3) := dk_182 0 47 (dk_at dksX0_stands_0 4 rfl rfl)
theorem dX0_stands_7 : decode cX0_stands 7 = .ok (.i2l, 1) := dk_133 (dk_at dksX0_stands_0 7 rfl rfl)
theorem dX0_stands_8 : decode cX0_stands 8 = .ok (.lastore, 1) := dk_80 (dk_at dksX0_stands_0 8 rfl rfl)
theorem dX0_stands_9 : decode cX0_stands 9 = .ok (.goto 6, 3) := dk_167 0 6 (dk_at dksX0_stands_0 9 rfl rfl)
theorem dX0_stands_12 : decode cX0_stands 12 = .ok (.astore_n 3, 1) := dk_78 (dk_at dksX0_stands_0 12 rfl rfl)
theorem dX0_stands_13 : decode cX0_stands 13 = .ok (.iconst 1, 1) := dk_4 (dk_at dksX0_stands_0 13 rfl rfl)
theorem dX0_stands_14 : decode cX0_stands 14 = .ok (.ireturn, 1) := dk_172 (dk_at dksX0_stands_0 14 rfl rfl)
theorem dX0_stands_15 : decode cX0_stands 15 = .ok (.iconst 0, 1) := dk_3 (dk_at dksX0_stands_0 15 rfl rfl)
theorem dX0_stands_16 : decode cX0_stands 16 = .ok (.ireturn, 1) := dk_172 (dk_at dksX0_stands_0 16 rfl rfl)
abbrev cX0_rally : ByteArray := method_12_code
def yX0_rally : MethodName := ⟨RX0, "rally", "(LChaseCourt;II[J)I"⟩
def dkwX0_rally_1 : List UInt8 := [172, 3, 172]
abbrev dktX0_rally_1 : List UInt8 := dkwX0_rally_1 ++ []
def dkwX0_rally_0 : List UInt8 := [45, 3, 42, 27, 28, 182, 0, 50, 133, 80, 167, 0, 15, 58, 4, 4, 172, 58, 4, 5, 172, 58, 4, 6]
abbrev dktX0_rally_0 : List UInt8 := dkwX0_rally_0 ++ dktX0_rally_1
theorem dksX0_rally_0 : cX0_rally.data.toList.drop 0 = dktX0_rally_0 := by decide +kernel
theorem dksX0_rally_1 : cX0_rally.data.toList.drop 24 = dktX0_rally_1 := dk_seg dksX0_rally_0 24 rfl rfl
theorem dX0_rally_0 : decode cX0_rally 0 = .ok (.aload_n 3, 1) := dk_45 (dk_at dksX0_rally_0 0 rfl rfl)
theorem dX0_rally_1 : decode cX0_rally 1 = .ok (.iconst 0, 1) := dk_3 (dk_at dksX0_rally_0 1 rfl rfl)
theorem dX0_rally_2 : decode cX0_rally 2 = .ok (.aload_n 0, 1) := dk_42 (dk_at dksX0_rally_0 2 rfl rfl)
theorem dX0_rally_3 : decode cX0_rally 3 = .ok (.iload_n 1, 1) := dk_27 (dk_at dksX0_rally_0 3 rfl rfl)
theorem dX0_rally_4 : decode cX0_rally 4 = .ok (.iload_n 2, 1) := dk_28 (dk_at dksX0_rally_0 4 rfl rfl)
theorem dX0_rally_5 : decode cX0_rally 5 = .ok (.invokevirtual 50, 3) := dk_182 0 50 (dk_at dksX0_rally_0 5 rfl rfl)
theorem dX0_rally_8 : decode cX0_rally 8 = .ok (.i2l, 1) := dk_133 (dk_at dksX0_rally_0 8 rfl rfl)
theorem dX0_rally_9 : decode cX0_rally 9 = .ok (.lastore, 1) := dk_80 (dk_at dksX0_rally_0 9 rfl rfl)
theorem dX0_rally_10 : decode cX0_rally 10 = .ok (.goto 15, 3) := dk_167 0 15 (dk_at dksX0_rally_0 10 rfl rfl)
theorem dX0_rally_13 : decode cX0_rally 13 = .ok (.astore 4, 2) := dk_58 4 (dk_at dksX0_rally_0 13 rfl rfl)
theorem dX0_rally_15 : decode cX0_rally 15 = .ok (.iconst 1, 1) := dk_4 (dk_at dksX0_rally_0 15 rfl rfl)
theorem dX0_rally_16 : decode cX0_rally 16 = .ok (.ireturn, 1) := dk_172 (dk_at dksX0_rally_0 16 rfl rfl)
theorem dX0_rally_17 : decode cX0_rally 17 = .ok (.astore 4, 2) := dk_58 4 (dk_at dksX0_rally_0 17 rfl rfl)
theorem dX0_rally_19 : decode cX0_rally 19 = .ok (.iconst 2, 1) := dk_5 (dk_at dksX0_rally_0 19 rfl rfl)
theorem dX0_rally_20 : decode cX0_rally 20 = .ok (.ireturn, 1) := dk_172 (dk_at dksX0_rally_0 20 rfl rfl)
theorem dX0_rally_21 : decode cX0_rally 21 = .ok (.astore 4, 2) := dk_58 4 (dk_at dksX0_rally_0 21 rfl rfl)
theorem dX0_rally_23 : decode cX0_rally 23 = .ok (.iconst 3, 1) := dk_6 (dk_at dksX0_rally_0 23 rfl rfl)
theorem dX0_rally_24 : decode cX0_rally 24 = .ok (.ireturn, 1) := dk_172 (dk_at dksX0_rally_1 0 rfl rfl)
theorem dX0_rally_25 : decode cX0_rally 25 = .ok (.iconst 0, 1) := dk_3 (dk_at dksX0_rally_1 1 rfl rfl)
theorem dX0_rally_26 : decode cX0_rally 26 = .ok (.ireturn, 1) := dk_172 (dk_at dksX0_rally_1 2 rfl rfl)
abbrev cX0_bisque : ByteArray := method_13_code
def yX0_bisque : MethodName := ⟨RX0, "bisque", "(LChaseCourt;I[J)I"⟩
def dkwX0_bisque_1 : List UInt8 := [172, 3, 172]
abbrev dktX0_bisque_1 : List UInt8 := dkwX0_bisque_1 ++ []
def dkwX0_bisque_0 : List UInt8 := [44, 3, 42, 27, 182, 0, 55, 153, 0, 7, 10, 167, 0, 4, 9, 80, 167, 0, 9, 78, 4, 172, 78, 5]
abbrev dktX0_bisque_0 : List UInt8 := dkwX0_bisque_0 ++ dktX0_bisque_1
theorem dksX0_bisque_0 : cX0_bisque.data.toList.drop 0 = dktX0_bisque_0 := by decide +kernel
theorem dksX0_bisque_1 : cX0_bisque.data.toList.drop 24 = dktX0_bisque_1 := dk_seg dksX0_bisque_0 24 rfl rfl
theorem dX0_bisque_0 : decode cX0_bisque 0 = .ok (.aload_n 2, 1) := dk_44 (dk_at dksX0_bisque_0 0 rfl rfl)
theorem dX0_bisque_1 : decode cX0_bisque 1 = .ok (.iconst 0, 1) := dk_3 (dk_at dksX0_bisque_0 1 rfl rfl)
theorem dX0_bisque_2 : decode cX0_bisque 2 = .ok (.aload_n 0, 1) := dk_42 (dk_at dksX0_bisque_0 2 rfl rfl)
theorem dX0_bisque_3 : decode cX0_bisque 3 = .ok (.iload_n 1, 1) := dk_27 (dk_at dksX0_bisque_0 3 rfl rfl)
theorem dX0_bisque_4 : decode cX0_bisque 4 = .ok (.invokevirtual 55, 3) := dk_182 0 55 (dk_at dksX0_bisque_0 4 rfl rfl)
theorem dX0_bisque_7 : decode cX0_bisque 7 = .ok (.ifCond .eq 7, 3) := dk_153 0 7 (dk_at dksX0_bisque_0 7 rfl rfl)
theorem dX0_bisque_10 : decode cX0_bisque 10 = .ok (.lconst 1, 1) := dk_10 (dk_at dksX0_bisque_0 10 rfl rfl)
theorem dX0_bisque_11 : decode cX0_bisque 11 = .ok (.goto 4, 3) := dk_167 0 4 (dk_at dksX0_bisque_0 11 rfl rfl)
theorem dX0_bisque_14 : decode cX0_bisque 14 = .ok (.lconst 0, 1) := dk_9 (dk_at dksX0_bisque_0 14 rfl rfl)
theorem dX0_bisque_15 : decode cX0_bisque 15 = .ok (.lastore, 1) := dk_80 (dk_at dksX0_bisque_0 15 rfl rfl)
theorem dX0_bisque_16 : decode cX0_bisque 16 = .ok (.goto 9, 3) := dk_167 0 9 (dk_at dksX0_bisque_0 16 rfl rfl)
theorem dX0_bisque_19 : decode cX0_bisque 19 = .ok (.astore_n 3, 1) := dk_78 (dk_at dksX0_bisque_0 19 rfl rfl)
theorem dX0_bisque_20 : decode cX0_bisque 20 = .ok (.iconst 1, 1) := dk_4 (dk_at dksX0_bisque_0 20 rfl rfl)
theorem dX0_bisque_21 : decode cX0_bisque 21 = .ok (.ireturn, 1) := dk_172 (dk_at dksX0_bisque_0 21 rfl rfl)
theorem dX0_bisque_22 : decode cX0_bisque 22 = .ok (.astore_n 3, 1) := dk_78 (dk_at dksX0_bisque_0 22 rfl rfl)
theorem dX0_bisque_23 : decode cX0_bisque 23 = .ok (.iconst 2, 1) := dk_5 (dk_at dksX0_bisque_0 23 rfl rfl)
theorem dX0_bisque_24 : decode cX0_bisque 24 = .ok (.ireturn, 1) := dk_172 (dk_at dksX0_bisque_1 0 rfl rfl)
theorem dX0_bisque_25 : decode cX0_bisque 25 = .ok (.iconst 0, 1) := dk_3 (dk_at dksX0_bisque_1 1 rfl rfl)
theorem dX0_bisque_26 : decode cX0_bisque 26 = .ok (.ireturn, 1) := dk_172 (dk_at dksX0_bisque_1 2 rfl rfl)
abbrev cX0_chance : ByteArray := method_14_code
def yX0_chance : MethodName := ⟨RX0, "chance", "(LChaseCourt;II[J)I"⟩
def dkwX0_chance_1 : List UInt8 := [172, 3, 172]
abbrev dktX0_chance_1 : List UInt8 := dkwX0_chance_1 ++ []
def dkwX0_chance_0 : List UInt8 := [45, 3, 42, 27, 28, 182, 0, 59, 133, 80, 167, 0, 15, 58, 4, 4, 172, 58, 4, 5, 172, 58, 4, 6]
abbrev dktX0_chance_0 : List UInt8 := dkwX0_chance_0 ++ dktX0_chance_1
theorem dksX0_chance_0 : cX0_chance.data.toList.drop 0 = dktX0_chance_0 := by decide +kernel
theorem dksX0_chance_1 : cX0_chance.data.toList.drop 24 = dktX0_chance_1 := dk_seg dksX0_chance_0 24 rfl rfl
theorem dX0_chance_0 : decode cX0_chance 0 = .ok (.aload_n 3, 1) := dk_45 (dk_at dksX0_chance_0 0 rfl rfl)
theorem dX0_chance_1 : decode cX0_chance 1 = .ok (.iconst 0, 1) := dk_3 (dk_at dksX0_chance_0 1 rfl rfl)
theorem dX0_chance_2 : decode cX0_chance 2 = .ok (.aload_n 0, 1) := dk_42 (dk_at dksX0_chance_0 2 rfl rfl)
theorem dX0_chance_3 : decode cX0_chance 3 = .ok (.iload_n 1, 1) := dk_27 (dk_at dksX0_chance_0 3 rfl rfl)
theorem dX0_chance_4 : decode cX0_chance 4 = .ok (.iload_n 2, 1) := dk_28 (dk_at dksX0_chance_0 4 rfl rfl)
theorem dX0_chance_5 : decode cX0_chance 5 = .ok (.invokevirtual 59, 3) := dk_182 0 59 (dk_at dksX0_chance_0 5 rfl rfl)
theorem dX0_chance_8 : decode cX0_chance 8 = .ok (.i2l, 1) := dk_133 (dk_at dksX0_chance_0 8 rfl rfl)
theorem dX0_chance_9 : decode cX0_chance 9 = .ok (.lastore, 1) := dk_80 (dk_at dksX0_chance_0 9 rfl rfl)
theorem dX0_chance_10 : decode cX0_chance 10 = .ok (.goto 15, 3) := dk_167 0 15 (dk_at dksX0_chance_0 10 rfl rfl)
theorem dX0_chance_13 : decode cX0_chance 13 = .ok (.astore 4, 2) := dk_58 4 (dk_at dksX0_chance_0 13 rfl rfl)
theorem dX0_chance_15 : decode cX0_chance 15 = .ok (.iconst 1, 1) := dk_4 (dk_at dksX0_chance_0 15 rfl rfl)
theorem dX0_chance_16 : decode cX0_chance 16 = .ok (.ireturn, 1) := dk_172 (dk_at dksX0_chance_0 16 rfl rfl)
theorem dX0_chance_17 : decode cX0_chance 17 = .ok (.astore 4, 2) := dk_58 4 (dk_at dksX0_chance_0 17 rfl rfl)
theorem dX0_chance_19 : decode cX0_chance 19 = .ok (.iconst 2, 1) := dk_5 (dk_at dksX0_chance_0 19 rfl rfl)
theorem dX0_chance_20 : decode cX0_chance 20 = .ok (.ireturn, 1) := dk_172 (dk_at dksX0_chance_0 20 rfl rfl)
theorem dX0_chance_21 : decode cX0_chance 21 = .ok (.astore 4, 2) := dk_58 4 (dk_at dksX0_chance_0 21 rfl rfl)
theorem dX0_chance_23 : decode cX0_chance 23 = .ok (.iconst 3, 1) := dk_6 (dk_at dksX0_chance_0 23 rfl rfl)
theorem dX0_chance_24 : decode cX0_chance 24 = .ok (.ireturn, 1) := dk_172 (dk_at dksX0_chance_1 0 rfl rfl)
theorem dX0_chance_25 : decode cX0_chance 25 = .ok (.iconst 0, 1) := dk_3 (dk_at dksX0_chance_1 1 rfl rfl)
theorem dX0_chance_26 : decode cX0_chance 26 = .ok (.ireturn, 1) := dk_172 (dk_at dksX0_chance_1 2 rfl rfl)
abbrev cX0_best : ByteArray := method_15_code
def yX0_best : MethodName := ⟨RX0, "best", "(LChaseCourt;IIZ[J)I"⟩
def dkwX0_best_1 : List UInt8 := [58, 5, 6, 172, 3, 172]
abbrev dktX0_best_1 : List UInt8 := dkwX0_best_1 ++ []
def dkwX0_best_0 : List UInt8 := [25, 4, 3, 42, 27, 28, 29, 182, 0, 62, 133, 80, 167, 0, 15, 58, 5, 4, 172, 58, 5, 5, 172]
abbrev dktX0_best_0 : List UInt8 := dkwX0_best_0 ++ dktX0_best_1
theorem dksX0_best_0 : cX0_best.data.toList.drop 0 = dktX0_best_0 := by decide +kernel
theorem dksX0_best_1 : cX0_best.data.toList.drop 23 = dktX0_best_1 := dk_seg dksX0_best_0 23 rfl rfl
theorem dX0_best_0 : decode cX0_best 0 = .ok (.aload 4, 2) := dk_25 4 (dk_at dksX0_best_0 0 rfl rfl)
theorem dX0_best_2 : decode cX0_best 2 = .ok (.iconst 0, 1) := dk_3 (dk_at dksX0_best_0 2 rfl rfl)
theorem dX0_best_3 : decode cX0_best 3 = .ok (.aload_n 0, 1) := dk_42 (dk_at dksX0_best_0 3 rfl rfl)
theorem dX0_best_4 : decode cX0_best 4 = .ok (.iload_n 1, 1) := dk_27 (dk_at dksX0_best_0 4 rfl rfl)
theorem dX0_best_5 : decode cX0_best 5 = .ok (.iload_n 2, 1) := dk_28 (dk_at dksX0_best_0 5 rfl rfl)
theorem dX0_best_6 : decode cX0_best 6 = .ok (.iload_n 3, 1) := dk_29 (dk_at dksX0_best_0 6 rfl rfl)
theorem dX0_best_7 : decode cX0_best 7 = .ok (.invokevirtual 62, 3) := dk_182 0 62 (dk_at dksX0_best_0 7 rfl rfl)
theorem dX0_best_10 : decode cX0_best 10 = .ok (.i2l, 1) := dk_133 (dk_at dksX0_best_0 10 rfl rfl)
theorem dX0_best_11 : decode cX0_best 11 = .ok (.lastore, 1) := dk_80 (dk_at dksX0_best_0 11 rfl rfl)
theorem dX0_best_12 : decode cX0_best 12 = .ok (.goto 15, 3) := dk_167 0 15 (dk_at dksX0_best_0 12 rfl rfl)
theorem dX0_best_15 : decode cX0_best 15 = .ok (.astore 5, 2) := dk_58 5 (dk_at dksX0_best_0 15 rfl rfl)
theorem dX0_best_17 : decode cX0_best 17 = .ok (.iconst 1, 1) := dk_4 (dk_at dksX0_best_0 17 rfl rfl)
theorem dX0_best_18 : decode cX0_best 18 = .ok (.ireturn, 1) := dk_172 (dk_at dksX0_best_0 18 rfl rfl)
theorem dX0_best_19 : decode cX0_best 19 = .ok (.astore 5, 2) := dk_58 5 (dk_at dksX0_best_0 19 rfl rfl)
theorem dX0_best_21 : decode cX0_best 21 = .ok (.iconst 2, 1) := dk_5 (dk_at dksX0_best_0 21 rfl rfl)
theorem dX0_best_22 : decode cX0_best 22 = .ok (.ireturn, 1) := dk_172 (dk_at dksX0_best_0 22 rfl rfl)
theorem dX0_best_23 : decode cX0_best 23 = .ok (.astore 5, 2) := dk_58 5 (dk_at dksX0_best_1 0 rfl rfl)
theorem dX0_best_25 : decode cX0_best 25 = .ok (.iconst 3, 1) := dk_6 (dk_at dksX0_best_1 2 rfl rfl)
theorem dX0_best_26 : decode cX0_best 26 = .ok (.ireturn, 1) := dk_172 (dk_at dksX0_best_1 3 rfl rfl)
theorem dX0_best_27 : decode cX0_best 27 = .ok (.iconst 0, 1) := dk_3 (dk_at dksX0_best_1 4 rfl rfl)
theorem dX0_best_28 : decode cX0_best 28 = .ok (.ireturn, 1) := dk_172 (dk_at dksX0_best_1 5 rfl rfl)
abbrev cX0_saves : ByteArray := method_16_code
def yX0_saves : MethodName := ⟨RX0, "saves", "(LChaseCourt;III[J)I"⟩
def dkwX0_saves_1 : List UInt8 := [58, 5, 6, 172, 58, 5, 7, 172, 3, 172]
abbrev dktX0_saves_1 : List UInt8 := dkwX0_saves_1 ++ []
def dkwX0_saves_0 : List UInt8 := [25, 4, 3, 42, 27, 28, 29, 182, 0, 66, 133, 80, 167, 0, 19, 58, 5, 4, 172, 58, 5, 5, 172]
abbrev dktX0_saves_0 : List UInt8 := dkwX0_saves_0 ++ dktX0_saves_1
theorem dksX0_saves_0 : cX0_saves.data.toList.drop 0 = dktX0_saves_0 := by decide +kernel
theorem dksX0_saves_1 : cX0_saves.data.toList.drop 23 = dktX0_saves_1 := dk_seg dksX0_saves_0 23 rfl rfl
theorem dX0_saves_0 : decode cX0_saves 0 = .ok (.aload 4, 2) := dk_25 4 (dk_at dksX0_saves_0 0 rfl rfl)
theorem dX0_saves_2 : decode cX0_saves 2 = .ok (.iconst 0, 1) := dk_3 (dk_at dksX0_saves_0 2 rfl rfl)
theorem dX0_saves_3 : decode cX0_saves 3 = .ok (.aload_n 0, 1) := dk_42 (dk_at dksX0_saves_0 3 rfl rfl)
theorem dX0_saves_4 : decode cX0_saves 4 = .ok (.iload_n 1, 1) := dk_27 (dk_at dksX0_saves_0 4 rfl rfl)
theorem dX0_saves_5 : decode cX0_saves 5 = .ok (.iload_n 2, 1) := dk_28 (dk_at dksX0_saves_0 5 rfl rfl)
theorem dX0_saves_6 : decode cX0_saves 6 = .ok (.iload_n 3, 1) := dk_29 (dk_at dksX0_saves_0 6 rfl rfl)
theorem dX0_saves_7 : decode cX0_saves 7 = .ok (.invokevirtual 66, 3) := dk_182 0 66 (dk_at dksX0_saves_0 7 rfl rfl)
theorem dX0_saves_10 : decode cX0_saves 10 = .ok (.i2l, 1) := dk_133 (dk_at dksX0_saves_0 10 rfl rfl)
theorem dX0_saves_11 : decode cX0_saves 11 = .ok (.lastore, 1) := dk_80 (dk_at dksX0_saves_0 11 rfl rfl)
theorem dX0_saves_12 : decode cX0_saves 12 = .ok (.goto 19, 3) := dk_167 0 19 (dk_at dksX0_saves_0 12 rfl rfl)
theorem dX0_saves_15 : decode cX0_saves 15 = .ok (.astore 5, 2) := dk_58 5 (dk_at dksX0_saves_0 15 rfl rfl)
theorem dX0_saves_17 : decode cX0_saves 17 = .ok (.iconst 1, 1) := dk_4 (dk_at dksX0_saves_0 17 rfl rfl)
theorem dX0_saves_18 : decode cX0_saves 18 = .ok (.ireturn, 1) := dk_172 (dk_at dksX0_saves_0 18 rfl rfl)
theorem dX0_saves_19 : decode cX0_saves 19 = .ok (.astore 5, 2) := dk_58 5 (dk_at dksX0_saves_0 19 rfl rfl)
theorem dX0_saves_21 : decode cX0_saves 21 = .ok (.iconst 2, 1) := dk_5 (dk_at dksX0_saves_0 21 rfl rfl)
theorem dX0_saves_22 : decode cX0_saves 22 = .ok (.ireturn, 1) := dk_172 (dk_at dksX0_saves_0 22 rfl rfl)
theorem dX0_saves_23 : decode cX0_saves 23 = .ok (.astore 5, 2) := dk_58 5 (dk_at dksX0_saves_1 0 rfl rfl)
theorem dX0_saves_25 : decode cX0_saves 25 = .ok (.iconst 3, 1) := dk_6 (dk_at dksX0_saves_1 2 rfl rfl)
theorem dX0_saves_26 : decode cX0_saves 26 = .ok (.ireturn, 1) := dk_172 (dk_at dksX0_saves_1 3 rfl rfl)
theorem dX0_saves_27 : decode cX0_saves 27 = .ok (.astore 5, 2) := dk_58 5 (dk_at dksX0_saves_1 4 rfl rfl)
theorem dX0_saves_29 : decode cX0_saves 29 = .ok (.iconst 4, 1) := dk_7 (dk_at dksX0_saves_1 6 rfl rfl)
theorem dX0_saves_30 : decode cX0_saves 30 = .ok (.ireturn, 1) := dk_172 (dk_at dksX0_saves_1 7 rfl rfl)
theorem dX0_saves_31 : decode cX0_saves 31 = .ok (.iconst 0, 1) := dk_3 (dk_at dksX0_saves_1 8 rfl rfl)
theorem dX0_saves_32 : decode cX0_saves 32 = .ok (.ireturn, 1) := dk_172 (dk_at dksX0_saves_1 9 rfl rfl)
abbrev cX0_worth : ByteArray := method_17_code
def yX0_worth : MethodName := ⟨RX0, "worth", "(LChaseCourt;III[J)I"⟩
def dkwX0_worth_1 : List UInt8 := [58, 5, 6, 172, 3, 172]
abbrev dktX0_worth_1 : List UInt8 := dkwX0_worth_1 ++ []
def dkwX0_worth_0 : List UInt8 := [25, 4, 3, 42, 27, 28, 29, 182, 0, 69, 133, 80, 167, 0, 15, 58, 5, 4, 172, 58, 5, 5, 172]
abbrev dktX0_worth_0 : List UInt8 := dkwX0_worth_0 ++ dktX0_worth_1
theorem dksX0_worth_0 : cX0_worth.data.toList.drop 0 = dktX0_worth_0 := by decide +kernel
theorem dksX0_worth_1 : cX0_worth.data.toList.drop 23 = dktX0_worth_1 := dk_seg dksX0_worth_0 23 rfl rfl
theorem dX0_worth_0 : decode cX0_worth 0 = .ok (.aload 4, 2) := dk_25 4 (dk_at dksX0_worth_0 0 rfl rfl)
theorem dX0_worth_2 : decode cX0_worth 2 = .ok (.iconst 0, 1) := dk_3 (dk_at dksX0_worth_0 2 rfl rfl)
theorem dX0_worth_3 : decode cX0_worth 3 = .ok (.aload_n 0, 1) := dk_42 (dk_at dksX0_worth_0 3 rfl rfl)
theorem dX0_worth_4 : decode cX0_worth 4 = .ok (.iload_n 1, 1) := dk_27 (dk_at dksX0_worth_0 4 rfl rfl)
theorem dX0_worth_5 : decode cX0_worth 5 = .ok (.iload_n 2, 1) := dk_28 (dk_at dksX0_worth_0 5 rfl rfl)
theorem dX0_worth_6 : decode cX0_worth 6 = .ok (.iload_n 3, 1) := dk_29 (dk_at dksX0_worth_0 6 rfl rfl)
theorem dX0_worth_7 : decode cX0_worth 7 = .ok (.invokevirtual 69, 3) := dk_182 0 69 (dk_at dksX0_worth_0 7 rfl rfl)
theorem dX0_worth_10 : decode cX0_worth 10 = .ok (.i2l, 1) := dk_133 (dk_at dksX0_worth_0 10 rfl rfl)
theorem dX0_worth_11 : decode cX0_worth 11 = .ok (.lastore, 1) := dk_80 (dk_at dksX0_worth_0 11 rfl rfl)
theorem dX0_worth_12 : decode cX0_worth 12 = .ok (.goto 15, 3) := dk_167 0 15 (dk_at dksX0_worth_0 12 rfl rfl)
theorem dX0_worth_15 : decode cX0_worth 15 = .ok (.astore 5, 2) := dk_58 5 (dk_at dksX0_worth_0 15 rfl rfl)
theorem dX0_worth_17 : decode cX0_worth 17 = .ok (.iconst 1, 1) := dk_4 (dk_at dksX0_worth_0 17 rfl rfl)
theorem dX0_worth_18 : decode cX0_worth 18 = .ok (.ireturn, 1) := dk_172 (dk_at dksX0_worth_0 18 rfl rfl)
theorem dX0_worth_19 : decode cX0_worth 19 = .ok (.astore 5, 2) := dk_58 5 (dk_at dksX0_worth_0 19 rfl rfl)
theorem dX0_worth_21 : decode cX0_worth 21 = .ok (.iconst 2, 1) := dk_5 (dk_at dksX0_worth_0 21 rfl rfl)
theorem dX0_worth_22 : decode cX0_worth 22 = .ok (.ireturn, 1) := dk_172 (dk_at dksX0_worth_0 22 rfl rfl)
theorem dX0_worth_23 : decode cX0_worth 23 = .ok (.astore 5, 2) := dk_58 5 (dk_at dksX0_worth_1 0 rfl rfl)
theorem dX0_worth_25 : decode cX0_worth 25 = .ok (.iconst 3, 1) := dk_6 (dk_at dksX0_worth_1 2 rfl rfl)
theorem dX0_worth_26 : decode cX0_worth 26 = .ok (.ireturn, 1) := dk_172 (dk_at dksX0_worth_1 3 rfl rfl)
theorem dX0_worth_27 : decode cX0_worth 27 = .ok (.iconst 0, 1) := dk_3 (dk_at dksX0_worth_1 4 rfl rfl)
theorem dX0_worth_28 : decode cX0_worth 28 = .ok (.ireturn, 1) := dk_172 (dk_at dksX0_worth_1 5 rfl rfl)
abbrev cX0_set : ByteArray := method_18_code
def yX0_set : MethodName := ⟨RX0, "set", "(LChaseCourt;II[J)I"⟩
def dkwX0_set_1 : List UInt8 := [172, 3, 172]
abbrev dktX0_set_1 : List UInt8 := dkwX0_set_1 ++ []
def dkwX0_set_0 : List UInt8 := [45, 3, 42, 27, 28, 182, 0, 72, 133, 80, 167, 0, 15, 58, 4, 4, 172, 58, 4, 5, 172, 58, 4, 6]
abbrev dktX0_set_0 : List UInt8 := dkwX0_set_0 ++ dktX0_set_1
theorem dksX0_set_0 : cX0_set.data.toList.drop 0 = dktX0_set_0 := by decide +kernel
theorem dksX0_set_1 : cX0_set.data.toList.drop 24 = dktX0_set_1 := dk_seg dksX0_set_0 24 rfl rfl
theorem dX0_set_0 : decode cX0_set 0 = .ok (.aload_n 3, 1) := dk_45 (dk_at dksX0_set_0 0 rfl rfl)
theorem dX0_set_1 : decode cX0_set 1 = .ok (.iconst 0, 1) := dk_3 (dk_at dksX0_set_0 1 rfl rfl)
theorem dX0_set_2 : decode cX0_set 2 = .ok (.aload_n 0, 1) := dk_42 (dk_at dksX0_set_0 2 rfl rfl)
theorem dX0_set_3 : decode cX0_set 3 = .ok (.iload_n 1, 1) := dk_27 (dk_at dksX0_set_0 3 rfl rfl)
theorem dX0_set_4 : decode cX0_set 4 = .ok (.iload_n 2, 1) := dk_28 (dk_at dksX0_set_0 4 rfl rfl)
theorem dX0_set_5 : decode cX0_set 5 = .ok (.invokevirtual 72, 3) := dk_182 0 72 (dk_at dksX0_set_0 5 rfl rfl)
theorem dX0_set_8 : decode cX0_set 8 = .ok (.i2l, 1) := dk_133 (dk_at dksX0_set_0 8 rfl rfl)
theorem dX0_set_9 : decode cX0_set 9 = .ok (.lastore, 1) := dk_80 (dk_at dksX0_set_0 9 rfl rfl)
theorem dX0_set_10 : decode cX0_set 10 = .ok (.goto 15, 3) := dk_167 0 15 (dk_at dksX0_set_0 10 rfl rfl)
theorem dX0_set_13 : decode cX0_set 13 = .ok (.astore 4, 2) := dk_58 4 (dk_at dksX0_set_0 13 rfl rfl)
theorem dX0_set_15 : decode cX0_set 15 = .ok (.iconst 1, 1) := dk_4 (dk_at dksX0_set_0 15 rfl rfl)
theorem dX0_set_16 : decode cX0_set 16 = .ok (.ireturn, 1) := dk_172 (dk_at dksX0_set_0 16 rfl rfl)
theorem dX0_set_17 : decode cX0_set 17 = .ok (.astore 4, 2) := dk_58 4 (dk_at dksX0_set_0 17 rfl rfl)
theorem dX0_set_19 : decode cX0_set 19 = .ok (.iconst 2, 1) := dk_5 (dk_at dksX0_set_0 19 rfl rfl)
theorem dX0_set_20 : decode cX0_set 20 = .ok (.ireturn, 1) := dk_172 (dk_at dksX0_set_0 20 rfl rfl)
theorem dX0_set_21 : decode cX0_set 21 = .ok (.astore 4, 2) := dk_58 4 (dk_at dksX0_set_0 21 rfl rfl)
theorem dX0_set_23 : decode cX0_set 23 = .ok (.iconst 3, 1) := dk_6 (dk_at dksX0_set_0 23 rfl rfl)
theorem dX0_set_24 : decode cX0_set 24 = .ok (.ireturn, 1) := dk_172 (dk_at dksX0_set_1 0 rfl rfl)
theorem dX0_set_25 : decode cX0_set 25 = .ok (.iconst 0, 1) := dk_3 (dk_at dksX0_set_1 1 rfl rfl)
theorem dX0_set_26 : decode cX0_set 26 = .ok (.ireturn, 1) := dk_172 (dk_at dksX0_set_1 2 rfl rfl)
abbrev cX0_ways : ByteArray := method_19_code
def yX0_ways : MethodName := ⟨RX0, "ways", "(LChaseCourt;IIII[J)I"⟩
def dkwX0_ways_1 : List UInt8 := [172, 3, 172]
abbrev dktX0_ways_1 : List UInt8 := dkwX0_ways_1 ++ []
def dkwX0_ways_0 : List UInt8 := [25, 5, 3, 42, 27, 28, 29, 21, 4, 182, 0, 75, 133, 80, 167, 0, 11, 58, 6, 4, 172, 58, 6, 5]
abbrev dktX0_ways_0 : List UInt8 := dkwX0_ways_0 ++ dktX0_ways_1
theorem dksX0_ways_0 : cX0_ways.data.toList.drop 0 = dktX0_ways_0 := by decide +kernel
theorem dksX0_ways_1 : cX0_ways.data.toList.drop 24 = dktX0_ways_1 := dk_seg dksX0_ways_0 24 rfl rfl
theorem dX0_ways_0 : decode cX0_ways 0 = .ok (.aload 5, 2) := dk_25 5 (dk_at dksX0_ways_0 0 rfl rfl)
theorem dX0_ways_2 : decode cX0_ways 2 = .ok (.iconst 0, 1) := dk_3 (dk_at dksX0_ways_0 2 rfl rfl)
theorem dX0_ways_3 : decode cX0_ways 3 = .ok (.aload_n 0, 1) := dk_42 (dk_at dksX0_ways_0 3 rfl rfl)
theorem dX0_ways_4 : decode cX0_ways 4 = .ok (.iload_n 1, 1) := dk_27 (dk_at dksX0_ways_0 4 rfl rfl)
theorem dX0_ways_5 : decode cX0_ways 5 = .ok (.iload_n 2, 1) := dk_28 (dk_at dksX0_ways_0 5 rfl rfl)
theorem dX0_ways_6 : decode cX0_ways 6 = .ok (.iload_n 3, 1) := dk_29 (dk_at dksX0_ways_0 6 rfl rfl)
theorem dX0_ways_7 : decode cX0_ways 7 = .ok (.iload 4, 2) := dk_21 4 (dk_at dksX0_ways_0 7 rfl rfl)
theorem dX0_ways_9 : decode cX0_ways 9 = .ok (.invokevirtual 75, 3) := dk_182 0 75 (dk_at dksX0_ways_0 9 rfl rfl)
theorem dX0_ways_12 : decode cX0_ways 12 = .ok (.i2l, 1) := dk_133 (dk_at dksX0_ways_0 12 rfl rfl)
theorem dX0_ways_13 : decode cX0_ways 13 = .ok (.lastore, 1) := dk_80 (dk_at dksX0_ways_0 13 rfl rfl)
theorem dX0_ways_14 : decode cX0_ways 14 = .ok (.goto 11, 3) := dk_167 0 11 (dk_at dksX0_ways_0 14 rfl rfl)
theorem dX0_ways_17 : decode cX0_ways 17 = .ok (.astore 6, 2) := dk_58 6 (dk_at dksX0_ways_0 17 rfl rfl)
theorem dX0_ways_19 : decode cX0_ways 19 = .ok (.iconst 1, 1) := dk_4 (dk_at dksX0_ways_0 19 rfl rfl)
theorem dX0_ways_20 : decode cX0_ways 20 = .ok (.ireturn, 1) := dk_172 (dk_at dksX0_ways_0 20 rfl rfl)
theorem dX0_ways_21 : decode cX0_ways 21 = .ok (.astore 6, 2) := dk_58 6 (dk_at dksX0_ways_0 21 rfl rfl)
theorem dX0_ways_23 : decode cX0_ways 23 = .ok (.iconst 2, 1) := dk_5 (dk_at dksX0_ways_0 23 rfl rfl)
theorem dX0_ways_24 : decode cX0_ways 24 = .ok (.ireturn, 1) := dk_172 (dk_at dksX0_ways_1 0 rfl rfl)
theorem dX0_ways_25 : decode cX0_ways 25 = .ok (.iconst 0, 1) := dk_3 (dk_at dksX0_ways_1 1 rfl rfl)
theorem dX0_ways_26 : decode cX0_ways 26 = .ok (.ireturn, 1) := dk_172 (dk_at dksX0_ways_1 2 rfl rfl)
abbrev cX0_even : ByteArray := method_20_code
def yX0_even : MethodName := ⟨RX0, "even", "(LChaseCourt;II[J)I"⟩
def dkwX0_even_0 : List UInt8 := [45, 3, 42, 27, 28, 182, 0, 79, 133, 80, 167, 0, 7, 58, 4, 4, 172, 3, 172]
abbrev dktX0_even_0 : List UInt8 := dkwX0_even_0 ++ []
theorem dksX0_even_0 : cX0_even.data.toList.drop 0 = dktX0_even_0 := by decide +kernel
theorem dX0_even_0 : decode cX0_even 0 = .ok (.aload_n 3, 1) := dk_45 (dk_at dksX0_even_0 0 rfl rfl)
theorem dX0_even_1 : decode cX0_even 1 = .ok (.iconst 0, 1) := dk_3 (dk_at dksX0_even_0 1 rfl rfl)
theorem dX0_even_2 : decode cX0_even 2 = .ok (.aload_n 0, 1) := dk_42 (dk_at dksX0_even_0 2 rfl rfl)
theorem dX0_even_3 : decode cX0_even 3 = .ok (.iload_n 1, 1) := dk_27 (dk_at dksX0_even_0 3 rfl rfl)
theorem dX0_even_4 : decode cX0_even 4 = .ok (.iload_n 2, 1) := dk_28 (dk_at dksX0_even_0 4 rfl rfl)
theorem dX0_even_5 : decode cX0_even 5 = .ok (.invokevirtual 79, 3) := dk_182 0 79 (dk_at dksX0_even_0 5 rfl rfl)
theorem dX0_even_8 : decode cX0_even 8 = .ok (.i2l, 1) := dk_133 (dk_at dksX0_even_0 8 rfl rfl)
theorem dX0_even_9 : decode cX0_even 9 = .ok (.lastore, 1) := dk_80 (dk_at dksX0_even_0 9 rfl rfl)
theorem dX0_even_10 : decode cX0_even 10 = .ok (.goto 7, 3) := dk_167 0 7 (dk_at dksX0_even_0 10 rfl rfl)
theorem dX0_even_13 : decode cX0_even 13 = .ok (.astore 4, 2) := dk_58 4 (dk_at dksX0_even_0 13 rfl rfl)
theorem dX0_even_15 : decode cX0_even 15 = .ok (.iconst 1, 1) := dk_4 (dk_at dksX0_even_0 15 rfl rfl)
theorem dX0_even_16 : decode cX0_even 16 = .ok (.ireturn, 1) := dk_172 (dk_at dksX0_even_0 16 rfl rfl)
theorem dX0_even_17 : decode cX0_even 17 = .ok (.iconst 0, 1) := dk_3 (dk_at dksX0_even_0 17 rfl rfl)
theorem dX0_even_18 : decode cX0_even 18 = .ok (.ireturn, 1) := dk_172 (dk_at dksX0_even_0 18 rfl rfl)
abbrev cX0_log : ByteArray := method_21_code
def yX0_log : MethodName := ⟨RX0, "log", "(LChaseCourt;I[J)I"⟩
def dkwX0_log_0 : List UInt8 := [44, 3, 42, 27, 182, 0, 82, 133, 80, 167, 0, 12, 78, 4, 172, 78, 5, 172, 78, 6, 172, 3, 172]
abbrev dktX0_log_0 : List UInt8 := dkwX0_log_0 ++ []
theorem dksX0_log_0 : cX0_log.data.toList.drop 0 = dktX0_log_0 := by decide +kernel
theorem dX0_log_0 : decode cX0_log 0 = .ok (.aload_n 2, 1) := dk_44 (dk_at dksX0_log_0 0 rfl rfl)
theorem dX0_log_1 : decode cX0_log 1 = .ok (.iconst 0, 1) := dk_3 (dk_at dksX0_log_0 1 rfl rfl)
theorem dX0_log_2 : decode cX0_log 2 = .ok (.aload_n 0, 1) := dk_42 (dk_at dksX0_log_0 2 rfl rfl)
theorem dX0_log_3 : decode cX0_log 3 = .ok (.iload_n 1, 1) := dk_27 (dk_at dksX0_log_0 3 rfl rfl)
theorem dX0_log_4 : decode cX0_log 4 = .ok (.invokevirtual 82, 3) := dk_182 0 82 (dk_at dksX0_log_0 4 rfl rfl)
theorem dX0_log_7 : decode cX0_log 7 = .ok (.i2l, 1) := dk_133 (dk_at dksX0_log_0 7 rfl rfl)
theorem dX0_log_8 : decode cX0_log 8 = .ok (.lastore, 1) := dk_80 (dk_at dksX0_log_0 8 rfl rfl)
theorem dX0_log_9 : decode cX0_log 9 = .ok (.goto 12, 3) := dk_167 0 12 (dk_at dksX0_log_0 9 rfl rfl)
theorem dX0_log_12 : decode cX0_log 12 = .ok (.astore_n 3, 1) := dk_78 (dk_at dksX0_log_0 12 rfl rfl)
theorem dX0_log_13 : decode cX0_log 13 = .ok (.iconst 1, 1) := dk_4 (dk_at dksX0_log_0 13 rfl rfl)
theorem dX0_log_14 : decode cX0_log 14 = .ok (.ireturn, 1) := dk_172 (dk_at dksX0_log_0 14 rfl rfl)
theorem dX0_log_15 : decode cX0_log 15 = .ok (.astore_n 3, 1) := dk_78 (dk_at dksX0_log_0 15 rfl rfl)
theorem dX0_log_16 : decode cX0_log 16 = .ok (.iconst 2, 1) := dk_5 (dk_at dksX0_log_0 16 rfl rfl)
theorem dX0_log_17 : decode cX0_log 17 = .ok (.ireturn, 1) := dk_172 (dk_at dksX0_log_0 17 rfl rfl)
theorem dX0_log_18 : decode cX0_log 18 = .ok (.astore_n 3, 1) := dk_78 (dk_at dksX0_log_0 18 rfl rfl)
theorem dX0_log_19 : decode cX0_log 19 = .ok (.iconst 3, 1) := dk_6 (dk_at dksX0_log_0 19 rfl rfl)
theorem dX0_log_20 : decode cX0_log 20 = .ok (.ireturn, 1) := dk_172 (dk_at dksX0_log_0 20 rfl rfl)
theorem dX0_log_21 : decode cX0_log 21 = .ok (.iconst 0, 1) := dk_3 (dk_at dksX0_log_0 21 rfl rfl)
theorem dX0_log_22 : decode cX0_log 22 = .ok (.ireturn, 1) := dk_172 (dk_at dksX0_log_0 22 rfl rfl)
abbrev cX0_mends : ByteArray := method_22_code
def yX0_mends : MethodName := ⟨RX0, "mends", "(LChaseCourt;IIIIZ[J)I"⟩
def dkwX0_mends_0 : List UInt8 := [25, 6, 3, 42, 27, 28, 29, 21, 4, 21, 5, 182, 0, 85, 80, 167, 0, 7, 58, 7, 4, 172, 3, 172]
abbrev dktX0_mends_0 : List UInt8 := dkwX0_mends_0 ++ []
theorem dksX0_mends_0 : cX0_mends.data.toList.drop 0 = dktX0_mends_0 := by decide +kernel
theorem dX0_mends_0 : decode cX0_mends 0 = .ok (.aload 6, 2) := dk_25 6 (dk_at dksX0_mends_0 0 rfl rfl)
theorem dX0_mends_2 : decode cX0_mends 2 = .ok (.iconst 0, 1) := dk_3 (dk_at dksX0_mends_0 2 rfl rfl)
theorem dX0_mends_3 : decode cX0_mends 3 = .ok (.aload_n 0, 1) := dk_42 (dk_at dksX0_mends_0 3 rfl rfl)
theorem dX0_mends_4 : decode cX0_mends 4 = .ok (.iload_n 1, 1) := dk_27 (dk_at dksX0_mends_0 4 rfl rfl)
theorem dX0_mends_5 : decode cX0_mends 5 = .ok (.iload_n 2, 1) := dk_28 (dk_at dksX0_mends_0 5 rfl rfl)
theorem dX0_mends_6 : decode cX0_mends 6 = .ok (.iload_n 3, 1) := dk_29 (dk_at dksX0_mends_0 6 rfl rfl)
theorem dX0_mends_7 : decode cX0_mends 7 = .ok (.iload 4, 2) := dk_21 4 (dk_at dksX0_mends_0 7 rfl rfl)
theorem dX0_mends_9 : decode cX0_mends 9 = .ok (.iload 5, 2) := dk_21 5 (dk_at dksX0_mends_0 9 rfl rfl)
theorem dX0_mends_11 : decode cX0_mends 11 = .ok (.invokevirtual 85, 3) := dk_182 0 85 (dk_at dksX0_mends_0 11 rfl rfl)
theorem dX0_mends_14 : decode cX0_mends 14 = .ok (.lastore, 1) := dk_80 (dk_at dksX0_mends_0 14 rfl rfl)
theorem dX0_mends_15 : decode cX0_mends 15 = .ok (.goto 7, 3) := dk_167 0 7 (dk_at dksX0_mends_0 15 rfl rfl)
theorem dX0_mends_18 : decode cX0_mends 18 = .ok (.astore 7, 2) := dk_58 7 (dk_at dksX0_mends_0 18 rfl rfl)
theorem dX0_mends_20 : decode cX0_mends 20 = .ok (.iconst 1, 1) := dk_4 (dk_at dksX0_mends_0 20 rfl rfl)
theorem dX0_mends_21 : decode cX0_mends 21 = .ok (.ireturn, 1) := dk_172 (dk_at dksX0_mends_0 21 rfl rfl)
theorem dX0_mends_22 : decode cX0_mends 22 = .ok (.iconst 0, 1) := dk_3 (dk_at dksX0_mends_0 22 rfl rfl)
theorem dX0_mends_23 : decode cX0_mends 23 = .ok (.ireturn, 1) := dk_172 (dk_at dksX0_mends_0 23 rfl rfl)
abbrev cX0_play : ByteArray := method_23_code
def yX0_play : MethodName := ⟨RX0, "play", "(LChaseCourt;III[J)I"⟩
def dkwX0_play_1 : List UInt8 := [172]
abbrev dktX0_play_1 : List UInt8 := dkwX0_play_1 ++ []
def dkwX0_play_0 : List UInt8 := [25, 4, 3, 42, 27, 28, 29, 182, 0, 89, 133, 80, 167, 0, 11, 58, 5, 4, 172, 58, 5, 5, 172, 3]
abbrev dktX0_play_0 : List UInt8 := dkwX0_play_0 ++ dktX0_play_1
theorem dksX0_play_0 : cX0_play.data.toList.drop 0 = dktX0_play_0 := by decide +kernel
theorem dksX0_play_1 : cX0_play.data.toList.drop 24 = dktX0_play_1 := dk_seg dksX0_play_0 24 rfl rfl
theorem dX0_play_0 : decode cX0_play 0 = .ok (.aload 4, 2) := dk_25 4 (dk_at dksX0_play_0 0 rfl rfl)
theorem dX0_play_2 : decode cX0_play 2 = .ok (.iconst 0, 1) := dk_3 (dk_at dksX0_play_0 2 rfl rfl)
theorem dX0_play_3 : decode cX0_play 3 = .ok (.aload_n 0, 1) := dk_42 (dk_at dksX0_play_0 3 rfl rfl)
theorem dX0_play_4 : decode cX0_play 4 = .ok (.iload_n 1, 1) := dk_27 (dk_at dksX0_play_0 4 rfl rfl)
theorem dX0_play_5 : decode cX0_play 5 = .ok (.iload_n 2, 1) := dk_28 (dk_at dksX0_play_0 5 rfl rfl)
theorem dX0_play_6 : decode cX0_play 6 = .ok (.iload_n 3, 1) := dk_29 (dk_at dksX0_play_0 6 rfl rfl)
theorem dX0_play_7 : decode cX0_play 7 = .ok (.invokevirtual 89, 3) := dk_182 0 89 (dk_at dksX0_play_0 7 rfl rfl)
theorem dX0_play_10 : decode cX0_play 10 = .ok (.i2l, 1) := dk_133 (dk_at dksX0_play_0 10 rfl rfl)
theorem dX0_play_11 : decode cX0_play 11 = .ok (.lastore, 1) := dk_80 (dk_at dksX0_play_0 11 rfl rfl)
theorem dX0_play_12 : decode cX0_play 12 = .ok (.goto 11, 3) := dk_167 0 11 (dk_at dksX0_play_0 12 rfl rfl)
theorem dX0_play_15 : decode cX0_play 15 = .ok (.astore 5, 2) := dk_58 5 (dk_at dksX0_play_0 15 rfl rfl)
theorem dX0_play_17 : decode cX0_play 17 = .ok (.iconst 1, 1) := dk_4 (dk_at dksX0_play_0 17 rfl rfl)
theorem dX0_play_18 : decode cX0_play 18 = .ok (.ireturn, 1) := dk_172 (dk_at dksX0_play_0 18 rfl rfl)
theorem dX0_play_19 : decode cX0_play 19 = .ok (.astore 5, 2) := dk_58 5 (dk_at dksX0_play_0 19 rfl rfl)
theorem dX0_play_21 : decode cX0_play 21 = .ok (.iconst 2, 1) := dk_5 (dk_at dksX0_play_0 21 rfl rfl)
theorem dX0_play_22 : decode cX0_play 22 = .ok (.ireturn, 1) := dk_172 (dk_at dksX0_play_0 22 rfl rfl)
theorem dX0_play_23 : decode cX0_play 23 = .ok (.iconst 0, 1) := dk_3 (dk_at dksX0_play_0 23 rfl rfl)
theorem dX0_play_24 : decode cX0_play 24 = .ok (.ireturn, 1) := dk_172 (dk_at dksX0_play_1 0 rfl rfl)
def zX1_court_m : zz_Sp := fun as M Q X => match as with
  | [.inr (.inr (some h_))] => bif Nat.beq h_ 100 && Nat.beq M.1.1 2 then (∃ (Q1_ : Option zv → zz_M → Prop) (X1_ : Nat → zz_M → Prop), zX1_court [vr 100] ((2, M.1.2), M.2.1, M.2.2.1, M.2.2.2) Q1_ X1_ ∧ (∀ r m, Q1_ r m → (∃ v : Int, r = some (vi v)) ∧ ∃ f' S' L' P', m = ((3, f'), S', L', P') ∧ f' 51 = (3, 1)) ∧ (∀ i m, X1_ i m → (i = 1 ∨ i = 2) ∧ ∃ f' S' L' P', m = ((2, f'), S', L', P')) ∧ (∀ (v_ : Int) (S_ L_ : Nat → Nat → Int) (P_ : Nat → Nat → Option Nat) (f_ : Nat → Nat × Nat), f_ 51 = (3, 1) → Q1_ (some (vi v_)) ((3, f_), S_, L_, P_) → Q (some (vi (nz v_))) ((3, f_), S_, L_, P_)) ∧ (∀ (S_ L_ : Nat → Nat → Int) (P_ : Nat → Nat → Option Nat) (f_ : Nat → Nat × Nat), X1_ 1 ((2, f_), S_, L_, P_) → X 1 ((2, f_), S_, L_, P_)) ∧ (∀ (S_ L_ : Nat → Nat → Int) (P_ : Nat → Nat → Option Nat) (f_ : Nat → Nat × Nat), X1_ 2 ((2, f_), S_, L_, P_) → X 2 ((2, f_), S_, L_, P_))) else False
  | _ => False

theorem zmX1_court_m (l : Launch) (hl : l.stackTraces = false) : mm_Spec l yX1_court (wsW_ yX1_court cX1_court 3 (some .int) [((15), (28), (31), (194))]) (mm_rm 12 342 28900) (zE zX1_court_m) := by
  rintro as M Q X ⟨as', M', Q', X', rfl, rfl, h, hQ, hX⟩
  obtain ⟨⟨t_, f⟩, S, L, P⟩ := M'
  unfold zX1_court_m at h
  split at h
  rotate_left
  · exact h.elim
  rename_i h_
  obtain ⟨e1_, e2_, h⟩ := mm_and2 h (fun q => q)
  cases mm_beq e1_
  cases mm_beq e2_
  try dsimp only at h
  obtain ⟨Q1, X1, hs, hf, hx, hg, x1, x2⟩ := h
  refine zmX1_court l hl _ _ _ _ ⟨_, _, Q1, X1, rfl, rfl, hs, fun r m q => ?_, fun i m E hE q => ?_⟩
  · obtain ⟨⟨v, rfl⟩, f', S', L', P', rfl, h51⟩ := hf r m q
    rw [nz_ev v]
    exact hQ _ _ (hg v S' L' P' f' h51 q)
  · obtain ⟨rfl | rfl, f', S', L', P', rfl⟩ := hx i m q
    · exact hX _ _ _ hE (x1 S' L' P' f' q)
    · exact hX _ _ _ hE (x2 S' L' P' f' q)
def zX0_court : zz_Sp := fun as M Q X => match as with
  | [.inr (.inr (some x)), .inr (.inr (some out))] => bif Nat.beq M.1.1 2 && Nat.beq x 100 && Nat.beq out 51 then (M.1.2 51 = (3, 1) ∧ ∃ (Q1_ : Option zv → zz_M → Prop) (X1_ : Nat → zz_M → Prop), zX1_court [vr 100] ((2, M.1.2), M.2.1, M.2.2.1, M.2.2.2) Q1_ X1_ ∧ (∀ r m, Q1_ r m → (∃ v : Int, r = some (vi v)) ∧ ∃ f' S' L' P', m = ((3, f'), S', L', P') ∧ f' 51 = (3, 1)) ∧ (∀ i m, X1_ i m → (i = 1 ∨ i = 2) ∧ ∃ f' S' L' P', m = ((2, f'), S', L', P')) ∧ (∀ (v_ : Int) (S_ L_ : Nat → Nat → Int) (P_ : Nat → Nat → Option Nat) (f_ : Nat → Nat × Nat), Q1_ (some (vi v_)) ((3, f_), S_, L_, P_) → Q (some (vi 0)) ((3, f_), S_, mm_up L_ 51 0 (nz v_), P_)) ∧ (∀ (S_ L_ : Nat → Nat → Int) (P_ : Nat → Nat → Option Nat) (f_ : Nat → Nat × Nat), X1_ 1 ((2, f_), S_, L_, P_) → Q (some (vi 1)) ((2, f_), S_, L_, P_)) ∧ (∀ (S_ L_ : Nat → Nat → Int) (P_ : Nat → Nat → Option Nat) (f_ : Nat → Nat × Nat), X1_ 2 ((2, f_), S_, L_, P_) → Q (some (vi 2)) ((2, f_), S_, L_, P_))) else False
  | _ => False

theorem hcX0_court_3 : ∀ q ∈ ([(1, 12, 2), (2, 15, 2)] : mm_H), ∀ E, mm_ex[q.1]? = some E → mm_ct RX0 cX0_court 3 [((0), (8), (11), (13)), ((0), (8), (14), (15))] 3 E q.2.1 q.2.2 := by
  intro q hq E hE
  simp only [List.mem_cons, List.not_mem_nil, or_false] at hq
  rcases hq with rfl | rfl
  · cases hE
    exact ⟨[], ⟨0, 8, 11, 13⟩, [⟨0, 8, 14, 15⟩], rfl, fun z hz => absurd hz List.not_mem_nil, by decide, by decide, q598, q785, by decide, Or.inl ⟨2, rfl, dX0_court_11, rfl⟩, by decide⟩
  · cases hE
    exact ⟨[⟨0, 8, 11, 13⟩], ⟨0, 8, 14, 15⟩, [], rfl, fun z hz => by
      simp only [List.mem_cons, List.not_mem_nil, or_false] at hz
      rcases hz with rfl
      · exact Or.inr ⟨by decide, "java/lang/IllegalArgumentException", by decide, q598, by decide⟩, by decide, by decide, q599, q1093, by decide, Or.inl ⟨2, rfl, dX0_court_14, rfl⟩, by decide⟩
def zpX0_court : zz_P := [(0, zo_ald 1 1), (1, zo_c 2 (vi 0)), (2, zo_ald 3 0), (3, zo_cvLH (mm_rm 13 342 28900) 6 1 0 342 28900 [(1, 12, 2), (2, 15, 2)] zX1_court_m), (6, zo_i2l 7), (7, zo_lasp 8), (8, zo_goto 17), (12, zo_c 13 (vi 1)), (13, zo_iret), (15, zo_c 16 (vi 2)), (16, zo_iret), (17, zo_c 18 (vi 0)), (18, zo_iret)]
theorem ztX0_court {C : mm_C} (G : mm_G C RX0 cX0_court (some .int) 3 (mm_rm 13 342 28900)) (hhd : mm_hd C [((0), (8), (11), (13)), ((0), (8), (14), (15))]) : zz_OKs C zpX0_court :=
  ⟨zz_of (ok_aload_n G dX0_court_0 rfl rfl) (z_ald _ _),
   zz_of (ok_iconst G (v := 0) dX0_court_1 (by decide) rfl) (z_cn 2 0),
   zz_of (ok_aload_n G dX0_court_2 rfl rfl) (z_ald _ _),
   zz_of (ok_calvFWH G hhd (hs := [(1, 12, 2), (2, 15, 2)]) (pc := 3) hcX0_court_3 (zmX1_court_m _ G.hst) (RX1, TX1, 19) rfl q600 q601 q602 q82 q603 (by decide +kernel) ⟨Nat.le_of_ble_eq_true rfl, Nat.le_of_ble_eq_true rfl⟩ dX0_court_3 rfl) (z_cvLH _ _ _ _ _ _ _ _),
   zz_of (ok_i2l G dX0_court_6 rfl) (z_i2l _),
   zz_of (ok_last G dX0_court_7 rfl) (z_lasp _),
   zz_of (ok_goto G dX0_court_8 rfl) (z_goto _),
   zz_of (ok_iconst G (v := 1) dX0_court_12 (by decide) rfl) (z_cn 13 1),
   zz_of (ok_iret G dX0_court_13) (z_iret),
   zz_of (ok_iconst G (v := 2) dX0_court_15 (by decide) rfl) (z_cn 16 2),
   zz_of (ok_iret G dX0_court_16) (z_iret),
   zz_of (ok_iconst G (v := 0) dX0_court_17 (by decide) rfl) (z_cn 18 0),
   zz_of (ok_iret G dX0_court_18) (z_iret), trivial⟩

theorem zwX0_court_0 {Q : Option zv → zz_M → Prop} {X : Nat → zz_M → Prop} {f : Nat → Nat × Nat} {S L : Nat → Nat → Int} {P : Nat → Nat → Option Nat}  (h : (∃ (Q1_1 : Option zv → zz_M → Prop) (X1_1 : Nat → zz_M → Prop), zX1_court [vr 100] ((2, f), S, L, P) Q1_1 X1_1 ∧ (∀ r m, Q1_1 r m → (∃ v : Int, r = some (vi v)) ∧ ∃ f' S' L' P', m = ((3, f'), S', L', P') ∧ f' 51 = (3, 1)) ∧ (∀ i m, X1_1 i m → (i = 1 ∨ i = 2) ∧ ∃ f' S' L' P', m = ((2, f'), S', L', P')) ∧ (∀ (v_1 : Int) (S_1 L_1 : Nat → Nat → Int) (P_1 : Nat → Nat → Option Nat) (f_1 : Nat → Nat × Nat), f_1 51 = (3, 1) → Q1_1 (some (vi v_1)) ((3, f_1), S_1, L_1, P_1) → (R32 (nz v_1) ∧ (∃ n_ : Nat, zsh ((3, f_1), S_1, L_1, P_1) 51 = (3, n_) ∧ (n_ : Int) ≤ 2147483647 ∧ (0 ≤ (0 : Int) ∧ 0 < (n_ : Int)) ∧ (Q (some (vi 0)) ((3, f_1), S_1, mm_up L_1 51 ((0 : Int).toNat) (nz v_1), P_1))))) ∧ (∀ (S_1 L_1 : Nat → Nat → Int) (P_1 : Nat → Nat → Option Nat) (f_1 : Nat → Nat × Nat), X1_1 1 ((2, f_1), S_1, L_1, P_1) → (Q (some (vi 1)) ((2, f_1), S_1, L_1, P_1))) ∧ (∀ (S_1 L_1 : Nat → Nat → Int) (P_1 : Nat → Nat → Option Nat) (f_1 : Nat → Nat × Nat), X1_1 2 ((2, f_1), S_1, L_1, P_1) → (Q (some (vi 2)) ((2, f_1), S_1, L_1, P_1))))) : zz_J zpX0_court (zz_ret Q X 342 28900) 0 [some (vr 100), some (vr 51), none] [] ((2, f), S, L, P) (0, 0) := zz_J.go [] 400 h

theorem zmX0_court (l : Launch) (hl : l.stackTraces = false) : mm_Spec l yX0_court (wsW_ yX0_court cX0_court 3 (some .int) [((0), (8), (11), (13)), ((0), (8), (14), (15))]) (mm_rm 13 342 28900) (zE zX0_court) := by
  refine zz_Met.JHN hl (by decide) (fun C G hhd => ztX0_court G hhd) ?_
  rintro as ⟨⟨t_, f⟩, S, L, P⟩ Q X h
  unfold zX0_court at h
  split at h
  rotate_left
  · exact h.elim
  rename_i x out
  obtain ⟨e12_, e3_, h⟩ := mm_and2 h (fun q => q)
  rw [Bool.and_eq_true] at e12_
  cases mm_beq e12_.1
  cases mm_beq e12_.2
  cases mm_beq e3_
  try dsimp only at h
  refine ⟨rfl, ?_⟩
  obtain ⟨h51, Q1, X1, hs, hf, hx, hg, x1, x2⟩ := h
  exact zwX0_court_0 ⟨Q1, X1, hs, hf, hx, fun v S' L' P' f' h5 q => ⟨nz_R v, 1, h5, by decide, by decide, hg v S' L' P' f' q⟩, fun S' L' P' f' q => x1 S' L' P' f' q, fun S' L' P' f' q => x2 S' L' P' f' q⟩
def zX1_rule_m : zz_Sp := fun as M Q X => match as with
  | [.inr (.inr (some h_))] => bif Nat.beq h_ 100 && Nat.beq M.1.1 2 then (∃ (Q1_ : Option zv → zz_M → Prop) (X1_ : Nat → zz_M → Prop), zX1_rule [vr 100] ((2, M.1.2), M.2.1, M.2.2.1, M.2.2.2) Q1_ X1_ ∧ (∀ r m, Q1_ r m → (∃ v : Int, r = some (vi v)) ∧ ∃ f' S' L' P', m = ((2, f'), S', L', P') ∧ f' 51 = (3, 1)) ∧ (∀ i m, X1_ i m → (i = 1 ∨ i = 2) ∧ ∃ f' S' L' P', m = ((2, f'), S', L', P')) ∧ (∀ (v_ : Int) (S_ L_ : Nat → Nat → Int) (P_ : Nat → Nat → Option Nat) (f_ : Nat → Nat × Nat), f_ 51 = (3, 1) → Q1_ (some (vi v_)) ((2, f_), S_, L_, P_) → Q (some (vi (nz v_))) ((2, f_), S_, L_, P_)) ∧ (∀ (S_ L_ : Nat → Nat → Int) (P_ : Nat → Nat → Option Nat) (f_ : Nat → Nat × Nat), X1_ 1 ((2, f_), S_, L_, P_) → X 1 ((2, f_), S_, L_, P_)) ∧ (∀ (S_ L_ : Nat → Nat → Int) (P_ : Nat → Nat → Option Nat) (f_ : Nat → Nat × Nat), X1_ 2 ((2, f_), S_, L_, P_) → X 2 ((2, f_), S_, L_, P_))) else False
  | _ => False

theorem zmX1_rule_m (l : Launch) (hl : l.stackTraces = false) : mm_Spec l yX1_rule (wsW_ yX1_rule cX1_rule 3 (some .int) [((9), (22), (25), (194))]) (mm_rm 36 10110 57020) (zE zX1_rule_m) := by
  rintro as M Q X ⟨as', M', Q', X', rfl, rfl, h, hQ, hX⟩
  obtain ⟨⟨t_, f⟩, S, L, P⟩ := M'
  unfold zX1_rule_m at h
  split at h
  rotate_left
  · exact h.elim
  rename_i h_
  obtain ⟨e1_, e2_, h⟩ := mm_and2 h (fun q => q)
  cases mm_beq e1_
  cases mm_beq e2_
  try dsimp only at h
  obtain ⟨Q1, X1, hs, hf, hx, hg, x1, x2⟩ := h
  refine zmX1_rule l hl _ _ _ _ ⟨_, _, Q1, X1, rfl, rfl, hs, fun r m q => ?_, fun i m E hE q => ?_⟩
  · obtain ⟨⟨v, rfl⟩, f', S', L', P', rfl, h51⟩ := hf r m q
    rw [nz_ev v]
    exact hQ _ _ (hg v S' L' P' f' h51 q)
  · obtain ⟨rfl | rfl, f', S', L', P', rfl⟩ := hx i m q
    · exact hX _ _ _ hE (x1 S' L' P' f' q)
    · exact hX _ _ _ hE (x2 S' L' P' f' q)
def zX0_rule : zz_Sp := fun as M Q X => match as with
  | [.inr (.inr (some x)), .inr (.inr (some out))] => bif Nat.beq M.1.1 2 && Nat.beq x 100 && Nat.beq out 51 then (M.1.2 51 = (3, 1) ∧ ∃ (Q1_ : Option zv → zz_M → Prop) (X1_ : Nat → zz_M → Prop), zX1_rule [vr 100] ((2, M.1.2), M.2.1, M.2.2.1, M.2.2.2) Q1_ X1_ ∧ (∀ r m, Q1_ r m → (∃ v : Int, r = some (vi v)) ∧ ∃ f' S' L' P', m = ((2, f'), S', L', P') ∧ f' 51 = (3, 1)) ∧ (∀ i m, X1_ i m → (i = 1 ∨ i = 2) ∧ ∃ f' S' L' P', m = ((2, f'), S', L', P')) ∧ (∀ (v_ : Int) (S_ L_ : Nat → Nat → Int) (P_ : Nat → Nat → Option Nat) (f_ : Nat → Nat × Nat), Q1_ (some (vi v_)) ((2, f_), S_, L_, P_) → Q (some (vi 0)) ((2, f_), S_, mm_up L_ 51 0 (nz v_), P_)) ∧ (∀ (S_ L_ : Nat → Nat → Int) (P_ : Nat → Nat → Option Nat) (f_ : Nat → Nat × Nat), X1_ 1 ((2, f_), S_, L_, P_) → Q (some (vi 1)) ((2, f_), S_, L_, P_)) ∧ (∀ (S_ L_ : Nat → Nat → Int) (P_ : Nat → Nat → Option Nat) (f_ : Nat → Nat × Nat), X1_ 2 ((2, f_), S_, L_, P_) → Q (some (vi 2)) ((2, f_), S_, L_, P_))) else False
  | _ => False

theorem hcX0_rule_3 : ∀ q ∈ ([(1, 12, 2), (2, 15, 2)] : mm_H), ∀ E, mm_ex[q.1]? = some E → mm_ct RX0 cX0_rule 3 [((0), (8), (11), (13)), ((0), (8), (14), (15))] 3 E q.2.1 q.2.2 := by
  intro q hq E hE
  simp only [List.mem_cons, List.not_mem_nil, or_false] at hq
  rcases hq with rfl | rfl
  · cases hE
    exact ⟨[], ⟨0, 8, 11, 13⟩, [⟨0, 8, 14, 15⟩], rfl, fun z hz => absurd hz List.not_mem_nil, by decide, by decide, q598, q785, by decide, Or.inl ⟨2, rfl, dX0_rule_11, rfl⟩, by decide⟩
  · cases hE
    exact ⟨[⟨0, 8, 11, 13⟩], ⟨0, 8, 14, 15⟩, [], rfl, fun z hz => by
      simp only [List.mem_cons, List.not_mem_nil, or_false] at hz
      rcases hz with rfl
      · exact Or.inr ⟨by decide, "java/lang/IllegalArgumentException", by decide, q598, by decide⟩, by decide, by decide, q599, q1093, by decide, Or.inl ⟨2, rfl, dX0_rule_14, rfl⟩, by decide⟩
def zpX0_rule : zz_P := [(0, zo_ald 1 1), (1, zo_c 2 (vi 0)), (2, zo_ald 3 0), (3, zo_cvLH (mm_rm 37 10110 57020) 6 1 0 10110 57020 [(1, 12, 2), (2, 15, 2)] zX1_rule_m), (6, zo_i2l 7), (7, zo_lasp 8), (8, zo_goto 17), (12, zo_c 13 (vi 1)), (13, zo_iret), (15, zo_c 16 (vi 2)), (16, zo_iret), (17, zo_c 18 (vi 0)), (18, zo_iret)]
theorem ztX0_rule {C : mm_C} (G : mm_G C RX0 cX0_rule (some .int) 3 (mm_rm 37 10110 57020)) (hhd : mm_hd C [((0), (8), (11), (13)), ((0), (8), (14), (15))]) : zz_OKs C zpX0_rule :=
  ⟨zz_of (ok_aload_n G dX0_rule_0 rfl rfl) (z_ald _ _),
   zz_of (ok_iconst G (v := 0) dX0_rule_1 (by decide) rfl) (z_cn 2 0),
   zz_of (ok_aload_n G dX0_rule_2 rfl rfl) (z_ald _ _),
   zz_of (ok_calvFWH G hhd (hs := [(1, 12, 2), (2, 15, 2)]) (pc := 3) hcX0_rule_3 (zmX1_rule_m _ G.hst) (RX1, TX1, 19) rfl q1109 q1110 q1111 q82 q1112 (by decide +kernel) ⟨Nat.le_of_ble_eq_true rfl, Nat.le_of_ble_eq_true rfl⟩ dX0_rule_3 rfl) (z_cvLH _ _ _ _ _ _ _ _),
   zz_of (ok_i2l G dX0_rule_6 rfl) (z_i2l _),
   zz_of (ok_last G dX0_rule_7 rfl) (z_lasp _),
   zz_of (ok_goto G dX0_rule_8 rfl) (z_goto _),
   zz_of (ok_iconst G (v := 1) dX0_rule_12 (by decide) rfl) (z_cn 13 1),
   zz_of (ok_iret G dX0_rule_13) (z_iret),
   zz_of (ok_iconst G (v := 2) dX0_rule_15 (by decide) rfl) (z_cn 16 2),
   zz_of (ok_iret G dX0_rule_16) (z_iret),
   zz_of (ok_iconst G (v := 0) dX0_rule_17 (by decide) rfl) (z_cn 18 0),
   zz_of (ok_iret G dX0_rule_18) (z_iret), trivial⟩

theorem zwX0_rule_0 {Q : Option zv → zz_M → Prop} {X : Nat → zz_M → Prop} {f : Nat → Nat × Nat} {S L : Nat → Nat → Int} {P : Nat → Nat → Option Nat}  (h : (∃ (Q1_1 : Option zv → zz_M → Prop) (X1_1 : Nat → zz_M → Prop), zX1_rule [vr 100] ((2, f), S, L, P) Q1_1 X1_1 ∧ (∀ r m, Q1_1 r m → (∃ v : Int, r = some (vi v)) ∧ ∃ f' S' L' P', m = ((2, f'), S', L', P') ∧ f' 51 = (3, 1)) ∧ (∀ i m, X1_1 i m → (i = 1 ∨ i = 2) ∧ ∃ f' S' L' P', m = ((2, f'), S', L', P')) ∧ (∀ (v_1 : Int) (S_1 L_1 : Nat → Nat → Int) (P_1 : Nat → Nat → Option Nat) (f_1 : Nat → Nat × Nat), f_1 51 = (3, 1) → Q1_1 (some (vi v_1)) ((2, f_1), S_1, L_1, P_1) → (R32 (nz v_1) ∧ (∃ n_ : Nat, zsh ((2, f_1), S_1, L_1, P_1) 51 = (3, n_) ∧ (n_ : Int) ≤ 2147483647 ∧ (0 ≤ (0 : Int) ∧ 0 < (n_ : Int)) ∧ (Q (some (vi 0)) ((2, f_1), S_1, mm_up L_1 51 ((0 : Int).toNat) (nz v_1), P_1))))) ∧ (∀ (S_1 L_1 : Nat → Nat → Int) (P_1 : Nat → Nat → Option Nat) (f_1 : Nat → Nat × Nat), X1_1 1 ((2, f_1), S_1, L_1, P_1) → (Q (some (vi 1)) ((2, f_1), S_1, L_1, P_1))) ∧ (∀ (S_1 L_1 : Nat → Nat → Int) (P_1 : Nat → Nat → Option Nat) (f_1 : Nat → Nat × Nat), X1_1 2 ((2, f_1), S_1, L_1, P_1) → (Q (some (vi 2)) ((2, f_1), S_1, L_1, P_1))))) : zz_J zpX0_rule (zz_ret Q X 10110 57020) 0 [some (vr 100), some (vr 51), none] [] ((2, f), S, L, P) (0, 0) := zz_J.go [] 400 h

theorem zmX0_rule (l : Launch) (hl : l.stackTraces = false) : mm_Spec l yX0_rule (wsW_ yX0_rule cX0_rule 3 (some .int) [((0), (8), (11), (13)), ((0), (8), (14), (15))]) (mm_rm 37 10110 57020) (zE zX0_rule) := by
  refine zz_Met.JHN hl (by decide) (fun C G hhd => ztX0_rule G hhd) ?_
  rintro as ⟨⟨t_, f⟩, S, L, P⟩ Q X h
  unfold zX0_rule at h
  split at h
  rotate_left
  · exact h.elim
  rename_i x out
  obtain ⟨e12_, e3_, h⟩ := mm_and2 h (fun q => q)
  rw [Bool.and_eq_true] at e12_
  cases mm_beq e12_.1
  cases mm_beq e12_.2
  cases mm_beq e3_
  try dsimp only at h
  refine ⟨rfl, ?_⟩
  obtain ⟨h51, Q1, X1, hs, hf, hx, hg, x1, x2⟩ := h
  exact zwX0_rule_0 ⟨Q1, X1, hs, hf, hx, fun v S' L' P' f' h5 q => ⟨nz_R v, 1, h5, by decide, by decide, hg v S' L' P' f' q⟩, fun S' L' P' f' q => x1 S' L' P' f' q, fun S' L' P' f' q => x2 S' L' P' f' q⟩
def zX1_look_m : zz_Sp := fun as M Q X => match as with
  | [.inr (.inr (some h_)), .inl a, .inl b, .inl c] => bif Nat.beq h_ 100 && Nat.beq M.1.1 2 then (∃ (Q1_ : Option zv → zz_M → Prop) (X1_ : Nat → zz_M → Prop), zX1_look [vr 100, vi a, vi b, vi c] ((2, M.1.2), M.2.1, M.2.2.1, M.2.2.2) Q1_ X1_ ∧ (∀ r m, Q1_ r m → (∃ v : Int, r = some (vi v)) ∧ ∃ f' S' L' P', m = ((2, f'), S', L', P') ∧ f' 51 = (3, 1)) ∧ (∀ i m, X1_ i m → (i = 3 ∨ i = 4) ∧ ∃ f' S' L' P', m = ((2, f'), S', L', P')) ∧ (∀ (v_ : Int) (S_ L_ : Nat → Nat → Int) (P_ : Nat → Nat → Option Nat) (f_ : Nat → Nat × Nat), f_ 51 = (3, 1) → Q1_ (some (vi v_)) ((2, f_), S_, L_, P_) → Q (some (vi (nz v_))) ((2, f_), S_, L_, P_)) ∧ (∀ (S_ L_ : Nat → Nat → Int) (P_ : Nat → Nat → Option Nat) (f_ : Nat → Nat × Nat), X1_ 3 ((2, f_), S_, L_, P_) → X 3 ((2, f_), S_, L_, P_)) ∧ (∀ (S_ L_ : Nat → Nat → Int) (P_ : Nat → Nat → Option Nat) (f_ : Nat → Nat × Nat), X1_ 4 ((2, f_), S_, L_, P_) → X 4 ((2, f_), S_, L_, P_))) else False
  | _ => False

theorem zmX1_look_m (l : Launch) (hl : l.stackTraces = false) : mm_Spec l yX1_look (ws_ yX1_look cX1_look 4 (some .int)) (mm_rm 8 3 18) (zE zX1_look_m) := by
  rintro as M Q X ⟨as', M', Q', X', rfl, rfl, h, hQ, hX⟩
  obtain ⟨⟨t_, f⟩, S, L, P⟩ := M'
  unfold zX1_look_m at h
  split at h
  rotate_left
  · exact h.elim
  rename_i h_ a b c
  obtain ⟨e1_, e2_, h⟩ := mm_and2 h (fun q => q)
  cases mm_beq e1_
  cases mm_beq e2_
  try dsimp only at h
  obtain ⟨Q1, X1, hs, hf, hx, hg, x3, x4⟩ := h
  refine zmX1_look l hl _ _ _ _ ⟨_, _, Q1, X1, rfl, rfl, hs, fun r m q => ?_, fun i m E hE q => ?_⟩
  · obtain ⟨⟨v, rfl⟩, f', S', L', P', rfl, h51⟩ := hf r m q
    rw [nz_ev v]
    exact hQ _ _ (hg v S' L' P' f' h51 q)
  · obtain ⟨rfl | rfl, f', S', L', P', rfl⟩ := hx i m q
    · exact hX _ _ _ hE (x3 S' L' P' f' q)
    · exact hX _ _ _ hE (x4 S' L' P' f' q)
def zX0_look : zz_Sp := fun as M Q X => match as with
  | [.inr (.inr (some x)), .inl a, .inl b, .inl c, .inr (.inr (some out))] => bif Nat.beq M.1.1 2 && Nat.beq x 100 && Nat.beq out 51 then (M.1.2 51 = (3, 1) ∧ ∃ (Q1_ : Option zv → zz_M → Prop) (X1_ : Nat → zz_M → Prop), zX1_look [vr 100, vi a, vi b, vi c] ((2, M.1.2), M.2.1, M.2.2.1, M.2.2.2) Q1_ X1_ ∧ (∀ r m, Q1_ r m → (∃ v : Int, r = some (vi v)) ∧ ∃ f' S' L' P', m = ((2, f'), S', L', P') ∧ f' 51 = (3, 1)) ∧ (∀ i m, X1_ i m → (i = 3 ∨ i = 4) ∧ ∃ f' S' L' P', m = ((2, f'), S', L', P')) ∧ (∀ (v_ : Int) (S_ L_ : Nat → Nat → Int) (P_ : Nat → Nat → Option Nat) (f_ : Nat → Nat × Nat), Q1_ (some (vi v_)) ((2, f_), S_, L_, P_) → Q (some (vi 0)) ((2, f_), S_, mm_up L_ 51 0 (nz v_), P_)) ∧ (∀ (S_ L_ : Nat → Nat → Int) (P_ : Nat → Nat → Option Nat) (f_ : Nat → Nat × Nat), X1_ 3 ((2, f_), S_, L_, P_) → Q (some (vi 1)) ((2, f_), S_, L_, P_)) ∧ (∀ (S_ L_ : Nat → Nat → Int) (P_ : Nat → Nat → Option Nat) (f_ : Nat → Nat × Nat), X1_ 4 ((2, f_), S_, L_, P_) → Q (some (vi 2)) ((2, f_), S_, L_, P_))) else False
  | _ => False

theorem hcX0_look_7 : ∀ q ∈ ([(3, 17, 5), (4, 21, 5)] : mm_H), ∀ E, mm_ex[q.1]? = some E → mm_ct RX0 cX0_look 6 [((0), (12), (15), (24)), ((0), (12), (19), (26))] 7 E q.2.1 q.2.2 := by
  intro q hq E hE
  simp only [List.mem_cons, List.not_mem_nil, or_false] at hq
  rcases hq with rfl | rfl
  · cases hE
    exact ⟨[], ⟨0, 12, 15, 24⟩, [⟨0, 12, 19, 26⟩], rfl, fun z hz => absurd hz List.not_mem_nil, by decide, by decide, q1299, q1329, by decide, Or.inr ⟨dX0_look_15, rfl⟩, by decide⟩
  · cases hE
    exact ⟨[⟨0, 12, 15, 24⟩], ⟨0, 12, 19, 26⟩, [], rfl, fun z hz => by
      simp only [List.mem_cons, List.not_mem_nil, or_false] at hz
      rcases hz with rfl
      · exact Or.inr ⟨by decide, "java/lang/IndexOutOfBoundsException", by decide, q1299, by decide⟩, by decide, by decide, q1318, q1347, by decide, Or.inr ⟨dX0_look_19, rfl⟩, by decide⟩
def zpX0_look : zz_P := [(0, zo_ald 2 4), (2, zo_c 3 (vi 0)), (3, zo_ald 4 0), (4, zo_ild 5 1), (5, zo_ild 6 2), (6, zo_ild 7 3), (7, zo_cvLH (mm_rm 9 3 18) 10 4 0 3 18 [(3, 17, 5), (4, 21, 5)] zX1_look_m), (10, zo_i2l 11), (11, zo_lasp 12), (12, zo_goto 23), (17, zo_c 18 (vi 1)), (18, zo_iret), (21, zo_c 22 (vi 2)), (22, zo_iret), (23, zo_c 24 (vi 0)), (24, zo_iret)]
theorem ztX0_look {C : mm_C} (G : mm_G C RX0 cX0_look (some .int) 6 (mm_rm 9 3 18)) (hhd : mm_hd C [((0), (12), (15), (24)), ((0), (12), (19), (26))]) : zz_OKs C zpX0_look :=
  ⟨zz_of (ok_aload G dX0_look_0 rfl) (z_ald _ _),
   zz_of (ok_iconst G (v := 0) dX0_look_2 (by decide) rfl) (z_cn 3 0),
   zz_of (ok_aload_n G dX0_look_3 rfl rfl) (z_ald _ _),
   zz_of (ok_iload_n G dX0_look_4 rfl rfl) (z_ild _ _),
   zz_of (ok_iload_n G dX0_look_5 rfl rfl) (z_ild _ _),
   zz_of (ok_iload_n G dX0_look_6 rfl rfl) (z_ild _ _),
   zz_of (ok_calvFH G hhd (hs := [(3, 17, 5), (4, 21, 5)]) (pc := 7) hcX0_look_7 (zmX1_look_m _ G.hst) (RX1, TX1, 19) rfl q1319 q1320 q1321 q82 q1322 (by decide +kernel) ⟨Nat.le_of_ble_eq_true rfl, Nat.le_of_ble_eq_true rfl⟩ dX0_look_7 rfl) (z_cvLH _ _ _ _ _ _ _ _),
   zz_of (ok_i2l G dX0_look_10 rfl) (z_i2l _),
   zz_of (ok_last G dX0_look_11 rfl) (z_lasp _),
   zz_of (ok_goto G dX0_look_12 rfl) (z_goto _),
   zz_of (ok_iconst G (v := 1) dX0_look_17 (by decide) rfl) (z_cn 18 1),
   zz_of (ok_iret G dX0_look_18) (z_iret),
   zz_of (ok_iconst G (v := 2) dX0_look_21 (by decide) rfl) (z_cn 22 2),
   zz_of (ok_iret G dX0_look_22) (z_iret),
   zz_of (ok_iconst G (v := 0) dX0_look_23 (by decide) rfl) (z_cn 24 0),
   zz_of (ok_iret G dX0_look_24) (z_iret), trivial⟩

theorem zwX0_look_0 {Q : Option zv → zz_M → Prop} {X : Nat → zz_M → Prop} {f : Nat → Nat × Nat} {S L : Nat → Nat → Int} {P : Nat → Nat → Option Nat} {a : Int} {b : Int} {c : Int} (h : (∃ (Q1_1 : Option zv → zz_M → Prop) (X1_1 : Nat → zz_M → Prop), zX1_look [vr 100, vi a, vi b, vi c] ((2, f), S, L, P) Q1_1 X1_1 ∧ (∀ r m, Q1_1 r m → (∃ v : Int, r = some (vi v)) ∧ ∃ f' S' L' P', m = ((2, f'), S', L', P') ∧ f' 51 = (3, 1)) ∧ (∀ i m, X1_1 i m → (i = 3 ∨ i = 4) ∧ ∃ f' S' L' P', m = ((2, f'), S', L', P')) ∧ (∀ (v_1 : Int) (S_1 L_1 : Nat → Nat → Int) (P_1 : Nat → Nat → Option Nat) (f_1 : Nat → Nat × Nat), f_1 51 = (3, 1) → Q1_1 (some (vi v_1)) ((2, f_1), S_1, L_1, P_1) → (R32 (nz v_1) ∧ (∃ n_ : Nat, zsh ((2, f_1), S_1, L_1, P_1) 51 = (3, n_) ∧ (n_ : Int) ≤ 2147483647 ∧ (0 ≤ (0 : Int) ∧ 0 < (n_ : Int)) ∧ (Q (some (vi 0)) ((2, f_1), S_1, mm_up L_1 51 ((0 : Int).toNat) (nz v_1), P_1))))) ∧ (∀ (S_1 L_1 : Nat → Nat → Int) (P_1 : Nat → Nat → Option Nat) (f_1 : Nat → Nat × Nat), X1_1 3 ((2, f_1), S_1, L_1, P_1) → (Q (some (vi 1)) ((2, f_1), S_1, L_1, P_1))) ∧ (∀ (S_1 L_1 : Nat → Nat → Int) (P_1 : Nat → Nat → Option Nat) (f_1 : Nat → Nat × Nat), X1_1 4 ((2, f_1), S_1, L_1, P_1) → (Q (some (vi 2)) ((2, f_1), S_1, L_1, P_1))))) : zz_J zpX0_look (zz_ret Q X 3 18) 0 [some (vr 100), some (vi a), some (vi b), some (vi c), some (vr 51), none] [] ((2, f), S, L, P) (0, 0) := zz_J.go [] 400 h

theorem zmX0_look (l : Launch) (hl : l.stackTraces = false) : mm_Spec l yX0_look (wsW_ yX0_look cX0_look 6 (some .int) [((0), (12), (15), (24)), ((0), (12), (19), (26))]) (mm_rm 9 3 18) (zE zX0_look) := by
  refine zz_Met.JHN hl (by decide) (fun C G hhd => ztX0_look G hhd) ?_
  rintro as ⟨⟨t_, f⟩, S, L, P⟩ Q X h
  unfold zX0_look at h
  split at h
  rotate_left
  · exact h.elim
  rename_i x a b c out
  obtain ⟨e12_, e3_, h⟩ := mm_and2 h (fun q => q)
  rw [Bool.and_eq_true] at e12_
  cases mm_beq e12_.1
  cases mm_beq e12_.2
  cases mm_beq e3_
  try dsimp only at h
  refine ⟨rfl, ?_⟩
  obtain ⟨h51, Q1, X1, hs, hf, hx, hg, x3, x4⟩ := h
  exact zwX0_look_0 ⟨Q1, X1, hs, hf, hx, fun v S' L' P' f' h5 q => ⟨nz_R v, 1, h5, by decide, by decide, hg v S' L' P' f' q⟩, fun S' L' P' f' q => x3 S' L' P' f' q, fun S' L' P' f' q => x4 S' L' P' f' q⟩
def zX1_plays_m : zz_Sp := fun as M Q X => match as with
  | [.inr (.inr (some h_)), .inl a, .inl b] => bif Nat.beq h_ 100 && Nat.beq M.1.1 2 then (∃ (Q1_ : Option zv → zz_M → Prop) (X1_ : Nat → zz_M → Prop), zX1_plays [vr 100, vi a, vi b] ((2, M.1.2), M.2.1, M.2.2.1, M.2.2.2) Q1_ X1_ ∧ (∀ r m, Q1_ r m → (∃ v : Int, r = some (vi v)) ∧ ∃ f' S' L' P', m = ((2, f'), S', L', P') ∧ f' 51 = (3, 1)) ∧ (∀ i m, X1_ i m → (i = 3) ∧ ∃ f' S' L' P', m = ((2, f'), S', L', P')) ∧ (∀ (v_ : Int) (S_ L_ : Nat → Nat → Int) (P_ : Nat → Nat → Option Nat) (f_ : Nat → Nat × Nat), f_ 51 = (3, 1) → Q1_ (some (vi v_)) ((2, f_), S_, L_, P_) → Q (some (vi (nz v_))) ((2, f_), S_, L_, P_)) ∧ (∀ (S_ L_ : Nat → Nat → Int) (P_ : Nat → Nat → Option Nat) (f_ : Nat → Nat × Nat), X1_ 3 ((2, f_), S_, L_, P_) → X 3 ((2, f_), S_, L_, P_))) else False
  | _ => False

theorem zmX1_plays_m (l : Launch) (hl : l.stackTraces = false) : mm_Spec l yX1_plays (ws_ yX1_plays cX1_plays 4 (some .int)) (mm_rm 8 2 12) (zE zX1_plays_m) := by
  rintro as M Q X ⟨as', M', Q', X', rfl, rfl, h, hQ, hX⟩
  obtain ⟨⟨t_, f⟩, S, L, P⟩ := M'
  unfold zX1_plays_m at h
  split at h
  rotate_left
  · exact h.elim
  rename_i h_ a b
  obtain ⟨e1_, e2_, h⟩ := mm_and2 h (fun q => q)
  cases mm_beq e1_
  cases mm_beq e2_
  try dsimp only at h
  obtain ⟨Q1, X1, hs, hf, hx, hg, x3⟩ := h
  refine zmX1_plays l hl _ _ _ _ ⟨_, _, Q1, X1, rfl, rfl, hs, fun r m q => ?_, fun i m E hE q => ?_⟩
  · obtain ⟨⟨v, rfl⟩, f', S', L', P', rfl, h51⟩ := hf r m q
    rw [nz_ev v]
    exact hQ _ _ (hg v S' L' P' f' h51 q)
  · obtain ⟨rfl, f', S', L', P', rfl⟩ := hx i m q
    exact hX _ _ _ hE (x3 S' L' P' f' q)
def zX0_plays : zz_Sp := fun as M Q X => match as with
  | [.inr (.inr (some x)), .inl a, .inl b, .inr (.inr (some out))] => bif Nat.beq M.1.1 2 && Nat.beq x 100 && Nat.beq out 51 then (M.1.2 51 = (3, 1) ∧ ∃ (Q1_ : Option zv → zz_M → Prop) (X1_ : Nat → zz_M → Prop), zX1_plays [vr 100, vi a, vi b] ((2, M.1.2), M.2.1, M.2.2.1, M.2.2.2) Q1_ X1_ ∧ (∀ r m, Q1_ r m → (∃ v : Int, r = some (vi v)) ∧ ∃ f' S' L' P', m = ((2, f'), S', L', P') ∧ f' 51 = (3, 1)) ∧ (∀ i m, X1_ i m → (i = 3) ∧ ∃ f' S' L' P', m = ((2, f'), S', L', P')) ∧ (∀ (v_ : Int) (S_ L_ : Nat → Nat → Int) (P_ : Nat → Nat → Option Nat) (f_ : Nat → Nat × Nat), Q1_ (some (vi v_)) ((2, f_), S_, L_, P_) → Q (some (vi 0)) ((2, f_), S_, mm_up L_ 51 0 (nz v_), P_)) ∧ (∀ (S_ L_ : Nat → Nat → Int) (P_ : Nat → Nat → Option Nat) (f_ : Nat → Nat × Nat), X1_ 3 ((2, f_), S_, L_, P_) → Q (some (vi 1)) ((2, f_), S_, L_, P_))) else False
  | _ => False

theorem hcX0_plays_5 : ∀ q ∈ ([(3, 15, 4)] : mm_H), ∀ E, mm_ex[q.1]? = some E → mm_ct RX0 cX0_plays 5 [((0), (10), (13), (24))] 5 E q.2.1 q.2.2 := by
  intro q hq E hE
  simp only [List.mem_cons, List.not_mem_nil, or_false] at hq
  rcases hq with rfl
  · cases hE
    exact ⟨[], ⟨0, 10, 13, 24⟩, [], rfl, fun z hz => absurd hz List.not_mem_nil, by decide, by decide, q1299, q1329, by decide, Or.inr ⟨dX0_plays_13, rfl⟩, by decide⟩
def zpX0_plays : zz_P := [(0, zo_ald 1 3), (1, zo_c 2 (vi 0)), (2, zo_ald 3 0), (3, zo_ild 4 1), (4, zo_ild 5 2), (5, zo_cvLH (mm_rm 9 2 12) 8 3 0 2 12 [(3, 15, 4)] zX1_plays_m), (8, zo_i2l 9), (9, zo_lasp 10), (10, zo_goto 17), (15, zo_c 16 (vi 1)), (16, zo_iret), (17, zo_c 18 (vi 0)), (18, zo_iret)]
theorem ztX0_plays {C : mm_C} (G : mm_G C RX0 cX0_plays (some .int) 5 (mm_rm 9 2 12)) (hhd : mm_hd C [((0), (10), (13), (24))]) : zz_OKs C zpX0_plays :=
  ⟨zz_of (ok_aload_n G dX0_plays_0 rfl rfl) (z_ald _ _),
   zz_of (ok_iconst G (v := 0) dX0_plays_1 (by decide) rfl) (z_cn 2 0),
   zz_of (ok_aload_n G dX0_plays_2 rfl rfl) (z_ald _ _),
   zz_of (ok_iload_n G dX0_plays_3 rfl rfl) (z_ild _ _),
   zz_of (ok_iload_n G dX0_plays_4 rfl rfl) (z_ild _ _),
   zz_of (ok_calvFH G hhd (hs := [(3, 15, 4)]) (pc := 5) hcX0_plays_5 (zmX1_plays_m _ G.hst) (RX1, TX1, 19) rfl q1363 q1364 q1365 q82 q1366 (by decide +kernel) ⟨Nat.le_of_ble_eq_true rfl, Nat.le_of_ble_eq_true rfl⟩ dX0_plays_5 rfl) (z_cvLH _ _ _ _ _ _ _ _),
   zz_of (ok_i2l G dX0_plays_8 rfl) (z_i2l _),
   zz_of (ok_last G dX0_plays_9 rfl) (z_lasp _),
   zz_of (ok_goto G dX0_plays_10 rfl) (z_goto _),
   zz_of (ok_iconst G (v := 1) dX0_plays_15 (by decide) rfl) (z_cn 16 1),
   zz_of (ok_iret G dX0_plays_16) (z_iret),
   zz_of (ok_iconst G (v := 0) dX0_plays_17 (by decide) rfl) (z_cn 18 0),
   zz_of (ok_iret G dX0_plays_18) (z_iret), trivial⟩

theorem zwX0_plays_0 {Q : Option zv → zz_M → Prop} {X : Nat → zz_M → Prop} {f : Nat → Nat × Nat} {S L : Nat → Nat → Int} {P : Nat → Nat → Option Nat} {a : Int} {b : Int} (h : (∃ (Q1_1 : Option zv → zz_M → Prop) (X1_1 : Nat → zz_M → Prop), zX1_plays [vr 100, vi a, vi b] ((2, f), S, L, P) Q1_1 X1_1 ∧ (∀ r m, Q1_1 r m → (∃ v : Int, r = some (vi v)) ∧ ∃ f' S' L' P', m = ((2, f'), S', L', P') ∧ f' 51 = (3, 1)) ∧ (∀ i m, X1_1 i m → (i = 3) ∧ ∃ f' S' L' P', m = ((2, f'), S', L', P')) ∧ (∀ (v_1 : Int) (S_1 L_1 : Nat → Nat → Int) (P_1 : Nat → Nat → Option Nat) (f_1 : Nat → Nat × Nat), f_1 51 = (3, 1) → Q1_1 (some (vi v_1)) ((2, f_1), S_1, L_1, P_1) → (R32 (nz v_1) ∧ (∃ n_ : Nat, zsh ((2, f_1), S_1, L_1, P_1) 51 = (3, n_) ∧ (n_ : Int) ≤ 2147483647 ∧ (0 ≤ (0 : Int) ∧ 0 < (n_ : Int)) ∧ (Q (some (vi 0)) ((2, f_1), S_1, mm_up L_1 51 ((0 : Int).toNat) (nz v_1), P_1))))) ∧ (∀ (S_1 L_1 : Nat → Nat → Int) (P_1 : Nat → Nat → Option Nat) (f_1 : Nat → Nat × Nat), X1_1 3 ((2, f_1), S_1, L_1, P_1) → (Q (some (vi 1)) ((2, f_1), S_1, L_1, P_1))))) : zz_J zpX0_plays (zz_ret Q X 2 12) 0 [some (vr 100), some (vi a), some (vi b), some (vr 51), none] [] ((2, f), S, L, P) (0, 0) := zz_J.go [] 400 h

theorem zmX0_plays (l : Launch) (hl : l.stackTraces = false) : mm_Spec l yX0_plays (wsW_ yX0_plays cX0_plays 5 (some .int) [((0), (10), (13), (24))]) (mm_rm 9 2 12) (zE zX0_plays) := by
  refine zz_Met.JHN hl (by decide) (fun C G hhd => ztX0_plays G hhd) ?_
  rintro as ⟨⟨t_, f⟩, S, L, P⟩ Q X h
  unfold zX0_plays at h
  split at h
  rotate_left
  · exact h.elim
  rename_i x a b out
  obtain ⟨e12_, e3_, h⟩ := mm_and2 h (fun q => q)
  rw [Bool.and_eq_true] at e12_
  cases mm_beq e12_.1
  cases mm_beq e12_.2
  cases mm_beq e3_
  try dsimp only at h
  refine ⟨rfl, ?_⟩
  obtain ⟨h51, Q1, X1, hs, hf, hx, hg, x3⟩ := h
  exact zwX0_plays_0 ⟨Q1, X1, hs, hf, hx, fun v S' L' P' f' h5 q => ⟨nz_R v, 1, h5, by decide, by decide, hg v S' L' P' f' q⟩, fun S' L' P' f' q => x3 S' L' P' f' q⟩
def zX1_style_m : zz_Sp := fun as M Q X => match as with
  | [.inr (.inr (some h_)), .inl a] => bif Nat.beq h_ 100 && Nat.beq M.1.1 2 then (∃ (Q1_ : Option zv → zz_M → Prop) (X1_ : Nat → zz_M → Prop), zX1_style [vr 100, vi a] ((2, M.1.2), M.2.1, M.2.2.1, M.2.2.2) Q1_ X1_ ∧ (∀ r m, Q1_ r m → (∃ v : Int, r = some (vi v)) ∧ ∃ f' S' L' P', m = ((2, f'), S', L', P') ∧ f' 51 = (3, 1)) ∧ (∀ i m, X1_ i m → (i = 3) ∧ ∃ f' S' L' P', m = ((2, f'), S', L', P')) ∧ (∀ (v_ : Int) (S_ L_ : Nat → Nat → Int) (P_ : Nat → Nat → Option Nat) (f_ : Nat → Nat × Nat), f_ 51 = (3, 1) → Q1_ (some (vi v_)) ((2, f_), S_, L_, P_) → Q (some (vi (nz v_))) ((2, f_), S_, L_, P_)) ∧ (∀ (S_ L_ : Nat → Nat → Int) (P_ : Nat → Nat → Option Nat) (f_ : Nat → Nat × Nat), X1_ 3 ((2, f_), S_, L_, P_) → X 3 ((2, f_), S_, L_, P_))) else False
  | _ => False

theorem zmX1_style_m (l : Launch) (hl : l.stackTraces = false) : mm_Spec l yX1_style (ws_ yX1_style cX1_style 2 (some .int)) (mm_rm 22 1 6) (zE zX1_style_m) := by
  rintro as M Q X ⟨as', M', Q', X', rfl, rfl, h, hQ, hX⟩
  obtain ⟨⟨t_, f⟩, S, L, P⟩ := M'
  unfold zX1_style_m at h
  split at h
  rotate_left
  · exact h.elim
  rename_i h_ a
  obtain ⟨e1_, e2_, h⟩ := mm_and2 h (fun q => q)
  cases mm_beq e1_
  cases mm_beq e2_
  try dsimp only at h
  obtain ⟨Q1, X1, hs, hf, hx, hg, x3⟩ := h
  refine zmX1_style l hl _ _ _ _ ⟨_, _, Q1, X1, rfl, rfl, hs, fun r m q => ?_, fun i m E hE q => ?_⟩
  · obtain ⟨⟨v, rfl⟩, f', S', L', P', rfl, h51⟩ := hf r m q
    rw [nz_ev v]
    exact hQ _ _ (hg v S' L' P' f' h51 q)
  · obtain ⟨rfl, f', S', L', P', rfl⟩ := hx i m q
    exact hX _ _ _ hE (x3 S' L' P' f' q)
def zX0_style : zz_Sp := fun as M Q X => match as with
  | [.inr (.inr (some x)), .inl a, .inr (.inr (some out))] => bif Nat.beq M.1.1 2 && Nat.beq x 100 && Nat.beq out 51 then (M.1.2 51 = (3, 1) ∧ ∃ (Q1_ : Option zv → zz_M → Prop) (X1_ : Nat → zz_M → Prop), zX1_style [vr 100, vi a] ((2, M.1.2), M.2.1, M.2.2.1, M.2.2.2) Q1_ X1_ ∧ (∀ r m, Q1_ r m → (∃ v : Int, r = some (vi v)) ∧ ∃ f' S' L' P', m = ((2, f'), S', L', P') ∧ f' 51 = (3, 1)) ∧ (∀ i m, X1_ i m → (i = 3) ∧ ∃ f' S' L' P', m = ((2, f'), S', L', P')) ∧ (∀ (v_ : Int) (S_ L_ : Nat → Nat → Int) (P_ : Nat → Nat → Option Nat) (f_ : Nat → Nat × Nat), Q1_ (some (vi v_)) ((2, f_), S_, L_, P_) → Q (some (vi 0)) ((2, f_), S_, mm_up L_ 51 0 (nz v_), P_)) ∧ (∀ (S_ L_ : Nat → Nat → Int) (P_ : Nat → Nat → Option Nat) (f_ : Nat → Nat × Nat), X1_ 3 ((2, f_), S_, L_, P_) → Q (some (vi 1)) ((2, f_), S_, L_, P_))) else False
  | _ => False

theorem hcX0_style_4 : ∀ q ∈ ([(3, 13, 3)] : mm_H), ∀ E, mm_ex[q.1]? = some E → mm_ct RX0 cX0_style 4 [((0), (9), (12), (24))] 4 E q.2.1 q.2.2 := by
  intro q hq E hE
  simp only [List.mem_cons, List.not_mem_nil, or_false] at hq
  rcases hq with rfl
  · cases hE
    exact ⟨[], ⟨0, 9, 12, 24⟩, [], rfl, fun z hz => absurd hz List.not_mem_nil, by decide, by decide, q1299, q1329, by decide, Or.inl ⟨3, rfl, dX0_style_12, rfl⟩, by decide⟩
def zpX0_style : zz_P := [(0, zo_ald 1 2), (1, zo_c 2 (vi 0)), (2, zo_ald 3 0), (3, zo_ild 4 1), (4, zo_cvLH (mm_rm 23 1 6) 7 2 0 1 6 [(3, 13, 3)] zX1_style_m), (7, zo_i2l 8), (8, zo_lasp 9), (9, zo_goto 15), (13, zo_c 14 (vi 1)), (14, zo_iret), (15, zo_c 16 (vi 0)), (16, zo_iret)]
theorem ztX0_style {C : mm_C} (G : mm_G C RX0 cX0_style (some .int) 4 (mm_rm 23 1 6)) (hhd : mm_hd C [((0), (9), (12), (24))]) : zz_OKs C zpX0_style :=
  ⟨zz_of (ok_aload_n G dX0_style_0 rfl rfl) (z_ald _ _),
   zz_of (ok_iconst G (v := 0) dX0_style_1 (by decide) rfl) (z_cn 2 0),
   zz_of (ok_aload_n G dX0_style_2 rfl rfl) (z_ald _ _),
   zz_of (ok_iload_n G dX0_style_3 rfl rfl) (z_ild _ _),
   zz_of (ok_calvFH G hhd (hs := [(3, 13, 3)]) (pc := 4) hcX0_style_4 (zmX1_style_m _ G.hst) (RX1, TX1, 19) rfl q1373 q1374 q1375 q82 q1376 (by decide +kernel) ⟨Nat.le_of_ble_eq_true rfl, Nat.le_of_ble_eq_true rfl⟩ dX0_style_4 rfl) (z_cvLH _ _ _ _ _ _ _ _),
   zz_of (ok_i2l G dX0_style_7 rfl) (z_i2l _),
   zz_of (ok_last G dX0_style_8 rfl) (z_lasp _),
   zz_of (ok_goto G dX0_style_9 rfl) (z_goto _),
   zz_of (ok_iconst G (v := 1) dX0_style_13 (by decide) rfl) (z_cn 14 1),
   zz_of (ok_iret G dX0_style_14) (z_iret),
   zz_of (ok_iconst G (v := 0) dX0_style_15 (by decide) rfl) (z_cn 16 0),
   zz_of (ok_iret G dX0_style_16) (z_iret), trivial⟩

theorem zwX0_style_0 {Q : Option zv → zz_M → Prop} {X : Nat → zz_M → Prop} {f : Nat → Nat × Nat} {S L : Nat → Nat → Int} {P : Nat → Nat → Option Nat} {a : Int} (h : (∃ (Q1_1 : Option zv → zz_M → Prop) (X1_1 : Nat → zz_M → Prop), zX1_style [vr 100, vi a] ((2, f), S, L, P) Q1_1 X1_1 ∧ (∀ r m, Q1_1 r m → (∃ v : Int, r = some (vi v)) ∧ ∃ f' S' L' P', m = ((2, f'), S', L', P') ∧ f' 51 = (3, 1)) ∧ (∀ i m, X1_1 i m → (i = 3) ∧ ∃ f' S' L' P', m = ((2, f'), S', L', P')) ∧ (∀ (v_1 : Int) (S_1 L_1 : Nat → Nat → Int) (P_1 : Nat → Nat → Option Nat) (f_1 : Nat → Nat × Nat), f_1 51 = (3, 1) → Q1_1 (some (vi v_1)) ((2, f_1), S_1, L_1, P_1) → (R32 (nz v_1) ∧ (∃ n_ : Nat, zsh ((2, f_1), S_1, L_1, P_1) 51 = (3, n_) ∧ (n_ : Int) ≤ 2147483647 ∧ (0 ≤ (0 : Int) ∧ 0 < (n_ : Int)) ∧ (Q (some (vi 0)) ((2, f_1), S_1, mm_up L_1 51 ((0 : Int).toNat) (nz v_1), P_1))))) ∧ (∀ (S_1 L_1 : Nat → Nat → Int) (P_1 : Nat → Nat → Option Nat) (f_1 : Nat → Nat × Nat), X1_1 3 ((2, f_1), S_1, L_1, P_1) → (Q (some (vi 1)) ((2, f_1), S_1, L_1, P_1))))) : zz_J zpX0_style (zz_ret Q X 1 6) 0 [some (vr 100), some (vi a), some (vr 51), none] [] ((2, f), S, L, P) (0, 0) := zz_J.go [] 400 h

theorem zmX0_style (l : Launch) (hl : l.stackTraces = false) : mm_Spec l yX0_style (wsW_ yX0_style cX0_style 4 (some .int) [((0), (9), (12), (24))]) (mm_rm 23 1 6) (zE zX0_style) := by
  refine zz_Met.JHN hl (by decide) (fun C G hhd => ztX0_style G hhd) ?_
  rintro as ⟨⟨t_, f⟩, S, L, P⟩ Q X h
  unfold zX0_style at h
  split at h
  rotate_left
  · exact h.elim
  rename_i x a out
  obtain ⟨e12_, e3_, h⟩ := mm_and2 h (fun q => q)
  rw [Bool.and_eq_true] at e12_
  cases mm_beq e12_.1
  cases mm_beq e12_.2
  cases mm_beq e3_
  try dsimp only at h
  refine ⟨rfl, ?_⟩
  obtain ⟨h51, Q1, X1, hs, hf, hx, hg, x3⟩ := h
  exact zwX0_style_0 ⟨Q1, X1, hs, hf, hx, fun v S' L' P' f' h5 q => ⟨nz_R v, 1, h5, by decide, by decide, hg v S' L' P' f' q⟩, fun S' L' P' f' q => x3 S' L' P' f' q⟩
def zX1_score_m : zz_Sp := fun as M Q X => match as with
  | [.inr (.inr (some h_)), .inl a, .inl b, .inl c] => bif Nat.beq h_ 100 && Nat.beq M.1.1 2 then (∃ (Q1_ : Option zv → zz_M → Prop) (X1_ : Nat → zz_M → Prop), zX1_score [vr 100, vi a, vi b, vi c] ((2, M.1.2), M.2.1, M.2.2.1, M.2.2.2) Q1_ X1_ ∧ (∀ r m, Q1_ r m → (r = none) ∧ ∃ f' S' L' P', m = ((2, f'), S', L', P')) ∧ (∀ i m, X1_ i m → (i = 3 ∨ i = 1) ∧ ∃ f' S' L' P', m = ((2, f'), S', L', P')) ∧ (∀ (S_ L_ : Nat → Nat → Int) (P_ : Nat → Nat → Option Nat) (f_ : Nat → Nat × Nat), Q1_ none ((2, f_), S_, L_, P_) → Q none ((2, f_), S_, L_, P_)) ∧ (∀ (S_ L_ : Nat → Nat → Int) (P_ : Nat → Nat → Option Nat) (f_ : Nat → Nat × Nat), X1_ 3 ((2, f_), S_, L_, P_) → X 3 ((2, f_), S_, L_, P_)) ∧ (∀ (S_ L_ : Nat → Nat → Int) (P_ : Nat → Nat → Option Nat) (f_ : Nat → Nat × Nat), X1_ 1 ((2, f_), S_, L_, P_) → X 1 ((2, f_), S_, L_, P_))) else False
  | _ => False

theorem zmX1_score_m (l : Launch) (hl : l.stackTraces = false) : mm_Spec l yX1_score (ws_ yX1_score cX1_score 5 none) (mm_rm 8 2 12) (zE zX1_score_m) := by
  rintro as M Q X ⟨as', M', Q', X', rfl, rfl, h, hQ, hX⟩
  obtain ⟨⟨t_, f⟩, S, L, P⟩ := M'
  unfold zX1_score_m at h
  split at h
  rotate_left
  · exact h.elim
  rename_i h_ a b c
  obtain ⟨e1_, e2_, h⟩ := mm_and2 h (fun q => q)
  cases mm_beq e1_
  cases mm_beq e2_
  try dsimp only at h
  obtain ⟨Q1, X1, hs, hf, hx, hg, x3, x1⟩ := h
  refine zmX1_score l hl _ _ _ _ ⟨_, _, Q1, X1, rfl, rfl, hs, fun r m q => ?_, fun i m E hE q => ?_⟩
  · obtain ⟨rfl, f', S', L', P', rfl⟩ := hf r m q
    exact hQ _ _ (hg S' L' P' f' q)
  · obtain ⟨rfl | rfl, f', S', L', P', rfl⟩ := hx i m q
    · exact hX _ _ _ hE (x3 S' L' P' f' q)
    · exact hX _ _ _ hE (x1 S' L' P' f' q)
def zX0_score : zz_Sp := fun as M Q X => match as with
  | [.inr (.inr (some x)), .inl a, .inl b, .inl c] => bif Nat.beq M.1.1 2 && Nat.beq x 100 then (∃ (Q1_ : Option zv → zz_M → Prop) (X1_ : Nat → zz_M → Prop), zX1_score [vr 100, vi a, vi b, vi c] ((2, M.1.2), M.2.1, M.2.2.1, M.2.2.2) Q1_ X1_ ∧ (∀ r m, Q1_ r m → (r = none) ∧ ∃ f' S' L' P', m = ((2, f'), S', L', P')) ∧ (∀ i m, X1_ i m → (i = 3 ∨ i = 1) ∧ ∃ f' S' L' P', m = ((2, f'), S', L', P')) ∧ (∀ (S_ L_ : Nat → Nat → Int) (P_ : Nat → Nat → Option Nat) (f_ : Nat → Nat × Nat), Q1_ none ((2, f_), S_, L_, P_) → Q (some (vi 0)) ((2, f_), S_, L_, P_)) ∧ (∀ (S_ L_ : Nat → Nat → Int) (P_ : Nat → Nat → Option Nat) (f_ : Nat → Nat × Nat), X1_ 3 ((2, f_), S_, L_, P_) → Q (some (vi 1)) ((2, f_), S_, L_, P_)) ∧ (∀ (S_ L_ : Nat → Nat → Int) (P_ : Nat → Nat → Option Nat) (f_ : Nat → Nat × Nat), X1_ 1 ((2, f_), S_, L_, P_) → Q (some (vi 2)) ((2, f_), S_, L_, P_))) else False
  | _ => False

theorem hcX0_score_4 : ∀ q ∈ ([(3, 12, 4), (1, 16, 4)] : mm_H), ∀ E, mm_ex[q.1]? = some E → mm_ct RX0 cX0_score 5 [((0), (7), (10), (24)), ((0), (7), (14), (13))] 4 E q.2.1 q.2.2 := by
  intro q hq E hE
  simp only [List.mem_cons, List.not_mem_nil, or_false] at hq
  rcases hq with rfl | rfl
  · cases hE
    exact ⟨[], ⟨0, 7, 10, 24⟩, [⟨0, 7, 14, 13⟩], rfl, fun z hz => absurd hz List.not_mem_nil, by decide, by decide, q1299, q1329, by decide, Or.inr ⟨dX0_score_10, rfl⟩, by decide⟩
  · cases hE
    exact ⟨[⟨0, 7, 10, 24⟩], ⟨0, 7, 14, 13⟩, [], rfl, fun z hz => by
      simp only [List.mem_cons, List.not_mem_nil, or_false] at hz
      rcases hz with rfl
      · exact Or.inr ⟨by decide, "java/lang/IndexOutOfBoundsException", by decide, q1299, by decide⟩, by decide, by decide, q598, q785, by decide, Or.inr ⟨dX0_score_14, rfl⟩, by decide⟩
def zpX0_score : zz_P := [(0, zo_ald 1 0), (1, zo_ild 2 1), (2, zo_ild 3 2), (3, zo_ild 4 3), (4, zo_cvLH (mm_rm 9 2 12) 7 4 0 2 12 [(3, 12, 4), (1, 16, 4)] zX1_score_m), (7, zo_goto 18), (12, zo_c 13 (vi 1)), (13, zo_iret), (16, zo_c 17 (vi 2)), (17, zo_iret), (18, zo_c 19 (vi 0)), (19, zo_iret)]
theorem ztX0_score {C : mm_C} (G : mm_G C RX0 cX0_score (some .int) 5 (mm_rm 9 2 12)) (hhd : mm_hd C [((0), (7), (10), (24)), ((0), (7), (14), (13))]) : zz_OKs C zpX0_score :=
  ⟨zz_of (ok_aload_n G dX0_score_0 rfl rfl) (z_ald _ _),
   zz_of (ok_iload_n G dX0_score_1 rfl rfl) (z_ild _ _),
   zz_of (ok_iload_n G dX0_score_2 rfl rfl) (z_ild _ _),
   zz_of (ok_iload_n G dX0_score_3 rfl rfl) (z_ild _ _),
   zz_of (ok_calvFH G hhd (hs := [(3, 12, 4), (1, 16, 4)]) (pc := 4) hcX0_score_4 (zmX1_score_m _ G.hst) (RX1, TX1, 19) rfl q1467 q1468 q1469 q82 q1470 (by decide +kernel) ⟨Nat.le_of_ble_eq_true rfl, Nat.le_of_ble_eq_true rfl⟩ dX0_score_4 rfl) (z_cvLH _ _ _ _ _ _ _ _),
   zz_of (ok_goto G dX0_score_7 rfl) (z_goto _),
   zz_of (ok_iconst G (v := 1) dX0_score_12 (by decide) rfl) (z_cn 13 1),
   zz_of (ok_iret G dX0_score_13) (z_iret),
   zz_of (ok_iconst G (v := 2) dX0_score_16 (by decide) rfl) (z_cn 17 2),
   zz_of (ok_iret G dX0_score_17) (z_iret),
   zz_of (ok_iconst G (v := 0) dX0_score_18 (by decide) rfl) (z_cn 19 0),
   zz_of (ok_iret G dX0_score_19) (z_iret), trivial⟩

theorem zwX0_score_0 {Q : Option zv → zz_M → Prop} {X : Nat → zz_M → Prop} {f : Nat → Nat × Nat} {S L : Nat → Nat → Int} {P : Nat → Nat → Option Nat} {a : Int} {b : Int} {c : Int} (h : (∃ (Q1_1 : Option zv → zz_M → Prop) (X1_1 : Nat → zz_M → Prop), zX1_score [vr 100, vi a, vi b, vi c] ((2, f), S, L, P) Q1_1 X1_1 ∧ (∀ r m, Q1_1 r m → (r = none) ∧ ∃ f' S' L' P', m = ((2, f'), S', L', P')) ∧ (∀ i m, X1_1 i m → (i = 3 ∨ i = 1) ∧ ∃ f' S' L' P', m = ((2, f'), S', L', P')) ∧ (∀ (S_1 L_1 : Nat → Nat → Int) (P_1 : Nat → Nat → Option Nat) (f_1 : Nat → Nat × Nat), Q1_1 none ((2, f_1), S_1, L_1, P_1) → (Q (some (vi 0)) ((2, f_1), S_1, L_1, P_1))) ∧ (∀ (S_1 L_1 : Nat → Nat → Int) (P_1 : Nat → Nat → Option Nat) (f_1 : Nat → Nat × Nat), X1_1 3 ((2, f_1), S_1, L_1, P_1) → (Q (some (vi 1)) ((2, f_1), S_1, L_1, P_1))) ∧ (∀ (S_1 L_1 : Nat → Nat → Int) (P_1 : Nat → Nat → Option Nat) (f_1 : Nat → Nat × Nat), X1_1 1 ((2, f_1), S_1, L_1, P_1) → (Q (some (vi 2)) ((2, f_1), S_1, L_1, P_1))))) : zz_J zpX0_score (zz_ret Q X 2 12) 0 [some (vr 100), some (vi a), some (vi b), some (vi c), none] [] ((2, f), S, L, P) (0, 0) := zz_J.go [] 400 h

theorem zmX0_score (l : Launch) (hl : l.stackTraces = false) : mm_Spec l yX0_score (wsW_ yX0_score cX0_score 5 (some .int) [((0), (7), (10), (24)), ((0), (7), (14), (13))]) (mm_rm 9 2 12) (zE zX0_score) := by
  refine zz_Met.JHN hl (by decide) (fun C G hhd => ztX0_score G hhd) ?_
  rintro as ⟨⟨t_, f⟩, S, L, P⟩ Q X h
  unfold zX0_score at h
  split at h
  rotate_left
  · exact h.elim
  rename_i x a b c
  obtain ⟨e1_, e2_, h⟩ := mm_and2 h (fun q => q)
  cases mm_beq e1_
  cases mm_beq e2_
  try dsimp only at h
  refine ⟨rfl, ?_⟩
  obtain ⟨Q1, X1, hs, hf, hx, hg, x3, x1⟩ := h
  exact zwX0_score_0 ⟨Q1, X1, hs, hf, hx, fun S' L' P' f' q => hg S' L' P' f' q, fun S' L' P' f' q => x3 S' L' P' f' q, fun S' L' P' f' q => x1 S' L' P' f' q⟩
def zX1_games_m : zz_Sp := fun as M Q X => match as with
  | [.inr (.inr (some h_)), .inl a, .inl b] => bif Nat.beq h_ 100 && Nat.beq M.1.1 2 then (∃ (Q1_ : Option zv → zz_M → Prop) (X1_ : Nat → zz_M → Prop), zX1_games [vr 100, vi a, vi b] ((2, M.1.2), M.2.1, M.2.2.1, M.2.2.2) Q1_ X1_ ∧ (∀ r m, Q1_ r m → (r = none) ∧ ∃ f' S' L' P', m = ((2, f'), S', L', P')) ∧ (∀ i m, X1_ i m → (i = 1) ∧ ∃ f' S' L' P', m = ((2, f'), S', L', P')) ∧ (∀ (S_ L_ : Nat → Nat → Int) (P_ : Nat → Nat → Option Nat) (f_ : Nat → Nat × Nat), Q1_ none ((2, f_), S_, L_, P_) → Q none ((2, f_), S_, L_, P_)) ∧ (∀ (S_ L_ : Nat → Nat → Int) (P_ : Nat → Nat → Option Nat) (f_ : Nat → Nat × Nat), X1_ 1 ((2, f_), S_, L_, P_) → X 1 ((2, f_), S_, L_, P_))) else False
  | _ => False

theorem zmX1_games_m (l : Launch) (hl : l.stackTraces = false) : mm_Spec l yX1_games (ws_ yX1_games cX1_games 3 none) (mm_rm 7 1 6) (zE zX1_games_m) := by
  rintro as M Q X ⟨as', M', Q', X', rfl, rfl, h, hQ, hX⟩
  obtain ⟨⟨t_, f⟩, S, L, P⟩ := M'
  unfold zX1_games_m at h
  split at h
  rotate_left
  · exact h.elim
  rename_i h_ a b
  obtain ⟨e1_, e2_, h⟩ := mm_and2 h (fun q => q)
  cases mm_beq e1_
  cases mm_beq e2_
  try dsimp only at h
  obtain ⟨Q1, X1, hs, hf, hx, hg, x1⟩ := h
  refine zmX1_games l hl _ _ _ _ ⟨_, _, Q1, X1, rfl, rfl, hs, fun r m q => ?_, fun i m E hE q => ?_⟩
  · obtain ⟨rfl, f', S', L', P', rfl⟩ := hf r m q
    exact hQ _ _ (hg S' L' P' f' q)
  · obtain ⟨rfl, f', S', L', P', rfl⟩ := hx i m q
    exact hX _ _ _ hE (x1 S' L' P' f' q)
def zX0_games : zz_Sp := fun as M Q X => match as with
  | [.inr (.inr (some x)), .inl a, .inl b] => bif Nat.beq M.1.1 2 && Nat.beq x 100 then (∃ (Q1_ : Option zv → zz_M → Prop) (X1_ : Nat → zz_M → Prop), zX1_games [vr 100, vi a, vi b] ((2, M.1.2), M.2.1, M.2.2.1, M.2.2.2) Q1_ X1_ ∧ (∀ r m, Q1_ r m → (r = none) ∧ ∃ f' S' L' P', m = ((2, f'), S', L', P')) ∧ (∀ i m, X1_ i m → (i = 1) ∧ ∃ f' S' L' P', m = ((2, f'), S', L', P')) ∧ (∀ (S_ L_ : Nat → Nat → Int) (P_ : Nat → Nat → Option Nat) (f_ : Nat → Nat × Nat), Q1_ none ((2, f_), S_, L_, P_) → Q (some (vi 0)) ((2, f_), S_, L_, P_)) ∧ (∀ (S_ L_ : Nat → Nat → Int) (P_ : Nat → Nat → Option Nat) (f_ : Nat → Nat × Nat), X1_ 1 ((2, f_), S_, L_, P_) → Q (some (vi 1)) ((2, f_), S_, L_, P_))) else False
  | _ => False

theorem hcX0_games_3 : ∀ q ∈ ([(1, 10, 3)] : mm_H), ∀ E, mm_ex[q.1]? = some E → mm_ct RX0 cX0_games 4 [((0), (6), (9), (13))] 3 E q.2.1 q.2.2 := by
  intro q hq E hE
  simp only [List.mem_cons, List.not_mem_nil, or_false] at hq
  rcases hq with rfl
  · cases hE
    exact ⟨[], ⟨0, 6, 9, 13⟩, [], rfl, fun z hz => absurd hz List.not_mem_nil, by decide, by decide, q598, q785, by decide, Or.inl ⟨3, rfl, dX0_games_9, rfl⟩, by decide⟩
def zpX0_games : zz_P := [(0, zo_ald 1 0), (1, zo_ild 2 1), (2, zo_ild 3 2), (3, zo_cvLH (mm_rm 8 1 6) 6 3 0 1 6 [(1, 10, 3)] zX1_games_m), (6, zo_goto 12), (10, zo_c 11 (vi 1)), (11, zo_iret), (12, zo_c 13 (vi 0)), (13, zo_iret)]
theorem ztX0_games {C : mm_C} (G : mm_G C RX0 cX0_games (some .int) 4 (mm_rm 8 1 6)) (hhd : mm_hd C [((0), (6), (9), (13))]) : zz_OKs C zpX0_games :=
  ⟨zz_of (ok_aload_n G dX0_games_0 rfl rfl) (z_ald _ _),
   zz_of (ok_iload_n G dX0_games_1 rfl rfl) (z_ild _ _),
   zz_of (ok_iload_n G dX0_games_2 rfl rfl) (z_ild _ _),
   zz_of (ok_calvFH G hhd (hs := [(1, 10, 3)]) (pc := 3) hcX0_games_3 (zmX1_games_m _ G.hst) (RX1, TX1, 19) rfl q1480 q1481 q1482 q82 q1483 (by decide +kernel) ⟨Nat.le_of_ble_eq_true rfl, Nat.le_of_ble_eq_true rfl⟩ dX0_games_3 rfl) (z_cvLH _ _ _ _ _ _ _ _),
   zz_of (ok_goto G dX0_games_6 rfl) (z_goto _),
   zz_of (ok_iconst G (v := 1) dX0_games_10 (by decide) rfl) (z_cn 11 1),
   zz_of (ok_iret G dX0_games_11) (z_iret),
   zz_of (ok_iconst G (v := 0) dX0_games_12 (by decide) rfl) (z_cn 13 0),
   zz_of (ok_iret G dX0_games_13) (z_iret), trivial⟩

theorem zwX0_games_0 {Q : Option zv → zz_M → Prop} {X : Nat → zz_M → Prop} {f : Nat → Nat × Nat} {S L : Nat → Nat → Int} {P : Nat → Nat → Option Nat} {a : Int} {b : Int} (h : (∃ (Q1_1 : Option zv → zz_M → Prop) (X1_1 : Nat → zz_M → Prop), zX1_games [vr 100, vi a, vi b] ((2, f), S, L, P) Q1_1 X1_1 ∧ (∀ r m, Q1_1 r m → (r = none) ∧ ∃ f' S' L' P', m = ((2, f'), S', L', P')) ∧ (∀ i m, X1_1 i m → (i = 1) ∧ ∃ f' S' L' P', m = ((2, f'), S', L', P')) ∧ (∀ (S_1 L_1 : Nat → Nat → Int) (P_1 : Nat → Nat → Option Nat) (f_1 : Nat → Nat × Nat), Q1_1 none ((2, f_1), S_1, L_1, P_1) → (Q (some (vi 0)) ((2, f_1), S_1, L_1, P_1))) ∧ (∀ (S_1 L_1 : Nat → Nat → Int) (P_1 : Nat → Nat → Option Nat) (f_1 : Nat → Nat × Nat), X1_1 1 ((2, f_1), S_1, L_1, P_1) → (Q (some (vi 1)) ((2, f_1), S_1, L_1, P_1))))) : zz_J zpX0_games (zz_ret Q X 1 6) 0 [some (vr 100), some (vi a), some (vi b), none] [] ((2, f), S, L, P) (0, 0) := zz_J.go [] 400 h

theorem zmX0_games (l : Launch) (hl : l.stackTraces = false) : mm_Spec l yX0_games (wsW_ yX0_games cX0_games 4 (some .int) [((0), (6), (9), (13))]) (mm_rm 8 1 6) (zE zX0_games) := by
  refine zz_Met.JHN hl (by decide) (fun C G hhd => ztX0_games G hhd) ?_
  rintro as ⟨⟨t_, f⟩, S, L, P⟩ Q X h
  unfold zX0_games at h
  split at h
  rotate_left
  · exact h.elim
  rename_i x a b
  obtain ⟨e1_, e2_, h⟩ := mm_and2 h (fun q => q)
  cases mm_beq e1_
  cases mm_beq e2_
  try dsimp only at h
  refine ⟨rfl, ?_⟩
  obtain ⟨Q1, X1, hs, hf, hx, hg, x1⟩ := h
  exact zwX0_games_0 ⟨Q1, X1, hs, hf, hx, fun S' L' P' f' q => hg S' L' P' f' q, fun S' L' P' f' q => x1 S' L' P' f' q⟩
def zX1_begin_m : zz_Sp := fun as M Q X => match as with
  | [.inr (.inr (some h_)), .inl a, .inl b] => bif Nat.beq h_ 100 && Nat.beq M.1.1 2 then (∃ (Q1_ : Option zv → zz_M → Prop) (X1_ : Nat → zz_M → Prop), zX1_begin [vr 100, vi a, vi b] ((2, M.1.2), M.2.1, M.2.2.1, M.2.2.2) Q1_ X1_ ∧ (∀ r m, Q1_ r m → (r = none) ∧ ∃ f' S' L' P', m = ((2, f'), S', L', P')) ∧ (∀ i m, X1_ i m → (i = 1) ∧ ∃ f' S' L' P', m = ((2, f'), S', L', P')) ∧ (∀ (S_ L_ : Nat → Nat → Int) (P_ : Nat → Nat → Option Nat) (f_ : Nat → Nat × Nat), Q1_ none ((2, f_), S_, L_, P_) → Q none ((2, f_), S_, L_, P_)) ∧ (∀ (S_ L_ : Nat → Nat → Int) (P_ : Nat → Nat → Option Nat) (f_ : Nat → Nat × Nat), X1_ 1 ((2, f_), S_, L_, P_) → X 1 ((2, f_), S_, L_, P_))) else False
  | _ => False

theorem zmX1_begin_m (l : Launch) (hl : l.stackTraces = false) : mm_Spec l yX1_begin (ws_ yX1_begin cX1_begin 3 none) (mm_rm 7 1 6) (zE zX1_begin_m) := by
  rintro as M Q X ⟨as', M', Q', X', rfl, rfl, h, hQ, hX⟩
  obtain ⟨⟨t_, f⟩, S, L, P⟩ := M'
  unfold zX1_begin_m at h
  split at h
  rotate_left
  · exact h.elim
  rename_i h_ a b
  obtain ⟨e1_, e2_, h⟩ := mm_and2 h (fun q => q)
  cases mm_beq e1_
  cases mm_beq e2_
  try dsimp only at h
  obtain ⟨Q1, X1, hs, hf, hx, hg, x1⟩ := h
  refine zmX1_begin l hl _ _ _ _ ⟨_, _, Q1, X1, rfl, rfl, hs, fun r m q => ?_, fun i m E hE q => ?_⟩
  · obtain ⟨rfl, f', S', L', P', rfl⟩ := hf r m q
    exact hQ _ _ (hg S' L' P' f' q)
  · obtain ⟨rfl, f', S', L', P', rfl⟩ := hx i m q
    exact hX _ _ _ hE (x1 S' L' P' f' q)
def zX0_begin : zz_Sp := fun as M Q X => match as with
  | [.inr (.inr (some x)), .inl a, .inl b] => bif Nat.beq M.1.1 2 && Nat.beq x 100 then (∃ (Q1_ : Option zv → zz_M → Prop) (X1_ : Nat → zz_M → Prop), zX1_begin [vr 100, vi a, vi b] ((2, M.1.2), M.2.1, M.2.2.1, M.2.2.2) Q1_ X1_ ∧ (∀ r m, Q1_ r m → (r = none) ∧ ∃ f' S' L' P', m = ((2, f'), S', L', P')) ∧ (∀ i m, X1_ i m → (i = 1) ∧ ∃ f' S' L' P', m = ((2, f'), S', L', P')) ∧ (∀ (S_ L_ : Nat → Nat → Int) (P_ : Nat → Nat → Option Nat) (f_ : Nat → Nat × Nat), Q1_ none ((2, f_), S_, L_, P_) → Q (some (vi 0)) ((2, f_), S_, L_, P_)) ∧ (∀ (S_ L_ : Nat → Nat → Int) (P_ : Nat → Nat → Option Nat) (f_ : Nat → Nat × Nat), X1_ 1 ((2, f_), S_, L_, P_) → Q (some (vi 1)) ((2, f_), S_, L_, P_))) else False
  | _ => False

theorem hcX0_begin_3 : ∀ q ∈ ([(1, 10, 3)] : mm_H), ∀ E, mm_ex[q.1]? = some E → mm_ct RX0 cX0_begin 4 [((0), (6), (9), (13))] 3 E q.2.1 q.2.2 := by
  intro q hq E hE
  simp only [List.mem_cons, List.not_mem_nil, or_false] at hq
  rcases hq with rfl
  · cases hE
    exact ⟨[], ⟨0, 6, 9, 13⟩, [], rfl, fun z hz => absurd hz List.not_mem_nil, by decide, by decide, q598, q785, by decide, Or.inl ⟨3, rfl, dX0_begin_9, rfl⟩, by decide⟩
def zpX0_begin : zz_P := [(0, zo_ald 1 0), (1, zo_ild 2 1), (2, zo_ild 3 2), (3, zo_cvLH (mm_rm 8 1 6) 6 3 0 1 6 [(1, 10, 3)] zX1_begin_m), (6, zo_goto 12), (10, zo_c 11 (vi 1)), (11, zo_iret), (12, zo_c 13 (vi 0)), (13, zo_iret)]
theorem ztX0_begin {C : mm_C} (G : mm_G C RX0 cX0_begin (some .int) 4 (mm_rm 8 1 6)) (hhd : mm_hd C [((0), (6), (9), (13))]) : zz_OKs C zpX0_begin :=
  ⟨zz_of (ok_aload_n G dX0_begin_0 rfl rfl) (z_ald _ _),
   zz_of (ok_iload_n G dX0_begin_1 rfl rfl) (z_ild _ _),
   zz_of (ok_iload_n G dX0_begin_2 rfl rfl) (z_ild _ _),
   zz_of (ok_calvFH G hhd (hs := [(1, 10, 3)]) (pc := 3) hcX0_begin_3 (zmX1_begin_m _ G.hst) (RX1, TX1, 19) rfl q1487 q1488 q1489 q82 q1490 (by decide +kernel) ⟨Nat.le_of_ble_eq_true rfl, Nat.le_of_ble_eq_true rfl⟩ dX0_begin_3 rfl) (z_cvLH _ _ _ _ _ _ _ _),
   zz_of (ok_goto G dX0_begin_6 rfl) (z_goto _),
   zz_of (ok_iconst G (v := 1) dX0_begin_10 (by decide) rfl) (z_cn 11 1),
   zz_of (ok_iret G dX0_begin_11) (z_iret),
   zz_of (ok_iconst G (v := 0) dX0_begin_12 (by decide) rfl) (z_cn 13 0),
   zz_of (ok_iret G dX0_begin_13) (z_iret), trivial⟩

theorem zwX0_begin_0 {Q : Option zv → zz_M → Prop} {X : Nat → zz_M → Prop} {f : Nat → Nat × Nat} {S L : Nat → Nat → Int} {P : Nat → Nat → Option Nat} {a : Int} {b : Int} (h : (∃ (Q1_1 : Option zv → zz_M → Prop) (X1_1 : Nat → zz_M → Prop), zX1_begin [vr 100, vi a, vi b] ((2, f), S, L, P) Q1_1 X1_1 ∧ (∀ r m, Q1_1 r m → (r = none) ∧ ∃ f' S' L' P', m = ((2, f'), S', L', P')) ∧ (∀ i m, X1_1 i m → (i = 1) ∧ ∃ f' S' L' P', m = ((2, f'), S', L', P')) ∧ (∀ (S_1 L_1 : Nat → Nat → Int) (P_1 : Nat → Nat → Option Nat) (f_1 : Nat → Nat × Nat), Q1_1 none ((2, f_1), S_1, L_1, P_1) → (Q (some (vi 0)) ((2, f_1), S_1, L_1, P_1))) ∧ (∀ (S_1 L_1 : Nat → Nat → Int) (P_1 : Nat → Nat → Option Nat) (f_1 : Nat → Nat × Nat), X1_1 1 ((2, f_1), S_1, L_1, P_1) → (Q (some (vi 1)) ((2, f_1), S_1, L_1, P_1))))) : zz_J zpX0_begin (zz_ret Q X 1 6) 0 [some (vr 100), some (vi a), some (vi b), none] [] ((2, f), S, L, P) (0, 0) := zz_J.go [] 400 h

theorem zmX0_begin (l : Launch) (hl : l.stackTraces = false) : mm_Spec l yX0_begin (wsW_ yX0_begin cX0_begin 4 (some .int) [((0), (6), (9), (13))]) (mm_rm 8 1 6) (zE zX0_begin) := by
  refine zz_Met.JHN hl (by decide) (fun C G hhd => ztX0_begin G hhd) ?_
  rintro as ⟨⟨t_, f⟩, S, L, P⟩ Q X h
  unfold zX0_begin at h
  split at h
  rotate_left
  · exact h.elim
  rename_i x a b
  obtain ⟨e1_, e2_, h⟩ := mm_and2 h (fun q => q)
  cases mm_beq e1_
  cases mm_beq e2_
  try dsimp only at h
  refine ⟨rfl, ?_⟩
  obtain ⟨Q1, X1, hs, hf, hx, hg, x1⟩ := h
  exact zwX0_begin_0 ⟨Q1, X1, hs, hf, hx, fun S' L' P' f' q => hg S' L' P' f' q, fun S' L' P' f' q => x1 S' L' P' f' q⟩
def zX1_stands_m : zz_Sp := fun as M Q X => match as with
  | [.inr (.inr (some h_)), .inl a] => bif Nat.beq h_ 100 && Nat.beq M.1.1 2 then (∃ (Q1_ : Option zv → zz_M → Prop) (X1_ : Nat → zz_M → Prop), zX1_stands [vr 100, vi a] ((2, M.1.2), M.2.1, M.2.2.1, M.2.2.2) Q1_ X1_ ∧ (∀ r m, Q1_ r m → (∃ v : Int, r = some (vi v)) ∧ ∃ f' S' L' P', m = ((2, f'), S', L', P') ∧ f' 51 = (3, 1)) ∧ (∀ i m, X1_ i m → (i = 4) ∧ ∃ f' S' L' P', m = ((2, f'), S', L', P')) ∧ (∀ (v_ : Int) (S_ L_ : Nat → Nat → Int) (P_ : Nat → Nat → Option Nat) (f_ : Nat → Nat × Nat), f_ 51 = (3, 1) → Q1_ (some (vi v_)) ((2, f_), S_, L_, P_) → Q (some (vi (nz v_))) ((2, f_), S_, L_, P_)) ∧ (∀ (S_ L_ : Nat → Nat → Int) (P_ : Nat → Nat → Option Nat) (f_ : Nat → Nat × Nat), X1_ 4 ((2, f_), S_, L_, P_) → X 4 ((2, f_), S_, L_, P_))) else False
  | _ => False

theorem zmX1_stands_m (l : Launch) (hl : l.stackTraces = false) : mm_Spec l yX1_stands (ws_ yX1_stands cX1_stands 2 (some .int)) (mm_rm 7 1 6) (zE zX1_stands_m) := by
  rintro as M Q X ⟨as', M', Q', X', rfl, rfl, h, hQ, hX⟩
  obtain ⟨⟨t_, f⟩, S, L, P⟩ := M'
  unfold zX1_stands_m at h
  split at h
  rotate_left
  · exact h.elim
  rename_i h_ a
  obtain ⟨e1_, e2_, h⟩ := mm_and2 h (fun q => q)
  cases mm_beq e1_
  cases mm_beq e2_
  try dsimp only at h
  obtain ⟨Q1, X1, hs, hf, hx, hg, x4⟩ := h
  refine zmX1_stands l hl _ _ _ _ ⟨_, _, Q1, X1, rfl, rfl, hs, fun r m q => ?_, fun i m E hE q => ?_⟩
  · obtain ⟨⟨v, rfl⟩, f', S', L', P', rfl, h51⟩ := hf r m q
    rw [nz_ev v]
    exact hQ _ _ (hg v S' L' P' f' h51 q)
  · obtain ⟨rfl, f', S', L', P', rfl⟩ := hx i m q
    exact hX _ _ _ hE (x4 S' L' P' f' q)
def zX0_stands : zz_Sp := fun as M Q X => match as with
  | [.inr (.inr (some x)), .inl a, .inr (.inr (some out))] => bif Nat.beq M.1.1 2 && Nat.beq x 100 && Nat.beq out 51 then (M.1.2 51 = (3, 1) ∧ ∃ (Q1_ : Option zv → zz_M → Prop) (X1_ : Nat → zz_M → Prop), zX1_stands [vr 100, vi a] ((2, M.1.2), M.2.1, M.2.2.1, M.2.2.2) Q1_ X1_ ∧ (∀ r m, Q1_ r m → (∃ v : Int, r = some (vi v)) ∧ ∃ f' S' L' P', m = ((2, f'), S', L', P') ∧ f' 51 = (3, 1)) ∧ (∀ i m, X1_ i m → (i = 4) ∧ ∃ f' S' L' P', m = ((2, f'), S', L', P')) ∧ (∀ (v_ : Int) (S_ L_ : Nat → Nat → Int) (P_ : Nat → Nat → Option Nat) (f_ : Nat → Nat × Nat), Q1_ (some (vi v_)) ((2, f_), S_, L_, P_) → Q (some (vi 0)) ((2, f_), S_, mm_up L_ 51 0 (nz v_), P_)) ∧ (∀ (S_ L_ : Nat → Nat → Int) (P_ : Nat → Nat → Option Nat) (f_ : Nat → Nat × Nat), X1_ 4 ((2, f_), S_, L_, P_) → Q (some (vi 1)) ((2, f_), S_, L_, P_))) else False
  | _ => False

theorem hcX0_stands_4 : ∀ q ∈ ([(4, 13, 3)] : mm_H), ∀ E, mm_ex[q.1]? = some E → mm_ct RX0 cX0_stands 4 [((0), (9), (12), (26))] 4 E q.2.1 q.2.2 := by
  intro q hq E hE
  simp only [List.mem_cons, List.not_mem_nil, or_false] at hq
  rcases hq with rfl
  · cases hE
    exact ⟨[], ⟨0, 9, 12, 26⟩, [], rfl, fun z hz => absurd hz List.not_mem_nil, by decide, by decide, q1318, q1347, by decide, Or.inl ⟨3, rfl, dX0_stands_12, rfl⟩, by decide⟩
def zpX0_stands : zz_P := [(0, zo_ald 1 2), (1, zo_c 2 (vi 0)), (2, zo_ald 3 0), (3, zo_ild 4 1), (4, zo_cvLH (mm_rm 8 1 6) 7 2 0 1 6 [(4, 13, 3)] zX1_stands_m), (7, zo_i2l 8), (8, zo_lasp 9), (9, zo_goto 15), (13, zo_c 14 (vi 1)), (14, zo_iret), (15, zo_c 16 (vi 0)), (16, zo_iret)]
theorem ztX0_stands {C : mm_C} (G : mm_G C RX0 cX0_stands (some .int) 4 (mm_rm 8 1 6)) (hhd : mm_hd C [((0), (9), (12), (26))]) : zz_OKs C zpX0_stands :=
  ⟨zz_of (ok_aload_n G dX0_stands_0 rfl rfl) (z_ald _ _),
   zz_of (ok_iconst G (v := 0) dX0_stands_1 (by decide) rfl) (z_cn 2 0),
   zz_of (ok_aload_n G dX0_stands_2 rfl rfl) (z_ald _ _),
   zz_of (ok_iload_n G dX0_stands_3 rfl rfl) (z_ild _ _),
   zz_of (ok_calvFH G hhd (hs := [(4, 13, 3)]) (pc := 4) hcX0_stands_4 (zmX1_stands_m _ G.hst) (RX1, TX1, 19) rfl q1494 q1495 q1496 q82 q1497 (by decide +kernel) ⟨Nat.le_of_ble_eq_true rfl, Nat.le_of_ble_eq_true rfl⟩ dX0_stands_4 rfl) (z_cvLH _ _ _ _ _ _ _ _),
   zz_of (ok_i2l G dX0_stands_7 rfl) (z_i2l _),
   zz_of (ok_last G dX0_stands_8 rfl) (z_lasp _),
   zz_of (ok_goto G dX0_stands_9 rfl) (z_goto _),
   zz_of (ok_iconst G (v := 1) dX0_stands_13 (by decide) rfl) (z_cn 14 1),
   zz_of (ok_iret G dX0_stands_14) (z_iret),
   zz_of (ok_iconst G (v := 0) dX0_stands_15 (by decide) rfl) (z_cn 16 0),
   zz_of (ok_iret G dX0_stands_16) (z_iret), trivial⟩

theorem zwX0_stands_0 {Q : Option zv → zz_M → Prop} {X : Nat → zz_M → Prop} {f : Nat → Nat × Nat} {S L : Nat → Nat → Int} {P : Nat → Nat → Option Nat} {a : Int} (h : (∃ (Q1_1 : Option zv → zz_M → Prop) (X1_1 : Nat → zz_M → Prop), zX1_stands [vr 100, vi a] ((2, f), S, L, P) Q1_1 X1_1 ∧ (∀ r m, Q1_1 r m → (∃ v : Int, r = some (vi v)) ∧ ∃ f' S' L' P', m = ((2, f'), S', L', P') ∧ f' 51 = (3, 1)) ∧ (∀ i m, X1_1 i m → (i = 4) ∧ ∃ f' S' L' P', m = ((2, f'), S', L', P')) ∧ (∀ (v_1 : Int) (S_1 L_1 : Nat → Nat → Int) (P_1 : Nat → Nat → Option Nat) (f_1 : Nat → Nat × Nat), f_1 51 = (3, 1) → Q1_1 (some (vi v_1)) ((2, f_1), S_1, L_1, P_1) → (R32 (nz v_1) ∧ (∃ n_ : Nat, zsh ((2, f_1), S_1, L_1, P_1) 51 = (3, n_) ∧ (n_ : Int) ≤ 2147483647 ∧ (0 ≤ (0 : Int) ∧ 0 < (n_ : Int)) ∧ (Q (some (vi 0)) ((2, f_1), S_1, mm_up L_1 51 ((0 : Int).toNat) (nz v_1), P_1))))) ∧ (∀ (S_1 L_1 : Nat → Nat → Int) (P_1 : Nat → Nat → Option Nat) (f_1 : Nat → Nat × Nat), X1_1 4 ((2, f_1), S_1, L_1, P_1) → (Q (some (vi 1)) ((2, f_1), S_1, L_1, P_1))))) : zz_J zpX0_stands (zz_ret Q X 1 6) 0 [some (vr 100), some (vi a), some (vr 51), none] [] ((2, f), S, L, P) (0, 0) := zz_J.go [] 400 h

theorem zmX0_stands (l : Launch) (hl : l.stackTraces = false) : mm_Spec l yX0_stands (wsW_ yX0_stands cX0_stands 4 (some .int) [((0), (9), (12), (26))]) (mm_rm 8 1 6) (zE zX0_stands) := by
  refine zz_Met.JHN hl (by decide) (fun C G hhd => ztX0_stands G hhd) ?_
  rintro as ⟨⟨t_, f⟩, S, L, P⟩ Q X h
  unfold zX0_stands at h
  split at h
  rotate_left
  · exact h.elim
  rename_i x a out
  obtain ⟨e12_, e3_, h⟩ := mm_and2 h (fun q => q)
  rw [Bool.and_eq_true] at e12_
  cases mm_beq e12_.1
  cases mm_beq e12_.2
  cases mm_beq e3_
  try dsimp only at h
  refine ⟨rfl, ?_⟩
  obtain ⟨h51, Q1, X1, hs, hf, hx, hg, x4⟩ := h
  exact zwX0_stands_0 ⟨Q1, X1, hs, hf, hx, fun v S' L' P' f' h5 q => ⟨nz_R v, 1, h5, by decide, by decide, hg v S' L' P' f' q⟩, fun S' L' P' f' q => x4 S' L' P' f' q⟩
def zX1_rally_m : zz_Sp := fun as M Q X => match as with
  | [.inr (.inr (some h_)), .inl a, .inl b] => bif Nat.beq h_ 100 && Nat.beq M.1.1 2 then (∃ (Q1_ : Option zv → zz_M → Prop) (X1_ : Nat → zz_M → Prop), zX1_rally [vr 100, vi a, vi b] ((2, M.1.2), M.2.1, M.2.2.1, M.2.2.2) Q1_ X1_ ∧ (∀ r m, Q1_ r m → (∃ v : Int, r = some (vi v)) ∧ ∃ f' S' L' P', m = ((2, f'), S', L', P') ∧ f' 51 = (3, 1)) ∧ (∀ i m, X1_ i m → (i = 3 ∨ i = 1 ∨ i = 5) ∧ ∃ f' S' L' P', m = ((2, f'), S', L', P')) ∧ (∀ (v_ : Int) (S_ L_ : Nat → Nat → Int) (P_ : Nat → Nat → Option Nat) (f_ : Nat → Nat × Nat), f_ 51 = (3, 1) → Q1_ (some (vi v_)) ((2, f_), S_, L_, P_) → Q (some (vi (nz v_))) ((2, f_), S_, L_, P_)) ∧ (∀ (S_ L_ : Nat → Nat → Int) (P_ : Nat → Nat → Option Nat) (f_ : Nat → Nat × Nat), X1_ 3 ((2, f_), S_, L_, P_) → X 3 ((2, f_), S_, L_, P_)) ∧ (∀ (S_ L_ : Nat → Nat → Int) (P_ : Nat → Nat → Option Nat) (f_ : Nat → Nat × Nat), X1_ 1 ((2, f_), S_, L_, P_) → X 1 ((2, f_), S_, L_, P_)) ∧ (∀ (S_ L_ : Nat → Nat → Int) (P_ : Nat → Nat → Option Nat) (f_ : Nat → Nat × Nat), X1_ 5 ((2, f_), S_, L_, P_) → X 5 ((2, f_), S_, L_, P_))) else False
  | _ => False

theorem zmX1_rally_m (l : Launch) (hl : l.stackTraces = false) : mm_Spec l yX1_rally (ws_ yX1_rally cX1_rally 3 (some .int)) (mm_rm 8 3 18) (zE zX1_rally_m) := by
  rintro as M Q X ⟨as', M', Q', X', rfl, rfl, h, hQ, hX⟩
  obtain ⟨⟨t_, f⟩, S, L, P⟩ := M'
  unfold zX1_rally_m at h
  split at h
  rotate_left
  · exact h.elim
  rename_i h_ a b
  obtain ⟨e1_, e2_, h⟩ := mm_and2 h (fun q => q)
  cases mm_beq e1_
  cases mm_beq e2_
  try dsimp only at h
  obtain ⟨Q1, X1, hs, hf, hx, hg, x3, x1, x5⟩ := h
  refine zmX1_rally l hl _ _ _ _ ⟨_, _, Q1, X1, rfl, rfl, hs, fun r m q => ?_, fun i m E hE q => ?_⟩
  · obtain ⟨⟨v, rfl⟩, f', S', L', P', rfl, h51⟩ := hf r m q
    rw [nz_ev v]
    exact hQ _ _ (hg v S' L' P' f' h51 q)
  · obtain ⟨rfl | rfl | rfl, f', S', L', P', rfl⟩ := hx i m q
    · exact hX _ _ _ hE (x3 S' L' P' f' q)
    · exact hX _ _ _ hE (x1 S' L' P' f' q)
    · exact hX _ _ _ hE (x5 S' L' P' f' q)
def zX0_rally : zz_Sp := fun as M Q X => match as with
  | [.inr (.inr (some x)), .inl a, .inl b, .inr (.inr (some out))] => bif Nat.beq M.1.1 2 && Nat.beq x 100 && Nat.beq out 51 then (M.1.2 51 = (3, 1) ∧ ∃ (Q1_ : Option zv → zz_M → Prop) (X1_ : Nat → zz_M → Prop), zX1_rally [vr 100, vi a, vi b] ((2, M.1.2), M.2.1, M.2.2.1, M.2.2.2) Q1_ X1_ ∧ (∀ r m, Q1_ r m → (∃ v : Int, r = some (vi v)) ∧ ∃ f' S' L' P', m = ((2, f'), S', L', P') ∧ f' 51 = (3, 1)) ∧ (∀ i m, X1_ i m → (i = 3 ∨ i = 1 ∨ i = 5) ∧ ∃ f' S' L' P', m = ((2, f'), S', L', P')) ∧ (∀ (v_ : Int) (S_ L_ : Nat → Nat → Int) (P_ : Nat → Nat → Option Nat) (f_ : Nat → Nat × Nat), Q1_ (some (vi v_)) ((2, f_), S_, L_, P_) → Q (some (vi 0)) ((2, f_), S_, mm_up L_ 51 0 (nz v_), P_)) ∧ (∀ (S_ L_ : Nat → Nat → Int) (P_ : Nat → Nat → Option Nat) (f_ : Nat → Nat × Nat), X1_ 3 ((2, f_), S_, L_, P_) → Q (some (vi 1)) ((2, f_), S_, L_, P_)) ∧ (∀ (S_ L_ : Nat → Nat → Int) (P_ : Nat → Nat → Option Nat) (f_ : Nat → Nat × Nat), X1_ 1 ((2, f_), S_, L_, P_) → Q (some (vi 2)) ((2, f_), S_, L_, P_)) ∧ (∀ (S_ L_ : Nat → Nat → Int) (P_ : Nat → Nat → Option Nat) (f_ : Nat → Nat × Nat), X1_ 5 ((2, f_), S_, L_, P_) → Q (some (vi 3)) ((2, f_), S_, L_, P_))) else False
  | _ => False

theorem hcX0_rally_5 : ∀ q ∈ ([(3, 15, 4), (1, 19, 4), (5, 23, 4)] : mm_H), ∀ E, mm_ex[q.1]? = some E → mm_ct RX0 cX0_rally 5 [((0), (10), (13), (24)), ((0), (10), (17), (13)), ((0), (10), (21), (53))] 5 E q.2.1 q.2.2 := by
  intro q hq E hE
  simp only [List.mem_cons, List.not_mem_nil, or_false] at hq
  rcases hq with rfl | rfl | rfl
  · cases hE
    exact ⟨[], ⟨0, 10, 13, 24⟩, [⟨0, 10, 17, 13⟩, ⟨0, 10, 21, 53⟩], rfl, fun z hz => absurd hz List.not_mem_nil, by decide, by decide, q1299, q1329, by decide, Or.inr ⟨dX0_rally_13, rfl⟩, by decide⟩
  · cases hE
    exact ⟨[⟨0, 10, 13, 24⟩], ⟨0, 10, 17, 13⟩, [⟨0, 10, 21, 53⟩], rfl, fun z hz => by
      simp only [List.mem_cons, List.not_mem_nil, or_false] at hz
      rcases hz with rfl
      · exact Or.inr ⟨by decide, "java/lang/IndexOutOfBoundsException", by decide, q1299, by decide⟩, by decide, by decide, q598, q785, by decide, Or.inr ⟨dX0_rally_17, rfl⟩, by decide⟩
  · cases hE
    exact ⟨[⟨0, 10, 13, 24⟩, ⟨0, 10, 17, 13⟩], ⟨0, 10, 21, 53⟩, [], rfl, fun z hz => by
      simp only [List.mem_cons, List.not_mem_nil, or_false] at hz
      rcases hz with rfl | rfl
      · exact Or.inr ⟨by decide, "java/lang/IndexOutOfBoundsException", by decide, q1299, by decide⟩
      · exact Or.inr ⟨by decide, "java/lang/IllegalArgumentException", by decide, q598, by decide⟩, by decide, by decide, q1513, q1528, by decide, Or.inr ⟨dX0_rally_21, rfl⟩, by decide⟩
def zpX0_rally : zz_P := [(0, zo_ald 1 3), (1, zo_c 2 (vi 0)), (2, zo_ald 3 0), (3, zo_ild 4 1), (4, zo_ild 5 2), (5, zo_cvLH (mm_rm 9 3 18) 8 3 0 3 18 [(3, 15, 4), (1, 19, 4), (5, 23, 4)] zX1_rally_m), (8, zo_i2l 9), (9, zo_lasp 10), (10, zo_goto 25), (15, zo_c 16 (vi 1)), (16, zo_iret), (19, zo_c 20 (vi 2)), (20, zo_iret), (23, zo_c 24 (vi 3)), (24, zo_iret), (25, zo_c 26 (vi 0)), (26, zo_iret)]
theorem ztX0_rally {C : mm_C} (G : mm_G C RX0 cX0_rally (some .int) 5 (mm_rm 9 3 18)) (hhd : mm_hd C [((0), (10), (13), (24)), ((0), (10), (17), (13)), ((0), (10), (21), (53))]) : zz_OKs C zpX0_rally :=
  ⟨zz_of (ok_aload_n G dX0_rally_0 rfl rfl) (z_ald _ _),
   zz_of (ok_iconst G (v := 0) dX0_rally_1 (by decide) rfl) (z_cn 2 0),
   zz_of (ok_aload_n G dX0_rally_2 rfl rfl) (z_ald _ _),
   zz_of (ok_iload_n G dX0_rally_3 rfl rfl) (z_ild _ _),
   zz_of (ok_iload_n G dX0_rally_4 rfl rfl) (z_ild _ _),
   zz_of (ok_calvFH G hhd (hs := [(3, 15, 4), (1, 19, 4), (5, 23, 4)]) (pc := 5) hcX0_rally_5 (zmX1_rally_m _ G.hst) (RX1, TX1, 19) rfl q1514 q1515 q1516 q82 q1517 (by decide +kernel) ⟨Nat.le_of_ble_eq_true rfl, Nat.le_of_ble_eq_true rfl⟩ dX0_rally_5 rfl) (z_cvLH _ _ _ _ _ _ _ _),
   zz_of (ok_i2l G dX0_rally_8 rfl) (z_i2l _),
   zz_of (ok_last G dX0_rally_9 rfl) (z_lasp _),
   zz_of (ok_goto G dX0_rally_10 rfl) (z_goto _),
   zz_of (ok_iconst G (v := 1) dX0_rally_15 (by decide) rfl) (z_cn 16 1),
   zz_of (ok_iret G dX0_rally_16) (z_iret),
   zz_of (ok_iconst G (v := 2) dX0_rally_19 (by decide) rfl) (z_cn 20 2),
   zz_of (ok_iret G dX0_rally_20) (z_iret),
   zz_of (ok_iconst G (v := 3) dX0_rally_23 (by decide) rfl) (z_cn 24 3),
   zz_of (ok_iret G dX0_rally_24) (z_iret),
   zz_of (ok_iconst G (v := 0) dX0_rally_25 (by decide) rfl) (z_cn 26 0),
   zz_of (ok_iret G dX0_rally_26) (z_iret), trivial⟩

theorem zwX0_rally_0 {Q : Option zv → zz_M → Prop} {X : Nat → zz_M → Prop} {f : Nat → Nat × Nat} {S L : Nat → Nat → Int} {P : Nat → Nat → Option Nat} {a : Int} {b : Int} (h : (∃ (Q1_1 : Option zv → zz_M → Prop) (X1_1 : Nat → zz_M → Prop), zX1_rally [vr 100, vi a, vi b] ((2, f), S, L, P) Q1_1 X1_1 ∧ (∀ r m, Q1_1 r m → (∃ v : Int, r = some (vi v)) ∧ ∃ f' S' L' P', m = ((2, f'), S', L', P') ∧ f' 51 = (3, 1)) ∧ (∀ i m, X1_1 i m → (i = 3 ∨ i = 1 ∨ i = 5) ∧ ∃ f' S' L' P', m = ((2, f'), S', L', P')) ∧ (∀ (v_1 : Int) (S_1 L_1 : Nat → Nat → Int) (P_1 : Nat → Nat → Option Nat) (f_1 : Nat → Nat × Nat), f_1 51 = (3, 1) → Q1_1 (some (vi v_1)) ((2, f_1), S_1, L_1, P_1) → (R32 (nz v_1) ∧ (∃ n_ : Nat, zsh ((2, f_1), S_1, L_1, P_1) 51 = (3, n_) ∧ (n_ : Int) ≤ 2147483647 ∧ (0 ≤ (0 : Int) ∧ 0 < (n_ : Int)) ∧ (Q (some (vi 0)) ((2, f_1), S_1, mm_up L_1 51 ((0 : Int).toNat) (nz v_1), P_1))))) ∧ (∀ (S_1 L_1 : Nat → Nat → Int) (P_1 : Nat → Nat → Option Nat) (f_1 : Nat → Nat × Nat), X1_1 3 ((2, f_1), S_1, L_1, P_1) → (Q (some (vi 1)) ((2, f_1), S_1, L_1, P_1))) ∧ (∀ (S_1 L_1 : Nat → Nat → Int) (P_1 : Nat → Nat → Option Nat) (f_1 : Nat → Nat × Nat), X1_1 1 ((2, f_1), S_1, L_1, P_1) → (Q (some (vi 2)) ((2, f_1), S_1, L_1, P_1))) ∧ (∀ (S_1 L_1 : Nat → Nat → Int) (P_1 : Nat → Nat → Option Nat) (f_1 : Nat → Nat × Nat), X1_1 5 ((2, f_1), S_1, L_1, P_1) → (Q (some (vi 3)) ((2, f_1), S_1, L_1, P_1))))) : zz_J zpX0_rally (zz_ret Q X 3 18) 0 [some (vr 100), some (vi a), some (vi b), some (vr 51), none] [] ((2, f), S, L, P) (0, 0) := zz_J.go [] 400 h

theorem zmX0_rally (l : Launch) (hl : l.stackTraces = false) : mm_Spec l yX0_rally (wsW_ yX0_rally cX0_rally 5 (some .int) [((0), (10), (13), (24)), ((0), (10), (17), (13)), ((0), (10), (21), (53))]) (mm_rm 9 3 18) (zE zX0_rally) := by
  refine zz_Met.JHN hl (by decide) (fun C G hhd => ztX0_rally G hhd) ?_
  rintro as ⟨⟨t_, f⟩, S, L, P⟩ Q X h
  unfold zX0_rally at h
  split at h
  rotate_left
  · exact h.elim
  rename_i x a b out
  obtain ⟨e12_, e3_, h⟩ := mm_and2 h (fun q => q)
  rw [Bool.and_eq_true] at e12_
  cases mm_beq e12_.1
  cases mm_beq e12_.2
  cases mm_beq e3_
  try dsimp only at h
  refine ⟨rfl, ?_⟩
  obtain ⟨h51, Q1, X1, hs, hf, hx, hg, x3, x1, x5⟩ := h
  exact zwX0_rally_0 ⟨Q1, X1, hs, hf, hx, fun v S' L' P' f' h5 q => ⟨nz_R v, 1, h5, by decide, by decide, hg v S' L' P' f' q⟩, fun S' L' P' f' q => x3 S' L' P' f' q, fun S' L' P' f' q => x1 S' L' P' f' q, fun S' L' P' f' q => x5 S' L' P' f' q⟩
def zX1_bisque_m : zz_Sp := fun as M Q X => match as with
  | [.inr (.inr (some h_)), .inl a] => bif Nat.beq h_ 100 && Nat.beq M.1.1 2 then (∃ (Q1_ : Option zv → zz_M → Prop) (X1_ : Nat → zz_M → Prop), zX1_bisque [vr 100, vi a] ((2, M.1.2), M.2.1, M.2.2.1, M.2.2.2) Q1_ X1_ ∧ (∀ r m, Q1_ r m → (r = some (vi 1) ∨ r = some (vi 0)) ∧ ∃ f' S' L' P', m = ((2, f'), S', L', P') ∧ f' 51 = (3, 1)) ∧ (∀ i m, X1_ i m → (i = 3 ∨ i = 5) ∧ ∃ f' S' L' P', m = ((2, f'), S', L', P')) ∧ (∀ (S_ L_ : Nat → Nat → Int) (P_ : Nat → Nat → Option Nat) (f_ : Nat → Nat × Nat), f_ 51 = (3, 1) → (Q1_ (some (vi 1)) ((2, f_), S_, L_, P_) → Q (some (vi 1)) ((2, f_), S_, L_, P_)) ∧ (Q1_ (some (vi 0)) ((2, f_), S_, L_, P_) → Q (some (vi 0)) ((2, f_), S_, L_, P_))) ∧ (∀ (S_ L_ : Nat → Nat → Int) (P_ : Nat → Nat → Option Nat) (f_ : Nat → Nat × Nat), X1_ 3 ((2, f_), S_, L_, P_) → X 3 ((2, f_), S_, L_, P_)) ∧ (∀ (S_ L_ : Nat → Nat → Int) (P_ : Nat → Nat → Option Nat) (f_ : Nat → Nat × Nat), X1_ 5 ((2, f_), S_, L_, P_) → X 5 ((2, f_), S_, L_, P_))) else False
  | _ => False

theorem zmX1_bisque_m (l : Launch) (hl : l.stackTraces = false) : mm_Spec l yX1_bisque (ws_ yX1_bisque cX1_bisque 2 (some .boolean)) (mm_rm 8 2 12) (zE zX1_bisque_m) := by
  rintro as M Q X ⟨as', M', Q', X', rfl, rfl, h, hQ, hX⟩
  obtain ⟨⟨t_, f⟩, S, L, P⟩ := M'
  unfold zX1_bisque_m at h
  split at h
  rotate_left
  · exact h.elim
  rename_i h_ a
  obtain ⟨e1_, e2_, h⟩ := mm_and2 h (fun q => q)
  cases mm_beq e1_
  cases mm_beq e2_
  try dsimp only at h
  obtain ⟨Q1, X1, hs, hf, hx, hg, x3, x5⟩ := h
  refine zmX1_bisque l hl _ _ _ _ ⟨_, _, Q1, X1, rfl, rfl, hs, fun r m q => ?_, fun i m E hE q => ?_⟩
  · obtain ⟨rfl | rfl, f', S', L', P', rfl, h51⟩ := hf r m q
    · exact hQ _ _ ((hg S' L' P' f' h51).1 q)
    · exact hQ _ _ ((hg S' L' P' f' h51).2 q)
  · obtain ⟨rfl | rfl, f', S', L', P', rfl⟩ := hx i m q
    · exact hX _ _ _ hE (x3 S' L' P' f' q)
    · exact hX _ _ _ hE (x5 S' L' P' f' q)
def zX0_bisque : zz_Sp := fun as M Q X => match as with
  | [.inr (.inr (some x)), .inl a, .inr (.inr (some out))] => bif Nat.beq M.1.1 2 && Nat.beq x 100 && Nat.beq out 51 then (M.1.2 51 = (3, 1) ∧ ∃ (Q1_ : Option zv → zz_M → Prop) (X1_ : Nat → zz_M → Prop), zX1_bisque [vr 100, vi a] ((2, M.1.2), M.2.1, M.2.2.1, M.2.2.2) Q1_ X1_ ∧ (∀ r m, Q1_ r m → (r = some (vi 1) ∨ r = some (vi 0)) ∧ ∃ f' S' L' P', m = ((2, f'), S', L', P') ∧ f' 51 = (3, 1)) ∧ (∀ i m, X1_ i m → (i = 3 ∨ i = 5) ∧ ∃ f' S' L' P', m = ((2, f'), S', L', P')) ∧ (∀ (S_ L_ : Nat → Nat → Int) (P_ : Nat → Nat → Option Nat) (f_ : Nat → Nat × Nat), (Q1_ (some (vi 1)) ((2, f_), S_, L_, P_) → Q (some (vi 0)) ((2, f_), S_, mm_up L_ 51 0 1, P_)) ∧ (Q1_ (some (vi 0)) ((2, f_), S_, L_, P_) → Q (some (vi 0)) ((2, f_), S_, mm_up L_ 51 0 0, P_))) ∧ (∀ (S_ L_ : Nat → Nat → Int) (P_ : Nat → Nat → Option Nat) (f_ : Nat → Nat × Nat), X1_ 3 ((2, f_), S_, L_, P_) → Q (some (vi 1)) ((2, f_), S_, L_, P_)) ∧ (∀ (S_ L_ : Nat → Nat → Int) (P_ : Nat → Nat → Option Nat) (f_ : Nat → Nat × Nat), X1_ 5 ((2, f_), S_, L_, P_) → Q (some (vi 2)) ((2, f_), S_, L_, P_))) else False
  | _ => False

theorem hcX0_bisque_4 : ∀ q ∈ ([(3, 20, 3), (5, 23, 3)] : mm_H), ∀ E, mm_ex[q.1]? = some E → mm_ct RX0 cX0_bisque 4 [((0), (16), (19), (24)), ((0), (16), (22), (53))] 4 E q.2.1 q.2.2 := by
  intro q hq E hE
  simp only [List.mem_cons, List.not_mem_nil, or_false] at hq
  rcases hq with rfl | rfl
  · cases hE
    exact ⟨[], ⟨0, 16, 19, 24⟩, [⟨0, 16, 22, 53⟩], rfl, fun z hz => absurd hz List.not_mem_nil, by decide, by decide, q1299, q1329, by decide, Or.inl ⟨3, rfl, dX0_bisque_19, rfl⟩, by decide⟩
  · cases hE
    exact ⟨[⟨0, 16, 19, 24⟩], ⟨0, 16, 22, 53⟩, [], rfl, fun z hz => by
      simp only [List.mem_cons, List.not_mem_nil, or_false] at hz
      rcases hz with rfl
      · exact Or.inr ⟨by decide, "java/lang/IndexOutOfBoundsException", by decide, q1299, by decide⟩, by decide, by decide, q1513, q1528, by decide, Or.inl ⟨3, rfl, dX0_bisque_22, rfl⟩, by decide⟩
def zpX0_bisque : zz_P := [(0, zo_ald 1 2), (1, zo_c 2 (vi 0)), (2, zo_ald 3 0), (3, zo_ild 4 1), (4, zo_cvLH (mm_rm 9 2 12) 7 2 0 2 12 [(3, 20, 3), (5, 23, 3)] zX1_bisque_m), (7, zo_zifeq 10 14), (10, zo_c 11 (vl 1)), (11, zo_goto 15), (14, zo_c 15 (vl 0)), (15, zo_lasp 16), (16, zo_goto 25), (20, zo_c 21 (vi 1)), (21, zo_iret), (23, zo_c 24 (vi 2)), (24, zo_iret), (25, zo_c 26 (vi 0)), (26, zo_iret)]
theorem ztX0_bisque {C : mm_C} (G : mm_G C RX0 cX0_bisque (some .int) 4 (mm_rm 9 2 12)) (hhd : mm_hd C [((0), (16), (19), (24)), ((0), (16), (22), (53))]) : zz_OKs C zpX0_bisque :=
  ⟨zz_of (ok_aload_n G dX0_bisque_0 rfl rfl) (z_ald _ _),
   zz_of (ok_iconst G (v := 0) dX0_bisque_1 (by decide) rfl) (z_cn 2 0),
   zz_of (ok_aload_n G dX0_bisque_2 rfl rfl) (z_ald _ _),
   zz_of (ok_iload_n G dX0_bisque_3 rfl rfl) (z_ild _ _),
   zz_of (ok_calvFH G hhd (hs := [(3, 20, 3), (5, 23, 3)]) (pc := 4) hcX0_bisque_4 (zmX1_bisque_m _ G.hst) (RX1, TX1, 19) rfl q1560 q1561 q1562 q82 q1563 (by decide +kernel) ⟨Nat.le_of_ble_eq_true rfl, Nat.le_of_ble_eq_true rfl⟩ dX0_bisque_4 rfl) (z_cvLH _ _ _ _ _ _ _ _),
   zz_of (ok_ifeq G dX0_bisque_7 rfl rfl) (z_zifeq _ _),
   zz_of (ok_lconst G (v := 1) dX0_bisque_10 (by decide) rfl) (z_cl 11 1),
   zz_of (ok_goto G dX0_bisque_11 rfl) (z_goto _),
   zz_of (ok_lconst G (v := 0) dX0_bisque_14 (by decide) rfl) (z_cl 15 0),
   zz_of (ok_last G dX0_bisque_15 rfl) (z_lasp _),
   zz_of (ok_goto G dX0_bisque_16 rfl) (z_goto _),
   zz_of (ok_iconst G (v := 1) dX0_bisque_20 (by decide) rfl) (z_cn 21 1),
   zz_of (ok_iret G dX0_bisque_21) (z_iret),
   zz_of (ok_iconst G (v := 2) dX0_bisque_23 (by decide) rfl) (z_cn 24 2),
   zz_of (ok_iret G dX0_bisque_24) (z_iret),
   zz_of (ok_iconst G (v := 0) dX0_bisque_25 (by decide) rfl) (z_cn 26 0),
   zz_of (ok_iret G dX0_bisque_26) (z_iret), trivial⟩

theorem zwX0_bisque_0 {Q : Option zv → zz_M → Prop} {X : Nat → zz_M → Prop} {f : Nat → Nat × Nat} {S L : Nat → Nat → Int} {P : Nat → Nat → Option Nat} {a : Int} (h : (∃ (Q1_1 : Option zv → zz_M → Prop) (X1_1 : Nat → zz_M → Prop), zX1_bisque [vr 100, vi a] ((2, f), S, L, P) Q1_1 X1_1 ∧ (∀ r m, Q1_1 r m → (r = some (vi 1) ∨ r = some (vi 0)) ∧ ∃ f' S' L' P', m = ((2, f'), S', L', P') ∧ f' 51 = (3, 1)) ∧ (∀ i m, X1_1 i m → (i = 3 ∨ i = 5) ∧ ∃ f' S' L' P', m = ((2, f'), S', L', P')) ∧ (∀ (S_1 L_1 : Nat → Nat → Int) (P_1 : Nat → Nat → Option Nat) (f_1 : Nat → Nat × Nat), f_1 51 = (3, 1) → (Q1_1 (some (vi 1)) ((2, f_1), S_1, L_1, P_1) → (∃ n_ : Nat, zsh ((2, f_1), S_1, L_1, P_1) 51 = (3, n_) ∧ (n_ : Int) ≤ 2147483647 ∧ (0 ≤ (0 : Int) ∧ 0 < (n_ : Int)) ∧ (Q (some (vi 0)) ((2, f_1), S_1, mm_up L_1 51 ((0 : Int).toNat) 1, P_1)))) ∧ (Q1_1 (some (vi 0)) ((2, f_1), S_1, L_1, P_1) → (∃ n_ : Nat, zsh ((2, f_1), S_1, L_1, P_1) 51 = (3, n_) ∧ (n_ : Int) ≤ 2147483647 ∧ (0 ≤ (0 : Int) ∧ 0 < (n_ : Int)) ∧ (Q (some (vi 0)) ((2, f_1), S_1, mm_up L_1 51 ((0 : Int).toNat) 0, P_1))))) ∧ (∀ (S_1 L_1 : Nat → Nat → Int) (P_1 : Nat → Nat → Option Nat) (f_1 : Nat → Nat × Nat), X1_1 3 ((2, f_1), S_1, L_1, P_1) → (Q (some (vi 1)) ((2, f_1), S_1, L_1, P_1))) ∧ (∀ (S_1 L_1 : Nat → Nat → Int) (P_1 : Nat → Nat → Option Nat) (f_1 : Nat → Nat × Nat), X1_1 5 ((2, f_1), S_1, L_1, P_1) → (Q (some (vi 2)) ((2, f_1), S_1, L_1, P_1))))) : zz_J zpX0_bisque (zz_ret Q X 2 12) 0 [some (vr 100), some (vi a), some (vr 51), none] [] ((2, f), S, L, P) (0, 0) := zz_J.go [] 400 h

theorem zmX0_bisque (l : Launch) (hl : l.stackTraces = false) : mm_Spec l yX0_bisque (wsW_ yX0_bisque cX0_bisque 4 (some .int) [((0), (16), (19), (24)), ((0), (16), (22), (53))]) (mm_rm 9 2 12) (zE zX0_bisque) := by
  refine zz_Met.JHN hl (by decide) (fun C G hhd => ztX0_bisque G hhd) ?_
  rintro as ⟨⟨t_, f⟩, S, L, P⟩ Q X h
  unfold zX0_bisque at h
  split at h
  rotate_left
  · exact h.elim
  rename_i x a out
  obtain ⟨e12_, e3_, h⟩ := mm_and2 h (fun q => q)
  rw [Bool.and_eq_true] at e12_
  cases mm_beq e12_.1
  cases mm_beq e12_.2
  cases mm_beq e3_
  try dsimp only at h
  refine ⟨rfl, ?_⟩
  obtain ⟨h51, Q1, X1, hs, hf, hx, hg, x3, x5⟩ := h
  exact zwX0_bisque_0 ⟨Q1, X1, hs, hf, hx, fun S' L' P' f' h5 => ⟨fun q => ⟨1, h5, by decide, by decide, (hg S' L' P' f').1 q⟩, fun q => ⟨1, h5, by decide, by decide, (hg S' L' P' f').2 q⟩⟩, fun S' L' P' f' q => x3 S' L' P' f' q, fun S' L' P' f' q => x5 S' L' P' f' q⟩
def zX1_chance_m : zz_Sp := fun as M Q X => match as with
  | [.inr (.inr (some h_)), .inl a, .inl b] => bif Nat.beq h_ 100 && Nat.beq M.1.1 2 then (∃ (Q1_ : Option zv → zz_M → Prop) (X1_ : Nat → zz_M → Prop), zX1_chance [vr 100, vi a, vi b] ((2, M.1.2), M.2.1, M.2.2.1, M.2.2.2) Q1_ X1_ ∧ (∀ r m, Q1_ r m → (∃ v : Int, r = some (vi v)) ∧ ∃ f' S' L' P', m = ((2, f'), S', L', P') ∧ f' 51 = (3, 1)) ∧ (∀ i m, X1_ i m → (i = 3 ∨ i = 1 ∨ i = 5) ∧ ∃ f' S' L' P', m = ((2, f'), S', L', P')) ∧ (∀ (v_ : Int) (S_ L_ : Nat → Nat → Int) (P_ : Nat → Nat → Option Nat) (f_ : Nat → Nat × Nat), f_ 51 = (3, 1) → Q1_ (some (vi v_)) ((2, f_), S_, L_, P_) → Q (some (vi (nz v_))) ((2, f_), S_, L_, P_)) ∧ (∀ (S_ L_ : Nat → Nat → Int) (P_ : Nat → Nat → Option Nat) (f_ : Nat → Nat × Nat), X1_ 3 ((2, f_), S_, L_, P_) → X 3 ((2, f_), S_, L_, P_)) ∧ (∀ (S_ L_ : Nat → Nat → Int) (P_ : Nat → Nat → Option Nat) (f_ : Nat → Nat × Nat), X1_ 1 ((2, f_), S_, L_, P_) → X 1 ((2, f_), S_, L_, P_)) ∧ (∀ (S_ L_ : Nat → Nat → Int) (P_ : Nat → Nat → Option Nat) (f_ : Nat → Nat × Nat), X1_ 5 ((2, f_), S_, L_, P_) → X 5 ((2, f_), S_, L_, P_))) else False
  | _ => False

theorem zmX1_chance_m (l : Launch) (hl : l.stackTraces = false) : mm_Spec l yX1_chance (ws_ yX1_chance cX1_chance 3 (some .int)) (mm_rm 24 3 18) (zE zX1_chance_m) := by
  rintro as M Q X ⟨as', M', Q', X', rfl, rfl, h, hQ, hX⟩
  obtain ⟨⟨t_, f⟩, S, L, P⟩ := M'
  unfold zX1_chance_m at h
  split at h
  rotate_left
  · exact h.elim
  rename_i h_ a b
  obtain ⟨e1_, e2_, h⟩ := mm_and2 h (fun q => q)
  cases mm_beq e1_
  cases mm_beq e2_
  try dsimp only at h
  obtain ⟨Q1, X1, hs, hf, hx, hg, x3, x1, x5⟩ := h
  refine zmX1_chance l hl _ _ _ _ ⟨_, _, Q1, X1, rfl, rfl, hs, fun r m q => ?_, fun i m E hE q => ?_⟩
  · obtain ⟨⟨v, rfl⟩, f', S', L', P', rfl, h51⟩ := hf r m q
    rw [nz_ev v]
    exact hQ _ _ (hg v S' L' P' f' h51 q)
  · obtain ⟨rfl | rfl | rfl, f', S', L', P', rfl⟩ := hx i m q
    · exact hX _ _ _ hE (x3 S' L' P' f' q)
    · exact hX _ _ _ hE (x1 S' L' P' f' q)
    · exact hX _ _ _ hE (x5 S' L' P' f' q)
def zX0_chance : zz_Sp := fun as M Q X => match as with
  | [.inr (.inr (some x)), .inl a, .inl b, .inr (.inr (some out))] => bif Nat.beq M.1.1 2 && Nat.beq x 100 && Nat.beq out 51 then (M.1.2 51 = (3, 1) ∧ ∃ (Q1_ : Option zv → zz_M → Prop) (X1_ : Nat → zz_M → Prop), zX1_chance [vr 100, vi a, vi b] ((2, M.1.2), M.2.1, M.2.2.1, M.2.2.2) Q1_ X1_ ∧ (∀ r m, Q1_ r m → (∃ v : Int, r = some (vi v)) ∧ ∃ f' S' L' P', m = ((2, f'), S', L', P') ∧ f' 51 = (3, 1)) ∧ (∀ i m, X1_ i m → (i = 3 ∨ i = 1 ∨ i = 5) ∧ ∃ f' S' L' P', m = ((2, f'), S', L', P')) ∧ (∀ (v_ : Int) (S_ L_ : Nat → Nat → Int) (P_ : Nat → Nat → Option Nat) (f_ : Nat → Nat × Nat), Q1_ (some (vi v_)) ((2, f_), S_, L_, P_) → Q (some (vi 0)) ((2, f_), S_, mm_up L_ 51 0 (nz v_), P_)) ∧ (∀ (S_ L_ : Nat → Nat → Int) (P_ : Nat → Nat → Option Nat) (f_ : Nat → Nat × Nat), X1_ 3 ((2, f_), S_, L_, P_) → Q (some (vi 1)) ((2, f_), S_, L_, P_)) ∧ (∀ (S_ L_ : Nat → Nat → Int) (P_ : Nat → Nat → Option Nat) (f_ : Nat → Nat × Nat), X1_ 1 ((2, f_), S_, L_, P_) → Q (some (vi 2)) ((2, f_), S_, L_, P_)) ∧ (∀ (S_ L_ : Nat → Nat → Int) (P_ : Nat → Nat → Option Nat) (f_ : Nat → Nat × Nat), X1_ 5 ((2, f_), S_, L_, P_) → Q (some (vi 3)) ((2, f_), S_, L_, P_))) else False
  | _ => False

theorem hcX0_chance_5 : ∀ q ∈ ([(3, 15, 4), (1, 19, 4), (5, 23, 4)] : mm_H), ∀ E, mm_ex[q.1]? = some E → mm_ct RX0 cX0_chance 5 [((0), (10), (13), (24)), ((0), (10), (17), (13)), ((0), (10), (21), (53))] 5 E q.2.1 q.2.2 := by
  intro q hq E hE
  simp only [List.mem_cons, List.not_mem_nil, or_false] at hq
  rcases hq with rfl | rfl | rfl
  · cases hE
    exact ⟨[], ⟨0, 10, 13, 24⟩, [⟨0, 10, 17, 13⟩, ⟨0, 10, 21, 53⟩], rfl, fun z hz => absurd hz List.not_mem_nil, by decide, by decide, q1299, q1329, by decide, Or.inr ⟨dX0_chance_13, rfl⟩, by decide⟩
  · cases hE
    exact ⟨[⟨0, 10, 13, 24⟩], ⟨0, 10, 17, 13⟩, [⟨0, 10, 21, 53⟩], rfl, fun z hz => by
      simp only [List.mem_cons, List.not_mem_nil, or_false] at hz
      rcases hz with rfl
      · exact Or.inr ⟨by decide, "java/lang/IndexOutOfBoundsException", by decide, q1299, by decide⟩, by decide, by decide, q598, q785, by decide, Or.inr ⟨dX0_chance_17, rfl⟩, by decide⟩
  · cases hE
    exact ⟨[⟨0, 10, 13, 24⟩, ⟨0, 10, 17, 13⟩], ⟨0, 10, 21, 53⟩, [], rfl, fun z hz => by
      simp only [List.mem_cons, List.not_mem_nil, or_false] at hz
      rcases hz with rfl | rfl
      · exact Or.inr ⟨by decide, "java/lang/IndexOutOfBoundsException", by decide, q1299, by decide⟩
      · exact Or.inr ⟨by decide, "java/lang/IllegalArgumentException", by decide, q598, by decide⟩, by decide, by decide, q1513, q1528, by decide, Or.inr ⟨dX0_chance_21, rfl⟩, by decide⟩
def zpX0_chance : zz_P := [(0, zo_ald 1 3), (1, zo_c 2 (vi 0)), (2, zo_ald 3 0), (3, zo_ild 4 1), (4, zo_ild 5 2), (5, zo_cvLH (mm_rm 25 3 18) 8 3 0 3 18 [(3, 15, 4), (1, 19, 4), (5, 23, 4)] zX1_chance_m), (8, zo_i2l 9), (9, zo_lasp 10), (10, zo_goto 25), (15, zo_c 16 (vi 1)), (16, zo_iret), (19, zo_c 20 (vi 2)), (20, zo_iret), (23, zo_c 24 (vi 3)), (24, zo_iret), (25, zo_c 26 (vi 0)), (26, zo_iret)]
theorem ztX0_chance {C : mm_C} (G : mm_G C RX0 cX0_chance (some .int) 5 (mm_rm 25 3 18)) (hhd : mm_hd C [((0), (10), (13), (24)), ((0), (10), (17), (13)), ((0), (10), (21), (53))]) : zz_OKs C zpX0_chance :=
  ⟨zz_of (ok_aload_n G dX0_chance_0 rfl rfl) (z_ald _ _),
   zz_of (ok_iconst G (v := 0) dX0_chance_1 (by decide) rfl) (z_cn 2 0),
   zz_of (ok_aload_n G dX0_chance_2 rfl rfl) (z_ald _ _),
   zz_of (ok_iload_n G dX0_chance_3 rfl rfl) (z_ild _ _),
   zz_of (ok_iload_n G dX0_chance_4 rfl rfl) (z_ild _ _),
   zz_of (ok_calvFH G hhd (hs := [(3, 15, 4), (1, 19, 4), (5, 23, 4)]) (pc := 5) hcX0_chance_5 (zmX1_chance_m _ G.hst) (RX1, TX1, 19) rfl q1571 q1572 q1573 q82 q1574 (by decide +kernel) ⟨Nat.le_of_ble_eq_true rfl, Nat.le_of_ble_eq_true rfl⟩ dX0_chance_5 rfl) (z_cvLH _ _ _ _ _ _ _ _),
   zz_of (ok_i2l G dX0_chance_8 rfl) (z_i2l _),
   zz_of (ok_last G dX0_chance_9 rfl) (z_lasp _),
   zz_of (ok_goto G dX0_chance_10 rfl) (z_goto _),
   zz_of (ok_iconst G (v := 1) dX0_chance_15 (by decide) rfl) (z_cn 16 1),
   zz_of (ok_iret G dX0_chance_16) (z_iret),
   zz_of (ok_iconst G (v := 2) dX0_chance_19 (by decide) rfl) (z_cn 20 2),
   zz_of (ok_iret G dX0_chance_20) (z_iret),
   zz_of (ok_iconst G (v := 3) dX0_chance_23 (by decide) rfl) (z_cn 24 3),
   zz_of (ok_iret G dX0_chance_24) (z_iret),
   zz_of (ok_iconst G (v := 0) dX0_chance_25 (by decide) rfl) (z_cn 26 0),
   zz_of (ok_iret G dX0_chance_26) (z_iret), trivial⟩

theorem zwX0_chance_0 {Q : Option zv → zz_M → Prop} {X : Nat → zz_M → Prop} {f : Nat → Nat × Nat} {S L : Nat → Nat → Int} {P : Nat → Nat → Option Nat} {a : Int} {b : Int} (h : (∃ (Q1_1 : Option zv → zz_M → Prop) (X1_1 : Nat → zz_M → Prop), zX1_chance [vr 100, vi a, vi b] ((2, f), S, L, P) Q1_1 X1_1 ∧ (∀ r m, Q1_1 r m → (∃ v : Int, r = some (vi v)) ∧ ∃ f' S' L' P', m = ((2, f'), S', L', P') ∧ f' 51 = (3, 1)) ∧ (∀ i m, X1_1 i m → (i = 3 ∨ i = 1 ∨ i = 5) ∧ ∃ f' S' L' P', m = ((2, f'), S', L', P')) ∧ (∀ (v_1 : Int) (S_1 L_1 : Nat → Nat → Int) (P_1 : Nat → Nat → Option Nat) (f_1 : Nat → Nat × Nat), f_1 51 = (3, 1) → Q1_1 (some (vi v_1)) ((2, f_1), S_1, L_1, P_1) → (R32 (nz v_1) ∧ (∃ n_ : Nat, zsh ((2, f_1), S_1, L_1, P_1) 51 = (3, n_) ∧ (n_ : Int) ≤ 2147483647 ∧ (0 ≤ (0 : Int) ∧ 0 < (n_ : Int)) ∧ (Q (some (vi 0)) ((2, f_1), S_1, mm_up L_1 51 ((0 : Int).toNat) (nz v_1), P_1))))) ∧ (∀ (S_1 L_1 : Nat → Nat → Int) (P_1 : Nat → Nat → Option Nat) (f_1 : Nat → Nat × Nat), X1_1 3 ((2, f_1), S_1, L_1, P_1) → (Q (some (vi 1)) ((2, f_1), S_1, L_1, P_1))) ∧ (∀ (S_1 L_1 : Nat → Nat → Int) (P_1 : Nat → Nat → Option Nat) (f_1 : Nat → Nat × Nat), X1_1 1 ((2, f_1), S_1, L_1, P_1) → (Q (some (vi 2)) ((2, f_1), S_1, L_1, P_1))) ∧ (∀ (S_1 L_1 : Nat → Nat → Int) (P_1 : Nat → Nat → Option Nat) (f_1 : Nat → Nat × Nat), X1_1 5 ((2, f_1), S_1, L_1, P_1) → (Q (some (vi 3)) ((2, f_1), S_1, L_1, P_1))))) : zz_J zpX0_chance (zz_ret Q X 3 18) 0 [some (vr 100), some (vi a), some (vi b), some (vr 51), none] [] ((2, f), S, L, P) (0, 0) := zz_J.go [] 400 h

theorem zmX0_chance (l : Launch) (hl : l.stackTraces = false) : mm_Spec l yX0_chance (wsW_ yX0_chance cX0_chance 5 (some .int) [((0), (10), (13), (24)), ((0), (10), (17), (13)), ((0), (10), (21), (53))]) (mm_rm 25 3 18) (zE zX0_chance) := by
  refine zz_Met.JHN hl (by decide) (fun C G hhd => ztX0_chance G hhd) ?_
  rintro as ⟨⟨t_, f⟩, S, L, P⟩ Q X h
  unfold zX0_chance at h
  split at h
  rotate_left
  · exact h.elim
  rename_i x a b out
  obtain ⟨e12_, e3_, h⟩ := mm_and2 h (fun q => q)
  rw [Bool.and_eq_true] at e12_
  cases mm_beq e12_.1
  cases mm_beq e12_.2
  cases mm_beq e3_
  try dsimp only at h
  refine ⟨rfl, ?_⟩
  obtain ⟨h51, Q1, X1, hs, hf, hx, hg, x3, x1, x5⟩ := h
  exact zwX0_chance_0 ⟨Q1, X1, hs, hf, hx, fun v S' L' P' f' h5 q => ⟨nz_R v, 1, h5, by decide, by decide, hg v S' L' P' f' q⟩, fun S' L' P' f' q => x3 S' L' P' f' q, fun S' L' P' f' q => x1 S' L' P' f' q, fun S' L' P' f' q => x5 S' L' P' f' q⟩
def zX1_best_m : zz_Sp := fun as M Q X => match as with
  | [.inr (.inr (some h_)), .inl a, .inl b, .inl c] => bif Nat.beq h_ 100 && Nat.beq M.1.1 2 then (∃ (Q1_ : Option zv → zz_M → Prop) (X1_ : Nat → zz_M → Prop), zX1_best [vr 100, vi a, vi b, vi c] ((2, M.1.2), M.2.1, M.2.2.1, M.2.2.2) Q1_ X1_ ∧ (∀ r m, Q1_ r m → (∃ v : Int, r = some (vi v)) ∧ ∃ f' S' L' P', m = ((2, f'), S', L', P') ∧ f' 51 = (3, 1)) ∧ (∀ i m, X1_ i m → (i = 3 ∨ i = 1 ∨ i = 5) ∧ ∃ f' S' L' P', m = ((2, f'), S', L', P')) ∧ (∀ (v_ : Int) (S_ L_ : Nat → Nat → Int) (P_ : Nat → Nat → Option Nat) (f_ : Nat → Nat × Nat), f_ 51 = (3, 1) → Q1_ (some (vi v_)) ((2, f_), S_, L_, P_) → Q (some (vi (nz v_))) ((2, f_), S_, L_, P_)) ∧ (∀ (S_ L_ : Nat → Nat → Int) (P_ : Nat → Nat → Option Nat) (f_ : Nat → Nat × Nat), X1_ 3 ((2, f_), S_, L_, P_) → X 3 ((2, f_), S_, L_, P_)) ∧ (∀ (S_ L_ : Nat → Nat → Int) (P_ : Nat → Nat → Option Nat) (f_ : Nat → Nat × Nat), X1_ 1 ((2, f_), S_, L_, P_) → X 1 ((2, f_), S_, L_, P_)) ∧ (∀ (S_ L_ : Nat → Nat → Int) (P_ : Nat → Nat → Option Nat) (f_ : Nat → Nat × Nat), X1_ 5 ((2, f_), S_, L_, P_) → X 5 ((2, f_), S_, L_, P_))) else False
  | _ => False

theorem zmX1_best_m (l : Launch) (hl : l.stackTraces = false) : mm_Spec l yX1_best (ws_ yX1_best cX1_best 5 (some .int)) (mm_rm 24 3 18) (zE zX1_best_m) := by
  rintro as M Q X ⟨as', M', Q', X', rfl, rfl, h, hQ, hX⟩
  obtain ⟨⟨t_, f⟩, S, L, P⟩ := M'
  unfold zX1_best_m at h
  split at h
  rotate_left
  · exact h.elim
  rename_i h_ a b c
  obtain ⟨e1_, e2_, h⟩ := mm_and2 h (fun q => q)
  cases mm_beq e1_
  cases mm_beq e2_
  try dsimp only at h
  obtain ⟨Q1, X1, hs, hf, hx, hg, x3, x1, x5⟩ := h
  refine zmX1_best l hl _ _ _ _ ⟨_, _, Q1, X1, rfl, rfl, hs, fun r m q => ?_, fun i m E hE q => ?_⟩
  · obtain ⟨⟨v, rfl⟩, f', S', L', P', rfl, h51⟩ := hf r m q
    rw [nz_ev v]
    exact hQ _ _ (hg v S' L' P' f' h51 q)
  · obtain ⟨rfl | rfl | rfl, f', S', L', P', rfl⟩ := hx i m q
    · exact hX _ _ _ hE (x3 S' L' P' f' q)
    · exact hX _ _ _ hE (x1 S' L' P' f' q)
    · exact hX _ _ _ hE (x5 S' L' P' f' q)
def zX0_best : zz_Sp := fun as M Q X => match as with
  | [.inr (.inr (some x)), .inl a, .inl b, .inl c, .inr (.inr (some out))] => bif Nat.beq M.1.1 2 && Nat.beq x 100 && Nat.beq out 51 then (M.1.2 51 = (3, 1) ∧ ∃ (Q1_ : Option zv → zz_M → Prop) (X1_ : Nat → zz_M → Prop), zX1_best [vr 100, vi a, vi b, vi c] ((2, M.1.2), M.2.1, M.2.2.1, M.2.2.2) Q1_ X1_ ∧ (∀ r m, Q1_ r m → (∃ v : Int, r = some (vi v)) ∧ ∃ f' S' L' P', m = ((2, f'), S', L', P') ∧ f' 51 = (3, 1)) ∧ (∀ i m, X1_ i m → (i = 3 ∨ i = 1 ∨ i = 5) ∧ ∃ f' S' L' P', m = ((2, f'), S', L', P')) ∧ (∀ (v_ : Int) (S_ L_ : Nat → Nat → Int) (P_ : Nat → Nat → Option Nat) (f_ : Nat → Nat × Nat), Q1_ (some (vi v_)) ((2, f_), S_, L_, P_) → Q (some (vi 0)) ((2, f_), S_, mm_up L_ 51 0 (nz v_), P_)) ∧ (∀ (S_ L_ : Nat → Nat → Int) (P_ : Nat → Nat → Option Nat) (f_ : Nat → Nat × Nat), X1_ 3 ((2, f_), S_, L_, P_) → Q (some (vi 1)) ((2, f_), S_, L_, P_)) ∧ (∀ (S_ L_ : Nat → Nat → Int) (P_ : Nat → Nat → Option Nat) (f_ : Nat → Nat × Nat), X1_ 1 ((2, f_), S_, L_, P_) → Q (some (vi 2)) ((2, f_), S_, L_, P_)) ∧ (∀ (S_ L_ : Nat → Nat → Int) (P_ : Nat → Nat → Option Nat) (f_ : Nat → Nat × Nat), X1_ 5 ((2, f_), S_, L_, P_) → Q (some (vi 3)) ((2, f_), S_, L_, P_))) else False
  | _ => False

theorem hcX0_best_7 : ∀ q ∈ ([(3, 17, 5), (1, 21, 5), (5, 25, 5)] : mm_H), ∀ E, mm_ex[q.1]? = some E → mm_ct RX0 cX0_best 6 [((0), (12), (15), (24)), ((0), (12), (19), (13)), ((0), (12), (23), (53))] 7 E q.2.1 q.2.2 := by
  intro q hq E hE
  simp only [List.mem_cons, List.not_mem_nil, or_false] at hq
  rcases hq with rfl | rfl | rfl
  · cases hE
    exact ⟨[], ⟨0, 12, 15, 24⟩, [⟨0, 12, 19, 13⟩, ⟨0, 12, 23, 53⟩], rfl, fun z hz => absurd hz List.not_mem_nil, by decide, by decide, q1299, q1329, by decide, Or.inr ⟨dX0_best_15, rfl⟩, by decide⟩
  · cases hE
    exact ⟨[⟨0, 12, 15, 24⟩], ⟨0, 12, 19, 13⟩, [⟨0, 12, 23, 53⟩], rfl, fun z hz => by
      simp only [List.mem_cons, List.not_mem_nil, or_false] at hz
      rcases hz with rfl
      · exact Or.inr ⟨by decide, "java/lang/IndexOutOfBoundsException", by decide, q1299, by decide⟩, by decide, by decide, q598, q785, by decide, Or.inr ⟨dX0_best_19, rfl⟩, by decide⟩
  · cases hE
    exact ⟨[⟨0, 12, 15, 24⟩, ⟨0, 12, 19, 13⟩], ⟨0, 12, 23, 53⟩, [], rfl, fun z hz => by
      simp only [List.mem_cons, List.not_mem_nil, or_false] at hz
      rcases hz with rfl | rfl
      · exact Or.inr ⟨by decide, "java/lang/IndexOutOfBoundsException", by decide, q1299, by decide⟩
      · exact Or.inr ⟨by decide, "java/lang/IllegalArgumentException", by decide, q598, by decide⟩, by decide, by decide, q1513, q1528, by decide, Or.inr ⟨dX0_best_23, rfl⟩, by decide⟩
def zpX0_best : zz_P := [(0, zo_ald 2 4), (2, zo_c 3 (vi 0)), (3, zo_ald 4 0), (4, zo_ild 5 1), (5, zo_ild 6 2), (6, zo_ild 7 3), (7, zo_cvLH (mm_rm 25 3 18) 10 4 0 3 18 [(3, 17, 5), (1, 21, 5), (5, 25, 5)] zX1_best_m), (10, zo_i2l 11), (11, zo_lasp 12), (12, zo_goto 27), (17, zo_c 18 (vi 1)), (18, zo_iret), (21, zo_c 22 (vi 2)), (22, zo_iret), (25, zo_c 26 (vi 3)), (26, zo_iret), (27, zo_c 28 (vi 0)), (28, zo_iret)]
theorem ztX0_best {C : mm_C} (G : mm_G C RX0 cX0_best (some .int) 6 (mm_rm 25 3 18)) (hhd : mm_hd C [((0), (12), (15), (24)), ((0), (12), (19), (13)), ((0), (12), (23), (53))]) : zz_OKs C zpX0_best :=
  ⟨zz_of (ok_aload G dX0_best_0 rfl) (z_ald _ _),
   zz_of (ok_iconst G (v := 0) dX0_best_2 (by decide) rfl) (z_cn 3 0),
   zz_of (ok_aload_n G dX0_best_3 rfl rfl) (z_ald _ _),
   zz_of (ok_iload_n G dX0_best_4 rfl rfl) (z_ild _ _),
   zz_of (ok_iload_n G dX0_best_5 rfl rfl) (z_ild _ _),
   zz_of (ok_iload_n G dX0_best_6 rfl rfl) (z_ild _ _),
   zz_of (ok_calvFH G hhd (hs := [(3, 17, 5), (1, 21, 5), (5, 25, 5)]) (pc := 7) hcX0_best_7 (zmX1_best_m _ G.hst) (RX1, TX1, 19) rfl q1650 q1651 q1652 q82 q1653 (by decide +kernel) ⟨Nat.le_of_ble_eq_true rfl, Nat.le_of_ble_eq_true rfl⟩ dX0_best_7 rfl) (z_cvLH _ _ _ _ _ _ _ _),
   zz_of (ok_i2l G dX0_best_10 rfl) (z_i2l _),
   zz_of (ok_last G dX0_best_11 rfl) (z_lasp _),
   zz_of (ok_goto G dX0_best_12 rfl) (z_goto _),
   zz_of (ok_iconst G (v := 1) dX0_best_17 (by decide) rfl) (z_cn 18 1),
   zz_of (ok_iret G dX0_best_18) (z_iret),
   zz_of (ok_iconst G (v := 2) dX0_best_21 (by decide) rfl) (z_cn 22 2),
   zz_of (ok_iret G dX0_best_22) (z_iret),
   zz_of (ok_iconst G (v := 3) dX0_best_25 (by decide) rfl) (z_cn 26 3),
   zz_of (ok_iret G dX0_best_26) (z_iret),
   zz_of (ok_iconst G (v := 0) dX0_best_27 (by decide) rfl) (z_cn 28 0),
   zz_of (ok_iret G dX0_best_28) (z_iret), trivial⟩

theorem zwX0_best_0 {Q : Option zv → zz_M → Prop} {X : Nat → zz_M → Prop} {f : Nat → Nat × Nat} {S L : Nat → Nat → Int} {P : Nat → Nat → Option Nat} {a : Int} {b : Int} {c : Int} (h : (∃ (Q1_1 : Option zv → zz_M → Prop) (X1_1 : Nat → zz_M → Prop), zX1_best [vr 100, vi a, vi b, vi c] ((2, f), S, L, P) Q1_1 X1_1 ∧ (∀ r m, Q1_1 r m → (∃ v : Int, r = some (vi v)) ∧ ∃ f' S' L' P', m = ((2, f'), S', L', P') ∧ f' 51 = (3, 1)) ∧ (∀ i m, X1_1 i m → (i = 3 ∨ i = 1 ∨ i = 5) ∧ ∃ f' S' L' P', m = ((2, f'), S', L', P')) ∧ (∀ (v_1 : Int) (S_1 L_1 : Nat → Nat → Int) (P_1 : Nat → Nat → Option Nat) (f_1 : Nat → Nat × Nat), f_1 51 = (3, 1) → Q1_1 (some (vi v_1)) ((2, f_1), S_1, L_1, P_1) → (R32 (nz v_1) ∧ (∃ n_ : Nat, zsh ((2, f_1), S_1, L_1, P_1) 51 = (3, n_) ∧ (n_ : Int) ≤ 2147483647 ∧ (0 ≤ (0 : Int) ∧ 0 < (n_ : Int)) ∧ (Q (some (vi 0)) ((2, f_1), S_1, mm_up L_1 51 ((0 : Int).toNat) (nz v_1), P_1))))) ∧ (∀ (S_1 L_1 : Nat → Nat → Int) (P_1 : Nat → Nat → Option Nat) (f_1 : Nat → Nat × Nat), X1_1 3 ((2, f_1), S_1, L_1, P_1) → (Q (some (vi 1)) ((2, f_1), S_1, L_1, P_1))) ∧ (∀ (S_1 L_1 : Nat → Nat → Int) (P_1 : Nat → Nat → Option Nat) (f_1 : Nat → Nat × Nat), X1_1 1 ((2, f_1), S_1, L_1, P_1) → (Q (some (vi 2)) ((2, f_1), S_1, L_1, P_1))) ∧ (∀ (S_1 L_1 : Nat → Nat → Int) (P_1 : Nat → Nat → Option Nat) (f_1 : Nat → Nat × Nat), X1_1 5 ((2, f_1), S_1, L_1, P_1) → (Q (some (vi 3)) ((2, f_1), S_1, L_1, P_1))))) : zz_J zpX0_best (zz_ret Q X 3 18) 0 [some (vr 100), some (vi a), some (vi b), some (vi c), some (vr 51), none] [] ((2, f), S, L, P) (0, 0) := zz_J.go [] 400 h

theorem zmX0_best (l : Launch) (hl : l.stackTraces = false) : mm_Spec l yX0_best (wsW_ yX0_best cX0_best 6 (some .int) [((0), (12), (15), (24)), ((0), (12), (19), (13)), ((0), (12), (23), (53))]) (mm_rm 25 3 18) (zE zX0_best) := by
  refine zz_Met.JHN hl (by decide) (fun C G hhd => ztX0_best G hhd) ?_
  rintro as ⟨⟨t_, f⟩, S, L, P⟩ Q X h
  unfold zX0_best at h
  split at h
  rotate_left
  · exact h.elim
  rename_i x a b c out
  obtain ⟨e12_, e3_, h⟩ := mm_and2 h (fun q => q)
  rw [Bool.and_eq_true] at e12_
  cases mm_beq e12_.1
  cases mm_beq e12_.2
  cases mm_beq e3_
  try dsimp only at h
  refine ⟨rfl, ?_⟩
  obtain ⟨h51, Q1, X1, hs, hf, hx, hg, x3, x1, x5⟩ := h
  exact zwX0_best_0 ⟨Q1, X1, hs, hf, hx, fun v S' L' P' f' h5 q => ⟨nz_R v, 1, h5, by decide, by decide, hg v S' L' P' f' q⟩, fun S' L' P' f' q => x3 S' L' P' f' q, fun S' L' P' f' q => x1 S' L' P' f' q, fun S' L' P' f' q => x5 S' L' P' f' q⟩
def zX1_saves_m : zz_Sp := fun as M Q X => match as with
  | [.inr (.inr (some h_)), .inl a, .inl b, .inl c] => bif Nat.beq h_ 100 && Nat.beq M.1.1 2 then (∃ (Q1_ : Option zv → zz_M → Prop) (X1_ : Nat → zz_M → Prop), zX1_saves [vr 100, vi a, vi b, vi c] ((2, M.1.2), M.2.1, M.2.2.1, M.2.2.2) Q1_ X1_ ∧ (∀ r m, Q1_ r m → (∃ v : Int, r = some (vi v)) ∧ ∃ f' S' L' P', m = ((2, f'), S', L', P') ∧ f' 51 = (3, 1)) ∧ (∀ i m, X1_ i m → (i = 3 ∨ i = 1 ∨ i = 5 ∨ i = 4) ∧ ∃ f' S' L' P', m = ((2, f'), S', L', P')) ∧ (∀ (v_ : Int) (S_ L_ : Nat → Nat → Int) (P_ : Nat → Nat → Option Nat) (f_ : Nat → Nat × Nat), f_ 51 = (3, 1) → Q1_ (some (vi v_)) ((2, f_), S_, L_, P_) → Q (some (vi (nz v_))) ((2, f_), S_, L_, P_)) ∧ (∀ (S_ L_ : Nat → Nat → Int) (P_ : Nat → Nat → Option Nat) (f_ : Nat → Nat × Nat), X1_ 3 ((2, f_), S_, L_, P_) → X 3 ((2, f_), S_, L_, P_)) ∧ (∀ (S_ L_ : Nat → Nat → Int) (P_ : Nat → Nat → Option Nat) (f_ : Nat → Nat × Nat), X1_ 1 ((2, f_), S_, L_, P_) → X 1 ((2, f_), S_, L_, P_)) ∧ (∀ (S_ L_ : Nat → Nat → Int) (P_ : Nat → Nat → Option Nat) (f_ : Nat → Nat × Nat), X1_ 5 ((2, f_), S_, L_, P_) → X 5 ((2, f_), S_, L_, P_)) ∧ (∀ (S_ L_ : Nat → Nat → Int) (P_ : Nat → Nat → Option Nat) (f_ : Nat → Nat × Nat), X1_ 4 ((2, f_), S_, L_, P_) → X 4 ((2, f_), S_, L_, P_))) else False
  | _ => False

theorem zmX1_saves_m (l : Launch) (hl : l.stackTraces = false) : mm_Spec l yX1_saves (ws_ yX1_saves cX1_saves 6 (some .int)) (mm_rm 24 4 24) (zE zX1_saves_m) := by
  rintro as M Q X ⟨as', M', Q', X', rfl, rfl, h, hQ, hX⟩
  obtain ⟨⟨t_, f⟩, S, L, P⟩ := M'
  unfold zX1_saves_m at h
  split at h
  rotate_left
  · exact h.elim
  rename_i h_ a b c
  obtain ⟨e1_, e2_, h⟩ := mm_and2 h (fun q => q)
  cases mm_beq e1_
  cases mm_beq e2_
  try dsimp only at h
  obtain ⟨Q1, X1, hs, hf, hx, hg, x3, x1, x5, x4⟩ := h
  refine zmX1_saves l hl _ _ _ _ ⟨_, _, Q1, X1, rfl, rfl, hs, fun r m q => ?_, fun i m E hE q => ?_⟩
  · obtain ⟨⟨v, rfl⟩, f', S', L', P', rfl, h51⟩ := hf r m q
    rw [nz_ev v]
    exact hQ _ _ (hg v S' L' P' f' h51 q)
  · obtain ⟨rfl | rfl | rfl | rfl, f', S', L', P', rfl⟩ := hx i m q
    · exact hX _ _ _ hE (x3 S' L' P' f' q)
    · exact hX _ _ _ hE (x1 S' L' P' f' q)
    · exact hX _ _ _ hE (x5 S' L' P' f' q)
    · exact hX _ _ _ hE (x4 S' L' P' f' q)
def zX0_saves : zz_Sp := fun as M Q X => match as with
  | [.inr (.inr (some x)), .inl a, .inl b, .inl c, .inr (.inr (some out))] => bif Nat.beq M.1.1 2 && Nat.beq x 100 && Nat.beq out 51 then (M.1.2 51 = (3, 1) ∧ ∃ (Q1_ : Option zv → zz_M → Prop) (X1_ : Nat → zz_M → Prop), zX1_saves [vr 100, vi a, vi b, vi c] ((2, M.1.2), M.2.1, M.2.2.1, M.2.2.2) Q1_ X1_ ∧ (∀ r m, Q1_ r m → (∃ v : Int, r = some (vi v)) ∧ ∃ f' S' L' P', m = ((2, f'), S', L', P') ∧ f' 51 = (3, 1)) ∧ (∀ i m, X1_ i m → (i = 3 ∨ i = 1 ∨ i = 5 ∨ i = 4) ∧ ∃ f' S' L' P', m = ((2, f'), S', L', P')) ∧ (∀ (v_ : Int) (S_ L_ : Nat → Nat → Int) (P_ : Nat → Nat → Option Nat) (f_ : Nat → Nat × Nat), Q1_ (some (vi v_)) ((2, f_), S_, L_, P_) → Q (some (vi 0)) ((2, f_), S_, mm_up L_ 51 0 (nz v_), P_)) ∧ (∀ (S_ L_ : Nat → Nat → Int) (P_ : Nat → Nat → Option Nat) (f_ : Nat → Nat × Nat), X1_ 3 ((2, f_), S_, L_, P_) → Q (some (vi 1)) ((2, f_), S_, L_, P_)) ∧ (∀ (S_ L_ : Nat → Nat → Int) (P_ : Nat → Nat → Option Nat) (f_ : Nat → Nat × Nat), X1_ 1 ((2, f_), S_, L_, P_) → Q (some (vi 2)) ((2, f_), S_, L_, P_)) ∧ (∀ (S_ L_ : Nat → Nat → Int) (P_ : Nat → Nat → Option Nat) (f_ : Nat → Nat × Nat), X1_ 5 ((2, f_), S_, L_, P_) → Q (some (vi 3)) ((2, f_), S_, L_, P_)) ∧ (∀ (S_ L_ : Nat → Nat → Int) (P_ : Nat → Nat → Option Nat) (f_ : Nat → Nat × Nat), X1_ 4 ((2, f_), S_, L_, P_) → Q (some (vi 4)) ((2, f_), S_, L_, P_))) else False
  | _ => False

theorem hcX0_saves_7 : ∀ q ∈ ([(3, 17, 5), (1, 21, 5), (5, 25, 5), (4, 29, 5)] : mm_H), ∀ E, mm_ex[q.1]? = some E → mm_ct RX0 cX0_saves 6 [((0), (12), (15), (24)), ((0), (12), (19), (13)), ((0), (12), (23), (53)), ((0), (12), (27), (26))] 7 E q.2.1 q.2.2 := by
  intro q hq E hE
  simp only [List.mem_cons, List.not_mem_nil, or_false] at hq
  rcases hq with rfl | rfl | rfl | rfl
  · cases hE
    exact ⟨[], ⟨0, 12, 15, 24⟩, [⟨0, 12, 19, 13⟩, ⟨0, 12, 23, 53⟩, ⟨0, 12, 27, 26⟩], rfl, fun z hz => absurd hz List.not_mem_nil, by decide, by decide, q1299, q1329, by decide, Or.inr ⟨dX0_saves_15, rfl⟩, by decide⟩
  · cases hE
    exact ⟨[⟨0, 12, 15, 24⟩], ⟨0, 12, 19, 13⟩, [⟨0, 12, 23, 53⟩, ⟨0, 12, 27, 26⟩], rfl, fun z hz => by
      simp only [List.mem_cons, List.not_mem_nil, or_false] at hz
      rcases hz with rfl
      · exact Or.inr ⟨by decide, "java/lang/IndexOutOfBoundsException", by decide, q1299, by decide⟩, by decide, by decide, q598, q785, by decide, Or.inr ⟨dX0_saves_19, rfl⟩, by decide⟩
  · cases hE
    exact ⟨[⟨0, 12, 15, 24⟩, ⟨0, 12, 19, 13⟩], ⟨0, 12, 23, 53⟩, [⟨0, 12, 27, 26⟩], rfl, fun z hz => by
      simp only [List.mem_cons, List.not_mem_nil, or_false] at hz
      rcases hz with rfl | rfl
      · exact Or.inr ⟨by decide, "java/lang/IndexOutOfBoundsException", by decide, q1299, by decide⟩
      · exact Or.inr ⟨by decide, "java/lang/IllegalArgumentException", by decide, q598, by decide⟩, by decide, by decide, q1513, q1528, by decide, Or.inr ⟨dX0_saves_23, rfl⟩, by decide⟩
  · cases hE
    exact ⟨[⟨0, 12, 15, 24⟩, ⟨0, 12, 19, 13⟩, ⟨0, 12, 23, 53⟩], ⟨0, 12, 27, 26⟩, [], rfl, fun z hz => by
      simp only [List.mem_cons, List.not_mem_nil, or_false] at hz
      rcases hz with rfl | rfl | rfl
      · exact Or.inr ⟨by decide, "java/lang/IndexOutOfBoundsException", by decide, q1299, by decide⟩
      · exact Or.inr ⟨by decide, "java/lang/IllegalArgumentException", by decide, q598, by decide⟩
      · exact Or.inr ⟨by decide, "java/lang/IllegalStateException", by decide, q1513, by decide⟩, by decide, by decide, q1318, q1347, by decide, Or.inr ⟨dX0_saves_27, rfl⟩, by decide⟩
def zpX0_saves : zz_P := [(0, zo_ald 2 4), (2, zo_c 3 (vi 0)), (3, zo_ald 4 0), (4, zo_ild 5 1), (5, zo_ild 6 2), (6, zo_ild 7 3), (7, zo_cvLH (mm_rm 25 4 24) 10 4 0 4 24 [(3, 17, 5), (1, 21, 5), (5, 25, 5), (4, 29, 5)] zX1_saves_m), (10, zo_i2l 11), (11, zo_lasp 12), (12, zo_goto 31), (17, zo_c 18 (vi 1)), (18, zo_iret), (21, zo_c 22 (vi 2)), (22, zo_iret), (25, zo_c 26 (vi 3)), (26, zo_iret), (29, zo_c 30 (vi 4)), (30, zo_iret), (31, zo_c 32 (vi 0)), (32, zo_iret)]
theorem ztX0_saves {C : mm_C} (G : mm_G C RX0 cX0_saves (some .int) 6 (mm_rm 25 4 24)) (hhd : mm_hd C [((0), (12), (15), (24)), ((0), (12), (19), (13)), ((0), (12), (23), (53)), ((0), (12), (27), (26))]) : zz_OKs C zpX0_saves :=
  ⟨zz_of (ok_aload G dX0_saves_0 rfl) (z_ald _ _),
   zz_of (ok_iconst G (v := 0) dX0_saves_2 (by decide) rfl) (z_cn 3 0),
   zz_of (ok_aload_n G dX0_saves_3 rfl rfl) (z_ald _ _),
   zz_of (ok_iload_n G dX0_saves_4 rfl rfl) (z_ild _ _),
   zz_of (ok_iload_n G dX0_saves_5 rfl rfl) (z_ild _ _),
   zz_of (ok_iload_n G dX0_saves_6 rfl rfl) (z_ild _ _),
   zz_of (ok_calvFH G hhd (hs := [(3, 17, 5), (1, 21, 5), (5, 25, 5), (4, 29, 5)]) (pc := 7) hcX0_saves_7 (zmX1_saves_m _ G.hst) (RX1, TX1, 19) rfl q1659 q1660 q1661 q82 q1662 (by decide +kernel) ⟨Nat.le_of_ble_eq_true rfl, Nat.le_of_ble_eq_true rfl⟩ dX0_saves_7 rfl) (z_cvLH _ _ _ _ _ _ _ _),
   zz_of (ok_i2l G dX0_saves_10 rfl) (z_i2l _),
   zz_of (ok_last G dX0_saves_11 rfl) (z_lasp _),
   zz_of (ok_goto G dX0_saves_12 rfl) (z_goto _),
   zz_of (ok_iconst G (v := 1) dX0_saves_17 (by decide) rfl) (z_cn 18 1),
   zz_of (ok_iret G dX0_saves_18) (z_iret),
   zz_of (ok_iconst G (v := 2) dX0_saves_21 (by decide) rfl) (z_cn 22 2),
   zz_of (ok_iret G dX0_saves_22) (z_iret),
   zz_of (ok_iconst G (v := 3) dX0_saves_25 (by decide) rfl) (z_cn 26 3),
   zz_of (ok_iret G dX0_saves_26) (z_iret),
   zz_of (ok_iconst G (v := 4) dX0_saves_29 (by decide) rfl) (z_cn 30 4),
   zz_of (ok_iret G dX0_saves_30) (z_iret),
   zz_of (ok_iconst G (v := 0) dX0_saves_31 (by decide) rfl) (z_cn 32 0),
   zz_of (ok_iret G dX0_saves_32) (z_iret), trivial⟩

theorem zwX0_saves_0 {Q : Option zv → zz_M → Prop} {X : Nat → zz_M → Prop} {f : Nat → Nat × Nat} {S L : Nat → Nat → Int} {P : Nat → Nat → Option Nat} {a : Int} {b : Int} {c : Int} (h : (∃ (Q1_1 : Option zv → zz_M → Prop) (X1_1 : Nat → zz_M → Prop), zX1_saves [vr 100, vi a, vi b, vi c] ((2, f), S, L, P) Q1_1 X1_1 ∧ (∀ r m, Q1_1 r m → (∃ v : Int, r = some (vi v)) ∧ ∃ f' S' L' P', m = ((2, f'), S', L', P') ∧ f' 51 = (3, 1)) ∧ (∀ i m, X1_1 i m → (i = 3 ∨ i = 1 ∨ i = 5 ∨ i = 4) ∧ ∃ f' S' L' P', m = ((2, f'), S', L', P')) ∧ (∀ (v_1 : Int) (S_1 L_1 : Nat → Nat → Int) (P_1 : Nat → Nat → Option Nat) (f_1 : Nat → Nat × Nat), f_1 51 = (3, 1) → Q1_1 (some (vi v_1)) ((2, f_1), S_1, L_1, P_1) → (R32 (nz v_1) ∧ (∃ n_ : Nat, zsh ((2, f_1), S_1, L_1, P_1) 51 = (3, n_) ∧ (n_ : Int) ≤ 2147483647 ∧ (0 ≤ (0 : Int) ∧ 0 < (n_ : Int)) ∧ (Q (some (vi 0)) ((2, f_1), S_1, mm_up L_1 51 ((0 : Int).toNat) (nz v_1), P_1))))) ∧ (∀ (S_1 L_1 : Nat → Nat → Int) (P_1 : Nat → Nat → Option Nat) (f_1 : Nat → Nat × Nat), X1_1 3 ((2, f_1), S_1, L_1, P_1) → (Q (some (vi 1)) ((2, f_1), S_1, L_1, P_1))) ∧ (∀ (S_1 L_1 : Nat → Nat → Int) (P_1 : Nat → Nat → Option Nat) (f_1 : Nat → Nat × Nat), X1_1 1 ((2, f_1), S_1, L_1, P_1) → (Q (some (vi 2)) ((2, f_1), S_1, L_1, P_1))) ∧ (∀ (S_1 L_1 : Nat → Nat → Int) (P_1 : Nat → Nat → Option Nat) (f_1 : Nat → Nat × Nat), X1_1 5 ((2, f_1), S_1, L_1, P_1) → (Q (some (vi 3)) ((2, f_1), S_1, L_1, P_1))) ∧ (∀ (S_1 L_1 : Nat → Nat → Int) (P_1 : Nat → Nat → Option Nat) (f_1 : Nat → Nat × Nat), X1_1 4 ((2, f_1), S_1, L_1, P_1) → (Q (some (vi 4)) ((2, f_1), S_1, L_1, P_1))))) : zz_J zpX0_saves (zz_ret Q X 4 24) 0 [some (vr 100), some (vi a), some (vi b), some (vi c), some (vr 51), none] [] ((2, f), S, L, P) (0, 0) := zz_J.go [] 400 h

theorem zmX0_saves (l : Launch) (hl : l.stackTraces = false) : mm_Spec l yX0_saves (wsW_ yX0_saves cX0_saves 6 (some .int) [((0), (12), (15), (24)), ((0), (12), (19), (13)), ((0), (12), (23), (53)), ((0), (12), (27), (26))]) (mm_rm 25 4 24) (zE zX0_saves) := by
  refine zz_Met.JHN hl (by decide) (fun C G hhd => ztX0_saves G hhd) ?_
  rintro as ⟨⟨t_, f⟩, S, L, P⟩ Q X h
  unfold zX0_saves at h
  split at h
  rotate_left
  · exact h.elim
  rename_i x a b c out
  obtain ⟨e12_, e3_, h⟩ := mm_and2 h (fun q => q)
  rw [Bool.and_eq_true] at e12_
  cases mm_beq e12_.1
  cases mm_beq e12_.2
  cases mm_beq e3_
  try dsimp only at h
  refine ⟨rfl, ?_⟩
  obtain ⟨h51, Q1, X1, hs, hf, hx, hg, x3, x1, x5, x4⟩ := h
  exact zwX0_saves_0 ⟨Q1, X1, hs, hf, hx, fun v S' L' P' f' h5 q => ⟨nz_R v, 1, h5, by decide, by decide, hg v S' L' P' f' q⟩, fun S' L' P' f' q => x3 S' L' P' f' q, fun S' L' P' f' q => x1 S' L' P' f' q, fun S' L' P' f' q => x5 S' L' P' f' q, fun S' L' P' f' q => x4 S' L' P' f' q⟩
def zX1_worth_m : zz_Sp := fun as M Q X => match as with
  | [.inr (.inr (some h_)), .inl a, .inl b, .inl c] => bif Nat.beq h_ 100 && Nat.beq M.1.1 2 then (∃ (Q1_ : Option zv → zz_M → Prop) (X1_ : Nat → zz_M → Prop), zX1_worth [vr 100, vi a, vi b, vi c] ((2, M.1.2), M.2.1, M.2.2.1, M.2.2.2) Q1_ X1_ ∧ (∀ r m, Q1_ r m → (∃ v : Int, r = some (vi v)) ∧ ∃ f' S' L' P', m = ((2, f'), S', L', P') ∧ f' 51 = (3, 1)) ∧ (∀ i m, X1_ i m → (i = 3 ∨ i = 1 ∨ i = 5) ∧ ∃ f' S' L' P', m = ((2, f'), S', L', P')) ∧ (∀ (v_ : Int) (S_ L_ : Nat → Nat → Int) (P_ : Nat → Nat → Option Nat) (f_ : Nat → Nat × Nat), f_ 51 = (3, 1) → Q1_ (some (vi v_)) ((2, f_), S_, L_, P_) → Q (some (vi (nz v_))) ((2, f_), S_, L_, P_)) ∧ (∀ (S_ L_ : Nat → Nat → Int) (P_ : Nat → Nat → Option Nat) (f_ : Nat → Nat × Nat), X1_ 3 ((2, f_), S_, L_, P_) → X 3 ((2, f_), S_, L_, P_)) ∧ (∀ (S_ L_ : Nat → Nat → Int) (P_ : Nat → Nat → Option Nat) (f_ : Nat → Nat × Nat), X1_ 1 ((2, f_), S_, L_, P_) → X 1 ((2, f_), S_, L_, P_)) ∧ (∀ (S_ L_ : Nat → Nat → Int) (P_ : Nat → Nat → Option Nat) (f_ : Nat → Nat × Nat), X1_ 5 ((2, f_), S_, L_, P_) → X 5 ((2, f_), S_, L_, P_))) else False
  | _ => False

theorem zmX1_worth_m (l : Launch) (hl : l.stackTraces = false) : mm_Spec l yX1_worth (ws_ yX1_worth cX1_worth 5 (some .int)) (mm_rm 24 4 24) (zE zX1_worth_m) := by
  rintro as M Q X ⟨as', M', Q', X', rfl, rfl, h, hQ, hX⟩
  obtain ⟨⟨t_, f⟩, S, L, P⟩ := M'
  unfold zX1_worth_m at h
  split at h
  rotate_left
  · exact h.elim
  rename_i h_ a b c
  obtain ⟨e1_, e2_, h⟩ := mm_and2 h (fun q => q)
  cases mm_beq e1_
  cases mm_beq e2_
  try dsimp only at h
  obtain ⟨Q1, X1, hs, hf, hx, hg, x3, x1, x5⟩ := h
  refine zmX1_worth l hl _ _ _ _ ⟨_, _, Q1, X1, rfl, rfl, hs, fun r m q => ?_, fun i m E hE q => ?_⟩
  · obtain ⟨⟨v, rfl⟩, f', S', L', P', rfl, h51⟩ := hf r m q
    rw [nz_ev v]
    exact hQ _ _ (hg v S' L' P' f' h51 q)
  · obtain ⟨rfl | rfl | rfl, f', S', L', P', rfl⟩ := hx i m q
    · exact hX _ _ _ hE (x3 S' L' P' f' q)
    · exact hX _ _ _ hE (x1 S' L' P' f' q)
    · exact hX _ _ _ hE (x5 S' L' P' f' q)
def zX0_worth : zz_Sp := fun as M Q X => match as with
  | [.inr (.inr (some x)), .inl a, .inl b, .inl c, .inr (.inr (some out))] => bif Nat.beq M.1.1 2 && Nat.beq x 100 && Nat.beq out 51 then (M.1.2 51 = (3, 1) ∧ ∃ (Q1_ : Option zv → zz_M → Prop) (X1_ : Nat → zz_M → Prop), zX1_worth [vr 100, vi a, vi b, vi c] ((2, M.1.2), M.2.1, M.2.2.1, M.2.2.2) Q1_ X1_ ∧ (∀ r m, Q1_ r m → (∃ v : Int, r = some (vi v)) ∧ ∃ f' S' L' P', m = ((2, f'), S', L', P') ∧ f' 51 = (3, 1)) ∧ (∀ i m, X1_ i m → (i = 3 ∨ i = 1 ∨ i = 5) ∧ ∃ f' S' L' P', m = ((2, f'), S', L', P')) ∧ (∀ (v_ : Int) (S_ L_ : Nat → Nat → Int) (P_ : Nat → Nat → Option Nat) (f_ : Nat → Nat × Nat), Q1_ (some (vi v_)) ((2, f_), S_, L_, P_) → Q (some (vi 0)) ((2, f_), S_, mm_up L_ 51 0 (nz v_), P_)) ∧ (∀ (S_ L_ : Nat → Nat → Int) (P_ : Nat → Nat → Option Nat) (f_ : Nat → Nat × Nat), X1_ 3 ((2, f_), S_, L_, P_) → Q (some (vi 1)) ((2, f_), S_, L_, P_)) ∧ (∀ (S_ L_ : Nat → Nat → Int) (P_ : Nat → Nat → Option Nat) (f_ : Nat → Nat × Nat), X1_ 1 ((2, f_), S_, L_, P_) → Q (some (vi 2)) ((2, f_), S_, L_, P_)) ∧ (∀ (S_ L_ : Nat → Nat → Int) (P_ : Nat → Nat → Option Nat) (f_ : Nat → Nat × Nat), X1_ 5 ((2, f_), S_, L_, P_) → Q (some (vi 3)) ((2, f_), S_, L_, P_))) else False
  | _ => False

theorem hcX0_worth_7 : ∀ q ∈ ([(3, 17, 5), (1, 21, 5), (5, 25, 5)] : mm_H), ∀ E, mm_ex[q.1]? = some E → mm_ct RX0 cX0_worth 6 [((0), (12), (15), (24)), ((0), (12), (19), (13)), ((0), (12), (23), (53))] 7 E q.2.1 q.2.2 := by
  intro q hq E hE
  simp only [List.mem_cons, List.not_mem_nil, or_false] at hq
  rcases hq with rfl | rfl | rfl
  · cases hE
    exact ⟨[], ⟨0, 12, 15, 24⟩, [⟨0, 12, 19, 13⟩, ⟨0, 12, 23, 53⟩], rfl, fun z hz => absurd hz List.not_mem_nil, by decide, by decide, q1299, q1329, by decide, Or.inr ⟨dX0_worth_15, rfl⟩, by decide⟩
  · cases hE
    exact ⟨[⟨0, 12, 15, 24⟩], ⟨0, 12, 19, 13⟩, [⟨0, 12, 23, 53⟩], rfl, fun z hz => by
      simp only [List.mem_cons, List.not_mem_nil, or_false] at hz
      rcases hz with rfl
      · exact Or.inr ⟨by decide, "java/lang/IndexOutOfBoundsException", by decide, q1299, by decide⟩, by decide, by decide, q598, q785, by decide, Or.inr ⟨dX0_worth_19, rfl⟩, by decide⟩
  · cases hE
    exact ⟨[⟨0, 12, 15, 24⟩, ⟨0, 12, 19, 13⟩], ⟨0, 12, 23, 53⟩, [], rfl, fun z hz => by
      simp only [List.mem_cons, List.not_mem_nil, or_false] at hz
      rcases hz with rfl | rfl
      · exact Or.inr ⟨by decide, "java/lang/IndexOutOfBoundsException", by decide, q1299, by decide⟩
      · exact Or.inr ⟨by decide, "java/lang/IllegalArgumentException", by decide, q598, by decide⟩, by decide, by decide, q1513, q1528, by decide, Or.inr ⟨dX0_worth_23, rfl⟩, by decide⟩
def zpX0_worth : zz_P := [(0, zo_ald 2 4), (2, zo_c 3 (vi 0)), (3, zo_ald 4 0), (4, zo_ild 5 1), (5, zo_ild 6 2), (6, zo_ild 7 3), (7, zo_cvLH (mm_rm 25 4 24) 10 4 0 4 24 [(3, 17, 5), (1, 21, 5), (5, 25, 5)] zX1_worth_m), (10, zo_i2l 11), (11, zo_lasp 12), (12, zo_goto 27), (17, zo_c 18 (vi 1)), (18, zo_iret), (21, zo_c 22 (vi 2)), (22, zo_iret), (25, zo_c 26 (vi 3)), (26, zo_iret), (27, zo_c 28 (vi 0)), (28, zo_iret)]
theorem ztX0_worth {C : mm_C} (G : mm_G C RX0 cX0_worth (some .int) 6 (mm_rm 25 4 24)) (hhd : mm_hd C [((0), (12), (15), (24)), ((0), (12), (19), (13)), ((0), (12), (23), (53))]) : zz_OKs C zpX0_worth :=
  ⟨zz_of (ok_aload G dX0_worth_0 rfl) (z_ald _ _),
   zz_of (ok_iconst G (v := 0) dX0_worth_2 (by decide) rfl) (z_cn 3 0),
   zz_of (ok_aload_n G dX0_worth_3 rfl rfl) (z_ald _ _),
   zz_of (ok_iload_n G dX0_worth_4 rfl rfl) (z_ild _ _),
   zz_of (ok_iload_n G dX0_worth_5 rfl rfl) (z_ild _ _),
   zz_of (ok_iload_n G dX0_worth_6 rfl rfl) (z_ild _ _),
   zz_of (ok_calvFH G hhd (hs := [(3, 17, 5), (1, 21, 5), (5, 25, 5)]) (pc := 7) hcX0_worth_7 (zmX1_worth_m _ G.hst) (RX1, TX1, 19) rfl q1684 q1685 q1686 q82 q1687 (by decide +kernel) ⟨Nat.le_of_ble_eq_true rfl, Nat.le_of_ble_eq_true rfl⟩ dX0_worth_7 rfl) (z_cvLH _ _ _ _ _ _ _ _),
   zz_of (ok_i2l G dX0_worth_10 rfl) (z_i2l _),
   zz_of (ok_last G dX0_worth_11 rfl) (z_lasp _),
   zz_of (ok_goto G dX0_worth_12 rfl) (z_goto _),
   zz_of (ok_iconst G (v := 1) dX0_worth_17 (by decide) rfl) (z_cn 18 1),
   zz_of (ok_iret G dX0_worth_18) (z_iret),
   zz_of (ok_iconst G (v := 2) dX0_worth_21 (by decide) rfl) (z_cn 22 2),
   zz_of (ok_iret G dX0_worth_22) (z_iret),
   zz_of (ok_iconst G (v := 3) dX0_worth_25 (by decide) rfl) (z_cn 26 3),
   zz_of (ok_iret G dX0_worth_26) (z_iret),
   zz_of (ok_iconst G (v := 0) dX0_worth_27 (by decide) rfl) (z_cn 28 0),
   zz_of (ok_iret G dX0_worth_28) (z_iret), trivial⟩

theorem zwX0_worth_0 {Q : Option zv → zz_M → Prop} {X : Nat → zz_M → Prop} {f : Nat → Nat × Nat} {S L : Nat → Nat → Int} {P : Nat → Nat → Option Nat} {a : Int} {b : Int} {c : Int} (h : (∃ (Q1_1 : Option zv → zz_M → Prop) (X1_1 : Nat → zz_M → Prop), zX1_worth [vr 100, vi a, vi b, vi c] ((2, f), S, L, P) Q1_1 X1_1 ∧ (∀ r m, Q1_1 r m → (∃ v : Int, r = some (vi v)) ∧ ∃ f' S' L' P', m = ((2, f'), S', L', P') ∧ f' 51 = (3, 1)) ∧ (∀ i m, X1_1 i m → (i = 3 ∨ i = 1 ∨ i = 5) ∧ ∃ f' S' L' P', m = ((2, f'), S', L', P')) ∧ (∀ (v_1 : Int) (S_1 L_1 : Nat → Nat → Int) (P_1 : Nat → Nat → Option Nat) (f_1 : Nat → Nat × Nat), f_1 51 = (3, 1) → Q1_1 (some (vi v_1)) ((2, f_1), S_1, L_1, P_1) → (R32 (nz v_1) ∧ (∃ n_ : Nat, zsh ((2, f_1), S_1, L_1, P_1) 51 = (3, n_) ∧ (n_ : Int) ≤ 2147483647 ∧ (0 ≤ (0 : Int) ∧ 0 < (n_ : Int)) ∧ (Q (some (vi 0)) ((2, f_1), S_1, mm_up L_1 51 ((0 : Int).toNat) (nz v_1), P_1))))) ∧ (∀ (S_1 L_1 : Nat → Nat → Int) (P_1 : Nat → Nat → Option Nat) (f_1 : Nat → Nat × Nat), X1_1 3 ((2, f_1), S_1, L_1, P_1) → (Q (some (vi 1)) ((2, f_1), S_1, L_1, P_1))) ∧ (∀ (S_1 L_1 : Nat → Nat → Int) (P_1 : Nat → Nat → Option Nat) (f_1 : Nat → Nat × Nat), X1_1 1 ((2, f_1), S_1, L_1, P_1) → (Q (some (vi 2)) ((2, f_1), S_1, L_1, P_1))) ∧ (∀ (S_1 L_1 : Nat → Nat → Int) (P_1 : Nat → Nat → Option Nat) (f_1 : Nat → Nat × Nat), X1_1 5 ((2, f_1), S_1, L_1, P_1) → (Q (some (vi 3)) ((2, f_1), S_1, L_1, P_1))))) : zz_J zpX0_worth (zz_ret Q X 4 24) 0 [some (vr 100), some (vi a), some (vi b), some (vi c), some (vr 51), none] [] ((2, f), S, L, P) (0, 0) := zz_J.go [] 400 h

theorem zmX0_worth (l : Launch) (hl : l.stackTraces = false) : mm_Spec l yX0_worth (wsW_ yX0_worth cX0_worth 6 (some .int) [((0), (12), (15), (24)), ((0), (12), (19), (13)), ((0), (12), (23), (53))]) (mm_rm 25 4 24) (zE zX0_worth) := by
  refine zz_Met.JHN hl (by decide) (fun C G hhd => ztX0_worth G hhd) ?_
  rintro as ⟨⟨t_, f⟩, S, L, P⟩ Q X h
  unfold zX0_worth at h
  split at h
  rotate_left
  · exact h.elim
  rename_i x a b c out
  obtain ⟨e12_, e3_, h⟩ := mm_and2 h (fun q => q)
  rw [Bool.and_eq_true] at e12_
  cases mm_beq e12_.1
  cases mm_beq e12_.2
  cases mm_beq e3_
  try dsimp only at h
  refine ⟨rfl, ?_⟩
  obtain ⟨h51, Q1, X1, hs, hf, hx, hg, x3, x1, x5⟩ := h
  exact zwX0_worth_0 ⟨Q1, X1, hs, hf, hx, fun v S' L' P' f' h5 q => ⟨nz_R v, 1, h5, by decide, by decide, hg v S' L' P' f' q⟩, fun S' L' P' f' q => x3 S' L' P' f' q, fun S' L' P' f' q => x1 S' L' P' f' q, fun S' L' P' f' q => x5 S' L' P' f' q⟩
def zX1_set_m : zz_Sp := fun as M Q X => match as with
  | [.inr (.inr (some h_)), .inl a, .inl b] => bif Nat.beq h_ 100 && Nat.beq M.1.1 2 then (∃ (Q1_ : Option zv → zz_M → Prop) (X1_ : Nat → zz_M → Prop), zX1_set [vr 100, vi a, vi b] ((2, M.1.2), M.2.1, M.2.2.1, M.2.2.2) Q1_ X1_ ∧ (∀ r m, Q1_ r m → (∃ v : Int, r = some (vi v)) ∧ ∃ f' S' L' P', m = ((2, f'), S', L', P') ∧ f' 51 = (3, 1)) ∧ (∀ i m, X1_ i m → (i = 3 ∨ i = 1 ∨ i = 5) ∧ ∃ f' S' L' P', m = ((2, f'), S', L', P')) ∧ (∀ (v_ : Int) (S_ L_ : Nat → Nat → Int) (P_ : Nat → Nat → Option Nat) (f_ : Nat → Nat × Nat), f_ 51 = (3, 1) → Q1_ (some (vi v_)) ((2, f_), S_, L_, P_) → Q (some (vi (nz v_))) ((2, f_), S_, L_, P_)) ∧ (∀ (S_ L_ : Nat → Nat → Int) (P_ : Nat → Nat → Option Nat) (f_ : Nat → Nat × Nat), X1_ 3 ((2, f_), S_, L_, P_) → X 3 ((2, f_), S_, L_, P_)) ∧ (∀ (S_ L_ : Nat → Nat → Int) (P_ : Nat → Nat → Option Nat) (f_ : Nat → Nat × Nat), X1_ 1 ((2, f_), S_, L_, P_) → X 1 ((2, f_), S_, L_, P_)) ∧ (∀ (S_ L_ : Nat → Nat → Int) (P_ : Nat → Nat → Option Nat) (f_ : Nat → Nat × Nat), X1_ 5 ((2, f_), S_, L_, P_) → X 5 ((2, f_), S_, L_, P_))) else False
  | _ => False

theorem zmX1_set_m (l : Launch) (hl : l.stackTraces = false) : mm_Spec l yX1_set (ws_ yX1_set cX1_set 3 (some .int)) (mm_rm 24 3 18) (zE zX1_set_m) := by
  rintro as M Q X ⟨as', M', Q', X', rfl, rfl, h, hQ, hX⟩
  obtain ⟨⟨t_, f⟩, S, L, P⟩ := M'
  unfold zX1_set_m at h
  split at h
  rotate_left
  · exact h.elim
  rename_i h_ a b
  obtain ⟨e1_, e2_, h⟩ := mm_and2 h (fun q => q)
  cases mm_beq e1_
  cases mm_beq e2_
  try dsimp only at h
  obtain ⟨Q1, X1, hs, hf, hx, hg, x3, x1, x5⟩ := h
  refine zmX1_set l hl _ _ _ _ ⟨_, _, Q1, X1, rfl, rfl, hs, fun r m q => ?_, fun i m E hE q => ?_⟩
  · obtain ⟨⟨v, rfl⟩, f', S', L', P', rfl, h51⟩ := hf r m q
    rw [nz_ev v]
    exact hQ _ _ (hg v S' L' P' f' h51 q)
  · obtain ⟨rfl | rfl | rfl, f', S', L', P', rfl⟩ := hx i m q
    · exact hX _ _ _ hE (x3 S' L' P' f' q)
    · exact hX _ _ _ hE (x1 S' L' P' f' q)
    · exact hX _ _ _ hE (x5 S' L' P' f' q)
def zX0_set : zz_Sp := fun as M Q X => match as with
  | [.inr (.inr (some x)), .inl a, .inl b, .inr (.inr (some out))] => bif Nat.beq M.1.1 2 && Nat.beq x 100 && Nat.beq out 51 then (M.1.2 51 = (3, 1) ∧ ∃ (Q1_ : Option zv → zz_M → Prop) (X1_ : Nat → zz_M → Prop), zX1_set [vr 100, vi a, vi b] ((2, M.1.2), M.2.1, M.2.2.1, M.2.2.2) Q1_ X1_ ∧ (∀ r m, Q1_ r m → (∃ v : Int, r = some (vi v)) ∧ ∃ f' S' L' P', m = ((2, f'), S', L', P') ∧ f' 51 = (3, 1)) ∧ (∀ i m, X1_ i m → (i = 3 ∨ i = 1 ∨ i = 5) ∧ ∃ f' S' L' P', m = ((2, f'), S', L', P')) ∧ (∀ (v_ : Int) (S_ L_ : Nat → Nat → Int) (P_ : Nat → Nat → Option Nat) (f_ : Nat → Nat × Nat), Q1_ (some (vi v_)) ((2, f_), S_, L_, P_) → Q (some (vi 0)) ((2, f_), S_, mm_up L_ 51 0 (nz v_), P_)) ∧ (∀ (S_ L_ : Nat → Nat → Int) (P_ : Nat → Nat → Option Nat) (f_ : Nat → Nat × Nat), X1_ 3 ((2, f_), S_, L_, P_) → Q (some (vi 1)) ((2, f_), S_, L_, P_)) ∧ (∀ (S_ L_ : Nat → Nat → Int) (P_ : Nat → Nat → Option Nat) (f_ : Nat → Nat × Nat), X1_ 1 ((2, f_), S_, L_, P_) → Q (some (vi 2)) ((2, f_), S_, L_, P_)) ∧ (∀ (S_ L_ : Nat → Nat → Int) (P_ : Nat → Nat → Option Nat) (f_ : Nat → Nat × Nat), X1_ 5 ((2, f_), S_, L_, P_) → Q (some (vi 3)) ((2, f_), S_, L_, P_))) else False
  | _ => False

theorem hcX0_set_5 : ∀ q ∈ ([(3, 15, 4), (1, 19, 4), (5, 23, 4)] : mm_H), ∀ E, mm_ex[q.1]? = some E → mm_ct RX0 cX0_set 5 [((0), (10), (13), (24)), ((0), (10), (17), (13)), ((0), (10), (21), (53))] 5 E q.2.1 q.2.2 := by
  intro q hq E hE
  simp only [List.mem_cons, List.not_mem_nil, or_false] at hq
  rcases hq with rfl | rfl | rfl
  · cases hE
    exact ⟨[], ⟨0, 10, 13, 24⟩, [⟨0, 10, 17, 13⟩, ⟨0, 10, 21, 53⟩], rfl, fun z hz => absurd hz List.not_mem_nil, by decide, by decide, q1299, q1329, by decide, Or.inr ⟨dX0_set_13, rfl⟩, by decide⟩
  · cases hE
    exact ⟨[⟨0, 10, 13, 24⟩], ⟨0, 10, 17, 13⟩, [⟨0, 10, 21, 53⟩], rfl, fun z hz => by
      simp only [List.mem_cons, List.not_mem_nil, or_false] at hz
      rcases hz with rfl
      · exact Or.inr ⟨by decide, "java/lang/IndexOutOfBoundsException", by decide, q1299, by decide⟩, by decide, by decide, q598, q785, by decide, Or.inr ⟨dX0_set_17, rfl⟩, by decide⟩
  · cases hE
    exact ⟨[⟨0, 10, 13, 24⟩, ⟨0, 10, 17, 13⟩], ⟨0, 10, 21, 53⟩, [], rfl, fun z hz => by
      simp only [List.mem_cons, List.not_mem_nil, or_false] at hz
      rcases hz with rfl | rfl
      · exact Or.inr ⟨by decide, "java/lang/IndexOutOfBoundsException", by decide, q1299, by decide⟩
      · exact Or.inr ⟨by decide, "java/lang/IllegalArgumentException", by decide, q598, by decide⟩, by decide, by decide, q1513, q1528, by decide, Or.inr ⟨dX0_set_21, rfl⟩, by decide⟩
def zpX0_set : zz_P := [(0, zo_ald 1 3), (1, zo_c 2 (vi 0)), (2, zo_ald 3 0), (3, zo_ild 4 1), (4, zo_ild 5 2), (5, zo_cvLH (mm_rm 25 3 18) 8 3 0 3 18 [(3, 15, 4), (1, 19, 4), (5, 23, 4)] zX1_set_m), (8, zo_i2l 9), (9, zo_lasp 10), (10, zo_goto 25), (15, zo_c 16 (vi 1)), (16, zo_iret), (19, zo_c 20 (vi 2)), (20, zo_iret), (23, zo_c 24 (vi 3)), (24, zo_iret), (25, zo_c 26 (vi 0)), (26, zo_iret)]
theorem ztX0_set {C : mm_C} (G : mm_G C RX0 cX0_set (some .int) 5 (mm_rm 25 3 18)) (hhd : mm_hd C [((0), (10), (13), (24)), ((0), (10), (17), (13)), ((0), (10), (21), (53))]) : zz_OKs C zpX0_set :=
  ⟨zz_of (ok_aload_n G dX0_set_0 rfl rfl) (z_ald _ _),
   zz_of (ok_iconst G (v := 0) dX0_set_1 (by decide) rfl) (z_cn 2 0),
   zz_of (ok_aload_n G dX0_set_2 rfl rfl) (z_ald _ _),
   zz_of (ok_iload_n G dX0_set_3 rfl rfl) (z_ild _ _),
   zz_of (ok_iload_n G dX0_set_4 rfl rfl) (z_ild _ _),
   zz_of (ok_calvFH G hhd (hs := [(3, 15, 4), (1, 19, 4), (5, 23, 4)]) (pc := 5) hcX0_set_5 (zmX1_set_m _ G.hst) (RX1, TX1, 19) rfl q1692 q1693 q1694 q82 q1695 (by decide +kernel) ⟨Nat.le_of_ble_eq_true rfl, Nat.le_of_ble_eq_true rfl⟩ dX0_set_5 rfl) (z_cvLH _ _ _ _ _ _ _ _),
   zz_of (ok_i2l G dX0_set_8 rfl) (z_i2l _),
   zz_of (ok_last G dX0_set_9 rfl) (z_lasp _),
   zz_of (ok_goto G dX0_set_10 rfl) (z_goto _),
   zz_of (ok_iconst G (v := 1) dX0_set_15 (by decide) rfl) (z_cn 16 1),
   zz_of (ok_iret G dX0_set_16) (z_iret),
   zz_of (ok_iconst G (v := 2) dX0_set_19 (by decide) rfl) (z_cn 20 2),
   zz_of (ok_iret G dX0_set_20) (z_iret),
   zz_of (ok_iconst G (v := 3) dX0_set_23 (by decide) rfl) (z_cn 24 3),
   zz_of (ok_iret G dX0_set_24) (z_iret),
   zz_of (ok_iconst G (v := 0) dX0_set_25 (by decide) rfl) (z_cn 26 0),
   zz_of (ok_iret G dX0_set_26) (z_iret), trivial⟩

theorem zwX0_set_0 {Q : Option zv → zz_M → Prop} {X : Nat → zz_M → Prop} {f : Nat → Nat × Nat} {S L : Nat → Nat → Int} {P : Nat → Nat → Option Nat} {a : Int} {b : Int} (h : (∃ (Q1_1 : Option zv → zz_M → Prop) (X1_1 : Nat → zz_M → Prop), zX1_set [vr 100, vi a, vi b] ((2, f), S, L, P) Q1_1 X1_1 ∧ (∀ r m, Q1_1 r m → (∃ v : Int, r = some (vi v)) ∧ ∃ f' S' L' P', m = ((2, f'), S', L', P') ∧ f' 51 = (3, 1)) ∧ (∀ i m, X1_1 i m → (i = 3 ∨ i = 1 ∨ i = 5) ∧ ∃ f' S' L' P', m = ((2, f'), S', L', P')) ∧ (∀ (v_1 : Int) (S_1 L_1 : Nat → Nat → Int) (P_1 : Nat → Nat → Option Nat) (f_1 : Nat → Nat × Nat), f_1 51 = (3, 1) → Q1_1 (some (vi v_1)) ((2, f_1), S_1, L_1, P_1) → (R32 (nz v_1) ∧ (∃ n_ : Nat, zsh ((2, f_1), S_1, L_1, P_1) 51 = (3, n_) ∧ (n_ : Int) ≤ 2147483647 ∧ (0 ≤ (0 : Int) ∧ 0 < (n_ : Int)) ∧ (Q (some (vi 0)) ((2, f_1), S_1, mm_up L_1 51 ((0 : Int).toNat) (nz v_1), P_1))))) ∧ (∀ (S_1 L_1 : Nat → Nat → Int) (P_1 : Nat → Nat → Option Nat) (f_1 : Nat → Nat × Nat), X1_1 3 ((2, f_1), S_1, L_1, P_1) → (Q (some (vi 1)) ((2, f_1), S_1, L_1, P_1))) ∧ (∀ (S_1 L_1 : Nat → Nat → Int) (P_1 : Nat → Nat → Option Nat) (f_1 : Nat → Nat × Nat), X1_1 1 ((2, f_1), S_1, L_1, P_1) → (Q (some (vi 2)) ((2, f_1), S_1, L_1, P_1))) ∧ (∀ (S_1 L_1 : Nat → Nat → Int) (P_1 : Nat → Nat → Option Nat) (f_1 : Nat → Nat × Nat), X1_1 5 ((2, f_1), S_1, L_1, P_1) → (Q (some (vi 3)) ((2, f_1), S_1, L_1, P_1))))) : zz_J zpX0_set (zz_ret Q X 3 18) 0 [some (vr 100), some (vi a), some (vi b), some (vr 51), none] [] ((2, f), S, L, P) (0, 0) := zz_J.go [] 400 h

theorem zmX0_set (l : Launch) (hl : l.stackTraces = false) : mm_Spec l yX0_set (wsW_ yX0_set cX0_set 5 (some .int) [((0), (10), (13), (24)), ((0), (10), (17), (13)), ((0), (10), (21), (53))]) (mm_rm 25 3 18) (zE zX0_set) := by
  refine zz_Met.JHN hl (by decide) (fun C G hhd => ztX0_set G hhd) ?_
  rintro as ⟨⟨t_, f⟩, S, L, P⟩ Q X h
  unfold zX0_set at h
  split at h
  rotate_left
  · exact h.elim
  rename_i x a b out
  obtain ⟨e12_, e3_, h⟩ := mm_and2 h (fun q => q)
  rw [Bool.and_eq_true] at e12_
  cases mm_beq e12_.1
  cases mm_beq e12_.2
  cases mm_beq e3_
  try dsimp only at h
  refine ⟨rfl, ?_⟩
  obtain ⟨h51, Q1, X1, hs, hf, hx, hg, x3, x1, x5⟩ := h
  exact zwX0_set_0 ⟨Q1, X1, hs, hf, hx, fun v S' L' P' f' h5 q => ⟨nz_R v, 1, h5, by decide, by decide, hg v S' L' P' f' q⟩, fun S' L' P' f' q => x3 S' L' P' f' q, fun S' L' P' f' q => x1 S' L' P' f' q, fun S' L' P' f' q => x5 S' L' P' f' q⟩
def zX1_ways_m : zz_Sp := fun as M Q X => match as with
  | [.inr (.inr (some h_)), .inl a, .inl b, .inl c, .inl d] => bif Nat.beq h_ 100 && Nat.beq M.1.1 2 then (∃ (Q1_ : Option zv → zz_M → Prop) (X1_ : Nat → zz_M → Prop), zX1_ways [vr 100, vi a, vi b, vi c, vi d] ((2, M.1.2), M.2.1, M.2.2.1, M.2.2.2) Q1_ X1_ ∧ (∀ r m, Q1_ r m → (∃ v : Int, r = some (vi v)) ∧ ∃ f' S' L' P', m = ((2, f'), S', L', P') ∧ f' 51 = (3, 1)) ∧ (∀ i m, X1_ i m → (i = 3 ∨ i = 1) ∧ ∃ f' S' L' P', m = ((2, f'), S', L', P')) ∧ (∀ (v_ : Int) (S_ L_ : Nat → Nat → Int) (P_ : Nat → Nat → Option Nat) (f_ : Nat → Nat × Nat), f_ 51 = (3, 1) → Q1_ (some (vi v_)) ((2, f_), S_, L_, P_) → Q (some (vi (nz v_))) ((2, f_), S_, L_, P_)) ∧ (∀ (S_ L_ : Nat → Nat → Int) (P_ : Nat → Nat → Option Nat) (f_ : Nat → Nat × Nat), X1_ 3 ((2, f_), S_, L_, P_) → X 3 ((2, f_), S_, L_, P_)) ∧ (∀ (S_ L_ : Nat → Nat → Int) (P_ : Nat → Nat → Option Nat) (f_ : Nat → Nat × Nat), X1_ 1 ((2, f_), S_, L_, P_) → X 1 ((2, f_), S_, L_, P_))) else False
  | _ => False

theorem zmX1_ways_m (l : Launch) (hl : l.stackTraces = false) : mm_Spec l yX1_ways (ws_ yX1_ways cX1_ways 5 (some .int)) (mm_rm 24 4 24) (zE zX1_ways_m) := by
  rintro as M Q X ⟨as', M', Q', X', rfl, rfl, h, hQ, hX⟩
  obtain ⟨⟨t_, f⟩, S, L, P⟩ := M'
  unfold zX1_ways_m at h
  split at h
  rotate_left
  · exact h.elim
  rename_i h_ a b c d
  obtain ⟨e1_, e2_, h⟩ := mm_and2 h (fun q => q)
  cases mm_beq e1_
  cases mm_beq e2_
  try dsimp only at h
  obtain ⟨Q1, X1, hs, hf, hx, hg, x3, x1⟩ := h
  refine zmX1_ways l hl _ _ _ _ ⟨_, _, Q1, X1, rfl, rfl, hs, fun r m q => ?_, fun i m E hE q => ?_⟩
  · obtain ⟨⟨v, rfl⟩, f', S', L', P', rfl, h51⟩ := hf r m q
    rw [nz_ev v]
    exact hQ _ _ (hg v S' L' P' f' h51 q)
  · obtain ⟨rfl | rfl, f', S', L', P', rfl⟩ := hx i m q
    · exact hX _ _ _ hE (x3 S' L' P' f' q)
    · exact hX _ _ _ hE (x1 S' L' P' f' q)
def zX0_ways : zz_Sp := fun as M Q X => match as with
  | [.inr (.inr (some x)), .inl a, .inl b, .inl c, .inl d, .inr (.inr (some out))] => bif Nat.beq M.1.1 2 && Nat.beq x 100 && Nat.beq out 51 then (M.1.2 51 = (3, 1) ∧ ∃ (Q1_ : Option zv → zz_M → Prop) (X1_ : Nat → zz_M → Prop), zX1_ways [vr 100, vi a, vi b, vi c, vi d] ((2, M.1.2), M.2.1, M.2.2.1, M.2.2.2) Q1_ X1_ ∧ (∀ r m, Q1_ r m → (∃ v : Int, r = some (vi v)) ∧ ∃ f' S' L' P', m = ((2, f'), S', L', P') ∧ f' 51 = (3, 1)) ∧ (∀ i m, X1_ i m → (i = 3 ∨ i = 1) ∧ ∃ f' S' L' P', m = ((2, f'), S', L', P')) ∧ (∀ (v_ : Int) (S_ L_ : Nat → Nat → Int) (P_ : Nat → Nat → Option Nat) (f_ : Nat → Nat × Nat), Q1_ (some (vi v_)) ((2, f_), S_, L_, P_) → Q (some (vi 0)) ((2, f_), S_, mm_up L_ 51 0 (nz v_), P_)) ∧ (∀ (S_ L_ : Nat → Nat → Int) (P_ : Nat → Nat → Option Nat) (f_ : Nat → Nat × Nat), X1_ 3 ((2, f_), S_, L_, P_) → Q (some (vi 1)) ((2, f_), S_, L_, P_)) ∧ (∀ (S_ L_ : Nat → Nat → Int) (P_ : Nat → Nat → Option Nat) (f_ : Nat → Nat × Nat), X1_ 1 ((2, f_), S_, L_, P_) → Q (some (vi 2)) ((2, f_), S_, L_, P_))) else False
  | _ => False

theorem hcX0_ways_9 : ∀ q ∈ ([(3, 19, 6), (1, 23, 6)] : mm_H), ∀ E, mm_ex[q.1]? = some E → mm_ct RX0 cX0_ways 7 [((0), (14), (17), (24)), ((0), (14), (21), (13))] 9 E q.2.1 q.2.2 := by
  intro q hq E hE
  simp only [List.mem_cons, List.not_mem_nil, or_false] at hq
  rcases hq with rfl | rfl
  · cases hE
    exact ⟨[], ⟨0, 14, 17, 24⟩, [⟨0, 14, 21, 13⟩], rfl, fun z hz => absurd hz List.not_mem_nil, by decide, by decide, q1299, q1329, by decide, Or.inr ⟨dX0_ways_17, rfl⟩, by decide⟩
  · cases hE
    exact ⟨[⟨0, 14, 17, 24⟩], ⟨0, 14, 21, 13⟩, [], rfl, fun z hz => by
      simp only [List.mem_cons, List.not_mem_nil, or_false] at hz
      rcases hz with rfl
      · exact Or.inr ⟨by decide, "java/lang/IndexOutOfBoundsException", by decide, q1299, by decide⟩, by decide, by decide, q598, q785, by decide, Or.inr ⟨dX0_ways_21, rfl⟩, by decide⟩
def zpX0_ways : zz_P := [(0, zo_ald 2 5), (2, zo_c 3 (vi 0)), (3, zo_ald 4 0), (4, zo_ild 5 1), (5, zo_ild 6 2), (6, zo_ild 7 3), (7, zo_ild 9 4), (9, zo_cvLH (mm_rm 25 4 24) 12 5 0 4 24 [(3, 19, 6), (1, 23, 6)] zX1_ways_m), (12, zo_i2l 13), (13, zo_lasp 14), (14, zo_goto 25), (19, zo_c 20 (vi 1)), (20, zo_iret), (23, zo_c 24 (vi 2)), (24, zo_iret), (25, zo_c 26 (vi 0)), (26, zo_iret)]
theorem ztX0_ways {C : mm_C} (G : mm_G C RX0 cX0_ways (some .int) 7 (mm_rm 25 4 24)) (hhd : mm_hd C [((0), (14), (17), (24)), ((0), (14), (21), (13))]) : zz_OKs C zpX0_ways :=
  ⟨zz_of (ok_aload G dX0_ways_0 rfl) (z_ald _ _),
   zz_of (ok_iconst G (v := 0) dX0_ways_2 (by decide) rfl) (z_cn 3 0),
   zz_of (ok_aload_n G dX0_ways_3 rfl rfl) (z_ald _ _),
   zz_of (ok_iload_n G dX0_ways_4 rfl rfl) (z_ild _ _),
   zz_of (ok_iload_n G dX0_ways_5 rfl rfl) (z_ild _ _),
   zz_of (ok_iload_n G dX0_ways_6 rfl rfl) (z_ild _ _),
   zz_of (ok_iload G dX0_ways_7 rfl) (z_ild _ _),
   zz_of (ok_calvFH G hhd (hs := [(3, 19, 6), (1, 23, 6)]) (pc := 9) hcX0_ways_9 (zmX1_ways_m _ G.hst) (RX1, TX1, 19) rfl q1714 q1715 q1716 q82 q1717 (by decide +kernel) ⟨Nat.le_of_ble_eq_true rfl, Nat.le_of_ble_eq_true rfl⟩ dX0_ways_9 rfl) (z_cvLH _ _ _ _ _ _ _ _),
   zz_of (ok_i2l G dX0_ways_12 rfl) (z_i2l _),
   zz_of (ok_last G dX0_ways_13 rfl) (z_lasp _),
   zz_of (ok_goto G dX0_ways_14 rfl) (z_goto _),
   zz_of (ok_iconst G (v := 1) dX0_ways_19 (by decide) rfl) (z_cn 20 1),
   zz_of (ok_iret G dX0_ways_20) (z_iret),
   zz_of (ok_iconst G (v := 2) dX0_ways_23 (by decide) rfl) (z_cn 24 2),
   zz_of (ok_iret G dX0_ways_24) (z_iret),
   zz_of (ok_iconst G (v := 0) dX0_ways_25 (by decide) rfl) (z_cn 26 0),
   zz_of (ok_iret G dX0_ways_26) (z_iret), trivial⟩

theorem zwX0_ways_0 {Q : Option zv → zz_M → Prop} {X : Nat → zz_M → Prop} {f : Nat → Nat × Nat} {S L : Nat → Nat → Int} {P : Nat → Nat → Option Nat} {a : Int} {b : Int} {c : Int} {d : Int} (h : (∃ (Q1_1 : Option zv → zz_M → Prop) (X1_1 : Nat → zz_M → Prop), zX1_ways [vr 100, vi a, vi b, vi c, vi d] ((2, f), S, L, P) Q1_1 X1_1 ∧ (∀ r m, Q1_1 r m → (∃ v : Int, r = some (vi v)) ∧ ∃ f' S' L' P', m = ((2, f'), S', L', P') ∧ f' 51 = (3, 1)) ∧ (∀ i m, X1_1 i m → (i = 3 ∨ i = 1) ∧ ∃ f' S' L' P', m = ((2, f'), S', L', P')) ∧ (∀ (v_1 : Int) (S_1 L_1 : Nat → Nat → Int) (P_1 : Nat → Nat → Option Nat) (f_1 : Nat → Nat × Nat), f_1 51 = (3, 1) → Q1_1 (some (vi v_1)) ((2, f_1), S_1, L_1, P_1) → (R32 (nz v_1) ∧ (∃ n_ : Nat, zsh ((2, f_1), S_1, L_1, P_1) 51 = (3, n_) ∧ (n_ : Int) ≤ 2147483647 ∧ (0 ≤ (0 : Int) ∧ 0 < (n_ : Int)) ∧ (Q (some (vi 0)) ((2, f_1), S_1, mm_up L_1 51 ((0 : Int).toNat) (nz v_1), P_1))))) ∧ (∀ (S_1 L_1 : Nat → Nat → Int) (P_1 : Nat → Nat → Option Nat) (f_1 : Nat → Nat × Nat), X1_1 3 ((2, f_1), S_1, L_1, P_1) → (Q (some (vi 1)) ((2, f_1), S_1, L_1, P_1))) ∧ (∀ (S_1 L_1 : Nat → Nat → Int) (P_1 : Nat → Nat → Option Nat) (f_1 : Nat → Nat × Nat), X1_1 1 ((2, f_1), S_1, L_1, P_1) → (Q (some (vi 2)) ((2, f_1), S_1, L_1, P_1))))) : zz_J zpX0_ways (zz_ret Q X 4 24) 0 [some (vr 100), some (vi a), some (vi b), some (vi c), some (vi d), some (vr 51), none] [] ((2, f), S, L, P) (0, 0) := zz_J.go [] 400 h

theorem zmX0_ways (l : Launch) (hl : l.stackTraces = false) : mm_Spec l yX0_ways (wsW_ yX0_ways cX0_ways 7 (some .int) [((0), (14), (17), (24)), ((0), (14), (21), (13))]) (mm_rm 25 4 24) (zE zX0_ways) := by
  refine zz_Met.JHN hl (by decide) (fun C G hhd => ztX0_ways G hhd) ?_
  rintro as ⟨⟨t_, f⟩, S, L, P⟩ Q X h
  unfold zX0_ways at h
  split at h
  rotate_left
  · exact h.elim
  rename_i x a b c d out
  obtain ⟨e12_, e3_, h⟩ := mm_and2 h (fun q => q)
  rw [Bool.and_eq_true] at e12_
  cases mm_beq e12_.1
  cases mm_beq e12_.2
  cases mm_beq e3_
  try dsimp only at h
  refine ⟨rfl, ?_⟩
  obtain ⟨h51, Q1, X1, hs, hf, hx, hg, x3, x1⟩ := h
  exact zwX0_ways_0 ⟨Q1, X1, hs, hf, hx, fun v S' L' P' f' h5 q => ⟨nz_R v, 1, h5, by decide, by decide, hg v S' L' P' f' q⟩, fun S' L' P' f' q => x3 S' L' P' f' q, fun S' L' P' f' q => x1 S' L' P' f' q⟩
def zX1_even_m : zz_Sp := fun as M Q X => match as with
  | [.inr (.inr (some h_)), .inl a, .inl b] => bif Nat.beq h_ 100 && Nat.beq M.1.1 2 then (∃ (Q1_ : Option zv → zz_M → Prop) (X1_ : Nat → zz_M → Prop), zX1_even [vr 100, vi a, vi b] ((2, M.1.2), M.2.1, M.2.2.1, M.2.2.2) Q1_ X1_ ∧ (∀ r m, Q1_ r m → (∃ v : Int, r = some (vi v)) ∧ ∃ f' S' L' P', m = ((2, f'), S', L', P') ∧ f' 51 = (3, 1)) ∧ (∀ i m, X1_ i m → (i = 1) ∧ ∃ f' S' L' P', m = ((2, f'), S', L', P')) ∧ (∀ (v_ : Int) (S_ L_ : Nat → Nat → Int) (P_ : Nat → Nat → Option Nat) (f_ : Nat → Nat × Nat), f_ 51 = (3, 1) → Q1_ (some (vi v_)) ((2, f_), S_, L_, P_) → Q (some (vi (nz v_))) ((2, f_), S_, L_, P_)) ∧ (∀ (S_ L_ : Nat → Nat → Int) (P_ : Nat → Nat → Option Nat) (f_ : Nat → Nat × Nat), X1_ 1 ((2, f_), S_, L_, P_) → X 1 ((2, f_), S_, L_, P_))) else False
  | _ => False

theorem zmX1_even_m (l : Launch) (hl : l.stackTraces = false) : mm_Spec l yX1_even (ws_ yX1_even cX1_even 6 (some .int)) (mm_rm 24 2 12) (zE zX1_even_m) := by
  rintro as M Q X ⟨as', M', Q', X', rfl, rfl, h, hQ, hX⟩
  obtain ⟨⟨t_, f⟩, S, L, P⟩ := M'
  unfold zX1_even_m at h
  split at h
  rotate_left
  · exact h.elim
  rename_i h_ a b
  obtain ⟨e1_, e2_, h⟩ := mm_and2 h (fun q => q)
  cases mm_beq e1_
  cases mm_beq e2_
  try dsimp only at h
  obtain ⟨Q1, X1, hs, hf, hx, hg, x1⟩ := h
  refine zmX1_even l hl _ _ _ _ ⟨_, _, Q1, X1, rfl, rfl, hs, fun r m q => ?_, fun i m E hE q => ?_⟩
  · obtain ⟨⟨v, rfl⟩, f', S', L', P', rfl, h51⟩ := hf r m q
    rw [nz_ev v]
    exact hQ _ _ (hg v S' L' P' f' h51 q)
  · obtain ⟨rfl, f', S', L', P', rfl⟩ := hx i m q
    exact hX _ _ _ hE (x1 S' L' P' f' q)
def zX0_even : zz_Sp := fun as M Q X => match as with
  | [.inr (.inr (some x)), .inl a, .inl b, .inr (.inr (some out))] => bif Nat.beq M.1.1 2 && Nat.beq x 100 && Nat.beq out 51 then (M.1.2 51 = (3, 1) ∧ ∃ (Q1_ : Option zv → zz_M → Prop) (X1_ : Nat → zz_M → Prop), zX1_even [vr 100, vi a, vi b] ((2, M.1.2), M.2.1, M.2.2.1, M.2.2.2) Q1_ X1_ ∧ (∀ r m, Q1_ r m → (∃ v : Int, r = some (vi v)) ∧ ∃ f' S' L' P', m = ((2, f'), S', L', P') ∧ f' 51 = (3, 1)) ∧ (∀ i m, X1_ i m → (i = 1) ∧ ∃ f' S' L' P', m = ((2, f'), S', L', P')) ∧ (∀ (v_ : Int) (S_ L_ : Nat → Nat → Int) (P_ : Nat → Nat → Option Nat) (f_ : Nat → Nat × Nat), Q1_ (some (vi v_)) ((2, f_), S_, L_, P_) → Q (some (vi 0)) ((2, f_), S_, mm_up L_ 51 0 (nz v_), P_)) ∧ (∀ (S_ L_ : Nat → Nat → Int) (P_ : Nat → Nat → Option Nat) (f_ : Nat → Nat × Nat), X1_ 1 ((2, f_), S_, L_, P_) → Q (some (vi 1)) ((2, f_), S_, L_, P_))) else False
  | _ => False

theorem hcX0_even_5 : ∀ q ∈ ([(1, 15, 4)] : mm_H), ∀ E, mm_ex[q.1]? = some E → mm_ct RX0 cX0_even 5 [((0), (10), (13), (13))] 5 E q.2.1 q.2.2 := by
  intro q hq E hE
  simp only [List.mem_cons, List.not_mem_nil, or_false] at hq
  rcases hq with rfl
  · cases hE
    exact ⟨[], ⟨0, 10, 13, 13⟩, [], rfl, fun z hz => absurd hz List.not_mem_nil, by decide, by decide, q598, q785, by decide, Or.inr ⟨dX0_even_13, rfl⟩, by decide⟩
def zpX0_even : zz_P := [(0, zo_ald 1 3), (1, zo_c 2 (vi 0)), (2, zo_ald 3 0), (3, zo_ild 4 1), (4, zo_ild 5 2), (5, zo_cvLH (mm_rm 25 2 12) 8 3 0 2 12 [(1, 15, 4)] zX1_even_m), (8, zo_i2l 9), (9, zo_lasp 10), (10, zo_goto 17), (15, zo_c 16 (vi 1)), (16, zo_iret), (17, zo_c 18 (vi 0)), (18, zo_iret)]
theorem ztX0_even {C : mm_C} (G : mm_G C RX0 cX0_even (some .int) 5 (mm_rm 25 2 12)) (hhd : mm_hd C [((0), (10), (13), (13))]) : zz_OKs C zpX0_even :=
  ⟨zz_of (ok_aload_n G dX0_even_0 rfl rfl) (z_ald _ _),
   zz_of (ok_iconst G (v := 0) dX0_even_1 (by decide) rfl) (z_cn 2 0),
   zz_of (ok_aload_n G dX0_even_2 rfl rfl) (z_ald _ _),
   zz_of (ok_iload_n G dX0_even_3 rfl rfl) (z_ild _ _),
   zz_of (ok_iload_n G dX0_even_4 rfl rfl) (z_ild _ _),
   zz_of (ok_calvFH G hhd (hs := [(1, 15, 4)]) (pc := 5) hcX0_even_5 (zmX1_even_m _ G.hst) (RX1, TX1, 19) rfl q1721 q1722 q1723 q82 q1724 (by decide +kernel) ⟨Nat.le_of_ble_eq_true rfl, Nat.le_of_ble_eq_true rfl⟩ dX0_even_5 rfl) (z_cvLH _ _ _ _ _ _ _ _),
   zz_of (ok_i2l G dX0_even_8 rfl) (z_i2l _),
   zz_of (ok_last G dX0_even_9 rfl) (z_lasp _),
   zz_of (ok_goto G dX0_even_10 rfl) (z_goto _),
   zz_of (ok_iconst G (v := 1) dX0_even_15 (by decide) rfl) (z_cn 16 1),
   zz_of (ok_iret G dX0_even_16) (z_iret),
   zz_of (ok_iconst G (v := 0) dX0_even_17 (by decide) rfl) (z_cn 18 0),
   zz_of (ok_iret G dX0_even_18) (z_iret), trivial⟩

theorem zwX0_even_0 {Q : Option zv → zz_M → Prop} {X : Nat → zz_M → Prop} {f : Nat → Nat × Nat} {S L : Nat → Nat → Int} {P : Nat → Nat → Option Nat} {a : Int} {b : Int} (h : (∃ (Q1_1 : Option zv → zz_M → Prop) (X1_1 : Nat → zz_M → Prop), zX1_even [vr 100, vi a, vi b] ((2, f), S, L, P) Q1_1 X1_1 ∧ (∀ r m, Q1_1 r m → (∃ v : Int, r = some (vi v)) ∧ ∃ f' S' L' P', m = ((2, f'), S', L', P') ∧ f' 51 = (3, 1)) ∧ (∀ i m, X1_1 i m → (i = 1) ∧ ∃ f' S' L' P', m = ((2, f'), S', L', P')) ∧ (∀ (v_1 : Int) (S_1 L_1 : Nat → Nat → Int) (P_1 : Nat → Nat → Option Nat) (f_1 : Nat → Nat × Nat), f_1 51 = (3, 1) → Q1_1 (some (vi v_1)) ((2, f_1), S_1, L_1, P_1) → (R32 (nz v_1) ∧ (∃ n_ : Nat, zsh ((2, f_1), S_1, L_1, P_1) 51 = (3, n_) ∧ (n_ : Int) ≤ 2147483647 ∧ (0 ≤ (0 : Int) ∧ 0 < (n_ : Int)) ∧ (Q (some (vi 0)) ((2, f_1), S_1, mm_up L_1 51 ((0 : Int).toNat) (nz v_1), P_1))))) ∧ (∀ (S_1 L_1 : Nat → Nat → Int) (P_1 : Nat → Nat → Option Nat) (f_1 : Nat → Nat × Nat), X1_1 1 ((2, f_1), S_1, L_1, P_1) → (Q (some (vi 1)) ((2, f_1), S_1, L_1, P_1))))) : zz_J zpX0_even (zz_ret Q X 2 12) 0 [some (vr 100), some (vi a), some (vi b), some (vr 51), none] [] ((2, f), S, L, P) (0, 0) := zz_J.go [] 400 h

theorem zmX0_even (l : Launch) (hl : l.stackTraces = false) : mm_Spec l yX0_even (wsW_ yX0_even cX0_even 5 (some .int) [((0), (10), (13), (13))]) (mm_rm 25 2 12) (zE zX0_even) := by
  refine zz_Met.JHN hl (by decide) (fun C G hhd => ztX0_even G hhd) ?_
  rintro as ⟨⟨t_, f⟩, S, L, P⟩ Q X h
  unfold zX0_even at h
  split at h
  rotate_left
  · exact h.elim
  rename_i x a b out
  obtain ⟨e12_, e3_, h⟩ := mm_and2 h (fun q => q)
  rw [Bool.and_eq_true] at e12_
  cases mm_beq e12_.1
  cases mm_beq e12_.2
  cases mm_beq e3_
  try dsimp only at h
  refine ⟨rfl, ?_⟩
  obtain ⟨h51, Q1, X1, hs, hf, hx, hg, x1⟩ := h
  exact zwX0_even_0 ⟨Q1, X1, hs, hf, hx, fun v S' L' P' f' h5 q => ⟨nz_R v, 1, h5, by decide, by decide, hg v S' L' P' f' q⟩, fun S' L' P' f' q => x1 S' L' P' f' q⟩
def zX1_log_m : zz_Sp := fun as M Q X => match as with
  | [.inr (.inr (some h_)), .inl a] => bif Nat.beq h_ 100 && Nat.beq M.1.1 2 then (∃ (Q1_ : Option zv → zz_M → Prop) (X1_ : Nat → zz_M → Prop), zX1_log [vr 100, vi a] ((2, M.1.2), M.2.1, M.2.2.1, M.2.2.2) Q1_ X1_ ∧ (∀ r m, Q1_ r m → (∃ v : Int, r = some (vi v)) ∧ ∃ f' S' L' P', m = ((2, f'), S', L', P') ∧ f' 51 = (3, 1)) ∧ (∀ i m, X1_ i m → (i = 1 ∨ i = 5 ∨ i = 4) ∧ ∃ f' S' L' P', m = ((2, f'), S', L', P')) ∧ (∀ (v_ : Int) (S_ L_ : Nat → Nat → Int) (P_ : Nat → Nat → Option Nat) (f_ : Nat → Nat × Nat), f_ 51 = (3, 1) → Q1_ (some (vi v_)) ((2, f_), S_, L_, P_) → Q (some (vi (nz v_))) ((2, f_), S_, L_, P_)) ∧ (∀ (S_ L_ : Nat → Nat → Int) (P_ : Nat → Nat → Option Nat) (f_ : Nat → Nat × Nat), X1_ 1 ((2, f_), S_, L_, P_) → X 1 ((2, f_), S_, L_, P_)) ∧ (∀ (S_ L_ : Nat → Nat → Int) (P_ : Nat → Nat → Option Nat) (f_ : Nat → Nat × Nat), X1_ 5 ((2, f_), S_, L_, P_) → X 5 ((2, f_), S_, L_, P_)) ∧ (∀ (S_ L_ : Nat → Nat → Int) (P_ : Nat → Nat → Option Nat) (f_ : Nat → Nat × Nat), X1_ 4 ((2, f_), S_, L_, P_) → X 4 ((2, f_), S_, L_, P_))) else False
  | _ => False

theorem zmX1_log_m (l : Launch) (hl : l.stackTraces = false) : mm_Spec l yX1_log (ws_ yX1_log cX1_log 4 (some .int)) (mm_rm 8 2 12) (zE zX1_log_m) := by
  rintro as M Q X ⟨as', M', Q', X', rfl, rfl, h, hQ, hX⟩
  obtain ⟨⟨t_, f⟩, S, L, P⟩ := M'
  unfold zX1_log_m at h
  split at h
  rotate_left
  · exact h.elim
  rename_i h_ a
  obtain ⟨e1_, e2_, h⟩ := mm_and2 h (fun q => q)
  cases mm_beq e1_
  cases mm_beq e2_
  try dsimp only at h
  obtain ⟨Q1, X1, hs, hf, hx, hg, x1, x5, x4⟩ := h
  refine zmX1_log l hl _ _ _ _ ⟨_, _, Q1, X1, rfl, rfl, hs, fun r m q => ?_, fun i m E hE q => ?_⟩
  · obtain ⟨⟨v, rfl⟩, f', S', L', P', rfl, h51⟩ := hf r m q
    rw [nz_ev v]
    exact hQ _ _ (hg v S' L' P' f' h51 q)
  · obtain ⟨rfl | rfl | rfl, f', S', L', P', rfl⟩ := hx i m q
    · exact hX _ _ _ hE (x1 S' L' P' f' q)
    · exact hX _ _ _ hE (x5 S' L' P' f' q)
    · exact hX _ _ _ hE (x4 S' L' P' f' q)
def zX0_log : zz_Sp := fun as M Q X => match as with
  | [.inr (.inr (some x)), .inl a, .inr (.inr (some out))] => bif Nat.beq M.1.1 2 && Nat.beq x 100 && Nat.beq out 51 then (M.1.2 51 = (3, 1) ∧ ∃ (Q1_ : Option zv → zz_M → Prop) (X1_ : Nat → zz_M → Prop), zX1_log [vr 100, vi a] ((2, M.1.2), M.2.1, M.2.2.1, M.2.2.2) Q1_ X1_ ∧ (∀ r m, Q1_ r m → (∃ v : Int, r = some (vi v)) ∧ ∃ f' S' L' P', m = ((2, f'), S', L', P') ∧ f' 51 = (3, 1)) ∧ (∀ i m, X1_ i m → (i = 1 ∨ i = 5 ∨ i = 4) ∧ ∃ f' S' L' P', m = ((2, f'), S', L', P')) ∧ (∀ (v_ : Int) (S_ L_ : Nat → Nat → Int) (P_ : Nat → Nat → Option Nat) (f_ : Nat → Nat × Nat), Q1_ (some (vi v_)) ((2, f_), S_, L_, P_) → Q (some (vi 0)) ((2, f_), S_, mm_up L_ 51 0 (nz v_), P_)) ∧ (∀ (S_ L_ : Nat → Nat → Int) (P_ : Nat → Nat → Option Nat) (f_ : Nat → Nat × Nat), X1_ 1 ((2, f_), S_, L_, P_) → Q (some (vi 1)) ((2, f_), S_, L_, P_)) ∧ (∀ (S_ L_ : Nat → Nat → Int) (P_ : Nat → Nat → Option Nat) (f_ : Nat → Nat × Nat), X1_ 5 ((2, f_), S_, L_, P_) → Q (some (vi 2)) ((2, f_), S_, L_, P_)) ∧ (∀ (S_ L_ : Nat → Nat → Int) (P_ : Nat → Nat → Option Nat) (f_ : Nat → Nat × Nat), X1_ 4 ((2, f_), S_, L_, P_) → Q (some (vi 3)) ((2, f_), S_, L_, P_))) else False
  | _ => False

theorem hcX0_log_4 : ∀ q ∈ ([(1, 13, 3), (5, 16, 3), (4, 19, 3)] : mm_H), ∀ E, mm_ex[q.1]? = some E → mm_ct RX0 cX0_log 4 [((0), (9), (12), (13)), ((0), (9), (15), (53)), ((0), (9), (18), (26))] 4 E q.2.1 q.2.2 := by
  intro q hq E hE
  simp only [List.mem_cons, List.not_mem_nil, or_false] at hq
  rcases hq with rfl | rfl | rfl
  · cases hE
    exact ⟨[], ⟨0, 9, 12, 13⟩, [⟨0, 9, 15, 53⟩, ⟨0, 9, 18, 26⟩], rfl, fun z hz => absurd hz List.not_mem_nil, by decide, by decide, q598, q785, by decide, Or.inl ⟨3, rfl, dX0_log_12, rfl⟩, by decide⟩
  · cases hE
    exact ⟨[⟨0, 9, 12, 13⟩], ⟨0, 9, 15, 53⟩, [⟨0, 9, 18, 26⟩], rfl, fun z hz => by
      simp only [List.mem_cons, List.not_mem_nil, or_false] at hz
      rcases hz with rfl
      · exact Or.inr ⟨by decide, "java/lang/IllegalArgumentException", by decide, q598, by decide⟩, by decide, by decide, q1513, q1528, by decide, Or.inl ⟨3, rfl, dX0_log_15, rfl⟩, by decide⟩
  · cases hE
    exact ⟨[⟨0, 9, 12, 13⟩, ⟨0, 9, 15, 53⟩], ⟨0, 9, 18, 26⟩, [], rfl, fun z hz => by
      simp only [List.mem_cons, List.not_mem_nil, or_false] at hz
      rcases hz with rfl | rfl
      · exact Or.inr ⟨by decide, "java/lang/IllegalArgumentException", by decide, q598, by decide⟩
      · exact Or.inr ⟨by decide, "java/lang/IllegalStateException", by decide, q1513, by decide⟩, by decide, by decide, q1318, q1347, by decide, Or.inl ⟨3, rfl, dX0_log_18, rfl⟩, by decide⟩
def zpX0_log : zz_P := [(0, zo_ald 1 2), (1, zo_c 2 (vi 0)), (2, zo_ald 3 0), (3, zo_ild 4 1), (4, zo_cvLH (mm_rm 9 2 12) 7 2 0 2 12 [(1, 13, 3), (5, 16, 3), (4, 19, 3)] zX1_log_m), (7, zo_i2l 8), (8, zo_lasp 9), (9, zo_goto 21), (13, zo_c 14 (vi 1)), (14, zo_iret), (16, zo_c 17 (vi 2)), (17, zo_iret), (19, zo_c 20 (vi 3)), (20, zo_iret), (21, zo_c 22 (vi 0)), (22, zo_iret)]
theorem ztX0_log {C : mm_C} (G : mm_G C RX0 cX0_log (some .int) 4 (mm_rm 9 2 12)) (hhd : mm_hd C [((0), (9), (12), (13)), ((0), (9), (15), (53)), ((0), (9), (18), (26))]) : zz_OKs C zpX0_log :=
  ⟨zz_of (ok_aload_n G dX0_log_0 rfl rfl) (z_ald _ _),
   zz_of (ok_iconst G (v := 0) dX0_log_1 (by decide) rfl) (z_cn 2 0),
   zz_of (ok_aload_n G dX0_log_2 rfl rfl) (z_ald _ _),
   zz_of (ok_iload_n G dX0_log_3 rfl rfl) (z_ild _ _),
   zz_of (ok_calvFH G hhd (hs := [(1, 13, 3), (5, 16, 3), (4, 19, 3)]) (pc := 4) hcX0_log_4 (zmX1_log_m _ G.hst) (RX1, TX1, 19) rfl q1734 q1735 q1736 q82 q1737 (by decide +kernel) ⟨Nat.le_of_ble_eq_true rfl, Nat.le_of_ble_eq_true rfl⟩ dX0_log_4 rfl) (z_cvLH _ _ _ _ _ _ _ _),
   zz_of (ok_i2l G dX0_log_7 rfl) (z_i2l _),
   zz_of (ok_last G dX0_log_8 rfl) (z_lasp _),
   zz_of (ok_goto G dX0_log_9 rfl) (z_goto _),
   zz_of (ok_iconst G (v := 1) dX0_log_13 (by decide) rfl) (z_cn 14 1),
   zz_of (ok_iret G dX0_log_14) (z_iret),
   zz_of (ok_iconst G (v := 2) dX0_log_16 (by decide) rfl) (z_cn 17 2),
   zz_of (ok_iret G dX0_log_17) (z_iret),
   zz_of (ok_iconst G (v := 3) dX0_log_19 (by decide) rfl) (z_cn 20 3),
   zz_of (ok_iret G dX0_log_20) (z_iret),
   zz_of (ok_iconst G (v := 0) dX0_log_21 (by decide) rfl) (z_cn 22 0),
   zz_of (ok_iret G dX0_log_22) (z_iret), trivial⟩

theorem zwX0_log_0 {Q : Option zv → zz_M → Prop} {X : Nat → zz_M → Prop} {f : Nat → Nat × Nat} {S L : Nat → Nat → Int} {P : Nat → Nat → Option Nat} {a : Int} (h : (∃ (Q1_1 : Option zv → zz_M → Prop) (X1_1 : Nat → zz_M → Prop), zX1_log [vr 100, vi a] ((2, f), S, L, P) Q1_1 X1_1 ∧ (∀ r m, Q1_1 r m → (∃ v : Int, r = some (vi v)) ∧ ∃ f' S' L' P', m = ((2, f'), S', L', P') ∧ f' 51 = (3, 1)) ∧ (∀ i m, X1_1 i m → (i = 1 ∨ i = 5 ∨ i = 4) ∧ ∃ f' S' L' P', m = ((2, f'), S', L', P')) ∧ (∀ (v_1 : Int) (S_1 L_1 : Nat → Nat → Int) (P_1 : Nat → Nat → Option Nat) (f_1 : Nat → Nat × Nat), f_1 51 = (3, 1) → Q1_1 (some (vi v_1)) ((2, f_1), S_1, L_1, P_1) → (R32 (nz v_1) ∧ (∃ n_ : Nat, zsh ((2, f_1), S_1, L_1, P_1) 51 = (3, n_) ∧ (n_ : Int) ≤ 2147483647 ∧ (0 ≤ (0 : Int) ∧ 0 < (n_ : Int)) ∧ (Q (some (vi 0)) ((2, f_1), S_1, mm_up L_1 51 ((0 : Int).toNat) (nz v_1), P_1))))) ∧ (∀ (S_1 L_1 : Nat → Nat → Int) (P_1 : Nat → Nat → Option Nat) (f_1 : Nat → Nat × Nat), X1_1 1 ((2, f_1), S_1, L_1, P_1) → (Q (some (vi 1)) ((2, f_1), S_1, L_1, P_1))) ∧ (∀ (S_1 L_1 : Nat → Nat → Int) (P_1 : Nat → Nat → Option Nat) (f_1 : Nat → Nat × Nat), X1_1 5 ((2, f_1), S_1, L_1, P_1) → (Q (some (vi 2)) ((2, f_1), S_1, L_1, P_1))) ∧ (∀ (S_1 L_1 : Nat → Nat → Int) (P_1 : Nat → Nat → Option Nat) (f_1 : Nat → Nat × Nat), X1_1 4 ((2, f_1), S_1, L_1, P_1) → (Q (some (vi 3)) ((2, f_1), S_1, L_1, P_1))))) : zz_J zpX0_log (zz_ret Q X 2 12) 0 [some (vr 100), some (vi a), some (vr 51), none] [] ((2, f), S, L, P) (0, 0) := zz_J.go [] 400 h

theorem zmX0_log (l : Launch) (hl : l.stackTraces = false) : mm_Spec l yX0_log (wsW_ yX0_log cX0_log 4 (some .int) [((0), (9), (12), (13)), ((0), (9), (15), (53)), ((0), (9), (18), (26))]) (mm_rm 9 2 12) (zE zX0_log) := by
  refine zz_Met.JHN hl (by decide) (fun C G hhd => ztX0_log G hhd) ?_
  rintro as ⟨⟨t_, f⟩, S, L, P⟩ Q X h
  unfold zX0_log at h
  split at h
  rotate_left
  · exact h.elim
  rename_i x a out
  obtain ⟨e12_, e3_, h⟩ := mm_and2 h (fun q => q)
  rw [Bool.and_eq_true] at e12_
  cases mm_beq e12_.1
  cases mm_beq e12_.2
  cases mm_beq e3_
  try dsimp only at h
  refine ⟨rfl, ?_⟩
  obtain ⟨h51, Q1, X1, hs, hf, hx, hg, x1, x5, x4⟩ := h
  exact zwX0_log_0 ⟨Q1, X1, hs, hf, hx, fun v S' L' P' f' h5 q => ⟨nz_R v, 1, h5, by decide, by decide, hg v S' L' P' f' q⟩, fun S' L' P' f' q => x1 S' L' P' f' q, fun S' L' P' f' q => x5 S' L' P' f' q, fun S' L' P' f' q => x4 S' L' P' f' q⟩
def zX1_mends_m : zz_Sp := fun as M Q X => match as with
  | [.inr (.inr (some h_)), .inl a, .inl b, .inl c, .inl d, .inl e] => bif Nat.beq h_ 100 && Nat.beq M.1.1 2 then (∃ (Q1_ : Option zv → zz_M → Prop) (X1_ : Nat → zz_M → Prop), zX1_mends [vr 100, vi a, vi b, vi c, vi d, vi e] ((2, M.1.2), M.2.1, M.2.2.1, M.2.2.2) Q1_ X1_ ∧ (∀ r m, Q1_ r m → (∃ v : Int, r = some (vl v)) ∧ ∃ f' S' L' P', m = ((2, f'), S', L', P') ∧ f' 51 = (3, 1)) ∧ (∀ i m, X1_ i m → (i = 1) ∧ ∃ f' S' L' P', m = ((2, f'), S', L', P')) ∧ (∀ (v_ : Int) (S_ L_ : Nat → Nat → Int) (P_ : Nat → Nat → Option Nat) (f_ : Nat → Nat × Nat), f_ 51 = (3, 1) → Q1_ (some (vl v_)) ((2, f_), S_, L_, P_) → Q (some (vl v_)) ((2, f_), S_, L_, P_)) ∧ (∀ (S_ L_ : Nat → Nat → Int) (P_ : Nat → Nat → Option Nat) (f_ : Nat → Nat × Nat), X1_ 1 ((2, f_), S_, L_, P_) → X 1 ((2, f_), S_, L_, P_))) else False
  | _ => False

theorem zmX1_mends_m (l : Launch) (hl : l.stackTraces = false) : mm_Spec l yX1_mends (ws_ yX1_mends cX1_mends 8 (some .long)) (mm_rm 8 1 6) (zE zX1_mends_m) := by
  rintro as M Q X ⟨as', M', Q', X', rfl, rfl, h, hQ, hX⟩
  obtain ⟨⟨t_, f⟩, S, L, P⟩ := M'
  unfold zX1_mends_m at h
  split at h
  rotate_left
  · exact h.elim
  rename_i h_ a b c d e
  obtain ⟨e1_, e2_, h⟩ := mm_and2 h (fun q => q)
  cases mm_beq e1_
  cases mm_beq e2_
  try dsimp only at h
  obtain ⟨Q1, X1, hs, hf, hx, hg, x1⟩ := h
  refine zmX1_mends l hl _ _ _ _ ⟨_, _, Q1, X1, rfl, rfl, hs, fun r m q => ?_, fun i m E hE q => ?_⟩
  · obtain ⟨⟨v, rfl⟩, f', S', L', P', rfl, h51⟩ := hf r m q
    exact hQ _ _ (hg v S' L' P' f' h51 q)
  · obtain ⟨rfl, f', S', L', P', rfl⟩ := hx i m q
    exact hX _ _ _ hE (x1 S' L' P' f' q)
def zX0_mends : zz_Sp := fun as M Q X => match as with
  | [.inr (.inr (some x)), .inl a, .inl b, .inl c, .inl d, .inl e, .inr (.inr (some out))] => bif Nat.beq M.1.1 2 && Nat.beq x 100 && Nat.beq out 51 then (M.1.2 51 = (3, 1) ∧ ∃ (Q1_ : Option zv → zz_M → Prop) (X1_ : Nat → zz_M → Prop), zX1_mends [vr 100, vi a, vi b, vi c, vi d, vi e] ((2, M.1.2), M.2.1, M.2.2.1, M.2.2.2) Q1_ X1_ ∧ (∀ r m, Q1_ r m → (∃ v : Int, r = some (vl v)) ∧ ∃ f' S' L' P', m = ((2, f'), S', L', P') ∧ f' 51 = (3, 1)) ∧ (∀ i m, X1_ i m → (i = 1) ∧ ∃ f' S' L' P', m = ((2, f'), S', L', P')) ∧ (∀ (v_ : Int) (S_ L_ : Nat → Nat → Int) (P_ : Nat → Nat → Option Nat) (f_ : Nat → Nat × Nat), Q1_ (some (vl v_)) ((2, f_), S_, L_, P_) → Q (some (vi 0)) ((2, f_), S_, mm_up L_ 51 0 v_, P_)) ∧ (∀ (S_ L_ : Nat → Nat → Int) (P_ : Nat → Nat → Option Nat) (f_ : Nat → Nat × Nat), X1_ 1 ((2, f_), S_, L_, P_) → Q (some (vi 1)) ((2, f_), S_, L_, P_))) else False
  | _ => False

theorem hcX0_mends_11 : ∀ q ∈ ([(1, 20, 7)] : mm_H), ∀ E, mm_ex[q.1]? = some E → mm_ct RX0 cX0_mends 8 [((0), (15), (18), (13))] 11 E q.2.1 q.2.2 := by
  intro q hq E hE
  simp only [List.mem_cons, List.not_mem_nil, or_false] at hq
  rcases hq with rfl
  · cases hE
    exact ⟨[], ⟨0, 15, 18, 13⟩, [], rfl, fun z hz => absurd hz List.not_mem_nil, by decide, by decide, q598, q785, by decide, Or.inr ⟨dX0_mends_18, rfl⟩, by decide⟩
def zpX0_mends : zz_P := [(0, zo_ald 2 6), (2, zo_c 3 (vi 0)), (3, zo_ald 4 0), (4, zo_ild 5 1), (5, zo_ild 6 2), (6, zo_ild 7 3), (7, zo_ild 9 4), (9, zo_ild 11 5), (11, zo_cvLH (mm_rm 9 1 6) 14 6 0 1 6 [(1, 20, 7)] zX1_mends_m), (14, zo_lasp 15), (15, zo_goto 22), (20, zo_c 21 (vi 1)), (21, zo_iret), (22, zo_c 23 (vi 0)), (23, zo_iret)]
theorem ztX0_mends {C : mm_C} (G : mm_G C RX0 cX0_mends (some .int) 8 (mm_rm 9 1 6)) (hhd : mm_hd C [((0), (15), (18), (13))]) : zz_OKs C zpX0_mends :=
  ⟨zz_of (ok_aload G dX0_mends_0 rfl) (z_ald _ _),
   zz_of (ok_iconst G (v := 0) dX0_mends_2 (by decide) rfl) (z_cn 3 0),
   zz_of (ok_aload_n G dX0_mends_3 rfl rfl) (z_ald _ _),
   zz_of (ok_iload_n G dX0_mends_4 rfl rfl) (z_ild _ _),
   zz_of (ok_iload_n G dX0_mends_5 rfl rfl) (z_ild _ _),
   zz_of (ok_iload_n G dX0_mends_6 rfl rfl) (z_ild _ _),
   zz_of (ok_iload G dX0_mends_7 rfl) (z_ild _ _),
   zz_of (ok_iload G dX0_mends_9 rfl) (z_ild _ _),
   zz_of (ok_calvFH G hhd (hs := [(1, 20, 7)]) (pc := 11) hcX0_mends_11 (zmX1_mends_m _ G.hst) (RX1, TX1, 19) rfl q1745 q1746 q1747 q82 q1748 (by decide +kernel) ⟨Nat.le_of_ble_eq_true rfl, Nat.le_of_ble_eq_true rfl⟩ dX0_mends_11 rfl) (z_cvLH _ _ _ _ _ _ _ _),
   zz_of (ok_last G dX0_mends_14 rfl) (z_lasp _),
   zz_of (ok_goto G dX0_mends_15 rfl) (z_goto _),
   zz_of (ok_iconst G (v := 1) dX0_mends_20 (by decide) rfl) (z_cn 21 1),
   zz_of (ok_iret G dX0_mends_21) (z_iret),
   zz_of (ok_iconst G (v := 0) dX0_mends_22 (by decide) rfl) (z_cn 23 0),
   zz_of (ok_iret G dX0_mends_23) (z_iret), trivial⟩

theorem zwX0_mends_0 {Q : Option zv → zz_M → Prop} {X : Nat → zz_M → Prop} {f : Nat → Nat × Nat} {S L : Nat → Nat → Int} {P : Nat → Nat → Option Nat} {a : Int} {b : Int} {c : Int} {d : Int} {e : Int} (h : (∃ (Q1_1 : Option zv → zz_M → Prop) (X1_1 : Nat → zz_M → Prop), zX1_mends [vr 100, vi a, vi b, vi c, vi d, vi e] ((2, f), S, L, P) Q1_1 X1_1 ∧ (∀ r m, Q1_1 r m → (∃ v : Int, r = some (vl v)) ∧ ∃ f' S' L' P', m = ((2, f'), S', L', P') ∧ f' 51 = (3, 1)) ∧ (∀ i m, X1_1 i m → (i = 1) ∧ ∃ f' S' L' P', m = ((2, f'), S', L', P')) ∧ (∀ (v_1 : Int) (S_1 L_1 : Nat → Nat → Int) (P_1 : Nat → Nat → Option Nat) (f_1 : Nat → Nat × Nat), f_1 51 = (3, 1) → Q1_1 (some (vl v_1)) ((2, f_1), S_1, L_1, P_1) → (∃ n_ : Nat, zsh ((2, f_1), S_1, L_1, P_1) 51 = (3, n_) ∧ (n_ : Int) ≤ 2147483647 ∧ (0 ≤ (0 : Int) ∧ 0 < (n_ : Int)) ∧ (Q (some (vi 0)) ((2, f_1), S_1, mm_up L_1 51 ((0 : Int).toNat) v_1, P_1)))) ∧ (∀ (S_1 L_1 : Nat → Nat → Int) (P_1 : Nat → Nat → Option Nat) (f_1 : Nat → Nat × Nat), X1_1 1 ((2, f_1), S_1, L_1, P_1) → (Q (some (vi 1)) ((2, f_1), S_1, L_1, P_1))))) : zz_J zpX0_mends (zz_ret Q X 1 6) 0 [some (vr 100), some (vi a), some (vi b), some (vi c), some (vi d), some (vi e), some (vr 51), none] [] ((2, f), S, L, P) (0, 0) := zz_J.go [] 400 h

theorem zmX0_mends (l : Launch) (hl : l.stackTraces = false) : mm_Spec l yX0_mends (wsW_ yX0_mends cX0_mends 8 (some .int) [((0), (15), (18), (13))]) (mm_rm 9 1 6) (zE zX0_mends) := by
  refine zz_Met.JHN hl (by decide) (fun C G hhd => ztX0_mends G hhd) ?_
  rintro as ⟨⟨t_, f⟩, S, L, P⟩ Q X h
  unfold zX0_mends at h
  split at h
  rotate_left
  · exact h.elim
  rename_i x a b c d e out
  obtain ⟨e12_, e3_, h⟩ := mm_and2 h (fun q => q)
  rw [Bool.and_eq_true] at e12_
  cases mm_beq e12_.1
  cases mm_beq e12_.2
  cases mm_beq e3_
  try dsimp only at h
  refine ⟨rfl, ?_⟩
  obtain ⟨h51, Q1, X1, hs, hf, hx, hg, x1⟩ := h
  exact zwX0_mends_0 ⟨Q1, X1, hs, hf, hx, fun v S' L' P' f' h5 q => ⟨1, h5, by decide, by decide, hg v S' L' P' f' q⟩, fun S' L' P' f' q => x1 S' L' P' f' q⟩
def zX1_play_m : zz_Sp := fun as M Q X => match as with
  | [.inr (.inr (some h_)), .inl a, .inl b, .inl c] => bif Nat.beq h_ 100 && Nat.beq M.1.1 2 then (∃ (Q1_ : Option zv → zz_M → Prop) (X1_ : Nat → zz_M → Prop), zX1_play [vr 100, vi a, vi b, vi c] ((2, M.1.2), M.2.1, M.2.2.1, M.2.2.2) Q1_ X1_ ∧ (∀ r m, Q1_ r m → (∃ v : Int, r = some (vi v)) ∧ ∃ f' S' L' P', m = ((2, f'), S', L', P') ∧ f' 51 = (3, 1)) ∧ (∀ i m, X1_ i m → (i = 1 ∨ i = 4) ∧ ∃ f' S' L' P', m = ((2, f'), S', L', P')) ∧ (∀ (v_ : Int) (S_ L_ : Nat → Nat → Int) (P_ : Nat → Nat → Option Nat) (f_ : Nat → Nat × Nat), f_ 51 = (3, 1) → Q1_ (some (vi v_)) ((2, f_), S_, L_, P_) → Q (some (vi (nz v_))) ((2, f_), S_, L_, P_)) ∧ (∀ (S_ L_ : Nat → Nat → Int) (P_ : Nat → Nat → Option Nat) (f_ : Nat → Nat × Nat), X1_ 1 ((2, f_), S_, L_, P_) → X 1 ((2, f_), S_, L_, P_)) ∧ (∀ (S_ L_ : Nat → Nat → Int) (P_ : Nat → Nat → Option Nat) (f_ : Nat → Nat × Nat), X1_ 4 ((2, f_), S_, L_, P_) → X 4 ((2, f_), S_, L_, P_))) else False
  | _ => False

theorem zmX1_play_m (l : Launch) (hl : l.stackTraces = false) : mm_Spec l yX1_play (ws_ yX1_play cX1_play 7 (some .int)) (mm_rm 23 2 12) (zE zX1_play_m) := by
  rintro as M Q X ⟨as', M', Q', X', rfl, rfl, h, hQ, hX⟩
  obtain ⟨⟨t_, f⟩, S, L, P⟩ := M'
  unfold zX1_play_m at h
  split at h
  rotate_left
  · exact h.elim
  rename_i h_ a b c
  obtain ⟨e1_, e2_, h⟩ := mm_and2 h (fun q => q)
  cases mm_beq e1_
  cases mm_beq e2_
  try dsimp only at h
  obtain ⟨Q1, X1, hs, hf, hx, hg, x1, x4⟩ := h
  refine zmX1_play l hl _ _ _ _ ⟨_, _, Q1, X1, rfl, rfl, hs, fun r m q => ?_, fun i m E hE q => ?_⟩
  · obtain ⟨⟨v, rfl⟩, f', S', L', P', rfl, h51⟩ := hf r m q
    rw [nz_ev v]
    exact hQ _ _ (hg v S' L' P' f' h51 q)
  · obtain ⟨rfl | rfl, f', S', L', P', rfl⟩ := hx i m q
    · exact hX _ _ _ hE (x1 S' L' P' f' q)
    · exact hX _ _ _ hE (x4 S' L' P' f' q)
def zX0_play : zz_Sp := fun as M Q X => match as with
  | [.inr (.inr (some x)), .inl a, .inl b, .inl c, .inr (.inr (some out))] => bif Nat.beq M.1.1 2 && Nat.beq x 100 && Nat.beq out 51 then (M.1.2 51 = (3, 1) ∧ ∃ (Q1_ : Option zv → zz_M → Prop) (X1_ : Nat → zz_M → Prop), zX1_play [vr 100, vi a, vi b, vi c] ((2, M.1.2), M.2.1, M.2.2.1, M.2.2.2) Q1_ X1_ ∧ (∀ r m, Q1_ r m → (∃ v : Int, r = some (vi v)) ∧ ∃ f' S' L' P', m = ((2, f'), S', L', P') ∧ f' 51 = (3, 1)) ∧ (∀ i m, X1_ i m → (i = 1 ∨ i = 4) ∧ ∃ f' S' L' P', m = ((2, f'), S', L', P')) ∧ (∀ (v_ : Int) (S_ L_ : Nat → Nat → Int) (P_ : Nat → Nat → Option Nat) (f_ : Nat → Nat × Nat), Q1_ (some (vi v_)) ((2, f_), S_, L_, P_) → Q (some (vi 0)) ((2, f_), S_, mm_up L_ 51 0 (nz v_), P_)) ∧ (∀ (S_ L_ : Nat → Nat → Int) (P_ : Nat → Nat → Option Nat) (f_ : Nat → Nat × Nat), X1_ 1 ((2, f_), S_, L_, P_) → Q (some (vi 1)) ((2, f_), S_, L_, P_)) ∧ (∀ (S_ L_ : Nat → Nat → Int) (P_ : Nat → Nat → Option Nat) (f_ : Nat → Nat × Nat), X1_ 4 ((2, f_), S_, L_, P_) → Q (some (vi 2)) ((2, f_), S_, L_, P_))) else False
  | _ => False

theorem hcX0_play_7 : ∀ q ∈ ([(1, 17, 5), (4, 21, 5)] : mm_H), ∀ E, mm_ex[q.1]? = some E → mm_ct RX0 cX0_play 6 [((0), (12), (15), (13)), ((0), (12), (19), (26))] 7 E q.2.1 q.2.2 := by
  intro q hq E hE
  simp only [List.mem_cons, List.not_mem_nil, or_false] at hq
  rcases hq with rfl | rfl
  · cases hE
    exact ⟨[], ⟨0, 12, 15, 13⟩, [⟨0, 12, 19, 26⟩], rfl, fun z hz => absurd hz List.not_mem_nil, by decide, by decide, q598, q785, by decide, Or.inr ⟨dX0_play_15, rfl⟩, by decide⟩
  · cases hE
    exact ⟨[⟨0, 12, 15, 13⟩], ⟨0, 12, 19, 26⟩, [], rfl, fun z hz => by
      simp only [List.mem_cons, List.not_mem_nil, or_false] at hz
      rcases hz with rfl
      · exact Or.inr ⟨by decide, "java/lang/IllegalArgumentException", by decide, q598, by decide⟩, by decide, by decide, q1318, q1347, by decide, Or.inr ⟨dX0_play_19, rfl⟩, by decide⟩
def zpX0_play : zz_P := [(0, zo_ald 2 4), (2, zo_c 3 (vi 0)), (3, zo_ald 4 0), (4, zo_ild 5 1), (5, zo_ild 6 2), (6, zo_ild 7 3), (7, zo_cvLH (mm_rm 24 2 12) 10 4 0 2 12 [(1, 17, 5), (4, 21, 5)] zX1_play_m), (10, zo_i2l 11), (11, zo_lasp 12), (12, zo_goto 23), (17, zo_c 18 (vi 1)), (18, zo_iret), (21, zo_c 22 (vi 2)), (22, zo_iret), (23, zo_c 24 (vi 0)), (24, zo_iret)]
theorem ztX0_play {C : mm_C} (G : mm_G C RX0 cX0_play (some .int) 6 (mm_rm 24 2 12)) (hhd : mm_hd C [((0), (12), (15), (13)), ((0), (12), (19), (26))]) : zz_OKs C zpX0_play :=
  ⟨zz_of (ok_aload G dX0_play_0 rfl) (z_ald _ _),
   zz_of (ok_iconst G (v := 0) dX0_play_2 (by decide) rfl) (z_cn 3 0),
   zz_of (ok_aload_n G dX0_play_3 rfl rfl) (z_ald _ _),
   zz_of (ok_iload_n G dX0_play_4 rfl rfl) (z_ild _ _),
   zz_of (ok_iload_n G dX0_play_5 rfl rfl) (z_ild _ _),
   zz_of (ok_iload_n G dX0_play_6 rfl rfl) (z_ild _ _),
   zz_of (ok_calvFH G hhd (hs := [(1, 17, 5), (4, 21, 5)]) (pc := 7) hcX0_play_7 (zmX1_play_m _ G.hst) (RX1, TX1, 19) rfl q1789 q1790 q1791 q82 q1792 (by decide +kernel) ⟨Nat.le_of_ble_eq_true rfl, Nat.le_of_ble_eq_true rfl⟩ dX0_play_7 rfl) (z_cvLH _ _ _ _ _ _ _ _),
   zz_of (ok_i2l G dX0_play_10 rfl) (z_i2l _),
   zz_of (ok_last G dX0_play_11 rfl) (z_lasp _),
   zz_of (ok_goto G dX0_play_12 rfl) (z_goto _),
   zz_of (ok_iconst G (v := 1) dX0_play_17 (by decide) rfl) (z_cn 18 1),
   zz_of (ok_iret G dX0_play_18) (z_iret),
   zz_of (ok_iconst G (v := 2) dX0_play_21 (by decide) rfl) (z_cn 22 2),
   zz_of (ok_iret G dX0_play_22) (z_iret),
   zz_of (ok_iconst G (v := 0) dX0_play_23 (by decide) rfl) (z_cn 24 0),
   zz_of (ok_iret G dX0_play_24) (z_iret), trivial⟩

theorem zwX0_play_0 {Q : Option zv → zz_M → Prop} {X : Nat → zz_M → Prop} {f : Nat → Nat × Nat} {S L : Nat → Nat → Int} {P : Nat → Nat → Option Nat} {a : Int} {b : Int} {c : Int} (h : (∃ (Q1_1 : Option zv → zz_M → Prop) (X1_1 : Nat → zz_M → Prop), zX1_play [vr 100, vi a, vi b, vi c] ((2, f), S, L, P) Q1_1 X1_1 ∧ (∀ r m, Q1_1 r m → (∃ v : Int, r = some (vi v)) ∧ ∃ f' S' L' P', m = ((2, f'), S', L', P') ∧ f' 51 = (3, 1)) ∧ (∀ i m, X1_1 i m → (i = 1 ∨ i = 4) ∧ ∃ f' S' L' P', m = ((2, f'), S', L', P')) ∧ (∀ (v_1 : Int) (S_1 L_1 : Nat → Nat → Int) (P_1 : Nat → Nat → Option Nat) (f_1 : Nat → Nat × Nat), f_1 51 = (3, 1) → Q1_1 (some (vi v_1)) ((2, f_1), S_1, L_1, P_1) → (R32 (nz v_1) ∧ (∃ n_ : Nat, zsh ((2, f_1), S_1, L_1, P_1) 51 = (3, n_) ∧ (n_ : Int) ≤ 2147483647 ∧ (0 ≤ (0 : Int) ∧ 0 < (n_ : Int)) ∧ (Q (some (vi 0)) ((2, f_1), S_1, mm_up L_1 51 ((0 : Int).toNat) (nz v_1), P_1))))) ∧ (∀ (S_1 L_1 : Nat → Nat → Int) (P_1 : Nat → Nat → Option Nat) (f_1 : Nat → Nat × Nat), X1_1 1 ((2, f_1), S_1, L_1, P_1) → (Q (some (vi 1)) ((2, f_1), S_1, L_1, P_1))) ∧ (∀ (S_1 L_1 : Nat → Nat → Int) (P_1 : Nat → Nat → Option Nat) (f_1 : Nat → Nat × Nat), X1_1 4 ((2, f_1), S_1, L_1, P_1) → (Q (some (vi 2)) ((2, f_1), S_1, L_1, P_1))))) : zz_J zpX0_play (zz_ret Q X 2 12) 0 [some (vr 100), some (vi a), some (vi b), some (vi c), some (vr 51), none] [] ((2, f), S, L, P) (0, 0) := zz_J.go [] 400 h

theorem zmX0_play (l : Launch) (hl : l.stackTraces = false) : mm_Spec l yX0_play (wsW_ yX0_play cX0_play 6 (some .int) [((0), (12), (15), (13)), ((0), (12), (19), (26))]) (mm_rm 24 2 12) (zE zX0_play) := by
  refine zz_Met.JHN hl (by decide) (fun C G hhd => ztX0_play G hhd) ?_
  rintro as ⟨⟨t_, f⟩, S, L, P⟩ Q X h
  unfold zX0_play at h
  split at h
  rotate_left
  · exact h.elim
  rename_i x a b c out
  obtain ⟨e12_, e3_, h⟩ := mm_and2 h (fun q => q)
  rw [Bool.and_eq_true] at e12_
  cases mm_beq e12_.1
  cases mm_beq e12_.2
  cases mm_beq e3_
  try dsimp only at h
  refine ⟨rfl, ?_⟩
  obtain ⟨h51, Q1, X1, hs, hf, hx, hg, x1, x4⟩ := h
  exact zwX0_play_0 ⟨Q1, X1, hs, hf, hx, fun v S' L' P' f' h5 q => ⟨nz_R v, 1, h5, by decide, by decide, hg v S' L' P' f' q⟩, fun S' L' P' f' q => x1 S' L' P' f' q, fun S' L' P' f' q => x4 S' L' P' f' q⟩
