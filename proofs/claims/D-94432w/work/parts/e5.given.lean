/-! ===== what the claim's start gives: the constants, the tables, the statics ===== -/
set_option maxRecDepth 100000
abbrev vy_B : Cond := Jvm.Cond.and given_1 narrow_1
def vy_sv (own : String) (k : Nat) : Term := .field (.string own k) "java/lang/String" "value" "[B"
def vy_tw (own : String) (k : Nat) (tx : List Nat) (hs : Int32) : List Cond :=
  Cond.exactly (.string own k) "java/lang/String" :: Cond.eq (.field (.string own k) "java/lang/String" "coder" "B") (.int 0) :: Cond.arrayOf (vy_sv own k) .byte :: Cond.eq (.length (vy_sv own k)) (.int (Int32.ofNat tx.length)) ::
  ((List.range tx.length).map (fun i => Cond.eq (.elem (vy_sv own k) (.int (Int32.ofNat i))) (.int (nI (tx.getD i 0)))) ++ [Cond.eq (.field (.string own k) "java/lang/String" "hash" "I") (.int hs), Cond.eq (.field (.string own k) "java/lang/String" "hashIsZero" "Z") (.int 0)])
def vy_P : List (String × Nat) := [("ChaseCourt", 122), ("ChaseCourt", 128), ("ChaseCourt", 130), ("ChaseCourt", 132), ("ChaseCourt", 141), ("ChaseCourt", 143), ("ChaseCourt", 145), ("ChaseCourt", 293), ("ChaseCourt", 297), ("ChaseCourt", 248), ("ChaseCourt", 262), ("ChaseCourt", 269), ("ChaseCourt", 286), ("ChaseCourt", 291), ("ChaseCourtModel", 146), ("ChaseCourtModel", 148), ("ChaseCourtModel", 150), ("ChaseCourtModel", 152)]
def vy_pj (j : Nat) : String × Nat := vy_P.getD j ("", 0)
def vy_W : List Cond := (List.range 18).flatMap (fun j => vy_tw (vy_pj j).1 (vy_pj j).2 (mm_txt.getD j []) (mm_hsh.getD j 0)) ++ (List.range 18).map (fun j => Cond.exactly (vy_sv (vy_pj j).1 (vy_pj j).2) "[B")
theorem vy_Ws : vy_W.Sublist (flatC vy_B) := by decide +kernel
theorem vy_len {args : Array Value} {s : State} {t : Term} {N : Nat} (hN : N < 2 ^ 31) (h : (Term.length t).eval args s none [] s = some (.int (Int32.ofNat N))) : ∃ (a : Nat) (cell : Cell), t.eval args s none [] s = some (.ref a) ∧ s.arrayAt? a = some cell ∧ cell.slots.size = N := by
  simp only [Term.eval, Option.bind_eq_bind] at h
  cases ht : t.eval args s none [] s with
  | none => rw [ht] at h; simp at h
  | some x =>
    rw [ht] at h
    cases x with
    | ref a =>
      simp only [Option.bind_some] at h
      cases ha : s.arrayAt? a with
      | none => rw [ha] at h; simp at h
      | some cell =>
        rw [ha] at h
        simp only [Option.bind_some] at h
        by_cases hs : cell.slots.size < 2 ^ 31
        · rw [if_pos hs] at h
          refine ⟨a, cell, rfl, ha, ?_⟩
          have h2 : (Value.int cell.slots.size.toInt32) = .int (Int32.ofNat N) := Option.some.inj h
          have h3 : Int32.ofNat cell.slots.size = Int32.ofNat N := Value.int.inj h2
          have h4 := congrArg Int32.toInt h3
          rw [Int32.toInt_ofNat_of_lt hs, Int32.toInt_ofNat_of_lt hN] at h4
          exact Int.ofNat.inj h4
        · rw [if_neg hs] at h
          cases h
    | _ => simp at h
/-- an array of which all is told -/
theorem vy_arr {args : Array Value} {s : State} {tm : Term} {ty : FieldType} {N : Nat} {f : Nat → Value} (hN : N < 2 ^ 31) (harr : (Cond.arrayOf tm ty).before args s = true) (hlen : (Term.length tm).eval args s none [] s = some (.int (Int32.ofNat N))) (hel : ∀ j : Nat, j < N → (Term.elem tm (.int (Int32.ofNat j))).eval args s none [] s = some (f j)) (cA : ClassId) : ∃ (t : Nat) (cell : Cell), tm.eval args s none [] s = some (.ref t) ∧ s.heap[t]? = some cell ∧ cell.vm ≠ .unknown ∧ cell.vm.isStatics = false ∧ cell.slots = (arrV cA N f).slots := by
  obtain ⟨t, cell, ht, hat, hsz⟩ := vy_len hN hlen
  obtain ⟨hcell, hkn, hst, -⟩ := State.arrayAt?_spec hat
  refine ⟨t, cell, ht, hcell, hkn, hst, Array.ext_getElem? fun i => ?_⟩
  by_cases hi : i < N
  · rw [arrV_read _ _ hi]
    obtain ⟨a, j, cell2, h1, h2, h3, h4, h5⟩ := Term.elem_spec (hel i hi)
    cases ht.symm.trans h1
    cases hat.symm.trans h3
    have e : (Term.int (Int32.ofNat i)).eval args s none [] s = some (.int (Int32.ofNat i)) := rfl
    cases e.symm.trans h2
    have e2 : (Int32.ofNat i).toNatClampNeg = i := by
      have : (Int32.ofNat i).toInt = (i : Int) := Int32.toInt_ofNat_of_lt (by omega)
      show (Int32.ofNat i).toInt.toNat = i
      omega
    rw [e2] at h5
    exact h5
  · rw [Array.getElem?_eq_none (by omega), Array.getElem?_eq_none (by rw [arrV_size]; omega)]
theorem vy_Wm {s : State} {args : Array Value} (h : vy_B.before args s = true) {w : Cond} (hw : w ∈ vy_W) : w.before args s = true := flat_of_before _ h _ (vy_Ws.mem hw)
theorem vy_tl : ∀ j, j < 18 → (mm_txt.getD j []).length < 100 := by decide
theorem vy_txt {s : State} {args : Array Value} (h : vy_B.before args s = true) {cC cB : ClassId} {iS : Nat → Nat} (hK : u_Kn s "java/lang/String" TJ8 4 cC iS) (hB : s.vm.findClass "[B" = some cB) (j : Nat) (hj : j < 18) : ∃ a d : Nat, (Term.string (vy_pj j).1 (vy_pj j).2).eval args s none [] s = some (.ref a) ∧ (∃ cell : Cell, s.heap[a]? = some cell ∧ cell.cls = cC ∧ cell.vm ≠ .unknown ∧ cell.vm.isStatics = false ∧ cell.slots[iS 0]? = some (.ref d) ∧ cell.slots[iS 1]? = some (.int 0) ∧ cell.slots[iS 2]? = some (.int (mm_hsh.getD j 0)) ∧ cell.slots[iS 3]? = some (.int 0)) ∧ ∃ cell : Cell, s.heap[d]? = some cell ∧ cell.cls = cB ∧ cell.vm ≠ .unknown ∧ cell.vm.isStatics = false ∧ cell.slots = (arrV cB (mm_txt.getD j []).length (fun i => .int (nI ((mm_txt.getD j []).getD i 0)))).slots := by
  have hw : ∀ w ∈ vy_tw (vy_pj j).1 (vy_pj j).2 (mm_txt.getD j []) (mm_hsh.getD j 0), w.before args s = true := fun w hw => vy_Wm h (List.mem_append_left _ (List.mem_flatMap.mpr ⟨j, List.mem_range.mpr hj, hw⟩))
  have hx : (Cond.exactly (vy_sv (vy_pj j).1 (vy_pj j).2) "[B").before args s = true := vy_Wm h (List.mem_append_right _ (List.mem_map.mpr ⟨j, List.mem_range.mpr hj, rfl⟩))
  have hl := vy_tl j hj
  generalize (vy_pj j).1 = own at hw hx ⊢
  generalize (vy_pj j).2 = k at hw hx ⊢
  generalize mm_txt.getD j [] = tx at hw hl ⊢
  generalize mm_hsh.getD j 0 = hs at hw ⊢
  unfold vy_tw at hw
  have w1 := hw _ List.mem_cons_self
  have w2 := va_eqt (hw _ (List.mem_cons_of_mem _ List.mem_cons_self))
  have w3 := hw _ (List.mem_cons_of_mem _ (List.mem_cons_of_mem _ List.mem_cons_self))
  have w4 := va_eqt (hw _ (List.mem_cons_of_mem _ (List.mem_cons_of_mem _ (List.mem_cons_of_mem _ List.mem_cons_self))))
  have w5 : ∀ i, i < tx.length → (Term.elem (vy_sv own k) (.int (Int32.ofNat i))).eval args s none [] s = some (.int (nI (tx.getD i 0))) := fun i hi => va_eqt (hw _ (List.mem_cons_of_mem _ (List.mem_cons_of_mem _ (List.mem_cons_of_mem _ (List.mem_cons_of_mem _ (List.mem_append_left _ (List.mem_map.mpr ⟨i, List.mem_range.mpr hi, rfl⟩)))))))
  have w6 := va_eqt (hw _ (List.mem_cons_of_mem _ (List.mem_cons_of_mem _ (List.mem_cons_of_mem _ (List.mem_cons_of_mem _ (List.mem_append_right _ List.mem_cons_self))))))
  have w7 := va_eqt (hw _ (List.mem_cons_of_mem _ (List.mem_cons_of_mem _ (List.mem_cons_of_mem _ (List.mem_cons_of_mem _ (List.mem_append_right _ (List.mem_cons_of_mem _ List.mem_cons_self)))))))
  obtain ⟨a, c, cell, kC, e1, e2, e3, -, e5, e6, -⟩ := Cond.exactly_spec w1
  obtain ⟨d, cell2, f1, f2, f3, f4, f5⟩ := vy_arr (by omega) w3 w4 w5 cB
  obtain ⟨d', c', cell3, -, g1, g2, g3, -, -, g6, -⟩ := Cond.exactly_spec hx
  cases f1.symm.trans g1
  cases f2.symm.trans g3
  cases hB.symm.trans g2
  have hcC : c = cC := by
    obtain ⟨-, h2, -⟩ := hK
    exact Option.some.inj (e2.symm.trans h2)
  have fld : ∀ (i : Nat) (v : Value), i < 4 → (Term.field (.string own k) (TJ8 i).1 (TJ8 i).2.1 (TJ8 i).2.2.1).eval args s none [] s = some v → cell.vm ≠ .unknown ∧ cell.slots[iS i]? = some v := by
    intro i v hi hv
    obtain ⟨cf, kf, fi, fd, hf, hsl⟩ := hK.1 i hi
    obtain ⟨-, cell4, k1, k2, -, -, k5⟩ := Term.field_spec hf e1 hv
    cases e3.symm.trans k1
    rw [← hsl]
    exact ⟨k2, k5⟩
  refine ⟨a, d, e1, ⟨cell, e3, e6.trans hcC, (fld 0 _ (by decide) f1).1, e5, (fld 0 _ (by decide) f1).2, (fld 1 _ (by decide) w2).2, (fld 2 _ (by decide) w6).2, (fld 3 _ (by decide) w7).2⟩, cell2, f2, g6, f3, f4, f5⟩
def vy_fn (j : Nat) : String := ["MINE", "HIS", "LINE", "CHASES", "GAMES"].getD j ""
def vy_fk (j : Nat) : Nat := [53, 59, 62, 65, 68].getD j 0
def vy_ft (j : Nat) : Term := .static "ChaseCourt$Fact" (vy_fn j) "LChaseCourt$Fact;"
def vy_tE : Term := .static "java/util/ArrayList" "DEFAULTCAPACITY_EMPTY_ELEMENTDATA" "[Ljava/lang/Object;"
def vy_tV : Term := .static "ChaseCourt$Fact" "$VALUES" "[LChaseCourt$Fact;"
def vy_E : List (Nat × String × Nat) := [(7, "ChaseCourtModel", 190), (8, "ChaseCourtModel", 192), (9, "ChaseCourtModel", 171), (10, "ChaseCourtModel", 157), (11, "ChaseCourtModel", 163), (1, "ChaseCourtModel", 123), (12, "ChaseCourtModel", 183), (13, "ChaseCourtModel", 188), (0, "ChaseCourtModel", 107), (4, "ChaseCourtModel", 117), (5, "ChaseCourtModel", 119), (6, "ChaseCourtModel", 121), (2, "ChaseCourtModel", 125), (3, "ChaseCourtModel", 127), (14, "ChaseCourt$Fact", 53), (15, "ChaseCourt$Fact", 59), (16, "ChaseCourt$Fact", 62), (17, "ChaseCourt$Fact", 65), (1, "ChaseCourt$Fact", 68)]
def vy_Ew : List Cond := vy_E.map (fun q => Cond.eq (.string (vy_pj q.1).1 (vy_pj q.1).2) (.string q.2.1 q.2.2))
theorem vy_Es : vy_Ew.Sublist (flatC vy_B) := by decide +kernel
def vy_N : List Cond := [.arrayOf vy_tE (.object "java/lang/Object"), .exactly vy_tE "[Ljava/lang/Object;", .eq (.length vy_tE) (.int (Int32.ofNat 0)), .eq (.static "java/lang/String" "COMPACT_STRINGS" "Z") (.int 1), .isRef (.static "jdk/internal/util/Preconditions" "SIOOBE_FORMATTER" "Ljava/util/function/BiFunction;"), .isRef (.static "java/lang/Throwable" "UNASSIGNED_STACK" "[Ljava/lang/StackTraceElement;"), .isRef (.static "java/lang/Throwable" "SUPPRESSED_SENTINEL" "Ljava/util/List;"), .exactly vy_tV "[LChaseCourt$Fact;", .arrayOf vy_tV (.object "ChaseCourt$Fact"), .eq (.length vy_tV) (.int (Int32.ofNat 5))] ++ ((List.range 5).map (fun j => Cond.eq (.elem vy_tV (.int (Int32.ofNat j))) (vy_ft j)) ++ ((List.range 5).flatMap (fun j => [Cond.exactly (vy_ft j) "ChaseCourt$Fact", Cond.eq (.field (vy_ft j) "java/lang/Enum" "ordinal" "I") (.int (nI j)), Cond.eq (.field (vy_ft j) "ChaseCourt$Fact" "told" "Ljava/lang/String;") (.string "ChaseCourt$Fact" (vy_fk j))]) ++ [Cond.isRef (.mirror "[Ljava/lang/Object;")]))
theorem vy_Ns : vy_N.Sublist (flatC vy_B) := by decide +kernel
theorem vy_Nm {s : State} {args : Array Value} (h : vy_B.before args s = true) {w : Cond} (hw : w ∈ vy_N) : w.before args s = true := flat_of_before _ h _ (vy_Ns.mem hw)
theorem vy_Ni {s : State} {args : Array Value} (h : vy_B.before args s = true) (i : Nat) {w : Cond} (hw : vy_N[i]? = some w) : w.before args s = true := vy_Nm h (List.mem_of_getElem? hw)
theorem vy_eqr {args : Array Value} {s : State} {a b : Term} {x : Nat} (h : (Cond.eq a b).before args s = true) (ha : a.eval args s none [] s = some (.ref x)) : b.eval args s none [] s = some (.ref x) := by
  cases hv : b.eval args s none [] s with
  | none => simp [Cond.before, Cond.holds, Cond.value, hv, ha] at h
  | some w =>
    simp only [Cond.before, Cond.holds, Cond.value, hv, ha] at h
    cases w <;> simp_all
theorem vy_sw : ∀ q ∈ mm_str, Cond.stringRef q.1 q.2.1 q.2.2.1 ∈ lw_tbl := by decide +kernel
theorem vy_sp : ∀ q ∈ mm_str, (∃ j, j ∈ List.range 18 ∧ vy_pj j = (q.1, q.2.1) ∧ q.2.2.2 = 1000 + j) ∨ (∃ e, e ∈ vy_E ∧ e.2 = (q.1, q.2.1) ∧ q.2.2.2 = 1000 + e.1 ∧ e.1 < 18) := by decide +kernel
theorem vy_str {s : State} {args : Array Value} (h : vy_B.before args s = true) (hts : ∀ w ∈ lw_tbl, w.before args s = true) {sa : Nat → Nat} (hsa : ∀ j, j < 18 → (Term.string (vy_pj j).1 (vy_pj j).2).eval args s none [] s = some (.ref (sa j))) : ∀ q ∈ mm_str, vk_R q.1 q.2.1 q.2.2.1 (sa (q.2.2.2 - 1000)) s := by
  intro q hq
  refine vk_R.of (A := args) (hts _ (vy_sw q hq)) ?_
  rcases vy_sp q hq with ⟨j, hj, e1, e2⟩ | ⟨e, he, e1, e2, e3⟩
  · have h1 := hsa j (List.mem_range.mp hj)
    rw [e1] at h1
    rw [e2, Nat.add_sub_cancel_left]
    exact h1
  · have h1 := hsa e.1 e3
    have hw : (Cond.eq (.string (vy_pj e.1).1 (vy_pj e.1).2) (.string e.2.1 e.2.2)).before args s = true := flat_of_before _ h _ (vy_Es.mem (List.mem_map.mpr ⟨e, he, rfl⟩))
    have h2 := vy_eqr hw h1
    rw [e1] at h2
    rw [e2, Nat.add_sub_cancel_left]
    exact h2
/-- Fact's word j, its key -/
theorem vy_ftk : ∀ j, j < 5 → ∃ q ∈ mm_str, q.1 = "ChaseCourt$Fact" ∧ q.2.1 = vy_fk j ∧ q.2.2.2 = mm_tf j := by decide +kernel
theorem vy_fact {s : State} {args : Array Value} (h : vy_B.before args s = true) {A : Nat → Prop} (hA : ∀ a : Nat, a < s.heap.size → ¬ A a) (j : Nat) (hj : j < 5) : ∃ a : Nat, (vy_ft j).eval args s none [] s = some (.ref a) ∧ a < s.heap.size ∧ va_O "ChaseCourt$Fact" a A s s.heap ∧ va_OF "java/lang/Enum" "ordinal" "I" (.int (nI j)) a A s s.heap ∧ ∀ t : Nat, (Term.string "ChaseCourt$Fact" (vy_fk j)).eval args s none [] s = some (.ref t) → va_OF "ChaseCourt$Fact" "told" "Ljava/lang/String;" (.ref t) a A s s.heap := by
  have hm : ∀ w ∈ [Cond.exactly (vy_ft j) "ChaseCourt$Fact", Cond.eq (.field (vy_ft j) "java/lang/Enum" "ordinal" "I") (.int (nI j)), Cond.eq (.field (vy_ft j) "ChaseCourt$Fact" "told" "Ljava/lang/String;") (.string "ChaseCourt$Fact" (vy_fk j))], w.before args s = true := fun w hw => vy_Nm h (List.mem_append_right _ (List.mem_append_right _ (List.mem_append_left _ (List.mem_flatMap.mpr ⟨j, List.mem_range.mpr hj, hw⟩))))
  have w1 := hm _ List.mem_cons_self
  have w2 := va_eqt (hm _ (List.mem_cons_of_mem _ List.mem_cons_self))
  have w3 := hm _ (List.mem_cons_of_mem _ (List.mem_cons_of_mem _ List.mem_cons_self))
  obtain ⟨a, c, cell, kC, e1, e2, e3, -, e5, e6, -⟩ := Cond.exactly_spec w1
  refine ⟨a, e1, (Array.getElem?_eq_some_iff.mp e3).1, va_Oof w1 e1 hA, vk_OFof e1 w2 hA, fun t ht => vk_OFof e1 (Cond.eq_refs w3 ht rfl) hA⟩
theorem vy_arrE {s : State} {args : Array Value} (h : vy_B.before args s = true) {cA : ClassId} (hc : s.vm.findClass "[Ljava/lang/Object;" = some cA) (f : Nat → Value) : ∃ (t : Nat) (cell : Cell), vy_tE.eval args s none [] s = some (.ref t) ∧ s.heap[t]? = some cell ∧ cell.cls = cA ∧ cell.vm ≠ .unknown ∧ cell.vm.isStatics = false ∧ cell.slots = (arrV cA 0 f).slots := by
  have w1 : (Cond.arrayOf vy_tE (.object "java/lang/Object")).before args s = true := vy_Ni h 0 rfl
  have w2 : (Cond.exactly vy_tE "[Ljava/lang/Object;").before args s = true := vy_Ni h 1 rfl
  have w3 : (Cond.eq (.length vy_tE) (.int (Int32.ofNat 0))).before args s = true := vy_Ni h 2 rfl
  obtain ⟨d, cell2, f1, f2, f3, f4, f5⟩ := vy_arr (f := f) (by decide) w1 (va_eqt w3) (fun j hj => absurd hj (Nat.not_lt_zero _)) cA
  obtain ⟨d', c', cell3, -, g1, g2, g3, -, -, g6, -⟩ := Cond.exactly_spec w2
  cases f1.symm.trans g1
  cases f2.symm.trans g3
  cases hc.symm.trans g2
  exact ⟨d, cell2, f1, f2, g6, f3, f4, f5⟩
theorem vy_arrV {s : State} {args : Array Value} (h : vy_B.before args s = true) {cA : ClassId} (hc : s.vm.findClass "[LChaseCourt$Fact;" = some cA) {fa : Nat → Nat} (hf : ∀ j, j < 5 → (vy_ft j).eval args s none [] s = some (.ref (fa j))) : ∃ (t : Nat) (cell : Cell), vy_tV.eval args s none [] s = some (.ref t) ∧ s.heap[t]? = some cell ∧ cell.cls = cA ∧ cell.vm ≠ .unknown ∧ cell.vm.isStatics = false ∧ cell.slots = (arrV cA 5 (fun j => .ref (fa j))).slots := by
  have w2 : (Cond.exactly vy_tV "[LChaseCourt$Fact;").before args s = true := vy_Ni h 7 rfl
  have w1 : (Cond.arrayOf vy_tV (.object "ChaseCourt$Fact")).before args s = true := vy_Ni h 8 rfl
  have w3 : (Cond.eq (.length vy_tV) (.int (Int32.ofNat 5))).before args s = true := vy_Ni h 9 rfl
  have w4 : ∀ j, j < 5 → (Term.elem vy_tV (.int (Int32.ofNat j))).eval args s none [] s = some (.ref (fa j)) := fun j hj => Cond.eq_refs (vy_Nm h (List.mem_append_right _ (List.mem_append_left _ (List.mem_map.mpr ⟨j, List.mem_range.mpr hj, rfl⟩)))) (hf j hj) rfl
  obtain ⟨d, cell2, f1, f2, f3, f4, f5⟩ := vy_arr (f := fun j => .ref (fa j)) (by decide) w1 (va_eqt w3) w4 cA
  obtain ⟨d', c', cell3, -, g1, g2, g3, -, -, g6, -⟩ := Cond.exactly_spec w2
  cases f1.symm.trans g1
  cases f2.symm.trans g3
  cases hc.symm.trans g2
  exact ⟨d, cell2, f1, f2, g6, f3, f4, f5⟩
/-! the tables -/
theorem vy_fwi : ∀ q ∈ mm_fw, Cond.declares q.2.1 ∈ lw_tbl ∧ Cond.interfaceMethod q.2.1.cls q.2.1.cls q.2.1.name q.2.1.desc ∈ lw_tbl ∧ Cond.publicMethod q.2.2 ∈ lw_tbl ∧ Cond.unhidden q.1 q.2.1.name q.2.1.desc ∈ lw_tbl ∧ Cond.castable q.1 q.2.1.cls ∈ lw_tbl := by decide +kernel
theorem vy_nc : ∀ a ∈ mm_ex, ∀ b ∈ mm_ex, a ≠ b → Cond.not (.castable a b) ∈ flatC vy_B := by decide +kernel
theorem vy_dc : Cond.declares ⟨"java/lang/Object", "getClass", "()Ljava/lang/Class;"⟩ ∈ lw_tbl := by decide +kernel
theorem vy_T {s : State} {args : Array Value} (h : vy_B.before args s = true) (hts : ∀ w ∈ lw_tbl, w.before args s = true) : mm_T s := by
  refine ⟨fun w hw hn => ?_, fun q hq => ?_, fun a ha b hb hn => va_Nc.of (flat_of_before _ h _ (vy_nc a ha b hb hn)), va_Dc.of (hts _ vy_dc)⟩
  · have h1 := hts w hw
    cases w <;> first | exact va_Nw.of rfl h1 | (exfalso; simp [mm_nw] at hn; done) | exact h1
  · obtain ⟨a1, a2, a3, a4, a5⟩ := vy_fwi q hq
    exact va_Fw.of (hts _ a1) (hts _ a2) (hts _ a3) (hts _ a4) (hts _ a5)
theorem vy_in : ∀ r ∈ mm_cl, Cond.instantiable r.1 r.2.2 ∈ lw_tbl := by decide +kernel
theorem vy_arrT {args : Array Value} {s : State} {ty : FieldType} (h : (Cond.arrayClass ty).before args s = true) : ∃ c : ClassId, ArrOfT s c ty ∧ s.vm.findClass ("[" ++ ty.toString) = some c := by
  obtain ⟨c, k, comp, h1, h2, h3⟩ := Cond.arrayClass_spec h
  exact ⟨c, fun N z => ⟨(fun _ q => by cases q), k, h2, comp, h3⟩, h1⟩
theorem vy_arrO {args : Array Value} {s : State} {n : String} (h : (Cond.arrayOver (.object n)).before args s = true) : ∃ c : ClassId, ArrOfT s c (.object n) ∧ va_RA s c (.object n) := by
  obtain ⟨comp, c, k, h1, -, h2, h3, h4⟩ := Cond.arrayOver_spec h
  exact ⟨c, fun N z => ⟨(fun _ q => by cases q), k, h2, comp, h3⟩, k, comp, h2, h3, h1, h4⟩
theorem vy_arrA {args : Array Value} {s : State} (h : (Cond.arrayOver (.array .int)).before args s = true) : ∃ c : ClassId, ArrOfT s c (.array .int) ∧ va_RA s c (.array .int) := by
  have h2 : (Cond.arrayOver (.array .int)).holds args s none s [] = true := h
  simp only [Cond.holds, Cond.value, beq_iff_eq] at h2
  cases hc : s.vm.findClass (FieldType.array .int).toString with
  | none => rw [hc] at h2; simp at h2
  | some comp =>
    simp only [hc, Option.bind_some, Option.bind_eq_some_iff, Option.map_eq_some_iff] at h2
    obtain ⟨c, h3, k, h4, h5⟩ := h2
    cases hk : k.kind with
    | array c2 t2 =>
      rw [hk] at h5
      simp only [Bool.and_eq_true, decide_eq_true_eq] at h5
      refine ⟨c, fun N z => ⟨(fun _ q => by cases q), k, h4, c2, ?_⟩, h5.2⟩
      rw [hk, h5.1]
    | _ => rw [hk] at h5; cases h5
theorem vy_aw : Cond.arrayClass .int ∈ lw_tbl ∧ Cond.arrayClass .long ∈ lw_tbl ∧ Cond.arrayClass .byte ∈ lw_tbl ∧ Cond.arrayClass .boolean ∈ lw_tbl ∧ Cond.arrayOver (.array .int) ∈ lw_tbl ∧ Cond.arrayOver (.object "java/lang/Object") ∈ lw_tbl ∧ Cond.arrayOver (.object "ChaseCourt$Fact") ∈ lw_tbl := by decide +kernel
theorem vy_K {s : State} {args : Array Value} (hts : ∀ w ∈ lw_tbl, w.before args s = true) : ∃ (D : va_G) (aC : Nat → ClassId), va_K D mm_cl (mm_tys aC) s := by
  have h1 : ∀ c : Nat, ∃ p : ClassId × (Nat → Nat), ∀ q : vw_C, mm_cl[c]? = some q → u_Kn s q.1 q.2.1 q.2.2 p.1 p.2 := by
    intro c
    cases hq : mm_cl[c]? with
    | none => exact ⟨(0, fun _ => 0), fun q hq => by cases hq⟩
    | some r =>
      obtain ⟨cC, iS, hk⟩ := u_known (ws := lw_all) (fun w hw => hts w (lw_all_tbl hw)) (mm_clok c r hq).1 (hts _ (vy_in r (List.mem_of_getElem? hq)))
      exact ⟨(cC, iS), fun q hq => by cases hq; exact hk⟩
  obtain ⟨a1, a2, a3, a4, a5, a6, a7⟩ := vy_aw
  obtain ⟨c2, p2, r2⟩ := vy_arrT (hts _ a1)
  obtain ⟨c3, p3, r3⟩ := vy_arrT (hts _ a2)
  obtain ⟨c4, p4, r4⟩ := vy_arrT (hts _ a3)
  obtain ⟨c5, p5, r5⟩ := vy_arrT (hts _ a4)
  obtain ⟨c6, p6, r6⟩ := vy_arrA (hts _ a5)
  obtain ⟨c7, p7, r7⟩ := vy_arrO (hts _ a6)
  obtain ⟨c8, p8, r8⟩ := vy_arrO (hts _ a7)
  refine ⟨(fun c => (Classical.choose (h1 c)).1, fun c => (Classical.choose (h1 c)).2), fun t => match t with
    | 2 => c2
    | 3 => c3
    | 4 => c4
    | 5 => c5
    | 6 => c6
    | 7 => c7
    | _ => c8, fun c q hq => Classical.choose_spec (h1 c) q hq, fun k q hq => ?_⟩
  match k, hq with
  | 0, hq => cases hq; exact ⟨p2, r2⟩
  | 1, hq => cases hq; exact ⟨p3, r3⟩
  | 2, hq => cases hq; exact ⟨p4, r4⟩
  | 3, hq => cases hq; exact ⟨p5, r5⟩
  | 4, hq => cases hq; exact ⟨p6, r6⟩
  | 5, hq => cases hq; exact ⟨p7, r7⟩
  | 6, hq => cases hq; exact ⟨p8, r8⟩
  | k + 7, hq =>
    have : (mm_tys (fun t => match t with
      | 2 => c2
      | 3 => c3
      | 4 => c4
      | 5 => c5
      | 6 => c6
      | 7 => c7
      | _ => c8))[k + 7]? = none := List.getElem?_eq_none (by show 7 ≤ k + 7; omega)
    rw [this] at hq
    cases hq
/-! the statics -/
theorem vy_zr {args : Array Value} {s : State} {C n d : String} {A : Nat → Prop} (hl : (Cond.laysStatic C n d).before args s = true) (hini : (Cond.initialized C).before args s = true) (h : (Cond.isRef (.static C n d)).before args s = true) (hA : ∀ a : Nat, a < s.heap.size → ¬ A a) : ∃ t : Nat, va_Z C n d .null A s s.heap ∨ va_Z C n d (.ref t) A s s.heap := by
  rcases (vx_Zqof hl hini h hA).1 with z | ⟨t, z⟩
  · exact ⟨0, Or.inl z⟩
  · exact ⟨t, Or.inr z⟩
def vy_ss : List (String × String × String) := [("java/util/ArrayList", "DEFAULTCAPACITY_EMPTY_ELEMENTDATA", "[Ljava/lang/Object;"), ("ChaseCourt$Fact", "$VALUES", "[LChaseCourt$Fact;"), ("java/lang/String", "COMPACT_STRINGS", "Z"), ("jdk/internal/util/Preconditions", "SIOOBE_FORMATTER", "Ljava/util/function/BiFunction;"), ("java/lang/Throwable", "UNASSIGNED_STACK", "[Ljava/lang/StackTraceElement;"), ("java/lang/Throwable", "SUPPRESSED_SENTINEL", "Ljava/util/List;")]
theorem vy_si : ∀ q ∈ vy_ss, Cond.laysStatic q.1 q.2.1 q.2.2 ∈ lw_tbl ∧ Cond.initialized q.1 ∈ lw_tbl := by decide +kernel
theorem vy_sl {s : State} {args : Array Value} (hts : ∀ w ∈ lw_tbl, w.before args s = true) (i : Nat) {C n d : String} (h : vy_ss[i]? = some (C, n, d)) : (Cond.laysStatic C n d).before args s = true ∧ (Cond.initialized C).before args s = true := ⟨hts _ (vy_si _ (List.mem_of_getElem? h)).1, hts _ (vy_si _ (List.mem_of_getElem? h)).2⟩
def vy_ad (b : Nat) (sa da fa x : Nat → Nat) (h : Nat) : Nat := if h = 1500 then b else if h < 1100 then sa (h - 1000) else if h < 1200 then da (h - 1100) else if h < 1300 then fa (h - 1200) else x (h - 1300)
theorem vy_ad0 {b : Nat} {sa da fa x : Nat → Nat} {j : Nat} (hj : j < 18) : vy_ad b sa da fa x (1000 + j) = sa j := by
  unfold vy_ad
  rw [if_neg (by omega), if_pos (by omega), Nat.add_sub_cancel_left]
theorem vy_ad1 {b : Nat} {sa da fa x : Nat → Nat} {j : Nat} (hj : j < 18) : vy_ad b sa da fa x (1100 + j) = da j := by
  unfold vy_ad
  rw [if_neg (by omega), if_neg (by omega), if_pos (by omega), Nat.add_sub_cancel_left]
theorem vy_ad2 {b : Nat} {sa da fa x : Nat → Nat} {j : Nat} (hj : j < 5) : vy_ad b sa da fa x (1200 + j) = fa j := by
  unfold vy_ad
  rw [if_neg (by omega), if_neg (by omega), if_neg (by omega), if_pos (by omega), Nat.add_sub_cancel_left]
theorem vy_cS {h : Nat} (h1 : 1000 ≤ h) (hl : (mm_cS h).1 ≠ 0) : (h < 1018 ∧ mm_cS h = (17, 19)) ∨ (1100 ≤ h ∧ h < 1118 ∧ mm_cS h = (20, (mm_txt.getD (h - 1100) []).length)) ∨ (1200 ≤ h ∧ h < 1205 ∧ mm_cS h = (32, h - 1200)) ∨ (h = 1300 ∧ mm_cS h = (23, 0)) ∨ (h = 1301 ∧ mm_cS h = (24, 5)) ∨ mm_cS h = (48, 9) := by
  by_cases h2 : h < 1400
  · have key : ∀ i : Fin 400, (mm_cS (1000 + i.val)).1 ≠ 0 → (1000 + i.val < 1018 ∧ mm_cS (1000 + i.val) = (17, 19)) ∨ (1100 ≤ 1000 + i.val ∧ 1000 + i.val < 1118 ∧ mm_cS (1000 + i.val) = (20, (mm_txt.getD (1000 + i.val - 1100) []).length)) ∨ (1200 ≤ 1000 + i.val ∧ 1000 + i.val < 1205 ∧ mm_cS (1000 + i.val) = (32, 1000 + i.val - 1200)) ∨ (1000 + i.val = 1300 ∧ mm_cS (1000 + i.val) = (23, 0)) ∨ (1000 + i.val = 1301 ∧ mm_cS (1000 + i.val) = (24, 5)) ∨ mm_cS (1000 + i.val) = (48, 9) := by decide +kernel
    have := key ⟨h - 1000, by omega⟩
    simp only at this
    rw [show 1000 + (h - 1000) = h by omega] at this
    exact this hl
  · unfold mm_cS at hl
    rw [Nat.ble_eq_true_of_le (by omega : 1400 ≤ h)] at hl
    exact absurd rfl hl
theorem vy_kI : ∀ j, j < 18 → mm_kP (1000 + j) 0 = some (1100 + j) ∧ mm_kI (1000 + j) 1 = 0 ∧ mm_kI (1000 + j) 2 = mm_hsh.getD j 0 ∧ mm_kI (1000 + j) 3 = 0 := by decide +kernel
theorem vy_kI2 (j i : Nat) : mm_kI (1100 + j) i = nI ((mm_txt.getD j []).getD i 0) := by
  unfold mm_kI
  rw [Nat.ble_eq_true_of_le (by omega : 1100 ≤ 1100 + j), Nat.add_sub_cancel_left]
  rfl
/-! all that the start gives -/
theorem vy_start {s : State} {args : Array Value} {b n : Nat} {M : mm_M} (hM : ∀ h, M.1 h = if h = 1500 then (32, n) else if 1000 ≤ h then mm_cS h else (0, 0)) (hP : ∀ h k, M.2.2.2 h k = none) (hkb : ∀ {h k b : Nat}, (mm_cS h).1 ≠ 0 → 1000 ≤ h → mm_kP h k = some b → 1000 ≤ b ∧ b < 1400 ∧ (mm_cS b).1 ≠ 0) (h : vy_B.before args s = true) (hts : ∀ w ∈ lw_tbl, w.before args s = true) (hb : b < s.heap.size) : ∃ (D : va_G) (aC : Nat → ClassId) (ad : Nat → Nat), ad 1500 = b ∧ va_K D mm_cl (mm_tys aC) s ∧ mm_X ad (fun q => s.heap.size ≤ q) s s.heap ∧ mm_R D aC ad M (fun q => s.heap.size ≤ q) s.heap ∧ mm_cs M := by
  obtain ⟨D, aC, hK⟩ := vy_K hts
  have hA : ∀ a : Nat, a < s.heap.size → ¬ (fun q => s.heap.size ≤ q) a := fun a ha q => absurd ha (Nat.not_lt.mpr q)
  have hS : u_Kn s "java/lang/String" TJ8 4 (D.1 19) (D.2 19) := hK.1 19 (RJ8, TJ8, 4) rfl
  have hB : s.vm.findClass "[B" = some (aC 4) := va_nm_byte (hK.2 2 (aC 4, .byte) rfl).2
  have hO : s.vm.findClass "[Ljava/lang/Object;" = some (aC 7) := va_nmO (hK.2 5 (aC 7, .object "java/lang/Object") rfl).2 rfl
  have hF : s.vm.findClass "[LChaseCourt$Fact;" = some (aC 8) := va_nmO (hK.2 6 (aC 8, .object "ChaseCourt$Fact") rfl).2 rfl
  have tx : ∀ j : Nat, ∃ p : Nat × Nat, j < 18 → (Term.string (vy_pj j).1 (vy_pj j).2).eval args s none [] s = some (.ref p.1) ∧ (∃ cell : Cell, s.heap[p.1]? = some cell ∧ cell.cls = D.1 19 ∧ cell.vm ≠ .unknown ∧ cell.vm.isStatics = false ∧ cell.slots[D.2 19 0]? = some (.ref p.2) ∧ cell.slots[D.2 19 1]? = some (.int 0) ∧ cell.slots[D.2 19 2]? = some (.int (mm_hsh.getD j 0)) ∧ cell.slots[D.2 19 3]? = some (.int 0)) ∧ ∃ cell : Cell, s.heap[p.2]? = some cell ∧ cell.cls = aC 4 ∧ cell.vm ≠ .unknown ∧ cell.vm.isStatics = false ∧ cell.slots = (arrV (aC 4) (mm_txt.getD j []).length (fun i => .int (nI ((mm_txt.getD j []).getD i 0)))).slots := by
    intro j
    by_cases hj : j < 18
    · obtain ⟨a, d, q⟩ := vy_txt h hS hB j hj
      exact ⟨(a, d), fun _ => q⟩
    · exact ⟨(0, 0), fun q => absurd q hj⟩
  obtain ⟨sp, hsp⟩ := Classical.axiomOfChoice tx
  have fx : ∀ j : Nat, ∃ a : Nat, j < 5 → (vy_ft j).eval args s none [] s = some (.ref a) ∧ a < s.heap.size ∧ va_O "ChaseCourt$Fact" a (fun q => s.heap.size ≤ q) s s.heap ∧ va_OF "java/lang/Enum" "ordinal" "I" (.int (nI j)) a (fun q => s.heap.size ≤ q) s s.heap ∧ ∀ t : Nat, (Term.string "ChaseCourt$Fact" (vy_fk j)).eval args s none [] s = some (.ref t) → va_OF "ChaseCourt$Fact" "told" "Ljava/lang/String;" (.ref t) a (fun q => s.heap.size ≤ q) s s.heap := by
    intro j
    by_cases hj : j < 5
    · obtain ⟨a, q⟩ := vy_fact h hA j hj
      exact ⟨a, fun _ => q⟩
    · exact ⟨0, fun q => absurd q hj⟩
  obtain ⟨fa, hfa⟩ := Classical.axiomOfChoice fx
  obtain ⟨tE, cE, e1, e2, e3, e4, e5, e6⟩ := vy_arrE h hO (fun _ => .null)
  obtain ⟨tV, cV, v1, v2, v3, v4, v5, v6⟩ := vy_arrV h hF (fun j hj => (hfa j hj).1)
  obtain ⟨l0, i0⟩ := vy_sl hts 0 rfl
  obtain ⟨l1, i1⟩ := vy_sl hts 1 rfl
  obtain ⟨l2, i2⟩ := vy_sl hts 2 rfl
  obtain ⟨l3, i3⟩ := vy_sl hts 3 rfl
  obtain ⟨l4, i4⟩ := vy_sl hts 4 rfl
  obtain ⟨l5, i5⟩ := vy_sl hts 5 rfl
  have r3 : (Cond.isRef (.static "jdk/internal/util/Preconditions" "SIOOBE_FORMATTER" "Ljava/util/function/BiFunction;")).before args s = true := vy_Ni h 4 rfl
  have r4 : (Cond.isRef (.static "java/lang/Throwable" "UNASSIGNED_STACK" "[Ljava/lang/StackTraceElement;")).before args s = true := vy_Ni h 5 rfl
  have r5 : (Cond.isRef (.static "java/lang/Throwable" "SUPPRESSED_SENTINEL" "Ljava/util/List;")).before args s = true := vy_Ni h 6 rfl
  have rm : (Cond.isRef (.mirror "[Ljava/lang/Object;")).before args s = true := vy_Ni h 30 rfl
  have rc : (Cond.eq (.static "java/lang/String" "COMPACT_STRINGS" "Z") (.int 1)).before args s = true := vy_Ni h 3 rfl
  obtain ⟨x3, z3⟩ := vy_zr l3 i3 r3 hA
  obtain ⟨x4, z4⟩ := vy_zr l4 i4 r4 hA
  obtain ⟨x5, z5⟩ := vy_zr l5 i5 r5 hA
  obtain ⟨mi, hmi⟩ := va_Mi.of rm
  obtain ⟨x, hx⟩ : ∃ x : Nat → Nat, x = fun i => match i with
    | 0 => tE
    | 1 => tV
    | 2 => x3
    | 3 => mi
    | 4 => x4
    | _ => x5 := ⟨_, rfl⟩
  obtain ⟨ad, had⟩ : ∃ ad : Nat → Nat, ad = vy_ad b (fun j => (sp j).1) (fun j => (sp j).2) fa x := ⟨_, rfl⟩
  have a0 : ∀ j, j < 18 → ad (1000 + j) = (sp j).1 := fun j hj => by rw [had]; exact vy_ad0 hj
  have a1 : ∀ j, j < 18 → ad (1100 + j) = (sp j).2 := fun j hj => by rw [had]; exact vy_ad1 hj
  have a2 : ∀ j, j < 5 → ad (1200 + j) = fa j := fun j hj => by rw [had]; exact vy_ad2 hj
  have a3 : ad 1300 = tE ∧ ad 1301 = tV ∧ ad 1302 = x3 ∧ ad 1303 = mi ∧ ad 1304 = x4 ∧ ad 1305 = x5 ∧ ad 1500 = b := by
    rw [had, hx]
    exact ⟨rfl, rfl, rfl, rfl, rfl, rfl, rfl⟩
  obtain ⟨ad0, ad1, ad2, ad3, ad4, ad5, ad6⟩ := a3
  have hstr : ∀ q ∈ mm_str, vk_R q.1 q.2.1 q.2.2.1 (ad q.2.2.2) s := by
    have h1 := vy_str h hts (sa := fun j => (sp j).1) (fun j hj => (hsp j hj).1)
    have h2 : ∀ q ∈ mm_str, 1000 ≤ q.2.2.2 ∧ q.2.2.2 < 1018 := by decide +kernel
    intro q hq
    obtain ⟨g1, g2⟩ := h2 q hq
    have := a0 (q.2.2.2 - 1000) (by omega)
    rw [show 1000 + (q.2.2.2 - 1000) = q.2.2.2 by omega] at this
    rw [this]
    exact h1 q hq
  have hX : mm_X ad (fun q => s.heap.size ≤ q) s s.heap := by
    refine ⟨⟨hstr, fun q hq => ?_, vx_Zqof l4 i4 r4 hA, vx_Zqof l5 i5 r5 hA, ?_⟩, fun j hj => ?_, ?_, fun q hq => ?_⟩
    · simp only [mm_sta, List.mem_cons, List.not_mem_nil, or_false] at hq
      rcases hq with e | e | e <;> subst e
      · show va_Z _ _ _ (.ref (ad 1300)) _ s s.heap
        rw [ad0]
        exact va_Zof l0 i0 e1 hA
      · show va_Z _ _ _ (.ref (ad 1301)) _ s s.heap
        rw [ad1]
        exact va_Zof l1 i1 v1 hA
      · exact va_Zof l2 i2 (va_eqt rc) hA
    · rw [ad2]
      exact z3
    · obtain ⟨g1, g2, g3, g4, g5⟩ := hfa j hj
      rw [a2 j hj]
      refine ⟨g3, g4, g5 _ ?_⟩
      obtain ⟨q, hq, y1, y2, y3⟩ := vy_ftk j hj
      have := (hstr q hq).2
      rw [y1, y2, y3] at this
      exact this
    · rw [ad3]
      exact hmi
    · simp only [mm_tst, List.mem_cons, List.not_mem_nil, or_false] at hq
      rcases hq with e | e <;> subst e
      · show va_Z _ _ _ _ _ s s.heap ∨ va_Z _ _ _ (.ref (ad 1304)) _ s s.heap
        rw [ad4]
        exact z4
      · show va_Z _ _ _ _ _ s s.heap ∨ va_Z _ _ _ (.ref (ad 1305)) _ s s.heap
        rw [ad5]
        exact z5
  have nl : ∀ {a : Nat}, a < s.heap.size → ¬ (s.heap.size ≤ a) ∧ a < s.heap.size := fun ha => ⟨Nat.not_le.mpr ha, ha⟩
  have lt : ∀ {a : Nat} {c : Cell}, s.heap[a]? = some c → a < s.heap.size := fun q => (Array.getElem?_eq_some_iff.mp q).1
  have sh : ∀ h t m, M.1 h = (t, m) → t ≠ 0 → (h = 1500 ∧ t = 32) ∨ (1000 ≤ h ∧ mm_cS h = (t, m)) := by
    intro h t m e ht
    rw [hM h] at e
    by_cases c : h = 1500
    · rw [if_pos c] at e
      cases e
      exact Or.inl ⟨c, rfl⟩
    · rw [if_neg c] at e
      by_cases c2 : 1000 ≤ h
      · rw [if_pos c2] at e
        exact Or.inr ⟨c2, e⟩
      · rw [if_neg c2] at e
        cases e
        exact absurd rfl ht
  have t16 : ∀ h t m, M.1 h = (t, m) → t ≠ 0 → 16 ≤ t := by
    intro h t m e ht
    rcases sh h t m e ht with ⟨-, c⟩ | ⟨c1, c2⟩
    · omega
    · rcases vy_cS c1 (by rw [c2]; exact ht) with ⟨-, g⟩ | ⟨-, -, g⟩ | ⟨-, -, g⟩ | ⟨-, g⟩ | ⟨-, g⟩ | g <;> (rw [c2] at g; cases g; decide)
  refine ⟨D, aC, ad, ad6, hK, hX, ⟨fun h t m e ht => ?_, fun x y hx hy hx1 hy1 _ => absurd (t16 x _ _ rfl hx) (Nat.not_le.mpr hx1), fun x k b' hx hb' => ?_⟩, fun x g1 g2 g3 => ?_⟩
  · have hi := t16 h t m e ht
    refine ⟨fun q => absurd hi (by omega), ?_⟩
    rcases sh h t m e ht with ⟨c, ct⟩ | ⟨c1, c2⟩
    · subst c ct
      exact ⟨fun _ _ => by rw [ad6]; exact nl hb, fun q => absurd q (by decide)⟩
    · rcases vy_cS c1 (by rw [c2]; exact ht) with ⟨g1, g⟩ | ⟨g1, g2, g⟩ | ⟨g1, g2, g⟩ | ⟨g1, g⟩ | ⟨g1, g⟩ | g
      · -- a text
        rw [c2] at g
        cases g
        obtain ⟨j, hj, rfl⟩ : ∃ j, j < 18 ∧ h = 1000 + j := ⟨h - 1000, by omega, by omega⟩
        obtain ⟨-, ⟨cell, k1, k2, k3, k4, k5, k6, k7, k8⟩, -⟩ := hsp j hj
        obtain ⟨m0, m1, m2, m3⟩ := vy_kI j hj
        rw [a0 j hj]
        refine ⟨fun _ _ => nl (lt k1), fun _ => ?_⟩
        rw [mm_me_hi (by decide), mm_hn_hi (by decide)]
        refine mm_at_mko ⟨(RJ8, TJ8, 4), rfl, ⟨{ cls := D.1 19, slots := cell.slots, vm := .none }, ?_, rfl, rfl, fun k hk => ?_⟩⟩
        · rw [a0 j hj]
          exact mm_hK_mk (c := { cls := D.1 19, slots := cell.slots, vm := .none }) k1 k2 rfl k3 k4 rfl
        · match k, hk with
          | 0, _ =>
            refine k5.trans ?_
            show _ = some (mm_v ad (va_rf (mm_kP (1000 + j) 0)))
            rw [m0]
            show _ = some (Value.ref (ad (1100 + j)))
            rw [a1 j hj]
          | 1, _ =>
            refine k6.trans ?_
            show _ = some (Value.int (mm_kI (1000 + j) 1))
            rw [m1]
          | 2, _ =>
            refine k7.trans ?_
            show _ = some (Value.int (mm_kI (1000 + j) 2))
            rw [m2]
          | 3, _ =>
            refine k8.trans ?_
            show _ = some (Value.int (mm_kI (1000 + j) 3))
            rw [m3]
      · -- its bytes
        rw [c2] at g
        cases g
        obtain ⟨j, hj, rfl⟩ : ∃ j, j < 18 ∧ h = 1100 + j := ⟨h - 1100, by omega, by omega⟩
        obtain ⟨-, -, cell, k1, k2, k3, k4, k5⟩ := hsp j hj
        rw [a1 j hj]
        refine ⟨fun _ _ => nl (lt k1), fun _ => ?_⟩
        rw [mm_me_hi (by decide), mm_hn_hi (by decide)]
        refine mm_at_mk (by decide) ?_
        rw [a1 j hj, Nat.add_sub_cancel_left]
        refine mm_hK_mk k1 (by rw [k2]; rfl) (k5.trans ?_) k3 k4 rfl
        congr 2
        funext i
        show Value.int _ = Value.int (mm_kI (1100 + j) i)
        rw [vy_kI2]
      · -- a Fact
        rw [c2] at g
        cases g
        obtain ⟨j, hj, rfl⟩ : ∃ j, j < 5 ∧ h = 1200 + j := ⟨h - 1200, by omega, by omega⟩
        rw [a2 j hj]
        exact ⟨fun _ _ => nl (hfa j hj).2.1, fun q => absurd q (by decide)⟩
      · subst g1
        rw [c2] at g
        cases g
        rw [ad0]
        refine ⟨fun _ _ => nl (lt e2), fun _ => ?_⟩
        rw [mm_me_hi (by decide), mm_hn_hi (by decide)]
        refine mm_at_mk (by decide) ?_
        rw [ad0]
        refine mm_hK_mk e2 (by rw [e3]; rfl) (e6.trans ?_) e4 e5 rfl
        apply Array.ext_getElem?
        intro i
        rw [Array.getElem?_eq_none (by rw [arrV_size]; omega), Array.getElem?_eq_none (by rw [arrV_size]; omega)]
      · subst g1
        rw [c2] at g
        cases g
        rw [ad1]
        refine ⟨fun _ _ => nl (lt v2), fun _ => ?_⟩
        rw [mm_me_hi (by decide), mm_hn_hi (by decide)]
        refine mm_at_mk (by decide) ?_
        rw [ad1]
        refine mm_hK_mk v2 (by rw [v3]; rfl) (v6.trans ?_) v4 v5 rfl
        apply Array.ext_getElem?
        intro i
        by_cases hi : i < 5
        · rw [arrV_read _ _ hi, arrV_read _ _ hi]
          have : mm_kP 1301 i = some (1200 + i) := (by decide +kernel : ∀ z : Fin 5, mm_kP 1301 z.val = some (1200 + z.val)) ⟨i, hi⟩
          show _ = some (mm_v ad (va_rf (mm_kP 1301 i)))
          rw [this]
          show _ = some (Value.ref (ad (1200 + i)))
          rw [a2 i hi]
        · rw [Array.getElem?_eq_none (by rw [arrV_size]; omega), Array.getElem?_eq_none (by rw [arrV_size]; omega)]
      · rw [c2] at g
        cases g
        exact ⟨fun _ q => absurd q (by decide), fun q => absurd q (by decide)⟩
  · have hi := t16 x _ _ rfl hx
    rw [mm_me_hi (Nat.not_lt.mpr hi)] at hb'
    have hb' : mm_kP x k = some b' := hb'
    rcases sh x _ _ rfl hx with ⟨c, -⟩ | ⟨c1, c2⟩
    · subst c
      have hb' : (none : Option Nat) = some b' := hb'
      cases hb'
    · obtain ⟨y1, y2, y3⟩ := hkb (by rw [c2]; exact hx) c1 hb'
      rw [hM b', if_neg (by omega), if_pos y1]
      exact y3
  · rw [hM x, if_neg (by omega), if_pos g1]
