/-! ===== each transformer holds at its instruction ===== -/
set_option maxRecDepth 100000
theorem ok_iconst {C : mm_C} {own : String} {cc : ByteArray} {ret : Option FieldType} {nL : Nat} {rm : Room} (G : mm_G C own cc ret nL rm) {pc nx : Nat} {n : Int} {v : Int32} (hd : decode cc pc = .ok (.iconst n, 1)) (hv : Int32.ofInt n = v) (hn : pc + 1 = nx) : mm_OK C pc (o_c nx (.int v)) := by
  subst hn
  intro lv st M N K hK h ad H locs ls hS
  have h1 : mm_W C (pc + 1) lv (.int v :: st) M N := hK _ _ _ _ _ h
  exact lv_iconst G.hx G.hb hd hv (h1 ad H locs ls (hS.st fun k => k.push (mm_vk_i _)))
theorem ok_bipush {C : mm_C} {own : String} {cc : ByteArray} {ret : Option FieldType} {nL : Nat} {rm : Room} (G : mm_G C own cc ret nL rm) {pc nx : Nat} {n : Int} {v : Int32} (hd : decode cc pc = .ok (.bipush n, 2)) (hv : (Int8.ofInt n).toInt32 = v) (hn : pc + 2 = nx) : mm_OK C pc (o_c nx (.int v)) := by
  subst hn
  intro lv st M N K hK h ad H locs ls hS
  have h1 : mm_W C (pc + 2) lv (.int v :: st) M N := hK _ _ _ _ _ h
  exact lv_bipush G.hx G.hb hd hv (h1 ad H locs ls (hS.st fun k => k.push (mm_vk_i _)))
theorem ok_sipush {C : mm_C} {own : String} {cc : ByteArray} {ret : Option FieldType} {nL : Nat} {rm : Room} (G : mm_G C own cc ret nL rm) {pc nx : Nat} {n : Int} {v : Int32} (hd : decode cc pc = .ok (.sipush n, 3)) (hv : (Int16.ofInt n).toInt32 = v) (hn : pc + 3 = nx) : mm_OK C pc (o_c nx (.int v)) := by
  subst hn
  intro lv st M N K hK h ad H locs ls hS
  have h1 : mm_W C (pc + 3) lv (.int v :: st) M N := hK _ _ _ _ _ h
  exact lv_sipush G.hx G.hb hd hv (h1 ad H locs ls (hS.st fun k => k.push (mm_vk_i _)))
theorem ok_lconst {C : mm_C} {own : String} {cc : ByteArray} {ret : Option FieldType} {nL : Nat} {rm : Room} (G : mm_G C own cc ret nL rm) {pc nx : Nat} {n : Fin 2} {v : Int64} (hd : decode cc pc = .ok (.lconst n, 1)) (hv : Int64.ofNat (n : Nat) = v) (hn : pc + 1 = nx) : mm_OK C pc (o_c nx (.long v)) := by
  subst hn
  intro lv st M N K hK h ad H locs ls hS
  have h1 : mm_W C (pc + 1) lv (.long v :: st) M N := hK _ _ _ _ _ h
  exact lv_lconst G.hx G.hb hd hv (h1 ad H locs ls (hS.st fun k => k.push (mm_vk_l _)))
theorem ok_ldc {C : mm_C} {own : String} {cc : ByteArray} {ret : Option FieldType} {nL : Nat} {rm : Room} (G : mm_G C own cc ret nL rm) {pc nx idx : Nat} {v : Int32} (hw : Cond.constant own idx v ∈ lw_all) (hd : decode cc pc = .ok (.ldc idx, 2)) (hn : pc + 2 = nx) : mm_OK C pc (o_c nx (.int v)) := by
  subst hn
  intro lv st M N K hK h ad H locs ls hS
  have h1 : mm_W C (pc + 2) lv (.int v :: st) M N := hK _ _ _ _ _ h
  exact lv_ldc G.hx G.hb G.ho (G.ht _ hw) hd (h1 ad H locs ls (hS.st fun k => k.push (mm_vk_i _)))
theorem ok_ldcw {C : mm_C} {own : String} {cc : ByteArray} {ret : Option FieldType} {nL : Nat} {rm : Room} (G : mm_G C own cc ret nL rm) {pc nx idx : Nat} {v : Int32} (hw : Cond.constant own idx v ∈ lw_all) (hd : decode cc pc = .ok (.ldc_w idx, 3)) (hn : pc + 3 = nx) : mm_OK C pc (o_c nx (.int v)) := by
  subst hn
  intro lv st M N K hK h ad H locs ls hS
  have h1 : mm_W C (pc + 3) lv (.int v :: st) M N := hK _ _ _ _ _ h
  exact lv_ldcw G.hx G.hb G.ho (G.ht _ hw) hd (h1 ad H locs ls (hS.st fun k => k.push (mm_vk_i _)))
theorem ok_ldc2 {C : mm_C} {own : String} {cc : ByteArray} {ret : Option FieldType} {nL : Nat} {rm : Room} (G : mm_G C own cc ret nL rm) {pc nx idx : Nat} {v : Int64} (hw : Cond.constantLong own idx v ∈ lw_all) (hd : decode cc pc = .ok (.ldc2_w idx, 3)) (hn : pc + 3 = nx) : mm_OK C pc (o_c nx (.long v)) := by
  subst hn
  intro lv st M N K hK h ad H locs ls hS
  have h1 : mm_W C (pc + 3) lv (.long v :: st) M N := hK _ _ _ _ _ h
  exact lv_ldc2 G.hx G.hb G.ho (G.ht _ hw) hd (h1 ad H locs ls (hS.st fun k => k.push (mm_vk_l _)))
theorem ok_null {C : mm_C} {own : String} {cc : ByteArray} {ret : Option FieldType} {nL : Nat} {rm : Room} (G : mm_G C own cc ret nL rm) {pc nx : Nat} (hd : decode cc pc = .ok (.aconst_null, 1)) (hn : pc + 1 = nx) : mm_OK C pc (o_c nx .null) := by
  subst hn
  intro lv st M N K hK h ad H locs ls hS
  have h1 : mm_W C (pc + 1) lv (.null :: st) M N := hK _ _ _ _ _ h
  exact lv_null G.hx G.hb hd (h1 ad H locs ls (hS.st fun k => k.push mm_vk_n))
theorem ok_iload_n {C : mm_C} {own : String} {cc : ByteArray} {ret : Option FieldType} {nL : Nat} {rm : Room} (G : mm_G C own cc ret nL rm) {pc nx i : Nat} {k : Fin 4} (hd : decode cc pc = .ok (.iload_n k, 1)) (hi : (k : Nat) = i) (hn : pc + 1 = nx) : mm_OK C pc (o_ild nx i) := by
  subst hn
  intro lv st M N K hK h ad H locs ls hS
  unfold o_ild at h
  split at h
  · next x hx =>
    have h1 : mm_W C (pc + 1) lv (.int x :: st) M N := hK _ _ _ _ _ h
    exact lv_iload_n G.hx G.hb hd hi (hS.2.2.2.1.2.2 i _ (mm_get_eq hx)) (h1 ad H locs ls (hS.st fun k => k.push (mm_vk_i _)))
  · exact h.elim
theorem ok_iload {C : mm_C} {own : String} {cc : ByteArray} {ret : Option FieldType} {nL : Nat} {rm : Room} (G : mm_G C own cc ret nL rm) {pc nx i : Nat} (hd : decode cc pc = .ok (.iload i, 2)) (hn : pc + 2 = nx) : mm_OK C pc (o_ild nx i) := by
  subst hn
  intro lv st M N K hK h ad H locs ls hS
  unfold o_ild at h
  split at h
  · next x hx =>
    have h1 : mm_W C (pc + 2) lv (.int x :: st) M N := hK _ _ _ _ _ h
    exact lv_iload G.hx G.hb hd (hS.2.2.2.1.2.2 i _ (mm_get_eq hx)) (h1 ad H locs ls (hS.st fun k => k.push (mm_vk_i _)))
  · exact h.elim
theorem ok_lload_n {C : mm_C} {own : String} {cc : ByteArray} {ret : Option FieldType} {nL : Nat} {rm : Room} (G : mm_G C own cc ret nL rm) {pc nx i : Nat} {k : Fin 4} (hd : decode cc pc = .ok (.lload_n k, 1)) (hi : (k : Nat) = i) (hn : pc + 1 = nx) : mm_OK C pc (o_lld nx i) := by
  subst hn
  intro lv st M N K hK h ad H locs ls hS
  unfold o_lld at h
  split at h
  · next x hx =>
    have h1 : mm_W C (pc + 1) lv (.long x :: st) M N := hK _ _ _ _ _ h
    exact lv_lload_n G.hx G.hb hd hi (hS.2.2.2.1.2.2 i _ (mm_get_eq hx)) (h1 ad H locs ls (hS.st fun k => k.push (mm_vk_l _)))
  · exact h.elim
theorem ok_lload {C : mm_C} {own : String} {cc : ByteArray} {ret : Option FieldType} {nL : Nat} {rm : Room} (G : mm_G C own cc ret nL rm) {pc nx i : Nat} (hd : decode cc pc = .ok (.lload i, 2)) (hn : pc + 2 = nx) : mm_OK C pc (o_lld nx i) := by
  subst hn
  intro lv st M N K hK h ad H locs ls hS
  unfold o_lld at h
  split at h
  · next x hx =>
    have h1 : mm_W C (pc + 2) lv (.long x :: st) M N := hK _ _ _ _ _ h
    exact lv_lload G.hx G.hb hd (hS.2.2.2.1.2.2 i _ (mm_get_eq hx)) (h1 ad H locs ls (hS.st fun k => k.push (mm_vk_l _)))
  · exact h.elim
theorem ok_aload_n {C : mm_C} {own : String} {cc : ByteArray} {ret : Option FieldType} {nL : Nat} {rm : Room} (G : mm_G C own cc ret nL rm) {pc nx i : Nat} {k : Fin 4} (hd : decode cc pc = .ok (.aload_n k, 1)) (hi : (k : Nat) = i) (hn : pc + 1 = nx) : mm_OK C pc (o_ald nx i) := by
  subst hn
  intro lv st M N K hK h ad H locs ls hS
  unfold o_ald at h
  split at h
  · next x hx =>
    have h1 : mm_W C (pc + 1) lv (.ref x :: st) M N := hK _ _ _ _ _ h
    exact lv_aload_n G.hx G.hb hd hi (hS.2.2.2.1.2.2 i _ (mm_get_eq hx)) (h1 ad H locs ls (hS.st fun k => k.push (k.2 i _ (mm_get_eq hx))))
  · next hx =>
    have h1 : mm_W C (pc + 1) lv (.null :: st) M N := hK _ _ _ _ _ h
    exact lv_aload_nN G.hx G.hb hd hi (hS.2.2.2.1.2.2 i _ (mm_get_eq hx)) (h1 ad H locs ls (hS.st fun k => k.push mm_vk_n))
  · exact h.elim
theorem ok_aload {C : mm_C} {own : String} {cc : ByteArray} {ret : Option FieldType} {nL : Nat} {rm : Room} (G : mm_G C own cc ret nL rm) {pc nx i : Nat} (hd : decode cc pc = .ok (.aload i, 2)) (hn : pc + 2 = nx) : mm_OK C pc (o_ald nx i) := by
  subst hn
  intro lv st M N K hK h ad H locs ls hS
  unfold o_ald at h
  split at h
  · next x hx =>
    have h1 : mm_W C (pc + 2) lv (.ref x :: st) M N := hK _ _ _ _ _ h
    exact lv_aload G.hx G.hb hd (hS.2.2.2.1.2.2 i _ (mm_get_eq hx)) (h1 ad H locs ls (hS.st fun k => k.push (k.2 i _ (mm_get_eq hx))))
  · next hx =>
    have h1 : mm_W C (pc + 2) lv (.null :: st) M N := hK _ _ _ _ _ h
    exact lv_aloadN G.hx G.hb hd (hS.2.2.2.1.2.2 i _ (mm_get_eq hx)) (h1 ad H locs ls (hS.st fun k => k.push mm_vk_n))
  · exact h.elim
theorem ok_istore_n {C : mm_C} {own : String} {cc : ByteArray} {ret : Option FieldType} {nL : Nat} {rm : Room} (G : mm_G C own cc ret nL rm) {pc nx i : Nat} {k : Fin 4} (hd : decode cc pc = .ok (.istore_n k, 1)) (hi : (k : Nat) = i) (hn : pc + 1 = nx) (hl : i < nL) : mm_OK C pc (o_ist nx i) := by
  subst hn
  intro lv st M N K hK h ad H locs ls hS
  have hil : i < lv.length := by rw [← hS.2.2.2.1.2.1, hS.2.2.2.2.1, G.hm]; exact hl
  unfold o_ist at h
  split at h
  · next x r =>
    have h1 : mm_W C (pc + 1) (mm_set lv i (.int x)) r M N := hK _ _ _ _ _ (mm_setK_eq _ _ _ _ h)
    exact lv_istore_n G.hx G.hb hd hi hS.2.2.2.1.has hil rfl (fun ls' hl' => h1 ad H locs ls' (hS.lv (mm_lv.of1 (v := .int x) hl') (mm_set_len _ _ _) hS.2.2.2.2.2.1.set))
  · exact h.elim
theorem ok_astore_n {C : mm_C} {own : String} {cc : ByteArray} {ret : Option FieldType} {nL : Nat} {rm : Room} (G : mm_G C own cc ret nL rm) {pc nx i : Nat} {k : Fin 4} (hd : decode cc pc = .ok (.astore_n k, 1)) (hi : (k : Nat) = i) (hn : pc + 1 = nx) (hl : i < nL) : mm_OK C pc (o_ast nx i) := by
  subst hn
  intro lv st M N K hK h ad H locs ls hS
  have hil : i < lv.length := by rw [← hS.2.2.2.1.2.1, hS.2.2.2.2.1, G.hm]; exact hl
  unfold o_ast at h
  split at h
  · next x r =>
    have h1 : mm_W C (pc + 1) (mm_set lv i (.ref x)) r M N := hK _ _ _ _ _ (mm_setK_eq _ _ _ _ h)
    exact lv_astore_n G.hx G.hb hd hi hS.2.2.2.1.has hil rfl (fun ls' hl' => h1 ad H locs ls' (hS.lv (mm_lv.of1 (v := .ref x) hl') (mm_set_len _ _ _) hS.2.2.2.2.2.1.set))
  · next r =>
    have h1 : mm_W C (pc + 1) (mm_set lv i (.null)) r M N := hK _ _ _ _ _ (mm_setK_eq _ _ _ _ h)
    exact lv_astore_nN G.hx G.hb hd hi hS.2.2.2.1.has hil rfl (fun ls' hl' => h1 ad H locs ls' (hS.lv (mm_lv.of1 (v := .null) hl') (mm_set_len _ _ _) hS.2.2.2.2.2.1.set))
  · exact h.elim
theorem ok_lstore_n {C : mm_C} {own : String} {cc : ByteArray} {ret : Option FieldType} {nL : Nat} {rm : Room} (G : mm_G C own cc ret nL rm) {pc nx i : Nat} {k : Fin 4} (hd : decode cc pc = .ok (.lstore_n k, 1)) (hi : (k : Nat) = i) (hn : pc + 1 = nx) (hl : i + 1 < nL) : mm_OK C pc (o_lst nx i) := by
  subst hn
  intro lv st M N K hK h ad H locs ls hS
  have hil : i + 1 < lv.length := by rw [← hS.2.2.2.1.2.1, hS.2.2.2.2.1, G.hm]; exact hl
  unfold o_lst at h
  split at h
  · next x r =>
    have h1 : mm_W C (pc + 1) (mm_clr (mm_set lv i (.long x)) (i + 1)) r M N := hK _ _ _ _ _ (mm_clrK_eq _ _ _ (mm_setK_eq _ _ _ _ h))
    exact lv_lstore_n G.hx G.hb hd hi hS.2.2.2.1.has hil rfl (fun ls' hl' => h1 ad H locs ls' (hS.lv (mm_lv.of2 (v := .long x) hl') (by rw [mm_clr_len, mm_set_len]) hS.2.2.2.2.2.1.set.clr))
  · exact h.elim
theorem ok_istore {C : mm_C} {own : String} {cc : ByteArray} {ret : Option FieldType} {nL : Nat} {rm : Room} (G : mm_G C own cc ret nL rm) {pc nx i : Nat} (hd : decode cc pc = .ok (.istore i, 2)) (hn : pc + 2 = nx) (hl : i < nL) : mm_OK C pc (o_ist nx i) := by
  subst hn
  intro lv st M N K hK h ad H locs ls hS
  have hil : i < lv.length := by rw [← hS.2.2.2.1.2.1, hS.2.2.2.2.1, G.hm]; exact hl
  unfold o_ist at h
  split at h
  · next x r =>
    have h1 : mm_W C (pc + 2) (mm_set lv i (.int x)) r M N := hK _ _ _ _ _ (mm_setK_eq _ _ _ _ h)
    exact lv_istore G.hx G.hb hd hS.2.2.2.1.has hil rfl (fun ls' hl' => h1 ad H locs ls' (hS.lv (mm_lv.of1 (v := .int x) hl') (mm_set_len _ _ _) hS.2.2.2.2.2.1.set))
  · exact h.elim
theorem ok_astore {C : mm_C} {own : String} {cc : ByteArray} {ret : Option FieldType} {nL : Nat} {rm : Room} (G : mm_G C own cc ret nL rm) {pc nx i : Nat} (hd : decode cc pc = .ok (.astore i, 2)) (hn : pc + 2 = nx) (hl : i < nL) : mm_OK C pc (o_ast nx i) := by
  subst hn
  intro lv st M N K hK h ad H locs ls hS
  have hil : i < lv.length := by rw [← hS.2.2.2.1.2.1, hS.2.2.2.2.1, G.hm]; exact hl
  unfold o_ast at h
  split at h
  · next x r =>
    have h1 : mm_W C (pc + 2) (mm_set lv i (.ref x)) r M N := hK _ _ _ _ _ (mm_setK_eq _ _ _ _ h)
    exact lv_astore G.hx G.hb hd hS.2.2.2.1.has hil rfl (fun ls' hl' => h1 ad H locs ls' (hS.lv (mm_lv.of1 (v := .ref x) hl') (mm_set_len _ _ _) hS.2.2.2.2.2.1.set))
  · next r =>
    have h1 : mm_W C (pc + 2) (mm_set lv i (.null)) r M N := hK _ _ _ _ _ (mm_setK_eq _ _ _ _ h)
    exact lv_astoreN G.hx G.hb hd hS.2.2.2.1.has hil rfl (fun ls' hl' => h1 ad H locs ls' (hS.lv (mm_lv.of1 (v := .null) hl') (mm_set_len _ _ _) hS.2.2.2.2.2.1.set))
  · exact h.elim
theorem ok_lstore {C : mm_C} {own : String} {cc : ByteArray} {ret : Option FieldType} {nL : Nat} {rm : Room} (G : mm_G C own cc ret nL rm) {pc nx i : Nat} (hd : decode cc pc = .ok (.lstore i, 2)) (hn : pc + 2 = nx) (hl : i + 1 < nL) : mm_OK C pc (o_lst nx i) := by
  subst hn
  intro lv st M N K hK h ad H locs ls hS
  have hil : i + 1 < lv.length := by rw [← hS.2.2.2.1.2.1, hS.2.2.2.2.1, G.hm]; exact hl
  unfold o_lst at h
  split at h
  · next x r =>
    have h1 : mm_W C (pc + 2) (mm_clr (mm_set lv i (.long x)) (i + 1)) r M N := hK _ _ _ _ _ (mm_clrK_eq _ _ _ (mm_setK_eq _ _ _ _ h))
    exact lv_lstore G.hx G.hb hd hS.2.2.2.1.has hil rfl (fun ls' hl' => h1 ad H locs ls' (hS.lv (mm_lv.of2 (v := .long x) hl') (by rw [mm_clr_len, mm_set_len]) hS.2.2.2.2.2.1.set.clr))
  · exact h.elim
theorem mm_as_at {ad : Nat → Nat} {lv : mm_L} {i : Nat} {v : Value} (h : lv[i]? = some (some v)) : ∃ k : Nat, (mm_as ad 0 lv)[k]? = some (i, mm_v ad v) := by
  have h1 := mm_as_in (ad := ad) (n := 0) h
  rw [Nat.zero_add] at h1
  exact List.getElem?_of_mem h1
theorem ok_iinc {C : mm_C} {own : String} {cc : ByteArray} {ret : Option FieldType} {nL : Nat} {rm : Room} (G : mm_G C own cc ret nL rm) {pc nx i : Nat} {n : Int} {v : Int32} (hd : decode cc pc = .ok (.iinc i n, 3)) (hv : Int32.ofInt n = v) (hn : pc + 3 = nx) (hl : i < nL) : mm_OK C pc (o_inc nx i v) := by
  subst hn
  subst hv
  intro lv st M N K hK h ad H locs ls hS
  have hil : i < lv.length := by rw [← hS.2.2.2.1.2.1, hS.2.2.2.2.1, G.hm]; exact hl
  unfold o_inc at h
  split at h
  · next x hx =>
    have h1 : mm_W C (pc + 3) (mm_set lv i (.int (x + Int32.ofInt n))) st M N := hK _ _ _ _ _ (mm_setK_eq _ _ _ _ h)
    obtain ⟨k, hk⟩ := mm_as_at (ad := ad) (mm_get_eq hx)
    exact lv_iinc G.hx G.hb hd hS.2.2.2.1.has hk rfl hil rfl (fun ls' hl' => h1 ad H locs ls' (hS.lv (mm_lv.of1 (v := .int (x + Int32.ofInt n)) hl') (mm_set_len _ _ _) (mm_ok.set (hS.2.2.2.2.2.1.push (mm_vk_i _)))))
  · exact h.elim
theorem ok_iadd {C : mm_C} {own : String} {cc : ByteArray} {ret : Option FieldType} {nL : Nat} {rm : Room} (G : mm_G C own cc ret nL rm) {pc nx : Nat} (hd : decode cc pc = .ok (.iadd, 1)) (hn : pc + 1 = nx) : mm_OK C pc (o_iadd nx) := by
  subst hn
  intro lv st M N K hK h ad H locs ls hS
  unfold o_iadd at h
  split at h
  · next y x r =>
    have h1 : mm_W C (pc + 1) lv (.int (x + y) :: r) M N := hK _ _ _ _ _ h
    exact lv_iadd G.hx G.hb hd (h1 ad H locs ls (hS.st fun k => k.pop.pop.push (mm_vk_i _)))
  · exact h.elim
theorem ok_isub {C : mm_C} {own : String} {cc : ByteArray} {ret : Option FieldType} {nL : Nat} {rm : Room} (G : mm_G C own cc ret nL rm) {pc nx : Nat} (hd : decode cc pc = .ok (.isub, 1)) (hn : pc + 1 = nx) : mm_OK C pc (o_isub nx) := by
  subst hn
  intro lv st M N K hK h ad H locs ls hS
  unfold o_isub at h
  split at h
  · next y x r =>
    have h1 : mm_W C (pc + 1) lv (.int (x - y) :: r) M N := hK _ _ _ _ _ h
    exact lv_isub G.hx G.hb hd (h1 ad H locs ls (hS.st fun k => k.pop.pop.push (mm_vk_i _)))
  · exact h.elim
theorem ok_imul {C : mm_C} {own : String} {cc : ByteArray} {ret : Option FieldType} {nL : Nat} {rm : Room} (G : mm_G C own cc ret nL rm) {pc nx : Nat} (hd : decode cc pc = .ok (.imul, 1)) (hn : pc + 1 = nx) : mm_OK C pc (o_imul nx) := by
  subst hn
  intro lv st M N K hK h ad H locs ls hS
  unfold o_imul at h
  split at h
  · next y x r =>
    have h1 : mm_W C (pc + 1) lv (.int (x * y) :: r) M N := hK _ _ _ _ _ h
    exact lv_imul G.hx G.hb hd (h1 ad H locs ls (hS.st fun k => k.pop.pop.push (mm_vk_i _)))
  · exact h.elim
theorem ok_iand {C : mm_C} {own : String} {cc : ByteArray} {ret : Option FieldType} {nL : Nat} {rm : Room} (G : mm_G C own cc ret nL rm) {pc nx : Nat} (hd : decode cc pc = .ok (.iand, 1)) (hn : pc + 1 = nx) : mm_OK C pc (o_iand nx) := by
  subst hn
  intro lv st M N K hK h ad H locs ls hS
  unfold o_iand at h
  split at h
  · next y x r =>
    have h1 : mm_W C (pc + 1) lv (.int (x &&& y) :: r) M N := hK _ _ _ _ _ h
    exact lv_iand G.hx G.hb hd (h1 ad H locs ls (hS.st fun k => k.pop.pop.push (mm_vk_i _)))
  · exact h.elim
theorem ok_ior {C : mm_C} {own : String} {cc : ByteArray} {ret : Option FieldType} {nL : Nat} {rm : Room} (G : mm_G C own cc ret nL rm) {pc nx : Nat} (hd : decode cc pc = .ok (.ior, 1)) (hn : pc + 1 = nx) : mm_OK C pc (o_ior nx) := by
  subst hn
  intro lv st M N K hK h ad H locs ls hS
  unfold o_ior at h
  split at h
  · next y x r =>
    have h1 : mm_W C (pc + 1) lv (.int (x ||| y) :: r) M N := hK _ _ _ _ _ h
    exact lv_ior G.hx G.hb hd (h1 ad H locs ls (hS.st fun k => k.pop.pop.push (mm_vk_i _)))
  · exact h.elim
theorem ok_ishr {C : mm_C} {own : String} {cc : ByteArray} {ret : Option FieldType} {nL : Nat} {rm : Room} (G : mm_G C own cc ret nL rm) {pc nx : Nat} (hd : decode cc pc = .ok (.ishr, 1)) (hn : pc + 1 = nx) : mm_OK C pc (o_ishr nx) := by
  subst hn
  intro lv st M N K hK h ad H locs ls hS
  unfold o_ishr at h
  split at h
  · next y x r =>
    have h1 : mm_W C (pc + 1) lv (.int (x >>> (y &&& 31)) :: r) M N := hK _ _ _ _ _ h
    exact lv_ishr G.hx G.hb hd (h1 ad H locs ls (hS.st fun k => k.pop.pop.push (mm_vk_i _)))
  · exact h.elim
theorem ok_ishl {C : mm_C} {own : String} {cc : ByteArray} {ret : Option FieldType} {nL : Nat} {rm : Room} (G : mm_G C own cc ret nL rm) {pc nx : Nat} (hd : decode cc pc = .ok (.ishl, 1)) (hn : pc + 1 = nx) : mm_OK C pc (o_ishl nx) := by
  subst hn
  intro lv st M N K hK h ad H locs ls hS
  unfold o_ishl at h
  split at h
  · next y x r =>
    have h1 : mm_W C (pc + 1) lv (.int (x <<< (y &&& 31)) :: r) M N := hK _ _ _ _ _ h
    exact lv_ishl G.hx G.hb hd (h1 ad H locs ls (hS.st fun k => k.pop.pop.push (mm_vk_i _)))
  · exact h.elim
theorem ok_iushr {C : mm_C} {own : String} {cc : ByteArray} {ret : Option FieldType} {nL : Nat} {rm : Room} (G : mm_G C own cc ret nL rm) {pc nx : Nat} (hd : decode cc pc = .ok (.iushr, 1)) (hn : pc + 1 = nx) : mm_OK C pc (o_iushr nx) := by
  subst hn
  intro lv st M N K hK h ad H locs ls hS
  unfold o_iushr at h
  split at h
  · next y x r =>
    have h1 : mm_W C (pc + 1) lv (.int ((x.toUInt32 >>> (y.toUInt32 &&& Int32.toUInt32 31)).toInt32) :: r) M N := hK _ _ _ _ _ h
    exact lv_iushr G.hx G.hb hd rfl (h1 ad H locs ls (hS.st fun k => k.pop.pop.push (mm_vk_i _)))
  · exact h.elim
theorem ok_ladd {C : mm_C} {own : String} {cc : ByteArray} {ret : Option FieldType} {nL : Nat} {rm : Room} (G : mm_G C own cc ret nL rm) {pc nx : Nat} (hd : decode cc pc = .ok (.ladd, 1)) (hn : pc + 1 = nx) : mm_OK C pc (o_ladd nx) := by
  subst hn
  intro lv st M N K hK h ad H locs ls hS
  unfold o_ladd at h
  split at h
  · next y x r =>
    have h1 : mm_W C (pc + 1) lv (.long (x + y) :: r) M N := hK _ _ _ _ _ h
    exact lv_ladd G.hx G.hb hd (h1 ad H locs ls (hS.st fun k => k.pop.pop.push (mm_vk_l _)))
  · exact h.elim
theorem ok_lmul {C : mm_C} {own : String} {cc : ByteArray} {ret : Option FieldType} {nL : Nat} {rm : Room} (G : mm_G C own cc ret nL rm) {pc nx : Nat} (hd : decode cc pc = .ok (.lmul, 1)) (hn : pc + 1 = nx) : mm_OK C pc (o_lmul nx) := by
  subst hn
  intro lv st M N K hK h ad H locs ls hS
  unfold o_lmul at h
  split at h
  · next y x r =>
    have h1 : mm_W C (pc + 1) lv (.long (x * y) :: r) M N := hK _ _ _ _ _ h
    exact lv_lmul G.hx G.hb hd (h1 ad H locs ls (hS.st fun k => k.pop.pop.push (mm_vk_l _)))
  · exact h.elim
theorem ok_lcmp {C : mm_C} {own : String} {cc : ByteArray} {ret : Option FieldType} {nL : Nat} {rm : Room} (G : mm_G C own cc ret nL rm) {pc nx : Nat} (hd : decode cc pc = .ok (.lcmp, 1)) (hn : pc + 1 = nx) : mm_OK C pc (o_lcmp nx) := by
  subst hn
  intro lv st M N K hK h ad H locs ls hS
  unfold o_lcmp at h
  split at h
  · next y x r =>
    have h1 : mm_W C (pc + 1) lv (.int (lg_cmp x y) :: r) M N := hK _ _ _ _ _ h
    exact W.lcmp G.hx G.hb hd (h1 ad H locs ls (hS.st fun k => k.pop.pop.push (mm_vk_i _)))
  · exact h.elim
theorem mm_nz32 {y : Int32} (h : Nat.beq y.toBitVec.toNat 0 = false) : ¬ y = 0 := by
  intro e
  subst e
  exact absurd h (by decide)
theorem mm_nz64 {y : Int64} (h : Nat.beq y.toBitVec.toNat 0 = false) : ¬ y = 0 := by
  intro e
  subst e
  exact absurd h (by decide)
theorem ok_idiv {C : mm_C} {own : String} {cc : ByteArray} {ret : Option FieldType} {nL : Nat} {rm : Room} (G : mm_G C own cc ret nL rm) {pc nx : Nat} (hd : decode cc pc = .ok (.idiv, 1)) (hn : pc + 1 = nx) : mm_OK C pc (o_idiv nx) := by
  subst hn
  intro lv st M N K hK h ad H locs ls hS
  unfold o_idiv at h
  split at h
  · next y x r =>
    cases hz : Nat.beq y.toBitVec.toNat 0 with
    | true => rw [hz] at h; exact h.elim
    | false =>
      rw [hz] at h
      have h1 : mm_W C (pc + 1) lv (.int (x / y) :: r) M N := hK _ _ _ _ _ h
      exact lv_idiv G.hx G.hb hd (mm_nz32 hz) (h1 ad H locs ls (hS.st fun k => k.pop.pop.push (mm_vk_i _)))
  · exact h.elim
theorem ok_irem {C : mm_C} {own : String} {cc : ByteArray} {ret : Option FieldType} {nL : Nat} {rm : Room} (G : mm_G C own cc ret nL rm) {pc nx : Nat} (hd : decode cc pc = .ok (.irem, 1)) (hn : pc + 1 = nx) : mm_OK C pc (o_irem nx) := by
  subst hn
  intro lv st M N K hK h ad H locs ls hS
  unfold o_irem at h
  split at h
  · next y x r =>
    cases hz : Nat.beq y.toBitVec.toNat 0 with
    | true => rw [hz] at h; exact h.elim
    | false =>
      rw [hz] at h
      have h1 : mm_W C (pc + 1) lv (.int (x - x / y * y) :: r) M N := hK _ _ _ _ _ h
      exact lv_irem G.hx G.hb hd (mm_nz32 hz) (h1 ad H locs ls (hS.st fun k => k.pop.pop.push (mm_vk_i _)))
  · exact h.elim
theorem ok_ldiv {C : mm_C} {own : String} {cc : ByteArray} {ret : Option FieldType} {nL : Nat} {rm : Room} (G : mm_G C own cc ret nL rm) {pc nx : Nat} (hd : decode cc pc = .ok (.ldiv, 1)) (hn : pc + 1 = nx) : mm_OK C pc (o_ldiv nx) := by
  subst hn
  intro lv st M N K hK h ad H locs ls hS
  unfold o_ldiv at h
  split at h
  · next y x r =>
    cases hz : Nat.beq y.toBitVec.toNat 0 with
    | true => rw [hz] at h; exact h.elim
    | false =>
      rw [hz] at h
      have h1 : mm_W C (pc + 1) lv (.long (x / y) :: r) M N := hK _ _ _ _ _ h
      exact lv_ldiv G.hx G.hb hd (mm_nz64 hz) (h1 ad H locs ls (hS.st fun k => k.pop.pop.push (mm_vk_l _)))
  · exact h.elim
theorem ok_ineg {C : mm_C} {own : String} {cc : ByteArray} {ret : Option FieldType} {nL : Nat} {rm : Room} (G : mm_G C own cc ret nL rm) {pc nx : Nat} (hd : decode cc pc = .ok (.ineg, 1)) (hn : pc + 1 = nx) : mm_OK C pc (o_ineg nx) := by
  subst hn
  intro lv st M N K hK h ad H locs ls hS
  unfold o_ineg at h
  split at h
  · next x r =>
    have h1 : mm_W C (pc + 1) lv (.int (-x) :: r) M N := hK _ _ _ _ _ h
    exact lv_ineg G.hx G.hb hd (h1 ad H locs ls (hS.st fun k => k.pop.push (mm_vk_i _)))
  · exact h.elim
theorem ok_i2l {C : mm_C} {own : String} {cc : ByteArray} {ret : Option FieldType} {nL : Nat} {rm : Room} (G : mm_G C own cc ret nL rm) {pc nx : Nat} (hd : decode cc pc = .ok (.i2l, 1)) (hn : pc + 1 = nx) : mm_OK C pc (o_i2l nx) := by
  subst hn
  intro lv st M N K hK h ad H locs ls hS
  unfold o_i2l at h
  split at h
  · next x r =>
    have h1 : mm_W C (pc + 1) lv (.long (x.toInt64) :: r) M N := hK _ _ _ _ _ h
    exact lv_i2l G.hx G.hb hd rfl (h1 ad H locs ls (hS.st fun k => k.pop.push (mm_vk_l _)))
  · exact h.elim
theorem ok_l2i {C : mm_C} {own : String} {cc : ByteArray} {ret : Option FieldType} {nL : Nat} {rm : Room} (G : mm_G C own cc ret nL rm) {pc nx : Nat} (hd : decode cc pc = .ok (.l2i, 1)) (hn : pc + 1 = nx) : mm_OK C pc (o_l2i nx) := by
  subst hn
  intro lv st M N K hK h ad H locs ls hS
  unfold o_l2i at h
  split at h
  · next x r =>
    have h1 : mm_W C (pc + 1) lv (.int (x.toInt32) :: r) M N := hK _ _ _ _ _ h
    exact lv_l2i G.hx G.hb hd rfl (h1 ad H locs ls (hS.st fun k => k.pop.push (mm_vk_i _)))
  · exact h.elim
theorem ok_i2b {C : mm_C} {own : String} {cc : ByteArray} {ret : Option FieldType} {nL : Nat} {rm : Room} (G : mm_G C own cc ret nL rm) {pc nx : Nat} (hd : decode cc pc = .ok (.i2b, 1)) (hn : pc + 1 = nx) : mm_OK C pc (o_i2b nx) := by
  subst hn
  intro lv st M N K hK h ad H locs ls hS
  unfold o_i2b at h
  split at h
  · next x r =>
    have h1 : mm_W C (pc + 1) lv (.int (x.toInt8.toInt32) :: r) M N := hK _ _ _ _ _ h
    exact lv_i2b G.hx G.hb hd rfl (h1 ad H locs ls (hS.st fun k => k.pop.push (mm_vk_i _)))
  · exact h.elim
theorem ok_i2c {C : mm_C} {own : String} {cc : ByteArray} {ret : Option FieldType} {nL : Nat} {rm : Room} (G : mm_G C own cc ret nL rm) {pc nx : Nat} (hd : decode cc pc = .ok (.i2c, 1)) (hn : pc + 1 = nx) : mm_OK C pc (o_i2c nx) := by
  subst hn
  intro lv st M N K hK h ad H locs ls hS
  unfold o_i2c at h
  split at h
  · next x r =>
    have h1 : mm_W C (pc + 1) lv (.int ((x.toUInt32 % 65536).toInt32) :: r) M N := hK _ _ _ _ _ h
    exact lv_i2c G.hx G.hb hd rfl (h1 ad H locs ls (hS.st fun k => k.pop.push (mm_vk_i _)))
  · exact h.elim
theorem ok_dup {C : mm_C} {own : String} {cc : ByteArray} {ret : Option FieldType} {nL : Nat} {rm : Room} (G : mm_G C own cc ret nL rm) {pc nx : Nat} (hd : decode cc pc = .ok (.dup, 1)) (hn : pc + 1 = nx) : mm_OK C pc (o_dup nx) := by
  subst hn
  intro lv st M N K hK h ad H locs ls hS
  unfold o_dup at h
  split at h
  · next a r =>
    cases hz : mm_c1 a with
    | false => rw [hz] at h; exact h.elim
    | true =>
      rw [hz] at h
      have h1 : mm_W C (pc + 1) lv (a :: a :: r) M N := hK _ _ _ _ _ h
      exact lv_dup G.hx G.hb hd (mm_c1_cat hz ad) (h1 ad H locs ls (hS.st fun k => k.push k.top))
  · exact h.elim
theorem ok_pop {C : mm_C} {own : String} {cc : ByteArray} {ret : Option FieldType} {nL : Nat} {rm : Room} (G : mm_G C own cc ret nL rm) {pc nx : Nat} (hd : decode cc pc = .ok (.pop, 1)) (hn : pc + 1 = nx) : mm_OK C pc (o_pop nx) := by
  subst hn
  intro lv st M N K hK h ad H locs ls hS
  unfold o_pop at h
  split at h
  · next a r =>
    cases hz : mm_c1 a with
    | false => rw [hz] at h; exact h.elim
    | true =>
      rw [hz] at h
      have h1 : mm_W C (pc + 1) lv r M N := hK _ _ _ _ _ h
      exact lv_pop G.hx G.hb hd (mm_c1_cat hz ad) (h1 ad H locs ls (hS.st fun k => k.pop))
  · exact h.elim
theorem mm_and2 {a b : Bool} {P Q : Prop} (h : bif a && b then P else Q) (hQ : ¬ Q) : a = true ∧ b = true ∧ P := by
  cases a <;> cases b <;> first | exact absurd h hQ | exact ⟨rfl, rfl, h⟩
theorem mm_bif {a : Bool} {P Q : Prop} (h : bif a then P else Q) (hQ : ¬ Q) : a = true ∧ P := by
  cases a <;> first | exact absurd h hQ | exact ⟨rfl, h⟩
theorem ok_dup_x1 {C : mm_C} {own : String} {cc : ByteArray} {ret : Option FieldType} {nL : Nat} {rm : Room} (G : mm_G C own cc ret nL rm) {pc nx : Nat} (hd : decode cc pc = .ok (.dup_x1, 1)) (hn : pc + 1 = nx) : mm_OK C pc (o_dup_x1 nx) := by
  subst hn
  intro lv st M N K hK h ad H locs ls hS
  unfold o_dup_x1 at h
  split at h
  · next a b r =>
    obtain ⟨ha, hb, h⟩ := mm_and2 h (fun q => q)
    have h1 : mm_W C (pc + 1) lv (a :: b :: a :: r) M N := hK _ _ _ _ _ h
    exact lv_dup_x1 G.hx G.hb hd (mm_c1_cat ha ad) (mm_c1_cat hb ad) (h1 ad H locs ls (hS.st fun k => ((k.pop.pop.push k.top).push k.pop.top).push k.top))
  · exact h.elim
theorem ok_dup2 {C : mm_C} {own : String} {cc : ByteArray} {ret : Option FieldType} {nL : Nat} {rm : Room} (G : mm_G C own cc ret nL rm) {pc nx : Nat} (hd : decode cc pc = .ok (.dup2, 1)) (hn : pc + 1 = nx) : mm_OK C pc (o_dup2 nx) := by
  subst hn
  intro lv st M N K hK h ad H locs ls hS
  unfold o_dup2 at h
  split at h
  · next a b r =>
    obtain ⟨ha, hb, h⟩ := mm_and2 h (fun q => q)
    have h1 : mm_W C (pc + 1) lv (a :: b :: a :: b :: r) M N := hK _ _ _ _ _ h
    exact lv_dup2_11 G.hx G.hb hd (mm_c1_cat ha ad) (mm_c1_cat hb ad) (h1 ad H locs ls (hS.st fun k => (k.push k.pop.top).push k.top))
  · exact h.elim
theorem ok_goto {C : mm_C} {own : String} {cc : ByteArray} {ret : Option FieldType} {nL : Nat} {rm : Room} (G : mm_G C own cc ret nL rm) {pc tgt : Nat} {off : Int} (hd : decode cc pc = .ok (.goto off, 3)) (ht : (pc : Int) + off = (tgt : Int)) : mm_OK C pc (o_goto tgt) := by
  intro lv st M N K hK h ad H locs ls hS
  have h1 : mm_W C tgt lv st M N := hK _ _ _ _ _ h
  exact lv_goto G.hx G.hb hd ht (h1 ad H locs ls hS)
theorem ok_ifeq {C : mm_C} {own : String} {cc : ByteArray} {ret : Option FieldType} {nL : Nat} {rm : Room} (G : mm_G C own cc ret nL rm) {pc nx tgt : Nat} {off : Int} (hd : decode cc pc = .ok (.ifCond .eq off, 3)) (ht : (pc : Int) + off = (tgt : Int)) (hn : pc + 3 = nx) : mm_OK C pc (o_ifeq nx tgt) := by
  subst hn
  intro lv st M N K hK h ad H locs ls hS
  unfold o_ifeq at h
  split at h
  · next x r =>
    exact lv_if_eq G.hx G.hb hd ht (fun c => (show mm_W C tgt lv r M N from hK _ _ _ _ _ (h.1 c)) ad H locs ls (hS.st fun k => k.pop)) (fun c => (show mm_W C (pc + 3) lv r M N from hK _ _ _ _ _ (h.2 c)) ad H locs ls (hS.st fun k => k.pop))
  · exact h.elim
theorem ok_ifne {C : mm_C} {own : String} {cc : ByteArray} {ret : Option FieldType} {nL : Nat} {rm : Room} (G : mm_G C own cc ret nL rm) {pc nx tgt : Nat} {off : Int} (hd : decode cc pc = .ok (.ifCond .ne off, 3)) (ht : (pc : Int) + off = (tgt : Int)) (hn : pc + 3 = nx) : mm_OK C pc (o_ifne nx tgt) := by
  subst hn
  intro lv st M N K hK h ad H locs ls hS
  unfold o_ifne at h
  split at h
  · next x r =>
    exact lv_if_ne G.hx G.hb hd ht (fun c => (show mm_W C tgt lv r M N from hK _ _ _ _ _ (h.1 c)) ad H locs ls (hS.st fun k => k.pop)) (fun c => (show mm_W C (pc + 3) lv r M N from hK _ _ _ _ _ (h.2 c)) ad H locs ls (hS.st fun k => k.pop))
  · exact h.elim
theorem ok_iflt {C : mm_C} {own : String} {cc : ByteArray} {ret : Option FieldType} {nL : Nat} {rm : Room} (G : mm_G C own cc ret nL rm) {pc nx tgt : Nat} {off : Int} (hd : decode cc pc = .ok (.ifCond .lt off, 3)) (ht : (pc : Int) + off = (tgt : Int)) (hn : pc + 3 = nx) : mm_OK C pc (o_iflt nx tgt) := by
  subst hn
  intro lv st M N K hK h ad H locs ls hS
  unfold o_iflt at h
  split at h
  · next x r =>
    exact lv_if_lt G.hx G.hb hd ht (fun c => (show mm_W C tgt lv r M N from hK _ _ _ _ _ (h.1 c)) ad H locs ls (hS.st fun k => k.pop)) (fun c => (show mm_W C (pc + 3) lv r M N from hK _ _ _ _ _ (h.2 c)) ad H locs ls (hS.st fun k => k.pop))
  · exact h.elim
theorem ok_ifge {C : mm_C} {own : String} {cc : ByteArray} {ret : Option FieldType} {nL : Nat} {rm : Room} (G : mm_G C own cc ret nL rm) {pc nx tgt : Nat} {off : Int} (hd : decode cc pc = .ok (.ifCond .ge off, 3)) (ht : (pc : Int) + off = (tgt : Int)) (hn : pc + 3 = nx) : mm_OK C pc (o_ifge nx tgt) := by
  subst hn
  intro lv st M N K hK h ad H locs ls hS
  unfold o_ifge at h
  split at h
  · next x r =>
    exact lv_if_ge G.hx G.hb hd ht (fun c => (show mm_W C tgt lv r M N from hK _ _ _ _ _ (h.1 c)) ad H locs ls (hS.st fun k => k.pop)) (fun c => (show mm_W C (pc + 3) lv r M N from hK _ _ _ _ _ (h.2 c)) ad H locs ls (hS.st fun k => k.pop))
  · exact h.elim
theorem ok_ifgt {C : mm_C} {own : String} {cc : ByteArray} {ret : Option FieldType} {nL : Nat} {rm : Room} (G : mm_G C own cc ret nL rm) {pc nx tgt : Nat} {off : Int} (hd : decode cc pc = .ok (.ifCond .gt off, 3)) (ht : (pc : Int) + off = (tgt : Int)) (hn : pc + 3 = nx) : mm_OK C pc (o_ifgt nx tgt) := by
  subst hn
  intro lv st M N K hK h ad H locs ls hS
  unfold o_ifgt at h
  split at h
  · next x r =>
    exact lv_if_gt G.hx G.hb hd ht (fun c => (show mm_W C tgt lv r M N from hK _ _ _ _ _ (h.1 c)) ad H locs ls (hS.st fun k => k.pop)) (fun c => (show mm_W C (pc + 3) lv r M N from hK _ _ _ _ _ (h.2 c)) ad H locs ls (hS.st fun k => k.pop))
  · exact h.elim
theorem ok_ifle {C : mm_C} {own : String} {cc : ByteArray} {ret : Option FieldType} {nL : Nat} {rm : Room} (G : mm_G C own cc ret nL rm) {pc nx tgt : Nat} {off : Int} (hd : decode cc pc = .ok (.ifCond .le off, 3)) (ht : (pc : Int) + off = (tgt : Int)) (hn : pc + 3 = nx) : mm_OK C pc (o_ifle nx tgt) := by
  subst hn
  intro lv st M N K hK h ad H locs ls hS
  unfold o_ifle at h
  split at h
  · next x r =>
    exact lv_if_le G.hx G.hb hd ht (fun c => (show mm_W C tgt lv r M N from hK _ _ _ _ _ (h.1 c)) ad H locs ls (hS.st fun k => k.pop)) (fun c => (show mm_W C (pc + 3) lv r M N from hK _ _ _ _ _ (h.2 c)) ad H locs ls (hS.st fun k => k.pop))
  · exact h.elim
theorem ok_ceq {C : mm_C} {own : String} {cc : ByteArray} {ret : Option FieldType} {nL : Nat} {rm : Room} (G : mm_G C own cc ret nL rm) {pc nx tgt : Nat} {off : Int} (hd : decode cc pc = .ok (.if_icmp .eq off, 3)) (ht : (pc : Int) + off = (tgt : Int)) (hn : pc + 3 = nx) : mm_OK C pc (o_ceq nx tgt) := by
  subst hn
  intro lv st M N K hK h ad H locs ls hS
  unfold o_ceq at h
  split at h
  · next y x r =>
    exact lv_icmp_eq G.hx G.hb hd ht (fun c => (show mm_W C tgt lv r M N from hK _ _ _ _ _ (h.1 c)) ad H locs ls (hS.st fun k => k.pop.pop)) (fun c => (show mm_W C (pc + 3) lv r M N from hK _ _ _ _ _ (h.2 c)) ad H locs ls (hS.st fun k => k.pop.pop))
  · exact h.elim
theorem ok_cne {C : mm_C} {own : String} {cc : ByteArray} {ret : Option FieldType} {nL : Nat} {rm : Room} (G : mm_G C own cc ret nL rm) {pc nx tgt : Nat} {off : Int} (hd : decode cc pc = .ok (.if_icmp .ne off, 3)) (ht : (pc : Int) + off = (tgt : Int)) (hn : pc + 3 = nx) : mm_OK C pc (o_cne nx tgt) := by
  subst hn
  intro lv st M N K hK h ad H locs ls hS
  unfold o_cne at h
  split at h
  · next y x r =>
    exact lv_icmp_ne G.hx G.hb hd ht (fun c => (show mm_W C tgt lv r M N from hK _ _ _ _ _ (h.1 c)) ad H locs ls (hS.st fun k => k.pop.pop)) (fun c => (show mm_W C (pc + 3) lv r M N from hK _ _ _ _ _ (h.2 c)) ad H locs ls (hS.st fun k => k.pop.pop))
  · exact h.elim
theorem ok_clt {C : mm_C} {own : String} {cc : ByteArray} {ret : Option FieldType} {nL : Nat} {rm : Room} (G : mm_G C own cc ret nL rm) {pc nx tgt : Nat} {off : Int} (hd : decode cc pc = .ok (.if_icmp .lt off, 3)) (ht : (pc : Int) + off = (tgt : Int)) (hn : pc + 3 = nx) : mm_OK C pc (o_clt nx tgt) := by
  subst hn
  intro lv st M N K hK h ad H locs ls hS
  unfold o_clt at h
  split at h
  · next y x r =>
    exact lv_icmp_lt G.hx G.hb hd ht (fun c => (show mm_W C tgt lv r M N from hK _ _ _ _ _ (h.1 c)) ad H locs ls (hS.st fun k => k.pop.pop)) (fun c => (show mm_W C (pc + 3) lv r M N from hK _ _ _ _ _ (h.2 c)) ad H locs ls (hS.st fun k => k.pop.pop))
  · exact h.elim
theorem ok_cge {C : mm_C} {own : String} {cc : ByteArray} {ret : Option FieldType} {nL : Nat} {rm : Room} (G : mm_G C own cc ret nL rm) {pc nx tgt : Nat} {off : Int} (hd : decode cc pc = .ok (.if_icmp .ge off, 3)) (ht : (pc : Int) + off = (tgt : Int)) (hn : pc + 3 = nx) : mm_OK C pc (o_cge nx tgt) := by
  subst hn
  intro lv st M N K hK h ad H locs ls hS
  unfold o_cge at h
  split at h
  · next y x r =>
    exact lv_icmp_ge G.hx G.hb hd ht (fun c => (show mm_W C tgt lv r M N from hK _ _ _ _ _ (h.1 c)) ad H locs ls (hS.st fun k => k.pop.pop)) (fun c => (show mm_W C (pc + 3) lv r M N from hK _ _ _ _ _ (h.2 c)) ad H locs ls (hS.st fun k => k.pop.pop))
  · exact h.elim
theorem ok_cgt {C : mm_C} {own : String} {cc : ByteArray} {ret : Option FieldType} {nL : Nat} {rm : Room} (G : mm_G C own cc ret nL rm) {pc nx tgt : Nat} {off : Int} (hd : decode cc pc = .ok (.if_icmp .gt off, 3)) (ht : (pc : Int) + off = (tgt : Int)) (hn : pc + 3 = nx) : mm_OK C pc (o_cgt nx tgt) := by
  subst hn
  intro lv st M N K hK h ad H locs ls hS
  unfold o_cgt at h
  split at h
  · next y x r =>
    exact lv_icmp_gt G.hx G.hb hd ht (fun c => (show mm_W C tgt lv r M N from hK _ _ _ _ _ (h.1 c)) ad H locs ls (hS.st fun k => k.pop.pop)) (fun c => (show mm_W C (pc + 3) lv r M N from hK _ _ _ _ _ (h.2 c)) ad H locs ls (hS.st fun k => k.pop.pop))
  · exact h.elim
theorem ok_cle {C : mm_C} {own : String} {cc : ByteArray} {ret : Option FieldType} {nL : Nat} {rm : Room} (G : mm_G C own cc ret nL rm) {pc nx tgt : Nat} {off : Int} (hd : decode cc pc = .ok (.if_icmp .le off, 3)) (ht : (pc : Int) + off = (tgt : Int)) (hn : pc + 3 = nx) : mm_OK C pc (o_cle nx tgt) := by
  subst hn
  intro lv st M N K hK h ad H locs ls hS
  unfold o_cle at h
  split at h
  · next y x r =>
    exact lv_icmp_le G.hx G.hb hd ht (fun c => (show mm_W C tgt lv r M N from hK _ _ _ _ _ (h.1 c)) ad H locs ls (hS.st fun k => k.pop.pop)) (fun c => (show mm_W C (pc + 3) lv r M N from hK _ _ _ _ _ (h.2 c)) ad H locs ls (hS.st fun k => k.pop.pop))
  · exact h.elim
theorem ok_ifnull {C : mm_C} {own : String} {cc : ByteArray} {ret : Option FieldType} {nL : Nat} {rm : Room} (G : mm_G C own cc ret nL rm) {pc nx tgt : Nat} {off : Int} (hd : decode cc pc = .ok (.ifnull off, 3)) (ht : (pc : Int) + off = (tgt : Int)) (hn : pc + 3 = nx) : mm_OK C pc (o_ifnull nx tgt) := by
  subst hn
  intro lv st M N K hK h ad H locs ls hS
  unfold o_ifnull at h
  split at h
  · next x r => exact lv_ifnull G.hx G.hb hd ((show mm_W C (pc + 3) lv r M N from hK _ _ _ _ _ h) ad H locs ls (hS.st fun k => k.pop))
  · next r => exact lv_ifnullN G.hx G.hb hd ht ((show mm_W C tgt lv r M N from hK _ _ _ _ _ h) ad H locs ls (hS.st fun k => k.pop))
  · exact h.elim
theorem ok_ifnonnull {C : mm_C} {own : String} {cc : ByteArray} {ret : Option FieldType} {nL : Nat} {rm : Room} (G : mm_G C own cc ret nL rm) {pc nx tgt : Nat} {off : Int} (hd : decode cc pc = .ok (.ifnonnull off, 3)) (ht : (pc : Int) + off = (tgt : Int)) (hn : pc + 3 = nx) : mm_OK C pc (o_ifnonnull nx tgt) := by
  subst hn
  intro lv st M N K hK h ad H locs ls hS
  unfold o_ifnonnull at h
  split at h
  · next x r => exact lv_ifnonnull G.hx G.hb hd ht ((show mm_W C tgt lv r M N from hK _ _ _ _ _ h) ad H locs ls (hS.st fun k => k.pop))
  · next r => exact lv_ifnonnullN G.hx G.hb hd ((show mm_W C (pc + 3) lv r M N from hK _ _ _ _ _ h) ad H locs ls (hS.st fun k => k.pop))
  · exact h.elim
