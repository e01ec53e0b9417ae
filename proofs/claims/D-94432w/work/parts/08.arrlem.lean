/-! ===== arrays, returns, calls, a method's start ===== -/
set_option maxRecDepth 100000
theorem mm_cidx {i : Int32} {c : Nat} (h : i.toBitVec.toNat = c) (hc : c < 2 ^ 31) : ¬ i < 0 ∧ i.toNatClampNeg = c := by
  have e : i.toInt = (c : Int) := by
    show i.toBitVec.toInt = _
    rw [BitVec.toInt_eq_toNat_of_lt (by omega), h]
  refine ⟨fun q => ?_, ?_⟩
  · have := Int32.lt_iff_toInt_lt.mp q
    rw [e] at this
    simp at this
    omega
  · show i.toInt.toNat = c
    rw [e]
    rfl
theorem mm_cin {i : Int32} {c n : Nat} (h : i.toBitVec.toNat = c) (hc : c < 2 ^ 31) (hn : c + 1 ≤ n) : vp_in i n := by
  obtain ⟨h1, h2⟩ := mm_cidx h hc
  intro q
  rcases q with q | q
  · exact h1 q
  · rw [h2] at q; omega
theorem mm_ea_wI {M : mm_M} {x t i : Nat} {v : Int32} (ht : t = 2 ∨ t = 4 ∨ t = 5) (ad : Nat → Nat) : updV (fun j => mm_v ad (mm_ea M x t j)) i (.int v) = fun j => mm_v ad (mm_ea (mm_wI M x i v) x t j) := by
  funext j
  unfold updV
  have e : (mm_wI M x i v).2.1 x j = if j = i then v else M.2.1 x j := by
    show mm_up M.2.1 x i v x j = _
    rw [mm_up_a]
  rcases ht with h | h | h <;> subst h <;>
    (show (if j = i then Value.int v else Value.int (M.2.1 x j)) = Value.int ((mm_wI M x i v).2.1 x j)
     rw [e]
     split <;> rfl)
theorem mm_ea_wJ {M : mm_M} {x i : Nat} {v : Int64} (ad : Nat → Nat) : updV (fun j => mm_v ad (mm_ea M x 3 j)) i (.long v) = fun j => mm_v ad (mm_ea (mm_wJ M x i v) x 3 j) := by
  funext j
  unfold updV
  have e : (mm_wJ M x i v).2.2.1 x j = if j = i then v else M.2.2.1 x j := by
    show mm_up M.2.2.1 x i v x j = _
    rw [mm_up_a]
  show (if j = i then Value.long v else Value.long (M.2.2.1 x j)) = Value.long ((mm_wJ M x i v).2.2.1 x j)
  rw [e]
  split <;> rfl
section MMA
variable {C : mm_C} {own : String} {cc : ByteArray} {ret : Option FieldType} {nL : Nat} {rm : Room}
theorem mm_isarr (G : mm_G C own cc ret nL rm) (k : Nat) {cA : ClassId} {ty : FieldType} (h : (mm_tys (c_aC C))[k]? = some (cA, ty)) (n : Nat) (f : Nat → Value) : (c_s C).isArrayOf (arrV cA n f) ty := (G.hK.2 k _ h).1 n f
theorem mm_rdi (G : mm_G C own cc ret nL rm) {pc : Nat} (hd : decode cc pc = .ok (.iaload, 1)) {lv : mm_L} {rest : List Value} {M : mm_M} {N : mm_N} {i : Int32} {x : Nat} (e2 : (M.1 x).1 = 2) (hin : vp_in i (M.1 x).2) (h1 : mm_W C (pc + 1) lv (.int (M.2.1 x i.toNatClampNeg) :: rest) M N) : mm_W C pc lv (.int i :: .ref x :: rest) M N := by
  intro ad H locs ls hS
  have hcell := hS.2.1.cell (h := x) (by rw [e2]; decide) (by rw [e2]; decide)
  rw [e2] at hcell
  have hcell := mm_at_arr (by decide) hcell
  have hlt : i.toNatClampNeg < (M.1 x).2 := Nat.not_le.mp fun q => hin (Or.inr q)
  exact W.iald (v := .int (M.2.1 x i.toNatClampNeg)) G.hx G.hb hcell (mm_isarr G 0 rfl _ _) (fun q => by cases q) (by rw [arrV_size]; exact hin) (by rw [arrV_read _ _ hlt]; rfl) rfl rfl hd (h1 ad H locs ls (hS.st fun k => k.pop.pop.push (mm_vk_i _)))
theorem mm_rdl (G : mm_G C own cc ret nL rm) {pc : Nat} (hd : decode cc pc = .ok (.laload, 1)) {lv : mm_L} {rest : List Value} {M : mm_M} {N : mm_N} {i : Int32} {x : Nat} (e2 : (M.1 x).1 = 3) (hin : vp_in i (M.1 x).2) (h1 : mm_W C (pc + 1) lv (.long (M.2.2.1 x i.toNatClampNeg) :: rest) M N) : mm_W C pc lv (.int i :: .ref x :: rest) M N := by
  intro ad H locs ls hS
  have hcell := hS.2.1.cell (h := x) (by rw [e2]; decide) (by rw [e2]; decide)
  rw [e2] at hcell
  have hcell := mm_at_arr (by decide) hcell
  have hlt : i.toNatClampNeg < (M.1 x).2 := Nat.not_le.mp fun q => hin (Or.inr q)
  exact W.lald (v := .long (M.2.2.1 x i.toNatClampNeg)) G.hx G.hb hcell (mm_isarr G 1 rfl _ _) (fun q => by cases q) (by rw [arrV_size]; exact hin) (by rw [arrV_read _ _ hlt]; rfl) rfl rfl hd (h1 ad H locs ls (hS.st fun k => k.pop.pop.push (mm_vk_l _)))
theorem mm_wri (G : mm_G C own cc ret nL rm) {pc : Nat} (hd : decode cc pc = .ok (.iastore, 1)) {lv : mm_L} {rest : List Value} {M : mm_M} {N : mm_N} {i v : Int32} {x : Nat} (e2 : (M.1 x).1 = 2) (hin : vp_in i (M.1 x).2) (h1 : mm_W C (pc + 1) lv rest (mm_wI M x i.toNatClampNeg v) N) : mm_W C pc lv (.int v :: .int i :: .ref x :: rest) M N := by
  intro ad H locs ls hS
  have hcell := hS.2.1.cell (h := x) (by rw [e2]; decide) (by rw [e2]; decide)
  rw [e2] at hcell
  have hcell := mm_at_arr (by decide) hcell
  have hAx : c_A C (ad x) := (hS.2.1.1 x _ _ rfl (by rw [e2]; decide)).1 (by rw [e2]; decide)
  refine W.iast G.hx G.hb hcell (mm_isarr G 0 rfl _ _) (fun q => by cases q) (by rw [arrV_size]; exact hin) rfl rfl hd (fun H1 e z oq => ?_)
  refine h1 ad H1 _ ls (hS.mem rfl (hS.2.1.write (h := x) (by rw [e2]; decide) (by rw [e2]; decide) rfl (fun a ha => mm_up_n _ _ _ ha) (fun _ _ => rfl) (fun _ _ => rfl) ?_ z oq (fun k b hb => hS.2.1.2.2 x k b (by rw [e2]; decide) (by rw [e2, mm_me_lo (by decide)]; exact hb))) (hS.2.2.1.put z oq hAx) hS.2.2.2.2.2.1.pop.pop.pop)
  rw [e2]
  refine mm_at_mk (by decide) ?_
  rw [e, arrV_store, mm_ea_wI (Or.inl rfl)]
theorem mm_wrl (G : mm_G C own cc ret nL rm) {pc : Nat} (hd : decode cc pc = .ok (.lastore, 1)) {lv : mm_L} {rest : List Value} {M : mm_M} {N : mm_N} {i : Int32} {v : Int64} {x : Nat} (e2 : (M.1 x).1 = 3) (hin : vp_in i (M.1 x).2) (h1 : mm_W C (pc + 1) lv rest (mm_wJ M x i.toNatClampNeg v) N) : mm_W C pc lv (.long v :: .int i :: .ref x :: rest) M N := by
  intro ad H locs ls hS
  have hcell := hS.2.1.cell (h := x) (by rw [e2]; decide) (by rw [e2]; decide)
  rw [e2] at hcell
  have hcell := mm_at_arr (by decide) hcell
  have hAx : c_A C (ad x) := (hS.2.1.1 x _ _ rfl (by rw [e2]; decide)).1 (by rw [e2]; decide)
  refine W.last G.hx G.hb hcell (mm_isarr G 1 rfl _ _) (fun q => by cases q) (by rw [arrV_size]; exact hin) rfl rfl hd (fun H1 e z oq => ?_)
  refine h1 ad H1 _ ls (hS.mem rfl (hS.2.1.write (h := x) (by rw [e2]; decide) (by rw [e2]; decide) rfl (fun _ _ => rfl) (fun a ha => mm_up_n _ _ _ ha) (fun _ _ => rfl) ?_ z oq (fun k b hb => hS.2.1.2.2 x k b (by rw [e2]; decide) (by rw [e2, mm_me_lo (by decide)]; exact hb))) (hS.2.2.1.put z oq hAx) hS.2.2.2.2.2.1.pop.pop.pop)
  rw [e2]
  refine mm_at_mk (by decide) ?_
  rw [e, arrV_store, mm_ea_wJ]
theorem ok_iald (G : mm_G C own cc ret nL rm) {pc nx : Nat} (hd : decode cc pc = .ok (.iaload, 1)) (hn : pc + 1 = nx) : mm_OK C pc (o_iald nx) := by
  subst hn
  intro lv st M N K hK h
  unfold o_iald at h
  split at h
  · next i x rest =>
    obtain ⟨e2, hin, h⟩ := mm_bif h (fun q => q)
    exact mm_rdi G hd (mm_beq e2) hin (hK _ _ _ _ _ h)
  · exact h.elim
theorem ok_ialc (G : mm_G C own cc ret nL rm) {pc nx c : Nat} (hd : decode cc pc = .ok (.iaload, 1)) (hn : pc + 1 = nx) (hc : c < 2 ^ 31) : mm_OK C pc (o_ialc nx c) := by
  subst hn
  intro lv st M N K hK h
  unfold o_ialc at h
  split at h
  · next i x rest =>
    obtain ⟨e2, e3, h⟩ := mm_and2 h (fun q => q)
    rw [Bool.and_eq_true] at e3
    have e4 := mm_beq e3.1
    refine mm_rdi G hd (mm_beq e2) (mm_cin e4 hc (Nat.le_of_ble_eq_true e3.2)) ?_
    rw [(mm_cidx e4 hc).2]
    exact hK _ _ _ _ _ h
  · exact h.elim
theorem ok_iast (G : mm_G C own cc ret nL rm) {pc nx : Nat} (hd : decode cc pc = .ok (.iastore, 1)) (hn : pc + 1 = nx) : mm_OK C pc (o_iast nx) := by
  subst hn
  intro lv st M N K hK h
  unfold o_iast at h
  split at h
  · next v i x rest =>
    obtain ⟨e2, hin, h⟩ := mm_bif h (fun q => q)
    exact mm_wri G hd (mm_beq e2) hin (hK _ _ _ _ _ h)
  · exact h.elim
theorem ok_iasc (G : mm_G C own cc ret nL rm) {pc nx c : Nat} (hd : decode cc pc = .ok (.iastore, 1)) (hn : pc + 1 = nx) (hc : c < 2 ^ 31) : mm_OK C pc (o_iasc nx c) := by
  subst hn
  intro lv st M N K hK h
  unfold o_iasc at h
  split at h
  · next v i x rest =>
    obtain ⟨e2, e3, h⟩ := mm_and2 h (fun q => q)
    rw [Bool.and_eq_true] at e3
    have e4 := mm_beq e3.1
    refine mm_wri G hd (mm_beq e2) (mm_cin e4 hc (Nat.le_of_ble_eq_true e3.2)) ?_
    rw [(mm_cidx e4 hc).2]
    exact hK _ _ _ _ _ h
  · exact h.elim
theorem ok_lald (G : mm_G C own cc ret nL rm) {pc nx : Nat} (hd : decode cc pc = .ok (.laload, 1)) (hn : pc + 1 = nx) : mm_OK C pc (o_lald nx) := by
  subst hn
  intro lv st M N K hK h
  unfold o_lald at h
  split at h
  · next i x rest =>
    obtain ⟨e2, hin, h⟩ := mm_bif h (fun q => q)
    exact mm_rdl G hd (mm_beq e2) hin (hK _ _ _ _ _ h)
  · exact h.elim
theorem ok_lalc (G : mm_G C own cc ret nL rm) {pc nx c : Nat} (hd : decode cc pc = .ok (.laload, 1)) (hn : pc + 1 = nx) (hc : c < 2 ^ 31) : mm_OK C pc (o_lalc nx c) := by
  subst hn
  intro lv st M N K hK h
  unfold o_lalc at h
  split at h
  · next i x rest =>
    obtain ⟨e2, e3, h⟩ := mm_and2 h (fun q => q)
    rw [Bool.and_eq_true] at e3
    have e4 := mm_beq e3.1
    refine mm_rdl G hd (mm_beq e2) (mm_cin e4 hc (Nat.le_of_ble_eq_true e3.2)) ?_
    rw [(mm_cidx e4 hc).2]
    exact hK _ _ _ _ _ h
  · exact h.elim
theorem ok_last (G : mm_G C own cc ret nL rm) {pc nx : Nat} (hd : decode cc pc = .ok (.lastore, 1)) (hn : pc + 1 = nx) : mm_OK C pc (o_last nx) := by
  subst hn
  intro lv st M N K hK h
  unfold o_last at h
  split at h
  · next v i x rest =>
    obtain ⟨e2, hin, h⟩ := mm_bif h (fun q => q)
    exact mm_wrl G hd (mm_beq e2) hin (hK _ _ _ _ _ h)
  · exact h.elim
theorem ok_lasc (G : mm_G C own cc ret nL rm) {pc nx c : Nat} (hd : decode cc pc = .ok (.lastore, 1)) (hn : pc + 1 = nx) (hc : c < 2 ^ 31) : mm_OK C pc (o_lasc nx c) := by
  subst hn
  intro lv st M N K hK h
  unfold o_lasc at h
  split at h
  · next v i x rest =>
    obtain ⟨e2, e3, h⟩ := mm_and2 h (fun q => q)
    rw [Bool.and_eq_true] at e3
    have e4 := mm_beq e3.1
    refine mm_wrl G hd (mm_beq e2) (mm_cin e4 hc (Nat.le_of_ble_eq_true e3.2)) ?_
    rw [(mm_cidx e4 hc).2]
    exact hK _ _ _ _ _ h
  · exact h.elim
/-! returns -/
theorem mm_retq {C : mm_C} {lv : mm_L} {st : List Value} {M : mm_M} {N : mm_N} {ad : Nat → Nat} {H : Heap} {locs : List Loc} {ls : Array Slot} {v : Option Value} {t : State} (hS : mm_S C lv st M N ad H locs ls) (hv : ∀ w, v = some w → mm_vk M w) (hp : c_Q C v M) (ht : t.heap = H) : mm_PQ (c_D C) (c_aC C) (c_ad C) (c_M C) (c_A C) (c_Q C) (c_a C) (c_s C) (.returned (v.map (mm_v ad))) t :=
  ⟨⟨v, M, ad, rfl, hp, hS.1, by rw [ht]; exact hS.2.1, hv⟩, hS.2.2.1.F ht⟩
theorem ok_iret (G : mm_G C own cc (some .int) nL rm) {pc : Nat} (hd : decode cc pc = .ok (.ireturn, 1)) : mm_OK C pc o_iret := by
  intro lv st M N K hK h ad H locs ls hS
  unfold o_iret at h
  split at h
  · next x =>
    obtain ⟨h1, h2, h3⟩ := hK _ _ _ _ _ h
    refine W.widen h2 h3 (vx_ret ?_)
    exact W.iret (v := x) G.hx G.hb G.hr (fun t ht _ => mm_retq (v := some (.int x)) hS (fun w e => by cases e; exact mm_vk_i _) h1 ht) hS.2.2.1.2.2 hd G.hlk
  · exact h.elim
theorem ok_zret (G : mm_G C own cc (some .boolean) nL rm) {pc : Nat} (hd : decode cc pc = .ok (.ireturn, 1)) : mm_OK C pc o_zret := by
  intro lv st M N K hK h ad H locs ls hS
  unfold o_zret at h
  split at h
  · next x =>
    obtain ⟨h0, h⟩ := h
    obtain ⟨h1, h2, h3⟩ := hK _ _ _ _ _ h
    refine W.widen h2 h3 (vx_ret ?_)
    exact W.zret (v := x) G.hx G.hb G.hr (mm_bool h0).1 (fun t ht _ => mm_retq (v := some (.int x)) hS (fun w e => by cases e; exact mm_vk_i _) h1 ht) hS.2.2.1.2.2 hd G.hlk
  · exact h.elim
theorem ok_lret (G : mm_G C own cc (some .long) nL rm) {pc : Nat} (hd : decode cc pc = .ok (.lreturn, 1)) : mm_OK C pc o_lret := by
  intro lv st M N K hK h ad H locs ls hS
  unfold o_lret at h
  split at h
  · next x =>
    obtain ⟨h1, h2, h3⟩ := hK _ _ _ _ _ h
    refine W.widen h2 h3 (vx_ret ?_)
    exact W.lret (v := x) G.hx G.hb G.hr (fun t ht _ => mm_retq (v := some (.long x)) hS (fun w e => by cases e; exact mm_vk_l _) h1 ht) hS.2.2.1.2.2 hd G.hlk
  · exact h.elim
theorem ok_vret (G : mm_G C own cc none nL rm) {pc : Nat} (hd : decode cc pc = .ok (.return_, 1)) : mm_OK C pc o_vret := by
  intro lv st M N K hK h ad H locs ls hS
  unfold o_vret at h
  split at h
  · obtain ⟨h1, h2, h3⟩ := hK _ _ _ _ _ h
    refine W.widen h2 h3 (vx_ret ?_)
    exact W.vret G.hx G.hb G.hr (fun t ht _ => mm_retq (v := none) hS (fun w e => by cases e) h1 ht) hS.2.2.1.2.2 hd G.hlk
  · exact h.elim
theorem ok_aret {rt : FieldType} (G : mm_G C own cc (some rt) nL rm) (hrt : (∃ n, rt = .object n) ∨ ∃ t, rt = .array t) {pc : Nat} (hd : decode cc pc = .ok (.areturn, 1)) : mm_OK C pc o_aret := by
  intro lv st M N K hK h ad H locs ls hS
  unfold o_aret at h
  split at h
  · next x =>
    obtain ⟨h1, h2, h3⟩ := hK _ _ _ _ _ h
    refine W.widen h2 h3 (vx_ret ?_)
    exact W.aret (v := .ref (ad x)) G.hx G.hb G.hr hrt (Or.inr ⟨_, rfl⟩) (fun t ht _ => mm_retq (v := some (.ref x)) hS (fun w e => by cases e; exact hS.2.2.2.2.2.1.top) h1 ht) hS.2.2.1.2.2 hd G.hlk
  · obtain ⟨h1, h2, h3⟩ := hK _ _ _ _ _ h
    refine W.widen h2 h3 (vx_ret ?_)
    exact W.aret (v := .null) G.hx G.hb G.hr hrt (Or.inl rfl) (fun t ht _ => mm_retq (v := some .null) hS (fun w e => by cases e; exact mm_vk_n) h1 ht) hS.2.2.1.2.2 hd G.hlk
  · exact h.elim
end MMA
