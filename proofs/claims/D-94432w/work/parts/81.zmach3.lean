/-! ===== inherited calls: on objects of the listed classes, on Facts ===== -/
theorem lw_U {own : String} {idx : Nat} {C owner : String} {x y : MethodName} {b : ByteArray} {L : Nat} {r : Option FieldType} (h1 : Cond.methodLink own idx x ∈ lw_all) (h0 : Cond.sameMethod x.cls owner x.name x.desc ∈ lw_all) (h3 : Cond.selects C x y ∈ lw_all) (h2 : Cond.instanceMethod y ∈ lw_all) (h4 : Cond.initialized y.cls ∈ lw_all) (h5 : Cond.code y b L r ∈ lw_all) : GoodIn lw_all (va_wsU own idx C owner x y (ws_ y b L r)) := by
  refine lw_app ?_ (lw_meth h5)
  intro w hw
  simp only [List.mem_cons, List.not_mem_nil, or_false] at hw
  rcases hw with e | e | e | e | e
  · rw [e]; exact h1
  · rw [e]; exact h0
  · rw [e]; exact h3
  · rw [e]; exact h2
  · rw [e]; exact h4
def mm_isF (as : List Value) : Bool := match as with
  | .ref h :: _ => Nat.ble 1200 h && Nat.ble h 1204
  | _ => false
theorem mm_isF_ok {as : List Value} (h : mm_isF as = true) : ∃ x r, as = .ref x :: r ∧ (Nat.ble 1200 x && Nat.ble x 1204) = true := by
  unfold mm_isF at h
  split at h
  · next x r => exact ⟨x, r, rfl, h⟩
  · cases h
def o_calfc (rm : Room) (nx c s : Nat) (sp : mm_Sp) : mm_O := fun lv st M N K => mm_pop 1 st [] (fun as r => bif mm_isF as && Nat.ble (mm_dep r) 8 then (N.1 + c ≤ rm.cells ∧ N.2 + s ≤ rm.slots) ∧ sp as M (fun v M' => K (nx + 2) lv (v.toList ++ r) M' (N.1 + c, N.2 + s)) (mm_thr K (N.1 + c, N.2 + s)) else False)
section MMU
variable {C : mm_C} {own : String} {cc : ByteArray} {ret : Option FieldType} {nL : Nat} {rm : Room}
theorem mm_recF {lv : mm_L} {st : List Value} {M : mm_M} {N : mm_N} {ad : Nat → Nat} {H : Heap} {locs : List Loc} {ls : Array Slot} {x : Nat} (G : mm_G C own cc ret nL rm) (hS : mm_S C lv st M N ad H locs ls) (e : (Nat.ble 1200 x && Nat.ble x 1204) = true) : ∃ cellB : Cell, H[ad x]? = some cellB ∧ cellB.vm.isStatics = false ∧ (c_s C).vm.findClass "ChaseCourt$Fact" = some cellB.cls := by
  obtain ⟨j, hj, e1, k1, k2, k3, -⟩ := mm_fct e
  obtain ⟨-, v3⟩ := mm_cvk G hS k2 k3 k1
  obtain ⟨cell, q1, q2, q3, -⟩ := (G.hX.2.1 j hj).1.kept hS.2.2.1.2.1
  exact ⟨cell, by rw [v3, e1]; exact q1, q2, q3⟩
theorem ok_caluF (G : mm_G C own cc ret nL rm) {pc : Nat} (hnq : mm_nq C pc) {nx n idx ci : Nat} {x y : MethodName} {owner : String} {bytes : ByteArray} {maxL : Nat} {ret' : Option FieldType} {lvl c s : Nat} {sp : mm_Sp} (hsp : mm_Spec (c_l C) y (ws_ y bytes maxL ret') (mm_rm lvl c s) sp) (r : vw_C) (hc : mm_cl[ci]? = some r)
    (w1 : Cond.methodLink own idx x ∈ lw_all) (w0 : Cond.sameMethod x.cls owner x.name x.desc ∈ lw_all) (w2 : Cond.instanceMethod y ∈ lw_all) (w3 : Cond.selects r.1 x y ∈ lw_all) (w4 : Cond.initialized y.cls ∈ lw_all) (w5 : Cond.code y bytes maxL ret' ∈ lw_all)
    (hyx : y = ⟨owner, x.name, x.desc⟩) (hd : owner ≠ "java/lang/invoke/MethodHandle" ∧ owner ≠ "java/lang/invoke/VarHandle" ∧ (parseMethodDescriptor x.desc).map (fun d => d.parameters.length) = some n) (hR : lvl + 1 ≤ rm.frames ∧ 8 + (maxL + 11) + 48 * lvl ≤ rm.locals) (hdg : decode cc pc = .ok (.invokevirtual idx, 3)) (hn : pc + 3 = nx) : mm_OK C pc (o_calvF rm nx (n + 1) ci c s sp) := by
  subst hn
  intro lv st M N K hK h ad H locs ls hS
  obtain ⟨as, rest, e1, e2, h9⟩ := mm_pop_eq _ _ _ _ h
  clear h
  rw [List.append_nil] at h9
  obtain ⟨b1, b2, h9⟩ := mm_and2 h9 (fun q => q)
  obtain ⟨x0, as', e3, e4, e5⟩ := mm_rcv_ok b1
  subst e3
  have hlen : as'.length = n := by simpa using e2
  obtain ⟨⟨hc1, hc2⟩, h9⟩ := h9
  subst e1
  have hav : ∀ v ∈ (Value.ref x0 :: as'), mm_vk M v := fun v hv => hS.2.2.2.2.2.1.1 v (List.mem_append_left _ (List.mem_reverse.mpr hv))
  have hrv : ∀ v ∈ rest, mm_vk M v := fun v hv => hS.2.2.2.2.2.1.1 v (List.mem_append_right _ hv)
  have hM := hsp _ _ _ _ h9 (c_D C) (c_aC C) ad H.size
  have hN : N.1 + c ≤ (c_R C).cells ∧ N.2 + s ≤ (c_R C).slots := by rw [G.hR]; exact ⟨hc1, hc2⟩
  have hst : ((Value.ref x0 :: as').reverse ++ rest).map (mm_v ad) = (as'.map (mm_v ad)).reverse ++ .ref (ad x0) :: rest.map (mm_v ad) := by
    simp [mm_v]
  rw [hst]
  refine mm_callR G hS hrv (vx_runU (C := r.1) (As := as'.map (mm_v ad)) (rest := rest.map (mm_v ad)) ⟨G.hx, G.hb, G.hm, G.ho, G.ht⟩ hM (va_cwU n G.ht (lw_U w1 w0 w3 w2 w4 w5) rfl rfl rfl hyx hd (by rw [G.hR]; exact hR)) ⟨mm_blind, mm_recv G hS hc e4 e5, fun U hU hW => mm_start G hS hav hU hW⟩ rfl (by rw [List.length_map]; exact hlen) (by rw [← G.hm]; exact hS.2.2.2.2.1) rfl (mm_room _ _ _ ad (Nat.le_of_ble_eq_true b2)) hdg hN) hN (fun v M' hp => hK _ _ _ _ _ hp) (fun E M' ad' H' locs' ce q hp hS' hce hcv hcl => ?_)
  obtain ⟨k1, k2, k3⟩ := mm_thr_ok hK hp
  exact mm_out (N := (N.1 + c, N.2 + s)) G hnq hS' k1 k2 k3 hce hcv hcl
theorem ok_calfc (G : mm_G C own cc ret nL rm) {pc : Nat} (hnq : mm_nq C pc) {nx idx : Nat} {x y : MethodName} {owner : String} {bytes : ByteArray} {maxL : Nat} {ret' : Option FieldType} {lvl c s : Nat} {sp : mm_Sp} (hsp : mm_Spec (c_l C) y (ws_ y bytes maxL ret') (mm_rm lvl c s) sp)
    (w1 : Cond.methodLink own idx x ∈ lw_all) (w0 : Cond.sameMethod x.cls owner x.name x.desc ∈ lw_all) (w2 : Cond.instanceMethod y ∈ lw_all) (w3 : Cond.selects "ChaseCourt$Fact" x y ∈ lw_all) (w4 : Cond.initialized y.cls ∈ lw_all) (w5 : Cond.code y bytes maxL ret' ∈ lw_all)
    (hyx : y = ⟨owner, x.name, x.desc⟩) (hd : owner ≠ "java/lang/invoke/MethodHandle" ∧ owner ≠ "java/lang/invoke/VarHandle" ∧ (parseMethodDescriptor x.desc).map (fun d => d.parameters.length) = some 0) (hR : lvl + 1 ≤ rm.frames ∧ 8 + (maxL + 11) + 48 * lvl ≤ rm.locals) (hdg : decode cc pc = .ok (.invokevirtual idx, 3)) (hn : pc + 3 = nx) : mm_OK C pc (o_calfc rm nx c s sp) := by
  subst hn
  intro lv st M N K hK h ad H locs ls hS
  obtain ⟨as, rest, e1, e2, h9⟩ := mm_pop_eq _ _ _ _ h
  clear h
  rw [List.append_nil] at h9
  obtain ⟨b1, b2, h9⟩ := mm_and2 h9 (fun q => q)
  obtain ⟨x0, as', e3, e4⟩ := mm_isF_ok b1
  subst e3
  have hlen : as'.length = 0 := by simpa using e2
  obtain ⟨⟨hc1, hc2⟩, h9⟩ := h9
  subst e1
  have hav : ∀ v ∈ (Value.ref x0 :: as'), mm_vk M v := fun v hv => hS.2.2.2.2.2.1.1 v (List.mem_append_left _ (List.mem_reverse.mpr hv))
  have hrv : ∀ v ∈ rest, mm_vk M v := fun v hv => hS.2.2.2.2.2.1.1 v (List.mem_append_right _ hv)
  have hM := hsp _ _ _ _ h9 (c_D C) (c_aC C) ad H.size
  have hN : N.1 + c ≤ (c_R C).cells ∧ N.2 + s ≤ (c_R C).slots := by rw [G.hR]; exact ⟨hc1, hc2⟩
  have hst : ((Value.ref x0 :: as').reverse ++ rest).map (mm_v ad) = (as'.map (mm_v ad)).reverse ++ .ref (ad x0) :: rest.map (mm_v ad) := by
    simp [mm_v]
  rw [hst]
  refine mm_callR G hS hrv (vx_runU (C := "ChaseCourt$Fact") (As := as'.map (mm_v ad)) (rest := rest.map (mm_v ad)) ⟨G.hx, G.hb, G.hm, G.ho, G.ht⟩ hM (va_cwU 0 G.ht (lw_U w1 w0 w3 w2 w4 w5) rfl rfl rfl hyx hd (by rw [G.hR]; exact hR)) ⟨mm_blind, mm_recF G hS e4, fun U hU hW => mm_start G hS hav hU hW⟩ rfl (by rw [List.length_map]; exact hlen) (by rw [← G.hm]; exact hS.2.2.2.2.1) rfl (mm_room _ _ _ ad (Nat.le_of_ble_eq_true b2)) hdg hN) hN (fun v M' hp => hK _ _ _ _ _ hp) (fun E M' ad' H' locs' ce q hp hS' hce hcv hcl => ?_)
  obtain ⟨k1, k2, k3⟩ := mm_thr_ok hK hp
  exact mm_out (N := (N.1 + c, N.2 + s)) G hnq hS' k1 k2 k3 hce hcv hcl
end MMU
def zo_cfc (rm : Room) (nx c s : Nat) (sp : zz_Sp) : zz_O := fun lv st M N K => zz_pop 1 st [] (fun as r => match as with
  | .inr (.inr (some h)) :: _ => bif Nat.ble (zz_dep r) 8 then (1200 ≤ h ∧ h ≤ 1204) ∧ (bif Nat.ble (N.1 + c) rm.cells && Nat.ble (N.2 + s) rm.slots then sp as M (fun v M' => K (nx + 2) lv (v.toList ++ r) M' (N.1 + c, N.2 + s)) (zz_thr K (N.1 + c, N.2 + s)) else False) else False
  | _ => False)
theorem z_cfc (rm : Room) (nx c s : Nat) (sp : zz_Sp) : zz_ok (zo_cfc rm nx c s sp) (o_calfc rm nx c s (zE sp)) := by
  intro lv st M N K K' hK h
  refine zz_pop_e 1 st [] _ _ (fun as r h => ?_) h
  split at h
  · next x q =>
    obtain ⟨e2, ⟨g1, g2⟩, h⟩ := mm_bif h (fun q => q)
    obtain ⟨f1, f2, h⟩ := mm_and2 h (fun q => q)
    have h1 := And.intro (Nat.le_of_ble_eq_true f1) (Nat.le_of_ble_eq_true f2)
    show (bif (Nat.ble 1200 x && Nat.ble x 1204) && Nat.ble (mm_dep (r.map ev)) 8 then _ else False)
    rw [Nat.ble_eq_true_of_le g1, Nat.ble_eq_true_of_le g2, zz_dep_e, e2]
    exact ⟨h1, zE_call hK h⟩
  · exact h.elim
