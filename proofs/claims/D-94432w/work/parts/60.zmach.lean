/-! ===== calls of fixed cost, fit decided by the kernel; nest calls without cost; throws ===== -/
def zo_cvL (rm : Room) (nx n ci c s : Nat) (sp : zz_Sp) : zz_O := fun lv st M N K => zz_pop n st [] (fun as r => bif zz_rcv ci as M && Nat.ble (zz_dep r) 8 then (bif Nat.ble (N.1 + c) rm.cells && Nat.ble (N.2 + s) rm.slots then sp as M (fun v M' => K (nx + 2) lv (v.toList ++ r) M' (N.1 + c, N.2 + s)) (zz_thr K (N.1 + c, N.2 + s)) else False) else False)
theorem z_cvL (rm : Room) (nx n ci c s : Nat) (sp : zz_Sp) : zz_ok (zo_cvL rm nx n ci c s sp) (o_calvF rm nx n ci c s (zE sp)) := by
  intro lv st M N K K' hK h
  refine zz_pop_e n st [] _ _ (fun as r h => ?_) h
  obtain ⟨e1, e2, h⟩ := mm_and2 h (fun q => q)
  obtain ⟨f1, f2, h⟩ := mm_and2 h (fun q => q)
  have h1 := And.intro (Nat.le_of_ble_eq_true f1) (Nat.le_of_ble_eq_true f2)
  show (bif mm_rcv ci (as.map ev) (eM M) && Nat.ble (mm_dep (r.map ev)) 8 then _ else False)
  rw [zz_rcv_e e1, zz_dep_e, e2]
  exact ⟨h1, zE_call hK h⟩
def zo_cvLH (rm : Room) (nx n ci c s : Nat) (hs : mm_H) (sp : zz_Sp) : zz_O := fun lv st M N K => zz_pop n st [] (fun as r => bif zz_rcv ci as M && Nat.ble (zz_dep r) 8 then (bif Nat.ble (N.1 + c) rm.cells && Nat.ble (N.2 + s) rm.slots then sp as M (fun v M' => K (nx + 2) lv (v.toList ++ r) M' (N.1 + c, N.2 + s)) (zz_thrH hs K lv (N.1 + c, N.2 + s)) else False) else False)
theorem z_cvLH (rm : Room) (nx n ci c s : Nat) (hs : mm_H) (sp : zz_Sp) : zz_ok (zo_cvLH rm nx n ci c s hs sp) (o_calvFH rm nx n ci c s hs (zE sp)) := by
  intro lv st M N K K' hK h
  refine zz_pop_e n st [] _ _ (fun as r h => ?_) h
  obtain ⟨e1, e2, h⟩ := mm_and2 h (fun q => q)
  obtain ⟨f1, f2, h⟩ := mm_and2 h (fun q => q)
  have h1 := And.intro (Nat.le_of_ble_eq_true f1) (Nat.le_of_ble_eq_true f2)
  show (bif mm_rcv ci (as.map ev) (eM M) && Nat.ble (mm_dep (r.map ev)) 8 then _ else False)
  rw [zz_rcv_e e1, zz_dep_e, e2]
  exact ⟨h1, zE_callH hK h⟩
def zo_csL (rm : Room) (nx n c s : Nat) (sp : zz_Sp) : zz_O := fun lv st M N K => zz_pop n st [] (fun as r => bif Nat.ble (zz_dep r) 8 then (bif Nat.ble (N.1 + c) rm.cells && Nat.ble (N.2 + s) rm.slots then sp as M (fun v M' => K (nx + 2) lv (v.toList ++ r) M' (N.1 + c, N.2 + s)) (zz_thr K (N.1 + c, N.2 + s)) else False) else False)
theorem z_csL (rm : Room) (nx n c s : Nat) (sp : zz_Sp) : zz_ok (zo_csL rm nx n c s sp) (o_calsF rm nx n c s (zE sp)) := by
  intro lv st M N K K' hK h
  refine zz_pop_e n st [] _ _ (fun as r h => ?_) h
  obtain ⟨e2, h⟩ := mm_bif h (fun q => q)
  obtain ⟨f1, f2, h⟩ := mm_and2 h (fun q => q)
  have h1 := And.intro (Nat.le_of_ble_eq_true f1) (Nat.le_of_ble_eq_true f2)
  show (bif Nat.ble (mm_dep (r.map ev)) 8 then _ else False)
  rw [zz_dep_e, e2]
  exact ⟨h1, zE_call hK h⟩
def zo_ciL (rm : Room) (nx n c s : Nat) (sp : zz_Sp) : zz_O := fun lv st M N K => zz_pop n st [] (fun as r => bif zz_rci as && Nat.ble (zz_dep r) 8 then (bif Nat.ble (N.1 + c) rm.cells && Nat.ble (N.2 + s) rm.slots then sp as M (fun v M' => K (nx + 2) lv (v.toList ++ r) M' (N.1 + c, N.2 + s)) (zz_thr K (N.1 + c, N.2 + s)) else False) else False)
theorem z_ciL (rm : Room) (nx n c s : Nat) (sp : zz_Sp) : zz_ok (zo_ciL rm nx n c s sp) (o_caliF rm nx n c s (zE sp)) := by
  intro lv st M N K K' hK h
  refine zz_pop_e n st [] _ _ (fun as r h => ?_) h
  obtain ⟨e1, e2, h⟩ := mm_and2 h (fun q => q)
  obtain ⟨f1, f2, h⟩ := mm_and2 h (fun q => q)
  have h1 := And.intro (Nat.le_of_ble_eq_true f1) (Nat.le_of_ble_eq_true f2)
  show (bif mm_rci (as.map ev) && Nat.ble (mm_dep (r.map ev)) 8 then _ else False)
  rw [zz_rci_e e1, zz_dep_e, e2]
  exact ⟨h1, zE_call hK h⟩
def zo_cvLp (rm : Room) (nx n ci c s : Nat) (sp : zz_Sp) : zz_O := fun lv st M N K => zz_pop n st [] (fun as r => bif Nat.ble (zz_dep r) 8 then zz_rcvp ci as M ∧ (bif Nat.ble (N.1 + c) rm.cells && Nat.ble (N.2 + s) rm.slots then sp as M (fun v M' => K (nx + 2) lv (v.toList ++ r) M' (N.1 + c, N.2 + s)) (zz_thr K (N.1 + c, N.2 + s)) else False) else False)
theorem z_cvLp (rm : Room) (nx n ci c s : Nat) (sp : zz_Sp) : zz_ok (zo_cvLp rm nx n ci c s sp) (o_calvF rm nx n ci c s (zE sp)) := by
  intro lv st M N K K' hK h
  refine zz_pop_e n st [] _ _ (fun as r h => ?_) h
  obtain ⟨e2, e1, h⟩ := mm_bif h (fun q => q)
  obtain ⟨f1, f2, h⟩ := mm_and2 h (fun q => q)
  have h1 := And.intro (Nat.le_of_ble_eq_true f1) (Nat.le_of_ble_eq_true f2)
  show (bif mm_rcv ci (as.map ev) (eM M) && Nat.ble (mm_dep (r.map ev)) 8 then _ else False)
  rw [zz_rcvp_e e1, zz_dep_e, e2]
  exact ⟨h1, zE_call hK h⟩
def zo_thr0L (rm : Room) (i : Nat) : zz_O := fun lv st M N K => bif Nat.ble (zz_dep st) 8 then (bif Nat.ble (N.1 + 1) rm.cells && Nat.ble (N.2 + 6) rm.slots then K 1 (List.replicate i none) [] M (N.1 + 1, N.2 + 6) else False) else False
theorem z_thr0L (rm : Room) (i : Nat) : zz_ok (zo_thr0L rm i) (o_thr0 rm i) := by
  intro lv st M N K K' hK h
  obtain ⟨e0, h⟩ := mm_bif h (fun q => q)
  obtain ⟨f1, f2, h⟩ := mm_and2 h (fun q => q)
  show (bif Nat.ble (mm_dep (st.map ev)) 8 then _ else False)
  rw [zz_dep_e, e0]
  refine ⟨And.intro (Nat.le_of_ble_eq_true f1) (Nat.le_of_ble_eq_true f2), ?_⟩
  have := hK _ _ _ _ _ h
  rw [eL_none] at this
  exact this
section MMN
variable {C : mm_C} {own : String} {cc : ByteArray} {ret : Option FieldType} {nL : Nat} {rm : Room}
theorem ok_callvN (G : mm_G C own cc ret nL rm) (hnh : mm_nh C) {host : String} {pc nx n idx ci : Nat} {y : MethodName} {bytes : ByteArray} {maxL : Nat} {ret' : Option FieldType} {rm' : Room} {sp : mm_Sp} (hsp : mm_Spec (c_l C) y (ws_ y bytes maxL ret') rm' sp) (hrc : rm'.cells = 0) (hrs : rm'.slots = 0) (r : vw_C) (hc : mm_cl[ci]? = some r)
    (w1 : Cond.methodLinkNest own idx y host ∈ lw_tbl) (w2 : Cond.instanceMethod y ∈ lw_all) (w3 : Cond.selects r.1 y y ∈ lw_all) (w4 : Cond.initialized r.1 ∈ lw_all) (w5 : Cond.code y bytes maxL ret' ∈ lw_all)
    (hd : y.cls = r.1 ∧ y.cls ≠ "java/lang/invoke/MethodHandle" ∧ y.cls ≠ "java/lang/invoke/VarHandle" ∧ (parseMethodDescriptor y.desc).map (fun d => d.parameters.length) = some n) (hR : rm'.frames + 1 ≤ rm.frames ∧ 8 + (maxL + 11) + rm'.locals ≤ rm.locals) (hdg : decode cc pc = .ok (.invokevirtual idx, 3)) (hn : pc + 3 = nx) : mm_OK C pc (o_callv nx (n + 1) ci sp) := by
  subst hn
  intro lv st M N K hK h ad H locs ls hS
  obtain ⟨as, rest, e1, e2, h9⟩ := mm_pop_eq _ _ _ _ h
  clear h
  rw [List.append_nil] at h9
  obtain ⟨b1, b2, h9⟩ := mm_and2 h9 (fun q => q)
  obtain ⟨x, as', e3, e4, e5⟩ := mm_rcv_ok b1
  subst e3
  have hlen : as'.length = n := by simpa using e2
  subst e1
  have hav : ∀ v ∈ (Value.ref x :: as'), mm_vk M v := fun v hv => hS.2.2.2.2.2.1.1 v (List.mem_append_left _ (List.mem_reverse.mpr hv))
  have hrv : ∀ v ∈ rest, mm_vk M v := fun v hv => hS.2.2.2.2.2.1.1 v (List.mem_append_right _ hv)
  have hM := hsp _ _ _ _ h9 (c_D C) (c_aC C) ad H.size
  rw [hrc, hrs] at hM
  have hst : ((Value.ref x :: as').reverse ++ rest).map (mm_v ad) = (as'.map (mm_v ad)).reverse ++ .ref (ad x) :: rest.map (mm_v ad) := by
    simp [mm_v]
  rw [hst]
  refine mm_callR G hS hrv (vx_runVN (As := as'.map (mm_v ad)) (rest := rest.map (mm_v ad)) ⟨G.hx, G.hb, G.hm, G.ho, G.ht⟩ hM ⟨(va_cnB n G.ht (lw_meth w5) rfl hrc hrs (G.hn _ w1 rfl) (by rw [hd.1]; exact G.ht _ w4) hd.2 (by rw [G.hR]; exact hR)), G.ht _ w2, G.ht _ w3⟩ ⟨mm_blind, mm_recv G hS hc e4 e5, fun U hU hW => mm_start G hS hav hU hW⟩ rfl (by rw [List.length_map]; exact hlen) (by rw [← G.hm]; exact hS.2.2.2.2.1) rfl (mm_room _ _ _ ad (Nat.le_of_ble_eq_true b2)) hdg ⟨hS.2.2.2.2.2.2.1, hS.2.2.2.2.2.2.2⟩) ⟨hS.2.2.2.2.2.2.1, hS.2.2.2.2.2.2.2⟩ (fun v M' hp => hK _ _ _ _ _ hp) (fun E M' ad' H' locs' ce q hp hS' hce hcv hcl => ?_)
  obtain ⟨k1, k2, k3⟩ := mm_thr_ok hK hp
  exact mm_out (N := N) G (fun z hz => (hnh z hz).elim) hS' k1 k2 k3 hce hcv hcl
theorem ok_callsN (G : mm_G C own cc ret nL rm) (hnh : mm_nh C) {host : String} {pc nx n idx : Nat} {y : MethodName} {bytes : ByteArray} {maxL : Nat} {ret' : Option FieldType} {rm' : Room} {sp : mm_Sp} (hsp : mm_Spec (c_l C) y (ws_ y bytes maxL ret') rm' sp) (hrc : rm'.cells = 0) (hrs : rm'.slots = 0)
    (w1 : Cond.methodLinkNest own idx y host ∈ lw_tbl) (w2 : Cond.static y ∈ lw_all) (w4 : Cond.initialized y.cls ∈ lw_all) (w5 : Cond.code y bytes maxL ret' ∈ lw_all)
    (hd : y.cls ≠ "java/lang/invoke/MethodHandle" ∧ y.cls ≠ "java/lang/invoke/VarHandle" ∧ (parseMethodDescriptor y.desc).map (fun d => d.parameters.length) = some n) (hR : rm'.frames + 1 ≤ rm.frames ∧ 8 + (maxL + 11) + rm'.locals ≤ rm.locals) (hdg : decode cc pc = .ok (.invokestatic idx, 3)) (hn : pc + 3 = nx) : mm_OK C pc (o_calls nx n sp) := by
  subst hn
  intro lv st M N K hK h ad H locs ls hS
  obtain ⟨as, rest, e1, e2, h9⟩ := mm_pop_eq _ _ _ _ h
  clear h
  rw [List.append_nil] at h9
  obtain ⟨b2, h9⟩ := mm_bif h9 (fun q => q)
  subst e1
  have hav : ∀ v ∈ as, mm_vk M v := fun v hv => hS.2.2.2.2.2.1.1 v (List.mem_append_left _ (List.mem_reverse.mpr hv))
  have hrv : ∀ v ∈ rest, mm_vk M v := fun v hv => hS.2.2.2.2.2.1.1 v (List.mem_append_right _ hv)
  have hM := hsp _ _ _ _ h9 (c_D C) (c_aC C) ad H.size
  rw [hrc, hrs] at hM
  have hst : (as.reverse ++ rest).map (mm_v ad) = (as.map (mm_v ad)).reverse ++ rest.map (mm_v ad) := by
    simp
  rw [hst]
  refine mm_callR G hS hrv (vx_runSN (As := as.map (mm_v ad)) (rest := rest.map (mm_v ad)) ⟨G.hx, G.hb, G.hm, G.ho, G.ht⟩ hM ⟨(va_cnB n G.ht (lw_meth w5) rfl hrc hrs (G.hn _ w1 rfl) (G.ht _ w4) hd (by rw [G.hR]; exact hR)), G.ht _ w2, trivial⟩ ⟨mm_blind, fun U hU hW => mm_start G hS hav hU hW⟩ rfl (by rw [List.length_map]; exact e2) (by rw [← G.hm]; exact hS.2.2.2.2.1) rfl (mm_room _ _ _ ad (Nat.le_of_ble_eq_true b2)) hdg ⟨hS.2.2.2.2.2.2.1, hS.2.2.2.2.2.2.2⟩) ⟨hS.2.2.2.2.2.2.1, hS.2.2.2.2.2.2.2⟩ (fun v M' hp => hK _ _ _ _ _ hp) (fun E M' ad' H' locs' ce q hp hS' hce hcv hcl => ?_)
  obtain ⟨k1, k2, k3⟩ := mm_thr_ok hK hp
  exact mm_out (N := N) G (fun z hz => (hnh z hz).elim) hS' k1 k2 k3 hce hcv hcl
end MMN
theorem th_X1_IllegalArgumentException {C : mm_C} {cc : ByteArray} {ret : Option FieldType} {nL lvl c s : Nat} (G : mm_G C RX1 cc ret nL (mm_rm lvl c s)) {pc : Nat} (hnq : mm_nq C (pc + 7)) (d0 : decode cc pc = .ok (.new 181, 3)) (d3 : decode cc (pc + 3) = .ok (.dup, 1)) (d4 : decode cc (pc + 4) = .ok (.invokespecial 183, 3)) (d7 : decode cc (pc + 7) = .ok (.athrow, 1)) (hl : Nat.ble 6 lvl = true := by rfl) : mm_OK C pc (o_thr0 (mm_rm lvl c s) 1) :=
  ok_thr0 G (cls := "java/lang/IllegalArgumentException") (names := ["java/lang/RuntimeException", "java/lang/Exception"]) rfl hnq (by decide +kernel) (by decide +kernel) (by decide +kernel) (by decide +kernel) (by decide +kernel) (by decide +kernel) ⟨Nat.lt_of_succ_le (Nat.le_of_ble_eq_true hl), by have := Nat.le_of_ble_eq_true hl; show _ ≤ 48 * lvl; simp; omega⟩ d0 d3 d4 d7
theorem th_X1_IllegalStateException {C : mm_C} {cc : ByteArray} {ret : Option FieldType} {nL lvl c s : Nat} (G : mm_G C RX1 cc ret nL (mm_rm lvl c s)) {pc : Nat} (hnq : mm_nq C (pc + 7)) (d0 : decode cc pc = .ok (.new 335, 3)) (d3 : decode cc (pc + 3) = .ok (.dup, 1)) (d4 : decode cc (pc + 4) = .ok (.invokespecial 337, 3)) (d7 : decode cc (pc + 7) = .ok (.athrow, 1)) (hl : Nat.ble 6 lvl = true := by rfl) : mm_OK C pc (o_thr0 (mm_rm lvl c s) 5) :=
  ok_thr0 G (cls := "java/lang/IllegalStateException") (names := ["java/lang/RuntimeException", "java/lang/Exception"]) rfl hnq (by decide +kernel) (by decide +kernel) (by decide +kernel) (by decide +kernel) (by decide +kernel) (by decide +kernel) ⟨Nat.lt_of_succ_le (Nat.le_of_ble_eq_true hl), by have := Nat.le_of_ble_eq_true hl; show _ ≤ 48 * lvl; simp; omega⟩ d0 d3 d4 d7
theorem th_X1_IndexOutOfBoundsException {C : mm_C} {cc : ByteArray} {ret : Option FieldType} {nL lvl c s : Nat} (G : mm_G C RX1 cc ret nL (mm_rm lvl c s)) {pc : Nat} (hnq : mm_nq C (pc + 7)) (d0 : decode cc pc = .ok (.new 321, 3)) (d3 : decode cc (pc + 3) = .ok (.dup, 1)) (d4 : decode cc (pc + 4) = .ok (.invokespecial 323, 3)) (d7 : decode cc (pc + 7) = .ok (.athrow, 1)) (hl : Nat.ble 6 lvl = true := by rfl) : mm_OK C pc (o_thr0 (mm_rm lvl c s) 3) :=
  ok_thr0 G (cls := "java/lang/IndexOutOfBoundsException") (names := ["java/lang/RuntimeException", "java/lang/Exception"]) rfl hnq (by decide +kernel) (by decide +kernel) (by decide +kernel) (by decide +kernel) (by decide +kernel) (by decide +kernel) ⟨Nat.lt_of_succ_le (Nat.le_of_ble_eq_true hl), by have := Nat.le_of_ble_eq_true hl; show _ ≤ 48 * lvl; simp; omega⟩ d0 d3 d4 d7
theorem th_X1_UnsupportedOperationException {C : mm_C} {cc : ByteArray} {ret : Option FieldType} {nL lvl c s : Nat} (G : mm_G C RX1 cc ret nL (mm_rm lvl c s)) {pc : Nat} (hnq : mm_nq C (pc + 7)) (d0 : decode cc pc = .ok (.new 202, 3)) (d3 : decode cc (pc + 3) = .ok (.dup, 1)) (d4 : decode cc (pc + 4) = .ok (.invokespecial 204, 3)) (d7 : decode cc (pc + 7) = .ok (.athrow, 1)) (hl : Nat.ble 6 lvl = true := by rfl) : mm_OK C pc (o_thr0 (mm_rm lvl c s) 2) :=
  ok_thr0 G (cls := "java/lang/UnsupportedOperationException") (names := ["java/lang/RuntimeException", "java/lang/Exception"]) rfl hnq (by decide +kernel) (by decide +kernel) (by decide +kernel) (by decide +kernel) (by decide +kernel) (by decide +kernel) ⟨Nat.lt_of_succ_le (Nat.le_of_ble_eq_true hl), by have := Nat.le_of_ble_eq_true hl; show _ ≤ 48 * lvl; simp; omega⟩ d0 d3 d4 d7
theorem th_X1_NoSuchElementException {C : mm_C} {cc : ByteArray} {ret : Option FieldType} {nL lvl c s : Nat} (G : mm_G C RX1 cc ret nL (mm_rm lvl c s)) {pc : Nat} (hnq : mm_nq C (pc + 7)) (d0 : decode cc pc = .ok (.new 328, 3)) (d3 : decode cc (pc + 3) = .ok (.dup, 1)) (d4 : decode cc (pc + 4) = .ok (.invokespecial 330, 3)) (d7 : decode cc (pc + 7) = .ok (.athrow, 1)) (hl : Nat.ble 6 lvl = true := by rfl) : mm_OK C pc (o_thr0 (mm_rm lvl c s) 4) :=
  ok_thr0 G (cls := "java/util/NoSuchElementException") (names := ["java/lang/RuntimeException", "java/lang/Exception"]) rfl hnq (by decide +kernel) (by decide +kernel) (by decide +kernel) (by decide +kernel) (by decide +kernel) (by decide +kernel) ⟨Nat.lt_of_succ_le (Nat.le_of_ble_eq_true hl), by have := Nat.le_of_ble_eq_true hl; show _ ≤ 48 * lvl; simp; omega⟩ d0 d3 d4 d7
def mm_obs : List Nat := [0, 1, 2, 3, 4, 5, 6, 7, 8, 9, 10, 11, 12, 13, 14, 15, 16, 17, 18, 19, 20]
theorem mm_obs_ok : ∀ ci ∈ mm_obs, ∀ r, mm_cl[ci]? = some r → Cond.castable r.1 "java/lang/Object" ∈ lw_tbl := by
  intro ci h r e
  simp only [mm_obs, List.mem_cons, List.not_mem_nil, or_false] at h
  rcases h with rfl | rfl | rfl | rfl | rfl | rfl | rfl | rfl | rfl | rfl | rfl | rfl | rfl | rfl | rfl | rfl | rfl | rfl | rfl | rfl | rfl
  · cases e; exact q2238
  · cases e; exact q2239
  · cases e; exact q2241
  · cases e; exact q2242
  · cases e; exact q2243
  · cases e; exact q2244
  · cases e; exact q2245
  · cases e; exact q2246
  · cases e; exact q2247
  · cases e; exact q2254
  · cases e; exact q2255
  · cases e; exact q2256
  · cases e; exact q2257
  · cases e; exact q2258
  · cases e; exact q2259
  · cases e; exact q2260
  · cases e; exact q2261
  · cases e; exact q2240
  · cases e; exact q2248
  · cases e; exact q2249
  · cases e; exact q2251
