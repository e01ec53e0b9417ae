/-! ===== calls of every kind, also of methods that make cells, that have handlers; calls under handlers ===== -/
set_option maxRecDepth 100000
/-- a contract for each cost (cells, slots) -/
abbrev mm_Sf : Type := Nat → Nat → mm_Sp
def mm_rci (as : List Value) : Bool := match as with
  | .ref _ :: _ => true
  | _ => false
theorem mm_rci_ok {as : List Value} (h : mm_rci as = true) : ∃ x r, as = .ref x :: r := by
  unfold mm_rci at h
  split at h
  · next x r => exact ⟨x, r, rfl⟩
  · cases h
/-- no handler is at the point pc -/
def mm_nq (C : mm_C) (pc : Nat) : Prop := ∀ x ∈ (c_c C).exceptionTable.toList, covers x pc = false
theorem mm_nh.q {C : mm_C} (h : mm_nh C) (pc : Nat) : mm_nq C pc := fun x hx => (h x hx).elim
/-- the handlers' table -/
def mm_hd (C : mm_C) (hh : List (Nat × Nat × Nat × Nat)) : Prop := (c_c C).exceptionTable.toList = tableOf hh
theorem mm_hd.q {C : mm_C} {hh : List (Nat × Nat × Nat × Nat)} (h : mm_hd C hh) {pc : Nat} (hq : (tableOf hh).all (fun x => !covers x pc) = true) : mm_nq C pc := by
  intro x hx
  rw [show (c_c C).exceptionTable.toList = tableOf hh from h] at hx
  have := List.all_eq_true.mp hq x hx
  rw [Bool.not_eq_true'] at this
  exact this
/-- the handler of the exception E at pc: behind its astore (to local i) the run goes on at nx -/
def mm_ct (own : String) (cc : ByteArray) (nL : Nat) (hh : List (Nat × Nat × Nat × Nat)) (pc : Nat) (E : String) (nx i : Nat) : Prop :=
  ∃ (pre : List ExceptionTableEntry) (x : ExceptionTableEntry) (suf : List ExceptionTableEntry), tableOf hh = pre ++ x :: suf ∧ (∀ z ∈ pre, covers z pc = false ∨ (z.catchType ≠ 0 ∧ ∃ b ∈ mm_ex, Cond.classLink own z.catchType b ∈ lw_all ∧ E ≠ b)) ∧ covers x pc = true ∧ x.catchType ≠ 0 ∧ Cond.classLink own x.catchType E ∈ lw_all ∧ Cond.castable E E ∈ lw_tbl ∧ E ∈ mm_ex ∧ ((∃ k : Fin 4, (k : Nat) = i ∧ decode cc x.handlerPc = .ok (.astore_n k, 1) ∧ nx = x.handlerPc + 1) ∨ (decode cc x.handlerPc = .ok (.astore i, 2) ∧ nx = x.handlerPc + 2)) ∧ i < nL
/-- handlers by the exceptions' numbers: where the run goes on, the local that is lost -/
abbrev mm_H : Type := List (Nat × Nat × Nat)
def mm_hf : mm_H → Nat → Option (Nat × Nat)
  | [], _ => none
  | q :: r, i => bif Nat.beq q.1 i then some q.2 else mm_hf r i
theorem mm_hf_mem {i : Nat} {z : Nat × Nat} : ∀ {hs : mm_H}, mm_hf hs i = some z → (i, z.1, z.2) ∈ hs
  | [], h => by cases h
  | q :: r, h => by
    unfold mm_hf at h
    cases hq : Nat.beq q.1 i with
    | true =>
      rw [hq] at h
      cases h
      have e : q.1 = i := Nat.eq_of_beq_eq_true hq
      rw [← e]
      exact List.mem_cons_self
    | false =>
      rw [hq] at h
      exact List.mem_cons_of_mem _ (mm_hf_mem h)
def mm_thrH (hs : mm_H) (K : mm_K) (lv : mm_L) (N : mm_N) (E : String) (M : mm_M) : Prop := ∃ i, mm_ex[i]? = some E ∧ (match mm_hf hs i with
  | some z => mm_setK lv z.2 .null (fun lv' => mm_clrK lv' z.2 (fun lv'' => K (z.1 + 2) lv'' [] M N))
  | none => False)
theorem mm_wsF {own : String} {idx : Nat} {C : String} {x y : MethodName} (h1 : Cond.methodLink own idx x ∈ lw_all) (h2 : Cond.selects C x y ∈ lw_all) (h3 : Cond.instanceMethod y ∈ lw_all) (h4 : Cond.initialized y.cls ∈ lw_all) : ∀ w ∈ ([.methodLink own idx x, .selects C x y, .instanceMethod y, .initialized y.cls] : List Cond), w ∈ lw_all := by
  intro w hw
  simp only [List.mem_cons, List.not_mem_nil, or_false] at hw
  rcases hw with e | e | e | e
  · rw [e]; exact h1
  · rw [e]; exact h2
  · rw [e]; exact h3
  · rw [e]; exact h4
theorem mm_lv.ofC {ad : Nat → Nat} {ls' : Array Slot} {lv : mm_L} {i : Nat} {w0 : Value} (h : lv_has ls' lv.length ((i, w0) :: (mm_as ad 0 lv).filter (fun q => !(q.1 == i) && !(q.1 + 1 == i && q.2.category == 2)))) : mm_lv ad ls' (mm_clr (mm_set lv i .null) i) := by
  refine ⟨h.2.1, by rw [mm_clr_len, mm_set_len]; exact h.1, fun j w hw => ?_⟩
  obtain ⟨h0, hw⟩ := mm_clr_at _ _ _ _ hw
  rcases mm_set_at lv i .null j w hw with ⟨e1, e2⟩ | ⟨e1, e2, e3⟩
  · exact absurd e1 h0
  · have hm : (j, mm_v ad w) ∈ mm_as ad 0 lv := by
      have := mm_as_in (ad := ad) (n := 0) e2
      rwa [Nat.zero_add] at this
    refine h.2.2 (j, mm_v ad w) (List.mem_cons_of_mem _ (List.mem_filter.mpr ⟨hm, ?_⟩))
    rw [mm_v_cat]
    by_cases hj : j + 1 = i
    · simp [e1, e3 hj]
    · simp [e1, hj]
section MME
variable {C : mm_C} {own : String} {cc : ByteArray} {ret : Option FieldType} {nL : Nat} {rm : Room}
theorem mm_clat (G : mm_G C own cc ret nL rm) {ci : Nat} {r : vw_C} (hc : mm_cl[ci]? = some r) : ClassAt (c_s C) r.1 ((c_D C).1 ci) := by
  obtain ⟨-, hfc, kC, hkC, hkind⟩ := G.hK.1 ci _ hc
  exact ⟨hfc, kC, hkC, hkind⟩
theorem mm_caught (G : mm_G C own cc ret nL rm) {hh : List (Nat × Nat × Nat × Nat)} (hhd : mm_hd C hh) {hs : mm_H} {pc : Nat} (hhs : ∀ q ∈ hs, ∀ E, mm_ex[q.1]? = some E → mm_ct own cc nL hh pc E q.2.1 q.2.2) {K : mm_K} (hK : ∀ q lv st M N, K q lv st M N → mm_Z C q lv st M N) {lv : mm_L} {rest : List Value} {N : mm_N} {E : String} {M' : mm_M} {ad' : Nat → Nat} {H' : Heap} {locs' : List Loc} {ls : Array Slot} {ce : Cell} {q : Addr} (h : mm_thrH hs K lv N E M') (hS' : mm_S C lv rest M' N ad' H' locs' ls) (hce : H'[q]? = some ce) (hcv : ce.vm = .none) (hcl : (c_s C).vm.findClass E = some ce.cls) : vx_W (c_p C) (c_l C) (c_e C) (c_R C) (c_s C) (c_m C) (c_a C) (c_b C) (c_t C) (c_c C) H' locs' N.1 N.2 (mm_Q C) (F0 (c_m C) pc ls (rest.map (mm_v ad'))) q := by
  obtain ⟨i, hi, h⟩ := h
  split at h
  · next z hz =>
    obtain ⟨pre, x, suf, e1, e2, e3, e4, e5, e6, e7, e8, e9⟩ := hhs _ (mm_hf_mem hz) E hi
    have hk : mm_W C z.1 (mm_clr (mm_set lv z.2 .null) z.2) [] M' N := hK _ _ _ _ _ (mm_clrK_eq _ _ _ (mm_setK_eq _ _ _ _ h))
    refine vx_catch G.ho pre x suf (hhd.trans e1) (fun w hw => ?_) e3 e4 (G.ht _ e5) (va_Nw.use rfl (G.hn _ e6 rfl)) hce hcv hcl ?_
    · rcases e2 w hw with h | ⟨a1, b, a2, a3, a4⟩
      · exact Or.inl h
      · exact Or.inr ⟨a1, b, G.ht _ a3, G.hT.2.2.1 E e7 b a2 a4⟩
    · have hz2 : z.2 < lv.length := by rw [← hS'.2.2.2.1.2.1, hS'.2.2.2.2.1, G.hm]; exact e9
      have fin : ∀ ls' : Array Slot, lv_has ls' lv.length ((z.2, .ref q) :: (mm_as ad' 0 lv).filter (fun q => !(q.1 == z.2) && !(q.1 + 1 == z.2 && q.2.category == 2))) → mm_Wc C H' locs' N (F0 (c_m C) z.1 ls' []) := fun ls' hl => hk ad' H' locs' ls' (hS'.lv (lv' := mm_clr (mm_set lv z.2 .null) z.2) (mm_lv.ofC hl) (by rw [mm_clr_len, mm_set_len]) ⟨fun w hw => absurd hw List.not_mem_nil, (mm_ok.set (st := []) (v := .null) ⟨fun w hw => by rw [List.mem_singleton.mp hw]; exact mm_vk_n, hS'.2.2.2.2.2.1.2⟩).clr.2⟩)
      rcases e8 with ⟨k, hk1, hd, hnx⟩ | ⟨hd, hnx⟩
      · dsimp only at hnx
        refine lv_astore_n G.hx G.hb hd hk1 hS'.2.2.2.1.has hz2 rfl (fun ls' hl => ?_)
        rw [← hnx]
        exact fin ls' hl
      · dsimp only at hnx
        refine lv_astore G.hx G.hb hd hS'.2.2.2.1.has hz2 rfl (fun ls' hl => ?_)
        rw [← hnx]
        exact fin ls' hl
  · exact h.elim
def o_calvF (rm : Room) (nx n ci c s : Nat) (sp : mm_Sp) : mm_O := fun lv st M N K => mm_pop n st [] (fun as r => bif mm_rcv ci as M && Nat.ble (mm_dep r) 8 then (N.1 + c ≤ rm.cells ∧ N.2 + s ≤ rm.slots) ∧ sp as M (fun v M' => K (nx + 2) lv (v.toList ++ r) M' (N.1 + c, N.2 + s)) (mm_thr K (N.1 + c, N.2 + s)) else False)
def o_calsF (rm : Room) (nx n c s : Nat) (sp : mm_Sp) : mm_O := fun lv st M N K => mm_pop n st [] (fun as r => bif Nat.ble (mm_dep r) 8 then (N.1 + c ≤ rm.cells ∧ N.2 + s ≤ rm.slots) ∧ sp as M (fun v M' => K (nx + 2) lv (v.toList ++ r) M' (N.1 + c, N.2 + s)) (mm_thr K (N.1 + c, N.2 + s)) else False)
def o_caliF (rm : Room) (nx n c s : Nat) (sp : mm_Sp) : mm_O := fun lv st M N K => mm_pop n st [] (fun as r => bif mm_rci as && Nat.ble (mm_dep r) 8 then (N.1 + c ≤ rm.cells ∧ N.2 + s ≤ rm.slots) ∧ sp as M (fun v M' => K (nx + 2) lv (v.toList ++ r) M' (N.1 + c, N.2 + s)) (mm_thr K (N.1 + c, N.2 + s)) else False)
def o_calv (rm : Room) (nx n ci : Nat) (sp : mm_Sf) : mm_O := fun lv st M N K => mm_pop n st [] (fun as r => bif mm_rcv ci as M && Nat.ble (mm_dep r) 8 then ∃ c s, N.1 + c ≤ rm.cells ∧ N.2 + s ≤ rm.slots ∧ sp c s as M (fun v M' => K (nx + 2) lv (v.toList ++ r) M' (N.1 + c, N.2 + s)) (mm_thr K (N.1 + c, N.2 + s)) else False)
def o_cals (rm : Room) (nx n : Nat) (sp : mm_Sf) : mm_O := fun lv st M N K => mm_pop n st [] (fun as r => bif Nat.ble (mm_dep r) 8 then ∃ c s, N.1 + c ≤ rm.cells ∧ N.2 + s ≤ rm.slots ∧ sp c s as M (fun v M' => K (nx + 2) lv (v.toList ++ r) M' (N.1 + c, N.2 + s)) (mm_thr K (N.1 + c, N.2 + s)) else False)
def o_cali (rm : Room) (nx n : Nat) (sp : mm_Sf) : mm_O := fun lv st M N K => mm_pop n st [] (fun as r => bif mm_rci as && Nat.ble (mm_dep r) 8 then ∃ c s, N.1 + c ≤ rm.cells ∧ N.2 + s ≤ rm.slots ∧ sp c s as M (fun v M' => K (nx + 2) lv (v.toList ++ r) M' (N.1 + c, N.2 + s)) (mm_thr K (N.1 + c, N.2 + s)) else False)
def o_calfF (rm : Room) (nx n ci c s : Nat) (sp : mm_Sp) : mm_O := fun lv st M N K => mm_pop n st [] (fun as r => bif mm_rcv ci as M && Nat.ble (mm_dep r) 8 then (N.1 + c ≤ rm.cells ∧ N.2 + s ≤ rm.slots) ∧ sp as M (fun v M' => K (nx + 2) lv (v.toList ++ r) M' (N.1 + c, N.2 + s)) (mm_thr K (N.1 + c, N.2 + s)) else False)
def o_calf (rm : Room) (nx n ci : Nat) (sp : mm_Sf) : mm_O := fun lv st M N K => mm_pop n st [] (fun as r => bif mm_rcv ci as M && Nat.ble (mm_dep r) 8 then ∃ c s, N.1 + c ≤ rm.cells ∧ N.2 + s ≤ rm.slots ∧ sp c s as M (fun v M' => K (nx + 2) lv (v.toList ++ r) M' (N.1 + c, N.2 + s)) (mm_thr K (N.1 + c, N.2 + s)) else False)
def o_calvFH (rm : Room) (nx n ci c s : Nat) (hs : mm_H) (sp : mm_Sp) : mm_O := fun lv st M N K => mm_pop n st [] (fun as r => bif mm_rcv ci as M && Nat.ble (mm_dep r) 8 then (N.1 + c ≤ rm.cells ∧ N.2 + s ≤ rm.slots) ∧ sp as M (fun v M' => K (nx + 2) lv (v.toList ++ r) M' (N.1 + c, N.2 + s)) (mm_thrH hs K lv (N.1 + c, N.2 + s)) else False)
theorem mm_callR5 {pc : Nat} {lv : mm_L} {st rest : List Value} {st0 : List Value} {a : Array Value} {M : mm_M} {N : mm_N} {mc ms : Nat} {ad : Nat → Nat} {H : Heap} {locs : List Loc} {ls : Array Slot} {Post : Option Value → mm_M → Prop} {PX : String → mm_M → Prop} (G : mm_G C own cc ret nL rm) (hS : mm_S C lv st M N ad H locs ls) (hrest : ∀ w ∈ rest, mm_vk M w)
    (hr : vx_Run5 (c_p C) (c_l C) (c_e C) (c_R C) (c_s C) (c_m C) (c_a C) (c_b C) (c_t C) (c_c C) H locs N.1 N.2 mc ms (F0 (c_m C) pc ls st0) (rest.map (mm_v ad)) (mm_PQ (c_D C) (c_aC C) ad M (mm_A ad M H.size) Post a) (mm_PX (c_D C) (c_aC C) ad M (mm_A ad M H.size) PX) (mm_A ad M H.size))
    (hN : N.1 + mc ≤ (c_R C).cells ∧ N.2 + ms ≤ (c_R C).slots) (kk : ∀ v M', Post v M' → mm_W C (pc + 5) lv (v.toList ++ rest) M' (N.1 + mc, N.2 + ms))
    (kx : ∀ E M' (ad' : Nat → Nat) (H' : Heap) (locs' : List Loc) (ce : Cell) (q : Addr), PX E M' → mm_S C lv rest M' (N.1 + mc, N.2 + ms) ad' H' locs' ls → H'[q]? = some ce → ce.vm = .none → (c_s C).vm.findClass E = some ce.cls → vx_W (c_p C) (c_l C) (c_e C) (c_R C) (c_s C) (c_m C) (c_a C) (c_b C) (c_t C) (c_c C) H' locs' (N.1 + mc) (N.2 + ms) (mm_Q C) (F0 (c_m C) pc ls (rest.map (mm_v ad'))) q) :
    mm_Wc C H locs N (F0 (c_m C) pc ls st0) := by
  have hsub := mm_sub G hS
  intro T hT X
  rcases hr T hT X with ⟨v, st₀, t, T', L, h0, X', hL, e1, e2, ⟨⟨v', M', ad', hv, hp, hag, hR', hvk⟩, hF⟩, stp⟩ | ⟨q, st₀, t, T', L, E, ce, h0, X', hL, e1, e2, ⟨⟨M', ad', hp, hag, hR'⟩, hF⟩, hce, hcv, hcl, stp⟩
  · have hv : v = v'.map (mm_v ad') := by cases hv; rfl
    subst hv
    obtain ⟨k1, k2, k3⟩ := vx_keep h0 e1 hS.2.2.1 (fun q _ h => hsub q h) hsub hL hF
    have hS' := mm_behind (v := v') G hS hrest hag (H' := T'.heap) (by rw [e1]; exact hR') k1 k3 hvk (N' := (N.1 + mc, N.2 + ms)) hN
    have h2 := kk v' M' hp ad' T'.heap (locs ++ L) ls hS'
    have e9 : (v'.toList ++ rest).map (mm_v ad') = (v'.map (mm_v ad')).toList ++ rest.map (mm_v ad) := by
      rw [List.map_append, mm_map_re hrest (fun b hb => (hag.1 b hb).1)]
      cases v' <;> rfl
    rw [e9] at h2
    obtain ⟨t2, a1, b1⟩ := h2 T' rfl X'
    exact ⟨t2, stp t2 a1, b1⟩
  · obtain ⟨k1, k2, k3⟩ := vx_keep h0 e1 hS.2.2.1 (fun q _ h => hsub q h) hsub hL hF
    have hS' := mm_behind (v := none) G hS hrest hag (H' := T'.heap) (by rw [e1]; exact hR') k1 k3 (fun w e => by cases e) (N' := (N.1 + mc, N.2 + ms)) hN
    have h2 := kx E M' ad' T'.heap (locs ++ L) ce q hp hS' (by rw [e1]; exact hce) hcv hcl
    rw [mm_map_re hrest (fun b hb => (hag.1 b hb).1)] at h2
    obtain ⟨t2, a1, b1⟩ := h2 T' rfl X'
    exact ⟨t2, Steps.trans stp a1, b1⟩
theorem ok_calvF (G : mm_G C own cc ret nL rm) {pc : Nat} (hnq : mm_nq C pc) {nx n idx ci : Nat} {y : MethodName} {bytes : ByteArray} {maxL : Nat} {ret' : Option FieldType} {lvl c s : Nat} {sp : mm_Sp} (hsp : mm_Spec (c_l C) y (ws_ y bytes maxL ret') (mm_rm lvl c s) sp) (r : vw_C) (hc : mm_cl[ci]? = some r)
    (w1 : Cond.methodLink own idx y ∈ lw_all) (w2 : Cond.instanceMethod y ∈ lw_all) (w3 : Cond.selects r.1 y y ∈ lw_all) (w4 : Cond.initialized r.1 ∈ lw_all) (w5 : Cond.code y bytes maxL ret' ∈ lw_all)
    (hd : y.cls = r.1 ∧ y.cls ≠ "java/lang/invoke/MethodHandle" ∧ y.cls ≠ "java/lang/invoke/VarHandle" ∧ (parseMethodDescriptor y.desc).map (fun d => d.parameters.length) = some n) (hR : lvl + 1 ≤ rm.frames ∧ 8 + (maxL + 11) + 48 * lvl ≤ rm.locals) (hdg : decode cc pc = .ok (.invokevirtual idx, 3)) (hn : pc + 3 = nx) : mm_OK C pc (o_calvF rm nx (n + 1) ci c s sp) := by
  subst hn
  intro lv st M N K hK h ad H locs ls hS
  obtain ⟨as, rest, e1, e2, h9⟩ := mm_pop_eq _ _ _ _ h
  clear h
  rw [List.append_nil] at h9
  obtain ⟨b1, b2, h9⟩ := mm_and2 h9 (fun q => q)
  obtain ⟨x0, as', e3, e4, e5⟩ := mm_rcv_ok b1
  subst e3
  have hlen : as'.length = n := by simpa using e2
  obtain ⟨⟨hc1, hc2⟩, h9⟩ := h9
  subst e1
  have hav : ∀ v ∈ (Value.ref x0 :: as'), mm_vk M v := fun v hv => hS.2.2.2.2.2.1.1 v (List.mem_append_left _ (List.mem_reverse.mpr hv))
  have hrv : ∀ v ∈ rest, mm_vk M v := fun v hv => hS.2.2.2.2.2.1.1 v (List.mem_append_right _ hv)
  have hM := hsp _ _ _ _ h9 (c_D C) (c_aC C) ad H.size
  have hN : N.1 + c ≤ (c_R C).cells ∧ N.2 + s ≤ (c_R C).slots := by rw [G.hR]; exact ⟨hc1, hc2⟩
  have hst : ((Value.ref x0 :: as').reverse ++ rest).map (mm_v ad) = (as'.map (mm_v ad)).reverse ++ .ref (ad x0) :: rest.map (mm_v ad) := by
    simp [mm_v]
  rw [hst]
  refine mm_callR G hS hrv (vx_runV (As := as'.map (mm_v ad)) (rest := rest.map (mm_v ad)) ⟨G.hx, G.hb, G.hm, G.ho, G.ht⟩ hM (cwV n G.ht (lw_V w1 w2 w3 w4 w5) rfl rfl rfl hd (by rw [G.hR]; exact hR)) ⟨mm_blind, mm_recv G hS hc e4 e5, fun U hU hW => mm_start G hS hav hU hW⟩ rfl (by rw [List.length_map]; exact hlen) (by rw [← G.hm]; exact hS.2.2.2.2.1) rfl (mm_room _ _ _ ad (Nat.le_of_ble_eq_true b2)) hdg hN) hN (fun v M' hp => hK _ _ _ _ _ hp) (fun E M' ad' H' locs' ce q hp hS' hce hcv hcl => ?_)
  obtain ⟨k1, k2, k3⟩ := mm_thr_ok hK hp
  exact mm_out (N := (N.1 + c, N.2 + s)) G hnq hS' k1 k2 k3 hce hcv hcl
theorem ok_calvNF (G : mm_G C own cc ret nL rm) {pc : Nat} (hnq : mm_nq C pc) {nx n idx ci : Nat} {host : String} {y : MethodName} {bytes : ByteArray} {maxL : Nat} {ret' : Option FieldType} {lvl c s : Nat} {sp : mm_Sp} (hsp : mm_Spec (c_l C) y (ws_ y bytes maxL ret') (mm_rm lvl c s) sp) (r : vw_C) (hc : mm_cl[ci]? = some r)
    (w1 : Cond.methodLinkNest own idx y host ∈ lw_tbl) (w2 : Cond.instanceMethod y ∈ lw_all) (w3 : Cond.selects r.1 y y ∈ lw_all) (w4 : Cond.initialized r.1 ∈ lw_all) (w5 : Cond.code y bytes maxL ret' ∈ lw_all)
    (hd : y.cls = r.1 ∧ y.cls ≠ "java/lang/invoke/MethodHandle" ∧ y.cls ≠ "java/lang/invoke/VarHandle" ∧ (parseMethodDescriptor y.desc).map (fun d => d.parameters.length) = some n) (hR : lvl + 1 ≤ rm.frames ∧ 8 + (maxL + 11) + 48 * lvl ≤ rm.locals) (hdg : decode cc pc = .ok (.invokevirtual idx, 3)) (hn : pc + 3 = nx) : mm_OK C pc (o_calvF rm nx (n + 1) ci c s sp) := by
  subst hn
  intro lv st M N K hK h ad H locs ls hS
  obtain ⟨as, rest, e1, e2, h9⟩ := mm_pop_eq _ _ _ _ h
  clear h
  rw [List.append_nil] at h9
  obtain ⟨b1, b2, h9⟩ := mm_and2 h9 (fun q => q)
  obtain ⟨x0, as', e3, e4, e5⟩ := mm_rcv_ok b1
  subst e3
  have hlen : as'.length = n := by simpa using e2
  obtain ⟨⟨hc1, hc2⟩, h9⟩ := h9
  subst e1
  have hav : ∀ v ∈ (Value.ref x0 :: as'), mm_vk M v := fun v hv => hS.2.2.2.2.2.1.1 v (List.mem_append_left _ (List.mem_reverse.mpr hv))
  have hrv : ∀ v ∈ rest, mm_vk M v := fun v hv => hS.2.2.2.2.2.1.1 v (List.mem_append_right _ hv)
  have hM := hsp _ _ _ _ h9 (c_D C) (c_aC C) ad H.size
  have hN : N.1 + c ≤ (c_R C).cells ∧ N.2 + s ≤ (c_R C).slots := by rw [G.hR]; exact ⟨hc1, hc2⟩
  have hst : ((Value.ref x0 :: as').reverse ++ rest).map (mm_v ad) = (as'.map (mm_v ad)).reverse ++ .ref (ad x0) :: rest.map (mm_v ad) := by
    simp [mm_v]
  rw [hst]
  refine mm_callR G hS hrv (vx_runVN (As := as'.map (mm_v ad)) (rest := rest.map (mm_v ad)) ⟨G.hx, G.hb, G.hm, G.ho, G.ht⟩ hM ⟨(va_cnB n G.ht (lw_meth w5) rfl rfl rfl (G.hn _ w1 rfl) (by rw [hd.1]; exact G.ht _ w4) hd.2 (by rw [G.hR]; exact hR)), G.ht _ w2, G.ht _ w3⟩ ⟨mm_blind, mm_recv G hS hc e4 e5, fun U hU hW => mm_start G hS hav hU hW⟩ rfl (by rw [List.length_map]; exact hlen) (by rw [← G.hm]; exact hS.2.2.2.2.1) rfl (mm_room _ _ _ ad (Nat.le_of_ble_eq_true b2)) hdg hN) hN (fun v M' hp => hK _ _ _ _ _ hp) (fun E M' ad' H' locs' ce q hp hS' hce hcv hcl => ?_)
  obtain ⟨k1, k2, k3⟩ := mm_thr_ok hK hp
  exact mm_out (N := (N.1 + c, N.2 + s)) G hnq hS' k1 k2 k3 hce hcv hcl
theorem ok_calsF (G : mm_G C own cc ret nL rm) {pc : Nat} (hnq : mm_nq C pc) {nx n idx : Nat} {y : MethodName} {bytes : ByteArray} {maxL : Nat} {ret' : Option FieldType} {lvl c s : Nat} {sp : mm_Sp} (hsp : mm_Spec (c_l C) y (ws_ y bytes maxL ret') (mm_rm lvl c s) sp)
    (w1 : Cond.methodLink own idx y ∈ lw_all) (w2 : Cond.static y ∈ lw_all) (w4 : Cond.initialized y.cls ∈ lw_all) (w5 : Cond.code y bytes maxL ret' ∈ lw_all)
    (hd : y.cls ≠ "java/lang/invoke/MethodHandle" ∧ y.cls ≠ "java/lang/invoke/VarHandle" ∧ (parseMethodDescriptor y.desc).map (fun d => d.parameters.length) = some n) (hR : lvl + 1 ≤ rm.frames ∧ 8 + (maxL + 11) + 48 * lvl ≤ rm.locals) (hdg : decode cc pc = .ok (.invokestatic idx, 3)) (hn : pc + 3 = nx) : mm_OK C pc (o_calsF rm nx n c s sp) := by
  subst hn
  intro lv st M N K hK h ad H locs ls hS
  obtain ⟨as, rest, e1, e2, h9⟩ := mm_pop_eq _ _ _ _ h
  clear h
  rw [List.append_nil] at h9
  obtain ⟨b2, h9⟩ := mm_bif h9 (fun q => q)
  obtain ⟨⟨hc1, hc2⟩, h9⟩ := h9
  subst e1
  have hav : ∀ v ∈ as, mm_vk M v := fun v hv => hS.2.2.2.2.2.1.1 v (List.mem_append_left _ (List.mem_reverse.mpr hv))
  have hrv : ∀ v ∈ rest, mm_vk M v := fun v hv => hS.2.2.2.2.2.1.1 v (List.mem_append_right _ hv)
  have hM := hsp _ _ _ _ h9 (c_D C) (c_aC C) ad H.size
  have hN : N.1 + c ≤ (c_R C).cells ∧ N.2 + s ≤ (c_R C).slots := by rw [G.hR]; exact ⟨hc1, hc2⟩
  have hst : (as.reverse ++ rest).map (mm_v ad) = (as.map (mm_v ad)).reverse ++ rest.map (mm_v ad) := by
    simp
  rw [hst]
  refine mm_callR G hS hrv (vx_runS (As := as.map (mm_v ad)) (rest := rest.map (mm_v ad)) ⟨G.hx, G.hb, G.hm, G.ho, G.ht⟩ hM (va_cwS n G.ht (lw_S w1 w2 w4 w5) rfl rfl rfl hd (by rw [G.hR]; exact hR)) ⟨mm_blind, fun U hU hW => mm_start G hS hav hU hW⟩ rfl (by rw [List.length_map]; exact e2) (by rw [← G.hm]; exact hS.2.2.2.2.1) rfl (mm_room _ _ _ ad (Nat.le_of_ble_eq_true b2)) hdg hN) hN (fun v M' hp => hK _ _ _ _ _ hp) (fun E M' ad' H' locs' ce q hp hS' hce hcv hcl => ?_)
  obtain ⟨k1, k2, k3⟩ := mm_thr_ok hK hp
  exact mm_out (N := (N.1 + c, N.2 + s)) G hnq hS' k1 k2 k3 hce hcv hcl
theorem ok_calsNF (G : mm_G C own cc ret nL rm) {pc : Nat} (hnq : mm_nq C pc) {nx n idx : Nat} {host : String} {y : MethodName} {bytes : ByteArray} {maxL : Nat} {ret' : Option FieldType} {lvl c s : Nat} {sp : mm_Sp} (hsp : mm_Spec (c_l C) y (ws_ y bytes maxL ret') (mm_rm lvl c s) sp)
    (w1 : Cond.methodLinkNest own idx y host ∈ lw_tbl) (w2 : Cond.static y ∈ lw_all) (w4 : Cond.initialized y.cls ∈ lw_all) (w5 : Cond.code y bytes maxL ret' ∈ lw_all)
    (hd : y.cls ≠ "java/lang/invoke/MethodHandle" ∧ y.cls ≠ "java/lang/invoke/VarHandle" ∧ (parseMethodDescriptor y.desc).map (fun d => d.parameters.length) = some n) (hR : lvl + 1 ≤ rm.frames ∧ 8 + (maxL + 11) + 48 * lvl ≤ rm.locals) (hdg : decode cc pc = .ok (.invokestatic idx, 3)) (hn : pc + 3 = nx) : mm_OK C pc (o_calsF rm nx n c s sp) := by
  subst hn
  intro lv st M N K hK h ad H locs ls hS
  obtain ⟨as, rest, e1, e2, h9⟩ := mm_pop_eq _ _ _ _ h
  clear h
  rw [List.append_nil] at h9
  obtain ⟨b2, h9⟩ := mm_bif h9 (fun q => q)
  obtain ⟨⟨hc1, hc2⟩, h9⟩ := h9
  subst e1
  have hav : ∀ v ∈ as, mm_vk M v := fun v hv => hS.2.2.2.2.2.1.1 v (List.mem_append_left _ (List.mem_reverse.mpr hv))
  have hrv : ∀ v ∈ rest, mm_vk M v := fun v hv => hS.2.2.2.2.2.1.1 v (List.mem_append_right _ hv)
  have hM := hsp _ _ _ _ h9 (c_D C) (c_aC C) ad H.size
  have hN : N.1 + c ≤ (c_R C).cells ∧ N.2 + s ≤ (c_R C).slots := by rw [G.hR]; exact ⟨hc1, hc2⟩
  have hst : (as.reverse ++ rest).map (mm_v ad) = (as.map (mm_v ad)).reverse ++ rest.map (mm_v ad) := by
    simp
  rw [hst]
  refine mm_callR G hS hrv (vx_runSN (As := as.map (mm_v ad)) (rest := rest.map (mm_v ad)) ⟨G.hx, G.hb, G.hm, G.ho, G.ht⟩ hM ⟨(va_cnB n G.ht (lw_meth w5) rfl rfl rfl (G.hn _ w1 rfl) (G.ht _ w4) hd (by rw [G.hR]; exact hR)), G.ht _ w2, trivial⟩ ⟨mm_blind, fun U hU hW => mm_start G hS hav hU hW⟩ rfl (by rw [List.length_map]; exact e2) (by rw [← G.hm]; exact hS.2.2.2.2.1) rfl (mm_room _ _ _ ad (Nat.le_of_ble_eq_true b2)) hdg hN) hN (fun v M' hp => hK _ _ _ _ _ hp) (fun E M' ad' H' locs' ce q hp hS' hce hcv hcl => ?_)
  obtain ⟨k1, k2, k3⟩ := mm_thr_ok hK hp
  exact mm_out (N := (N.1 + c, N.2 + s)) G hnq hS' k1 k2 k3 hce hcv hcl
theorem ok_caliF (G : mm_G C own cc ret nL rm) {pc : Nat} (hnq : mm_nq C pc) {nx n idx : Nat} {y : MethodName} {bytes : ByteArray} {maxL : Nat} {lvl c s : Nat} {sp : mm_Sp} (hsp : mm_Spec (c_l C) y (ws_ y bytes maxL none) (mm_rm lvl c s) sp)
    (w1 : Cond.methodLink own idx y ∈ lw_all) (w2 : Cond.instanceMethod y ∈ lw_all) (w4 : Cond.initialized y.cls ∈ lw_all) (w5 : Cond.code y bytes maxL none ∈ lw_all) (hy1 : y.name = "<init>")
    (hd : y.cls ≠ "java/lang/invoke/MethodHandle" ∧ y.cls ≠ "java/lang/invoke/VarHandle" ∧ (parseMethodDescriptor y.desc).map (fun d => d.parameters.length) = some n) (hR : lvl + 1 ≤ rm.frames ∧ 8 + (maxL + 11) + 48 * lvl ≤ rm.locals) (hdg : decode cc pc = .ok (.invokespecial idx, 3)) (hn : pc + 3 = nx) : mm_OK C pc (o_caliF rm nx (n + 1) c s sp) := by
  subst hn
  intro lv st M N K hK h ad H locs ls hS
  obtain ⟨as, rest, e1, e2, h9⟩ := mm_pop_eq _ _ _ _ h
  clear h
  rw [List.append_nil] at h9
  obtain ⟨b1, b2, h9⟩ := mm_and2 h9 (fun q => q)
  obtain ⟨x0, as', e3⟩ := mm_rci_ok b1
  subst e3
  have hlen : as'.length = n := by simpa using e2
  obtain ⟨⟨hc1, hc2⟩, h9⟩ := h9
  subst e1
  have hav : ∀ v ∈ (Value.ref x0 :: as'), mm_vk M v := fun v hv => hS.2.2.2.2.2.1.1 v (List.mem_append_left _ (List.mem_reverse.mpr hv))
  have hrv : ∀ v ∈ rest, mm_vk M v := fun v hv => hS.2.2.2.2.2.1.1 v (List.mem_append_right _ hv)
  have hM := hsp _ _ _ _ h9 (c_D C) (c_aC C) ad H.size
  have hN : N.1 + c ≤ (c_R C).cells ∧ N.2 + s ≤ (c_R C).slots := by rw [G.hR]; exact ⟨hc1, hc2⟩
  have hst : ((Value.ref x0 :: as').reverse ++ rest).map (mm_v ad) = (as'.map (mm_v ad)).reverse ++ .ref (ad x0) :: rest.map (mm_v ad) := by
    simp [mm_v]
  rw [hst]
  refine mm_callR G hS hrv (vx_runI (As := as'.map (mm_v ad)) (rest := rest.map (mm_v ad)) ⟨G.hx, G.hb, G.hm, G.ho, G.ht⟩ hM (cwI n G.ht (lw_meth w5) rfl rfl rfl (G.ht _ w4) (G.ht _ w1) (G.ht _ w2) hy1 hd (by rw [G.hR]; exact hR)) ⟨mm_blind, fun U hU hW => mm_start G hS hav hU hW⟩ rfl (by rw [List.length_map]; exact hlen) (by rw [← G.hm]; exact hS.2.2.2.2.1) rfl (mm_room _ _ _ ad (Nat.le_of_ble_eq_true b2)) hdg hN) hN (fun v M' hp => hK _ _ _ _ _ hp) (fun E M' ad' H' locs' ce q hp hS' hce hcv hcl => ?_)
  obtain ⟨k1, k2, k3⟩ := mm_thr_ok hK hp
  exact mm_out (N := (N.1 + c, N.2 + s)) G hnq hS' k1 k2 k3 hce hcv hcl
theorem ok_caliNF (G : mm_G C own cc ret nL rm) {pc : Nat} (hnq : mm_nq C pc) {nx n idx : Nat} {host : String} {y : MethodName} {bytes : ByteArray} {maxL : Nat} {lvl c s : Nat} {sp : mm_Sp} (hsp : mm_Spec (c_l C) y (ws_ y bytes maxL none) (mm_rm lvl c s) sp)
    (w1 : Cond.methodLinkNest own idx y host ∈ lw_tbl) (w2 : Cond.instanceMethod y ∈ lw_all) (w4 : Cond.initialized y.cls ∈ lw_all) (w5 : Cond.code y bytes maxL none ∈ lw_all) (hy1 : y.name = "<init>")
    (hd : y.cls ≠ "java/lang/invoke/MethodHandle" ∧ y.cls ≠ "java/lang/invoke/VarHandle" ∧ (parseMethodDescriptor y.desc).map (fun d => d.parameters.length) = some n) (hR : lvl + 1 ≤ rm.frames ∧ 8 + (maxL + 11) + 48 * lvl ≤ rm.locals) (hdg : decode cc pc = .ok (.invokespecial idx, 3)) (hn : pc + 3 = nx) : mm_OK C pc (o_caliF rm nx (n + 1) c s sp) := by
  subst hn
  intro lv st M N K hK h ad H locs ls hS
  obtain ⟨as, rest, e1, e2, h9⟩ := mm_pop_eq _ _ _ _ h
  clear h
  rw [List.append_nil] at h9
  obtain ⟨b1, b2, h9⟩ := mm_and2 h9 (fun q => q)
  obtain ⟨x0, as', e3⟩ := mm_rci_ok b1
  subst e3
  have hlen : as'.length = n := by simpa using e2
  obtain ⟨⟨hc1, hc2⟩, h9⟩ := h9
  subst e1
  have hav : ∀ v ∈ (Value.ref x0 :: as'), mm_vk M v := fun v hv => hS.2.2.2.2.2.1.1 v (List.mem_append_left _ (List.mem_reverse.mpr hv))
  have hrv : ∀ v ∈ rest, mm_vk M v := fun v hv => hS.2.2.2.2.2.1.1 v (List.mem_append_right _ hv)
  have hM := hsp _ _ _ _ h9 (c_D C) (c_aC C) ad H.size
  have hN : N.1 + c ≤ (c_R C).cells ∧ N.2 + s ≤ (c_R C).slots := by rw [G.hR]; exact ⟨hc1, hc2⟩
  have hst : ((Value.ref x0 :: as').reverse ++ rest).map (mm_v ad) = (as'.map (mm_v ad)).reverse ++ .ref (ad x0) :: rest.map (mm_v ad) := by
    simp [mm_v]
  rw [hst]
  refine mm_callR G hS hrv (vx_runIN (As := as'.map (mm_v ad)) (rest := rest.map (mm_v ad)) ⟨G.hx, G.hb, G.hm, G.ho, G.ht⟩ hM ⟨(va_cnB n G.ht (lw_meth w5) rfl rfl rfl (G.hn _ w1 rfl) (G.ht _ w4) hd (by rw [G.hR]; exact hR)), hy1, G.ht _ w2⟩ ⟨mm_blind, fun U hU hW => mm_start G hS hav hU hW⟩ rfl (by rw [List.length_map]; exact hlen) (by rw [← G.hm]; exact hS.2.2.2.2.1) rfl (mm_room _ _ _ ad (Nat.le_of_ble_eq_true b2)) hdg hN) hN (fun v M' hp => hK _ _ _ _ _ hp) (fun E M' ad' H' locs' ce q hp hS' hce hcv hcl => ?_)
  obtain ⟨k1, k2, k3⟩ := mm_thr_ok hK hp
  exact mm_out (N := (N.1 + c, N.2 + s)) G hnq hS' k1 k2 k3 hce hcv hcl
theorem ok_calv (G : mm_G C own cc ret nL rm) {pc : Nat} (hnq : mm_nq C pc) {nx n idx ci : Nat} {y : MethodName} {bytes : ByteArray} {maxL : Nat} {ret' : Option FieldType} {lvl : Nat} {sp : mm_Sf} (hsp : ∀ c s, mm_Spec (c_l C) y (ws_ y bytes maxL ret') (mm_rm lvl c s) (sp c s)) (r : vw_C) (hc : mm_cl[ci]? = some r)
    (w1 : Cond.methodLink own idx y ∈ lw_all) (w2 : Cond.instanceMethod y ∈ lw_all) (w3 : Cond.selects r.1 y y ∈ lw_all) (w4 : Cond.initialized r.1 ∈ lw_all) (w5 : Cond.code y bytes maxL ret' ∈ lw_all)
    (hd : y.cls = r.1 ∧ y.cls ≠ "java/lang/invoke/MethodHandle" ∧ y.cls ≠ "java/lang/invoke/VarHandle" ∧ (parseMethodDescriptor y.desc).map (fun d => d.parameters.length) = some n) (hR : lvl + 1 ≤ rm.frames ∧ 8 + (maxL + 11) + 48 * lvl ≤ rm.locals) (hdg : decode cc pc = .ok (.invokevirtual idx, 3)) (hn : pc + 3 = nx) : mm_OK C pc (o_calv rm nx (n + 1) ci sp) := by
  subst hn
  intro lv st M N K hK h ad H locs ls hS
  obtain ⟨as, rest, e1, e2, h9⟩ := mm_pop_eq _ _ _ _ h
  clear h
  rw [List.append_nil] at h9
  obtain ⟨b1, b2, h9⟩ := mm_and2 h9 (fun q => q)
  obtain ⟨x0, as', e3, e4, e5⟩ := mm_rcv_ok b1
  subst e3
  have hlen : as'.length = n := by simpa using e2
  obtain ⟨c, s, hc1, hc2, h9⟩ := h9
  subst e1
  have hav : ∀ v ∈ (Value.ref x0 :: as'), mm_vk M v := fun v hv => hS.2.2.2.2.2.1.1 v (List.mem_append_left _ (List.mem_reverse.mpr hv))
  have hrv : ∀ v ∈ rest, mm_vk M v := fun v hv => hS.2.2.2.2.2.1.1 v (List.mem_append_right _ hv)
  have hM := hsp c s _ _ _ _ h9 (c_D C) (c_aC C) ad H.size
  have hN : N.1 + c ≤ (c_R C).cells ∧ N.2 + s ≤ (c_R C).slots := by rw [G.hR]; exact ⟨hc1, hc2⟩
  have hst : ((Value.ref x0 :: as').reverse ++ rest).map (mm_v ad) = (as'.map (mm_v ad)).reverse ++ .ref (ad x0) :: rest.map (mm_v ad) := by
    simp [mm_v]
  rw [hst]
  refine mm_callR G hS hrv (vx_runV (As := as'.map (mm_v ad)) (rest := rest.map (mm_v ad)) ⟨G.hx, G.hb, G.hm, G.ho, G.ht⟩ hM (cwV n G.ht (lw_V w1 w2 w3 w4 w5) rfl rfl rfl hd (by rw [G.hR]; exact hR)) ⟨mm_blind, mm_recv G hS hc e4 e5, fun U hU hW => mm_start G hS hav hU hW⟩ rfl (by rw [List.length_map]; exact hlen) (by rw [← G.hm]; exact hS.2.2.2.2.1) rfl (mm_room _ _ _ ad (Nat.le_of_ble_eq_true b2)) hdg hN) hN (fun v M' hp => hK _ _ _ _ _ hp) (fun E M' ad' H' locs' ce q hp hS' hce hcv hcl => ?_)
  obtain ⟨k1, k2, k3⟩ := mm_thr_ok hK hp
  exact mm_out (N := (N.1 + c, N.2 + s)) G hnq hS' k1 k2 k3 hce hcv hcl
theorem ok_calvN (G : mm_G C own cc ret nL rm) {pc : Nat} (hnq : mm_nq C pc) {nx n idx ci : Nat} {host : String} {y : MethodName} {bytes : ByteArray} {maxL : Nat} {ret' : Option FieldType} {lvl : Nat} {sp : mm_Sf} (hsp : ∀ c s, mm_Spec (c_l C) y (ws_ y bytes maxL ret') (mm_rm lvl c s) (sp c s)) (r : vw_C) (hc : mm_cl[ci]? = some r)
    (w1 : Cond.methodLinkNest own idx y host ∈ lw_tbl) (w2 : Cond.instanceMethod y ∈ lw_all) (w3 : Cond.selects r.1 y y ∈ lw_all) (w4 : Cond.initialized r.1 ∈ lw_all) (w5 : Cond.code y bytes maxL ret' ∈ lw_all)
    (hd : y.cls = r.1 ∧ y.cls ≠ "java/lang/invoke/MethodHandle" ∧ y.cls ≠ "java/lang/invoke/VarHandle" ∧ (parseMethodDescriptor y.desc).map (fun d => d.parameters.length) = some n) (hR : lvl + 1 ≤ rm.frames ∧ 8 + (maxL + 11) + 48 * lvl ≤ rm.locals) (hdg : decode cc pc = .ok (.invokevirtual idx, 3)) (hn : pc + 3 = nx) : mm_OK C pc (o_calv rm nx (n + 1) ci sp) := by
  subst hn
  intro lv st M N K hK h ad H locs ls hS
  obtain ⟨as, rest, e1, e2, h9⟩ := mm_pop_eq _ _ _ _ h
  clear h
  rw [List.append_nil] at h9
  obtain ⟨b1, b2, h9⟩ := mm_and2 h9 (fun q => q)
  obtain ⟨x0, as', e3, e4, e5⟩ := mm_rcv_ok b1
  subst e3
  have hlen : as'.length = n := by simpa using e2
  obtain ⟨c, s, hc1, hc2, h9⟩ := h9
  subst e1
  have hav : ∀ v ∈ (Value.ref x0 :: as'), mm_vk M v := fun v hv => hS.2.2.2.2.2.1.1 v (List.mem_append_left _ (List.mem_reverse.mpr hv))
  have hrv : ∀ v ∈ rest, mm_vk M v := fun v hv => hS.2.2.2.2.2.1.1 v (List.mem_append_right _ hv)
  have hM := hsp c s _ _ _ _ h9 (c_D C) (c_aC C) ad H.size
  have hN : N.1 + c ≤ (c_R C).cells ∧ N.2 + s ≤ (c_R C).slots := by rw [G.hR]; exact ⟨hc1, hc2⟩
  have hst : ((Value.ref x0 :: as').reverse ++ rest).map (mm_v ad) = (as'.map (mm_v ad)).reverse ++ .ref (ad x0) :: rest.map (mm_v ad) := by
    simp [mm_v]
  rw [hst]
  refine mm_callR G hS hrv (vx_runVN (As := as'.map (mm_v ad)) (rest := rest.map (mm_v ad)) ⟨G.hx, G.hb, G.hm, G.ho, G.ht⟩ hM ⟨(va_cnB n G.ht (lw_meth w5) rfl rfl rfl (G.hn _ w1 rfl) (by rw [hd.1]; exact G.ht _ w4) hd.2 (by rw [G.hR]; exact hR)), G.ht _ w2, G.ht _ w3⟩ ⟨mm_blind, mm_recv G hS hc e4 e5, fun U hU hW => mm_start G hS hav hU hW⟩ rfl (by rw [List.length_map]; exact hlen) (by rw [← G.hm]; exact hS.2.2.2.2.1) rfl (mm_room _ _ _ ad (Nat.le_of_ble_eq_true b2)) hdg hN) hN (fun v M' hp => hK _ _ _ _ _ hp) (fun E M' ad' H' locs' ce q hp hS' hce hcv hcl => ?_)
  obtain ⟨k1, k2, k3⟩ := mm_thr_ok hK hp
  exact mm_out (N := (N.1 + c, N.2 + s)) G hnq hS' k1 k2 k3 hce hcv hcl
theorem ok_cals (G : mm_G C own cc ret nL rm) {pc : Nat} (hnq : mm_nq C pc) {nx n idx : Nat} {y : MethodName} {bytes : ByteArray} {maxL : Nat} {ret' : Option FieldType} {lvl : Nat} {sp : mm_Sf} (hsp : ∀ c s, mm_Spec (c_l C) y (ws_ y bytes maxL ret') (mm_rm lvl c s) (sp c s))
    (w1 : Cond.methodLink own idx y ∈ lw_all) (w2 : Cond.static y ∈ lw_all) (w4 : Cond.initialized y.cls ∈ lw_all) (w5 : Cond.code y bytes maxL ret' ∈ lw_all)
    (hd : y.cls ≠ "java/lang/invoke/MethodHandle" ∧ y.cls ≠ "java/lang/invoke/VarHandle" ∧ (parseMethodDescriptor y.desc).map (fun d => d.parameters.length) = some n) (hR : lvl + 1 ≤ rm.frames ∧ 8 + (maxL + 11) + 48 * lvl ≤ rm.locals) (hdg : decode cc pc = .ok (.invokestatic idx, 3)) (hn : pc + 3 = nx) : mm_OK C pc (o_cals rm nx n sp) := by
  subst hn
  intro lv st M N K hK h ad H locs ls hS
  obtain ⟨as, rest, e1, e2, h9⟩ := mm_pop_eq _ _ _ _ h
  clear h
  rw [List.append_nil] at h9
  obtain ⟨b2, h9⟩ := mm_bif h9 (fun q => q)
  obtain ⟨c, s, hc1, hc2, h9⟩ := h9
  subst e1
  have hav : ∀ v ∈ as, mm_vk M v := fun v hv => hS.2.2.2.2.2.1.1 v (List.mem_append_left _ (List.mem_reverse.mpr hv))
  have hrv : ∀ v ∈ rest, mm_vk M v := fun v hv => hS.2.2.2.2.2.1.1 v (List.mem_append_right _ hv)
  have hM := hsp c s _ _ _ _ h9 (c_D C) (c_aC C) ad H.size
  have hN : N.1 + c ≤ (c_R C).cells ∧ N.2 + s ≤ (c_R C).slots := by rw [G.hR]; exact ⟨hc1, hc2⟩
  have hst : (as.reverse ++ rest).map (mm_v ad) = (as.map (mm_v ad)).reverse ++ rest.map (mm_v ad) := by
    simp
  rw [hst]
  refine mm_callR G hS hrv (vx_runS (As := as.map (mm_v ad)) (rest := rest.map (mm_v ad)) ⟨G.hx, G.hb, G.hm, G.ho, G.ht⟩ hM (va_cwS n G.ht (lw_S w1 w2 w4 w5) rfl rfl rfl hd (by rw [G.hR]; exact hR)) ⟨mm_blind, fun U hU hW => mm_start G hS hav hU hW⟩ rfl (by rw [List.length_map]; exact e2) (by rw [← G.hm]; exact hS.2.2.2.2.1) rfl (mm_room _ _ _ ad (Nat.le_of_ble_eq_true b2)) hdg hN) hN (fun v M' hp => hK _ _ _ _ _ hp) (fun E M' ad' H' locs' ce q hp hS' hce hcv hcl => ?_)
  obtain ⟨k1, k2, k3⟩ := mm_thr_ok hK hp
  exact mm_out (N := (N.1 + c, N.2 + s)) G hnq hS' k1 k2 k3 hce hcv hcl
theorem ok_calsN (G : mm_G C own cc ret nL rm) {pc : Nat} (hnq : mm_nq C pc) {nx n idx : Nat} {host : String} {y : MethodName} {bytes : ByteArray} {maxL : Nat} {ret' : Option FieldType} {lvl : Nat} {sp : mm_Sf} (hsp : ∀ c s, mm_Spec (c_l C) y (ws_ y bytes maxL ret') (mm_rm lvl c s) (sp c s))
    (w1 : Cond.methodLinkNest own idx y host ∈ lw_tbl) (w2 : Cond.static y ∈ lw_all) (w4 : Cond.initialized y.cls ∈ lw_all) (w5 : Cond.code y bytes maxL ret' ∈ lw_all)
    (hd : y.cls ≠ "java/lang/invoke/MethodHandle" ∧ y.cls ≠ "java/lang/invoke/VarHandle" ∧ (parseMethodDescriptor y.desc).map (fun d => d.parameters.length) = some n) (hR : lvl + 1 ≤ rm.frames ∧ 8 + (maxL + 11) + 48 * lvl ≤ rm.locals) (hdg : decode cc pc = .ok (.invokestatic idx, 3)) (hn : pc + 3 = nx) : mm_OK C pc (o_cals rm nx n sp) := by
  subst hn
  intro lv st M N K hK h ad H locs ls hS
  obtain ⟨as, rest, e1, e2, h9⟩ := mm_pop_eq _ _ _ _ h
  clear h
  rw [List.append_nil] at h9
  obtain ⟨b2, h9⟩ := mm_bif h9 (fun q => q)
  obtain ⟨c, s, hc1, hc2, h9⟩ := h9
  subst e1
  have hav : ∀ v ∈ as, mm_vk M v := fun v hv => hS.2.2.2.2.2.1.1 v (List.mem_append_left _ (List.mem_reverse.mpr hv))
  have hrv : ∀ v ∈ rest, mm_vk M v := fun v hv => hS.2.2.2.2.2.1.1 v (List.mem_append_right _ hv)
  have hM := hsp c s _ _ _ _ h9 (c_D C) (c_aC C) ad H.size
  have hN : N.1 + c ≤ (c_R C).cells ∧ N.2 + s ≤ (c_R C).slots := by rw [G.hR]; exact ⟨hc1, hc2⟩
  have hst : (as.reverse ++ rest).map (mm_v ad) = (as.map (mm_v ad)).reverse ++ rest.map (mm_v ad) := by
    simp
  rw [hst]
  refine mm_callR G hS hrv (vx_runSN (As := as.map (mm_v ad)) (rest := rest.map (mm_v ad)) ⟨G.hx, G.hb, G.hm, G.ho, G.ht⟩ hM ⟨(va_cnB n G.ht (lw_meth w5) rfl rfl rfl (G.hn _ w1 rfl) (G.ht _ w4) hd (by rw [G.hR]; exact hR)), G.ht _ w2, trivial⟩ ⟨mm_blind, fun U hU hW => mm_start G hS hav hU hW⟩ rfl (by rw [List.length_map]; exact e2) (by rw [← G.hm]; exact hS.2.2.2.2.1) rfl (mm_room _ _ _ ad (Nat.le_of_ble_eq_true b2)) hdg hN) hN (fun v M' hp => hK _ _ _ _ _ hp) (fun E M' ad' H' locs' ce q hp hS' hce hcv hcl => ?_)
  obtain ⟨k1, k2, k3⟩ := mm_thr_ok hK hp
  exact mm_out (N := (N.1 + c, N.2 + s)) G hnq hS' k1 k2 k3 hce hcv hcl
theorem ok_cali (G : mm_G C own cc ret nL rm) {pc : Nat} (hnq : mm_nq C pc) {nx n idx : Nat} {y : MethodName} {bytes : ByteArray} {maxL : Nat} {lvl : Nat} {sp : mm_Sf} (hsp : ∀ c s, mm_Spec (c_l C) y (ws_ y bytes maxL none) (mm_rm lvl c s) (sp c s))
    (w1 : Cond.methodLink own idx y ∈ lw_all) (w2 : Cond.instanceMethod y ∈ lw_all) (w4 : Cond.initialized y.cls ∈ lw_all) (w5 : Cond.code y bytes maxL none ∈ lw_all) (hy1 : y.name = "<init>")
    (hd : y.cls ≠ "java/lang/invoke/MethodHandle" ∧ y.cls ≠ "java/lang/invoke/VarHandle" ∧ (parseMethodDescriptor y.desc).map (fun d => d.parameters.length) = some n) (hR : lvl + 1 ≤ rm.frames ∧ 8 + (maxL + 11) + 48 * lvl ≤ rm.locals) (hdg : decode cc pc = .ok (.invokespecial idx, 3)) (hn : pc + 3 = nx) : mm_OK C pc (o_cali rm nx (n + 1) sp) := by
  subst hn
  intro lv st M N K hK h ad H locs ls hS
  obtain ⟨as, rest, e1, e2, h9⟩ := mm_pop_eq _ _ _ _ h
  clear h
  rw [List.append_nil] at h9
  obtain ⟨b1, b2, h9⟩ := mm_and2 h9 (fun q => q)
  obtain ⟨x0, as', e3⟩ := mm_rci_ok b1
  subst e3
  have hlen : as'.length = n := by simpa using e2
  obtain ⟨c, s, hc1, hc2, h9⟩ := h9
  subst e1
  have hav : ∀ v ∈ (Value.ref x0 :: as'), mm_vk M v := fun v hv => hS.2.2.2.2.2.1.1 v (List.mem_append_left _ (List.mem_reverse.mpr hv))
  have hrv : ∀ v ∈ rest, mm_vk M v := fun v hv => hS.2.2.2.2.2.1.1 v (List.mem_append_right _ hv)
  have hM := hsp c s _ _ _ _ h9 (c_D C) (c_aC C) ad H.size
  have hN : N.1 + c ≤ (c_R C).cells ∧ N.2 + s ≤ (c_R C).slots := by rw [G.hR]; exact ⟨hc1, hc2⟩
  have hst : ((Value.ref x0 :: as').reverse ++ rest).map (mm_v ad) = (as'.map (mm_v ad)).reverse ++ .ref (ad x0) :: rest.map (mm_v ad) := by
    simp [mm_v]
  rw [hst]
  refine mm_callR G hS hrv (vx_runI (As := as'.map (mm_v ad)) (rest := rest.map (mm_v ad)) ⟨G.hx, G.hb, G.hm, G.ho, G.ht⟩ hM (cwI n G.ht (lw_meth w5) rfl rfl rfl (G.ht _ w4) (G.ht _ w1) (G.ht _ w2) hy1 hd (by rw [G.hR]; exact hR)) ⟨mm_blind, fun U hU hW => mm_start G hS hav hU hW⟩ rfl (by rw [List.length_map]; exact hlen) (by rw [← G.hm]; exact hS.2.2.2.2.1) rfl (mm_room _ _ _ ad (Nat.le_of_ble_eq_true b2)) hdg hN) hN (fun v M' hp => hK _ _ _ _ _ hp) (fun E M' ad' H' locs' ce q hp hS' hce hcv hcl => ?_)
  obtain ⟨k1, k2, k3⟩ := mm_thr_ok hK hp
  exact mm_out (N := (N.1 + c, N.2 + s)) G hnq hS' k1 k2 k3 hce hcv hcl
theorem ok_caliN (G : mm_G C own cc ret nL rm) {pc : Nat} (hnq : mm_nq C pc) {nx n idx : Nat} {host : String} {y : MethodName} {bytes : ByteArray} {maxL : Nat} {lvl : Nat} {sp : mm_Sf} (hsp : ∀ c s, mm_Spec (c_l C) y (ws_ y bytes maxL none) (mm_rm lvl c s) (sp c s))
    (w1 : Cond.methodLinkNest own idx y host ∈ lw_tbl) (w2 : Cond.instanceMethod y ∈ lw_all) (w4 : Cond.initialized y.cls ∈ lw_all) (w5 : Cond.code y bytes maxL none ∈ lw_all) (hy1 : y.name = "<init>")
    (hd : y.cls ≠ "java/lang/invoke/MethodHandle" ∧ y.cls ≠ "java/lang/invoke/VarHandle" ∧ (parseMethodDescriptor y.desc).map (fun d => d.parameters.length) = some n) (hR : lvl + 1 ≤ rm.frames ∧ 8 + (maxL + 11) + 48 * lvl ≤ rm.locals) (hdg : decode cc pc = .ok (.invokespecial idx, 3)) (hn : pc + 3 = nx) : mm_OK C pc (o_cali rm nx (n + 1) sp) := by
  subst hn
  intro lv st M N K hK h ad H locs ls hS
  obtain ⟨as, rest, e1, e2, h9⟩ := mm_pop_eq _ _ _ _ h
  clear h
  rw [List.append_nil] at h9
  obtain ⟨b1, b2, h9⟩ := mm_and2 h9 (fun q => q)
  obtain ⟨x0, as', e3⟩ := mm_rci_ok b1
  subst e3
  have hlen : as'.length = n := by simpa using e2
  obtain ⟨c, s, hc1, hc2, h9⟩ := h9
  subst e1
  have hav : ∀ v ∈ (Value.ref x0 :: as'), mm_vk M v := fun v hv => hS.2.2.2.2.2.1.1 v (List.mem_append_left _ (List.mem_reverse.mpr hv))
  have hrv : ∀ v ∈ rest, mm_vk M v := fun v hv => hS.2.2.2.2.2.1.1 v (List.mem_append_right _ hv)
  have hM := hsp c s _ _ _ _ h9 (c_D C) (c_aC C) ad H.size
  have hN : N.1 + c ≤ (c_R C).cells ∧ N.2 + s ≤ (c_R C).slots := by rw [G.hR]; exact ⟨hc1, hc2⟩
  have hst : ((Value.ref x0 :: as').reverse ++ rest).map (mm_v ad) = (as'.map (mm_v ad)).reverse ++ .ref (ad x0) :: rest.map (mm_v ad) := by
    simp [mm_v]
  rw [hst]
  refine mm_callR G hS hrv (vx_runIN (As := as'.map (mm_v ad)) (rest := rest.map (mm_v ad)) ⟨G.hx, G.hb, G.hm, G.ho, G.ht⟩ hM ⟨(va_cnB n G.ht (lw_meth w5) rfl rfl rfl (G.hn _ w1 rfl) (G.ht _ w4) hd (by rw [G.hR]; exact hR)), hy1, G.ht _ w2⟩ ⟨mm_blind, fun U hU hW => mm_start G hS hav hU hW⟩ rfl (by rw [List.length_map]; exact hlen) (by rw [← G.hm]; exact hS.2.2.2.2.1) rfl (mm_room _ _ _ ad (Nat.le_of_ble_eq_true b2)) hdg hN) hN (fun v M' hp => hK _ _ _ _ _ hp) (fun E M' ad' H' locs' ce q hp hS' hce hcv hcl => ?_)
  obtain ⟨k1, k2, k3⟩ := mm_thr_ok hK hp
  exact mm_out (N := (N.1 + c, N.2 + s)) G hnq hS' k1 k2 k3 hce hcv hcl
theorem ok_calfF (G : mm_G C own cc ret nL rm) {pc : Nat} (hnq : mm_nq C pc) {nx n idx ci cnt : Nat} {x : MethodName} {y : MethodName} {bytes : ByteArray} {maxL : Nat} {ret' : Option FieldType} {lvl c s : Nat} {sp : mm_Sp} (hsp : mm_Spec (c_l C) y (ws_ y bytes maxL ret') (mm_rm lvl c s) sp) (r : vw_C) (hc : mm_cl[ci]? = some r)
    (w1 : Cond.methodLink own idx x ∈ lw_all) (w2 : Cond.instanceMethod y ∈ lw_all) (w3 : Cond.selects r.1 x y ∈ lw_all) (w4 : Cond.initialized y.cls ∈ lw_all) (w5 : Cond.code y bytes maxL ret' ∈ lw_all) (hF : (r.1, x, y) ∈ mm_fw)
    (hd : x.cls ≠ "java/lang/invoke/MethodHandle" ∧ x.cls ≠ "java/lang/invoke/VarHandle" ∧ (parseMethodDescriptor x.desc).map (fun d => d.parameters.length) = some n) (hR : lvl + 1 ≤ rm.frames ∧ 8 + (maxL + 11) + 48 * lvl ≤ rm.locals) (hdg : decode cc pc = .ok (.invokeinterface idx cnt, 5)) (hn : pc + 5 = nx) : mm_OK C pc (o_calfF rm nx (n + 1) ci c s sp) := by
  subst hn
  intro lv st M N K hK h ad H locs ls hS
  obtain ⟨as, rest, e1, e2, h9⟩ := mm_pop_eq _ _ _ _ h
  clear h
  rw [List.append_nil] at h9
  obtain ⟨b1, b2, h9⟩ := mm_and2 h9 (fun q => q)
  obtain ⟨x0, as', e3, e4, e5⟩ := mm_rcv_ok b1
  subst e3
  have hlen : as'.length = n := by simpa using e2
  obtain ⟨⟨hc1, hc2⟩, h9⟩ := h9
  subst e1
  have hav : ∀ v ∈ (Value.ref x0 :: as'), mm_vk M v := fun v hv => hS.2.2.2.2.2.1.1 v (List.mem_append_left _ (List.mem_reverse.mpr hv))
  have hrv : ∀ v ∈ rest, mm_vk M v := fun v hv => hS.2.2.2.2.2.1.1 v (List.mem_append_right _ hv)
  have hM := hsp _ _ _ _ h9 (c_D C) (c_aC C) ad H.size
  have hN : N.1 + c ≤ (c_R C).cells ∧ N.2 + s ≤ (c_R C).slots := by rw [G.hR]; exact ⟨hc1, hc2⟩
  have hst : ((Value.ref x0 :: as').reverse ++ rest).map (mm_v ad) = (as'.map (mm_v ad)).reverse ++ .ref (ad x0) :: rest.map (mm_v ad) := by
    simp [mm_v]
  rw [hst]
  refine mm_callR5 G hS hrv (vx_runF (mm_clat G hc) (As := as'.map (mm_v ad)) (rest := rest.map (mm_v ad)) ⟨G.hx, G.hb, G.hm, G.ho, G.ht⟩ hM (va_cwF n G.ht (lw_app (mm_wsF w1 w3 w2 w4) (lw_meth w5)) rfl rfl rfl (G.hT.2.1 _ hF) hd (by rw [G.hR]; exact hR)) ⟨mm_blind, mm_recv G hS hc e4 e5, fun U hU hW => mm_start G hS hav hU hW⟩ rfl (by rw [List.length_map]; exact hlen) (by rw [← G.hm]; exact hS.2.2.2.2.1) rfl (mm_room _ _ _ ad (Nat.le_of_ble_eq_true b2)) hdg hN) hN (fun v M' hp => hK _ _ _ _ _ hp) (fun E M' ad' H' locs' ce q hp hS' hce hcv hcl => ?_)
  obtain ⟨k1, k2, k3⟩ := mm_thr_ok hK hp
  exact mm_out (N := (N.1 + c, N.2 + s)) G hnq hS' k1 k2 k3 hce hcv hcl
theorem ok_calf (G : mm_G C own cc ret nL rm) {pc : Nat} (hnq : mm_nq C pc) {nx n idx ci cnt : Nat} {x : MethodName} {y : MethodName} {bytes : ByteArray} {maxL : Nat} {ret' : Option FieldType} {lvl : Nat} {sp : mm_Sf} (hsp : ∀ c s, mm_Spec (c_l C) y (ws_ y bytes maxL ret') (mm_rm lvl c s) (sp c s)) (r : vw_C) (hc : mm_cl[ci]? = some r)
    (w1 : Cond.methodLink own idx x ∈ lw_all) (w2 : Cond.instanceMethod y ∈ lw_all) (w3 : Cond.selects r.1 x y ∈ lw_all) (w4 : Cond.initialized y.cls ∈ lw_all) (w5 : Cond.code y bytes maxL ret' ∈ lw_all) (hF : (r.1, x, y) ∈ mm_fw)
    (hd : x.cls ≠ "java/lang/invoke/MethodHandle" ∧ x.cls ≠ "java/lang/invoke/VarHandle" ∧ (parseMethodDescriptor x.desc).map (fun d => d.parameters.length) = some n) (hR : lvl + 1 ≤ rm.frames ∧ 8 + (maxL + 11) + 48 * lvl ≤ rm.locals) (hdg : decode cc pc = .ok (.invokeinterface idx cnt, 5)) (hn : pc + 5 = nx) : mm_OK C pc (o_calf rm nx (n + 1) ci sp) := by
  subst hn
  intro lv st M N K hK h ad H locs ls hS
  obtain ⟨as, rest, e1, e2, h9⟩ := mm_pop_eq _ _ _ _ h
  clear h
  rw [List.append_nil] at h9
  obtain ⟨b1, b2, h9⟩ := mm_and2 h9 (fun q => q)
  obtain ⟨x0, as', e3, e4, e5⟩ := mm_rcv_ok b1
  subst e3
  have hlen : as'.length = n := by simpa using e2
  obtain ⟨c, s, hc1, hc2, h9⟩ := h9
  subst e1
  have hav : ∀ v ∈ (Value.ref x0 :: as'), mm_vk M v := fun v hv => hS.2.2.2.2.2.1.1 v (List.mem_append_left _ (List.mem_reverse.mpr hv))
  have hrv : ∀ v ∈ rest, mm_vk M v := fun v hv => hS.2.2.2.2.2.1.1 v (List.mem_append_right _ hv)
  have hM := hsp c s _ _ _ _ h9 (c_D C) (c_aC C) ad H.size
  have hN : N.1 + c ≤ (c_R C).cells ∧ N.2 + s ≤ (c_R C).slots := by rw [G.hR]; exact ⟨hc1, hc2⟩
  have hst : ((Value.ref x0 :: as').reverse ++ rest).map (mm_v ad) = (as'.map (mm_v ad)).reverse ++ .ref (ad x0) :: rest.map (mm_v ad) := by
    simp [mm_v]
  rw [hst]
  refine mm_callR5 G hS hrv (vx_runF (mm_clat G hc) (As := as'.map (mm_v ad)) (rest := rest.map (mm_v ad)) ⟨G.hx, G.hb, G.hm, G.ho, G.ht⟩ hM (va_cwF n G.ht (lw_app (mm_wsF w1 w3 w2 w4) (lw_meth w5)) rfl rfl rfl (G.hT.2.1 _ hF) hd (by rw [G.hR]; exact hR)) ⟨mm_blind, mm_recv G hS hc e4 e5, fun U hU hW => mm_start G hS hav hU hW⟩ rfl (by rw [List.length_map]; exact hlen) (by rw [← G.hm]; exact hS.2.2.2.2.1) rfl (mm_room _ _ _ ad (Nat.le_of_ble_eq_true b2)) hdg hN) hN (fun v M' hp => hK _ _ _ _ _ hp) (fun E M' ad' H' locs' ce q hp hS' hce hcv hcl => ?_)
  obtain ⟨k1, k2, k3⟩ := mm_thr_ok hK hp
  exact mm_out (N := (N.1 + c, N.2 + s)) G hnq hS' k1 k2 k3 hce hcv hcl
theorem ok_calvFH (G : mm_G C own cc ret nL rm) {hh : List (Nat × Nat × Nat × Nat)} (hhd : mm_hd C hh) {hs : mm_H} {pc : Nat} (hhs : ∀ q ∈ hs, ∀ E, mm_ex[q.1]? = some E → mm_ct own cc nL hh pc E q.2.1 q.2.2) {nx n idx ci : Nat} {y : MethodName} {bytes : ByteArray} {maxL : Nat} {ret' : Option FieldType} {lvl c s : Nat} {sp : mm_Sp} (hsp : mm_Spec (c_l C) y (ws_ y bytes maxL ret') (mm_rm lvl c s) sp) (r : vw_C) (hc : mm_cl[ci]? = some r)
    (w1 : Cond.methodLink own idx y ∈ lw_all) (w2 : Cond.instanceMethod y ∈ lw_all) (w3 : Cond.selects r.1 y y ∈ lw_all) (w4 : Cond.initialized r.1 ∈ lw_all) (w5 : Cond.code y bytes maxL ret' ∈ lw_all)
    (hd : y.cls = r.1 ∧ y.cls ≠ "java/lang/invoke/MethodHandle" ∧ y.cls ≠ "java/lang/invoke/VarHandle" ∧ (parseMethodDescriptor y.desc).map (fun d => d.parameters.length) = some n) (hR : lvl + 1 ≤ rm.frames ∧ 8 + (maxL + 11) + 48 * lvl ≤ rm.locals) (hdg : decode cc pc = .ok (.invokevirtual idx, 3)) (hn : pc + 3 = nx) : mm_OK C pc (o_calvFH rm nx (n + 1) ci c s hs sp) := by
  subst hn
  intro lv st M N K hK h ad H locs ls hS
  obtain ⟨as, rest, e1, e2, h9⟩ := mm_pop_eq _ _ _ _ h
  clear h
  rw [List.append_nil] at h9
  obtain ⟨b1, b2, h9⟩ := mm_and2 h9 (fun q => q)
  obtain ⟨x0, as', e3, e4, e5⟩ := mm_rcv_ok b1
  subst e3
  have hlen : as'.length = n := by simpa using e2
  obtain ⟨⟨hc1, hc2⟩, h9⟩ := h9
  subst e1
  have hav : ∀ v ∈ (Value.ref x0 :: as'), mm_vk M v := fun v hv => hS.2.2.2.2.2.1.1 v (List.mem_append_left _ (List.mem_reverse.mpr hv))
  have hrv : ∀ v ∈ rest, mm_vk M v := fun v hv => hS.2.2.2.2.2.1.1 v (List.mem_append_right _ hv)
  have hM := hsp _ _ _ _ h9 (c_D C) (c_aC C) ad H.size
  have hN : N.1 + c ≤ (c_R C).cells ∧ N.2 + s ≤ (c_R C).slots := by rw [G.hR]; exact ⟨hc1, hc2⟩
  have hst : ((Value.ref x0 :: as').reverse ++ rest).map (mm_v ad) = (as'.map (mm_v ad)).reverse ++ .ref (ad x0) :: rest.map (mm_v ad) := by
    simp [mm_v]
  rw [hst]
  refine mm_callR G hS hrv (vx_runV (As := as'.map (mm_v ad)) (rest := rest.map (mm_v ad)) ⟨G.hx, G.hb, G.hm, G.ho, G.ht⟩ hM (cwV n G.ht (lw_V w1 w2 w3 w4 w5) rfl rfl rfl hd (by rw [G.hR]; exact hR)) ⟨mm_blind, mm_recv G hS hc e4 e5, fun U hU hW => mm_start G hS hav hU hW⟩ rfl (by rw [List.length_map]; exact hlen) (by rw [← G.hm]; exact hS.2.2.2.2.1) rfl (mm_room _ _ _ ad (Nat.le_of_ble_eq_true b2)) hdg hN) hN (fun v M' hp => hK _ _ _ _ _ hp) (fun E M' ad' H' locs' ce q hp hS' hce hcv hcl => ?_)
  exact mm_caught (N := (N.1 + c, N.2 + s)) G hhd hhs hK hp hS' hce hcv hcl
theorem ok_calvFWH (G : mm_G C own cc ret nL rm) {hh : List (Nat × Nat × Nat × Nat)} (hhd : mm_hd C hh) {hs : mm_H} {pc : Nat} (hhs : ∀ q ∈ hs, ∀ E, mm_ex[q.1]? = some E → mm_ct own cc nL hh pc E q.2.1 q.2.2) {nx n idx ci : Nat} {y : MethodName} {bytes : ByteArray} {maxL : Nat} {ret' : Option FieldType} {hhc : List (Nat × Nat × Nat × Nat)} {lvl c s : Nat} {sp : mm_Sp} (hsp : mm_Spec (c_l C) y (wsW_ y bytes maxL ret' hhc) (mm_rm lvl c s) sp) (r : vw_C) (hc : mm_cl[ci]? = some r)
    (w1 : Cond.methodLink own idx y ∈ lw_all) (w2 : Cond.instanceMethod y ∈ lw_all) (w3 : Cond.selects r.1 y y ∈ lw_all) (w4 : Cond.initialized r.1 ∈ lw_all) (w5 : Cond.codeWith y bytes maxL ret' hhc ∈ lw_all)
    (hd : y.cls = r.1 ∧ y.cls ≠ "java/lang/invoke/MethodHandle" ∧ y.cls ≠ "java/lang/invoke/VarHandle" ∧ (parseMethodDescriptor y.desc).map (fun d => d.parameters.length) = some n) (hR : lvl + 1 ≤ rm.frames ∧ 8 + (maxL + 11) + 48 * lvl ≤ rm.locals) (hdg : decode cc pc = .ok (.invokevirtual idx, 3)) (hn : pc + 3 = nx) : mm_OK C pc (o_calvFH rm nx (n + 1) ci c s hs sp) := by
  subst hn
  intro lv st M N K hK h ad H locs ls hS
  obtain ⟨as, rest, e1, e2, h9⟩ := mm_pop_eq _ _ _ _ h
  clear h
  rw [List.append_nil] at h9
  obtain ⟨b1, b2, h9⟩ := mm_and2 h9 (fun q => q)
  obtain ⟨x0, as', e3, e4, e5⟩ := mm_rcv_ok b1
  subst e3
  have hlen : as'.length = n := by simpa using e2
  obtain ⟨⟨hc1, hc2⟩, h9⟩ := h9
  subst e1
  have hav : ∀ v ∈ (Value.ref x0 :: as'), mm_vk M v := fun v hv => hS.2.2.2.2.2.1.1 v (List.mem_append_left _ (List.mem_reverse.mpr hv))
  have hrv : ∀ v ∈ rest, mm_vk M v := fun v hv => hS.2.2.2.2.2.1.1 v (List.mem_append_right _ hv)
  have hM := hsp _ _ _ _ h9 (c_D C) (c_aC C) ad H.size
  have hN : N.1 + c ≤ (c_R C).cells ∧ N.2 + s ≤ (c_R C).slots := by rw [G.hR]; exact ⟨hc1, hc2⟩
  have hst : ((Value.ref x0 :: as').reverse ++ rest).map (mm_v ad) = (as'.map (mm_v ad)).reverse ++ .ref (ad x0) :: rest.map (mm_v ad) := by
    simp [mm_v]
  rw [hst]
  refine mm_callR G hS hrv (vx_runVX (As := as'.map (mm_v ad)) (rest := rest.map (mm_v ad)) ⟨G.hx, G.hb, G.hm, G.ho, G.ht⟩ hM (vx_cwVW n G.ht (lw_VW w1 w2 w3 w4 w5) rfl rfl rfl hd (by rw [G.hR]; exact hR)) ⟨mm_blind, mm_recv G hS hc e4 e5, fun U hU hW => mm_start G hS hav hU hW⟩ rfl (by rw [List.length_map]; exact hlen) (by rw [← G.hm]; exact hS.2.2.2.2.1) rfl (mm_room _ _ _ ad (Nat.le_of_ble_eq_true b2)) hdg hN) hN (fun v M' hp => hK _ _ _ _ _ hp) (fun E M' ad' H' locs' ce q hp hS' hce hcv hcl => ?_)
  exact mm_caught (N := (N.1 + c, N.2 + s)) G hhd hhs hK hp hS' hce hcv hcl
theorem ok_calsFW (G : mm_G C own cc ret nL rm) {pc : Nat} (hnq : mm_nq C pc) {nx n idx : Nat} {y : MethodName} {bytes : ByteArray} {maxL : Nat} {ret' : Option FieldType} {hhc : List (Nat × Nat × Nat × Nat)} {lvl c s : Nat} {sp : mm_Sp} (hsp : mm_Spec (c_l C) y (wsW_ y bytes maxL ret' hhc) (mm_rm lvl c s) sp)
    (w1 : Cond.methodLink own idx y ∈ lw_all) (w2 : Cond.static y ∈ lw_all) (w4 : Cond.initialized y.cls ∈ lw_all) (w5 : Cond.codeWith y bytes maxL ret' hhc ∈ lw_all)
    (hd : y.cls ≠ "java/lang/invoke/MethodHandle" ∧ y.cls ≠ "java/lang/invoke/VarHandle" ∧ (parseMethodDescriptor y.desc).map (fun d => d.parameters.length) = some n) (hR : lvl + 1 ≤ rm.frames ∧ 8 + (maxL + 11) + 48 * lvl ≤ rm.locals) (hdg : decode cc pc = .ok (.invokestatic idx, 3)) (hn : pc + 3 = nx) : mm_OK C pc (o_calsF rm nx n c s sp) := by
  subst hn
  intro lv st M N K hK h ad H locs ls hS
  obtain ⟨as, rest, e1, e2, h9⟩ := mm_pop_eq _ _ _ _ h
  clear h
  rw [List.append_nil] at h9
  obtain ⟨b2, h9⟩ := mm_bif h9 (fun q => q)
  obtain ⟨⟨hc1, hc2⟩, h9⟩ := h9
  subst e1
  have hav : ∀ v ∈ as, mm_vk M v := fun v hv => hS.2.2.2.2.2.1.1 v (List.mem_append_left _ (List.mem_reverse.mpr hv))
  have hrv : ∀ v ∈ rest, mm_vk M v := fun v hv => hS.2.2.2.2.2.1.1 v (List.mem_append_right _ hv)
  have hM := hsp _ _ _ _ h9 (c_D C) (c_aC C) ad H.size
  have hN : N.1 + c ≤ (c_R C).cells ∧ N.2 + s ≤ (c_R C).slots := by rw [G.hR]; exact ⟨hc1, hc2⟩
  have hst : (as.reverse ++ rest).map (mm_v ad) = (as.map (mm_v ad)).reverse ++ rest.map (mm_v ad) := by
    simp
  rw [hst]
  refine mm_callR G hS hrv (vx_runSX (As := as.map (mm_v ad)) (rest := rest.map (mm_v ad)) ⟨G.hx, G.hb, G.hm, G.ho, G.ht⟩ hM (vx_cwSW n G.ht (lw_SW w1 w2 w4 w5) rfl rfl rfl hd (by rw [G.hR]; exact hR)) ⟨mm_blind, fun U hU hW => mm_start G hS hav hU hW⟩ rfl (by rw [List.length_map]; exact e2) (by rw [← G.hm]; exact hS.2.2.2.2.1) rfl (mm_room _ _ _ ad (Nat.le_of_ble_eq_true b2)) hdg hN) hN (fun v M' hp => hK _ _ _ _ _ hp) (fun E M' ad' H' locs' ce q hp hS' hce hcv hcl => ?_)
  obtain ⟨k1, k2, k3⟩ := mm_thr_ok hK hp
  exact mm_out (N := (N.1 + c, N.2 + s)) G hnq hS' k1 k2 k3 hce hcv hcl
end MME
