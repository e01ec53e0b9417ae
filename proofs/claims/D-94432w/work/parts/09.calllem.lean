/-! ===== calls and a method's start ===== -/
set_option maxRecDepth 100000
def mm_A (ad : Nat → Nat) (M : mm_M) (sz : Nat) : Nat → Prop := fun q => (∃ h, (M.1 h).1 ≠ 0 ∧ (M.1 h).1 < 16 ∧ ad h = q) ∨ sz ≤ q
def mm_F (D : va_G) (aC : Nat → ClassId) (ad : Nat → Nat) (M : mm_M) (A : Nat → Prop) (U : State) : Prop := va_K D mm_cl (mm_tys aC) U ∧ mm_T U ∧ mm_X ad A U U.heap ∧ mm_cs M
def mm_pre (D : va_G) (aC : Nat → ClassId) (ad : Nat → Nat) (M : mm_M) (sz : Nat) (as : List Value) (U : State) : Prop := U.heap.size = sz ∧ mm_R D aC ad M (mm_A ad M sz) U.heap ∧ mm_F D aC ad M (mm_A ad M sz) U ∧ ∀ v ∈ as, mm_vk M v
/-- the contract of a method for the arguments 'as' and the memory M -/
def mm_Met (l : Launch) (y : MethodName) (ws : List Cond) (rm : Room) (as : List Value) (M : mm_M) (Post : Option Value → mm_M → Prop) (PX : String → mm_M → Prop) : Prop :=
  ∀ (D : va_G) (aC : Nat → ClassId) (ad : Nat → Nat) (sz : Nat), vx_Met l y ws rm (va_Pc (as.map (mm_v ad)) (mm_pre D aC ad M sz as)) (mm_PQ D aC ad M (mm_A ad M sz) Post) (mm_PX D aC ad M (mm_A ad M sz) PX) rm.cells rm.slots (mm_A ad M sz)
theorem mm_blind {D : va_G} {aC : Nat → ClassId} {ad : Nat → Nat} {M : mm_M} {sz : Nat} {as av : List Value} : FrameBlind (va_Pc av (mm_pre D aC ad M sz as)) := by
  intro a U g mk q
  obtain ⟨q0, q1, q2, ⟨k1, k2, k3, k4⟩, q5⟩ := q
  exact ⟨q0, q1, q2, ⟨va_K.moved (u := U) (U := U.calling g mk a) (Vm.Alike.refl U.vm) k1, mm_T.same (u := U) (U := U.calling g mk a) rfl k2, mm_X.same (u := U) (U := U.calling g mk a) rfl k3, k4⟩, q5⟩
/-- predicate transformer of a method: arguments, memory, what must hold behind its return, behind its throw -/
abbrev mm_Sp : Type := List Value → mm_M → (Option Value → mm_M → Prop) → (String → mm_M → Prop) → Prop
def mm_Spec (l : Launch) (y : MethodName) (ws : List Cond) (rm : Room) (sp : mm_Sp) : Prop := ∀ as M Q X, sp as M Q X → mm_Met l y ws rm as M Q X
theorem mm_R.toA {D : va_G} {aC : Nat → ClassId} {ad : Nat → Nat} {M : mm_M} {A : Nat → Prop} {H : Heap} (hR : mm_R D aC ad M A H) : mm_R D aC ad M (mm_A ad M H.size) H := by
  refine ⟨fun h t n hx ht => ?_, hR.2.1, hR.2.2⟩
  obtain ⟨q1, q2, q3⟩ := hR.1 h t n hx ht
  refine ⟨fun h16 => Or.inl ⟨h, by rw [hx]; exact ht, by rw [hx]; exact h16, rfl⟩, fun h16 h48 => ⟨?_, (q2 h16 h48).2⟩, q3⟩
  rintro (⟨h', a1, a2, a3⟩ | q)
  · exact (q2 h16 h48).1 (by rw [← a3]; exact (hR.1 h' _ _ rfl a1).1 a2)
  · exact absurd (q2 h16 h48).2 (by omega)
theorem mm_R.back {D : va_G} {aC : Nat → ClassId} {ad ad' : Nat → Nat} {M M' : mm_M} {A A1 : Nat → Prop} {H H' : Heap} (hR : mm_R D aC ad M A H) (hA : ∀ q, A1 q → A q) (hag : mm_ag M ad M' ad') (hz : H.size ≤ H'.size) (hR' : mm_R D aC ad' M' A1 H') : mm_R D aC ad' M' A H' := by
  refine ⟨fun h t n hx ht => ?_, hR'.2.1, hR'.2.2⟩
  obtain ⟨q1, q2, q3⟩ := hR'.1 h t n hx ht
  refine ⟨fun h16 => hA _ (q1 h16), fun h16 h48 => ?_, q3⟩
  have hl := hag.2 h (by rw [hx]; exact h16)
  obtain ⟨e1, e2⟩ := hag.1 h hl
  have := (hR.1 h t n (e2.symm.trans hx) ht).2.1 h16 h48
  rw [e1]
  exact ⟨this.1, Nat.lt_of_lt_of_le this.2 hz⟩
theorem mm_lv.re {ad ad' : Nat → Nat} {M : mm_M} {ls : Array Slot} {lv : mm_L} (h : mm_lv ad ls lv) (hk : ∀ (i : Nat) (v : Value), lv[i]? = some (some v) → mm_vk M v) (ha : ∀ b, (M.1 b).1 ≠ 0 → ad' b = ad b) : mm_lv ad' ls lv :=
  ⟨h.1, h.2.1, fun i v hv => by rw [mm_v_eq (hk i v hv) ha]; exact h.2.2 i v hv⟩
theorem mm_map_re {ad ad' : Nat → Nat} {M : mm_M} : ∀ {st : List Value}, (∀ v ∈ st, mm_vk M v) → (∀ b, (M.1 b).1 ≠ 0 → ad' b = ad b) → st.map (mm_v ad') = st.map (mm_v ad)
  | [], _, _ => rfl
  | v :: r, h, ha => by
    rw [List.map_cons, List.map_cons, mm_v_eq (h v List.mem_cons_self) ha, mm_map_re (fun w hw => h w (List.mem_cons_of_mem _ hw)) ha]
theorem mm_vk.mono {M M' : mm_M} {v : Value} (h : mm_vk M v) (hm : ∀ b, (M.1 b).1 ≠ 0 → M'.1 b = M.1 b) : mm_vk M' v := fun b e => by rw [hm b (h b e)]; exact h b e
section MMC
variable {C : mm_C} {own : String} {cc : ByteArray} {ret : Option FieldType} {nL : Nat} {rm : Room}
theorem mm_sub {lv : mm_L} {st : List Value} {M : mm_M} {N : mm_N} {ad : Nat → Nat} {H : Heap} {locs : List Loc} {ls : Array Slot} (G : mm_G C own cc ret nL rm) (hS : mm_S C lv st M N ad H locs ls) : ∀ q, mm_A ad M H.size q → c_A C q := by
  rintro q (⟨h, a1, a2, a3⟩ | h)
  · rw [← a3]; exact (hS.2.1.1 h _ _ rfl a1).1 a2
  · exact G.hA q (Nat.le_trans hS.2.2.1.1 h)
/-- the callee's start -/
theorem mm_start {lv : mm_L} {st as : List Value} {M : mm_M} {N : mm_N} {ad : Nat → Nat} {H : Heap} {locs : List Loc} {ls : Array Slot} (G : mm_G C own cc ret nL rm) (hS : mm_S C lv st M N ad H locs ls) (hv : ∀ v ∈ as, mm_vk M v) {U : State} (hU : U.heap = H) (hW : (c_s C).WarmedH U.vm) : va_Pc (as.map (mm_v ad)) (mm_pre (c_D C) (c_aC C) ad M H.size as) (as.map (mm_v ad)).toArray U := by
  refine ⟨rfl, by rw [hU], by rw [hU]; exact hS.2.1.toA, ⟨va_K.moved hW.alike G.hK, G.hT.warm hW, ?_, ?_⟩, hv⟩
  · rw [hU]
    exact (G.hX.warm hW hS.2.2.1 (mm_sub G hS)).re G.hc (fun h hh => (hS.1.1 h hh).1)
  · intro h h1 h2 h3
    have e := G.hc h h1 h2 h3
    rw [(hS.1.1 h (by rw [e]; exact h3)).2, e]
theorem mm_behind {lv : mm_L} {st rest : List Value} {M M' : mm_M} {N N' : mm_N} {ad ad' : Nat → Nat} {H H' : Heap} {locs locs' : List Loc} {ls : Array Slot} {v : Option Value} (G : mm_G C own cc ret nL rm) (hS : mm_S C lv st M N ad H locs ls) (hr : ∀ w ∈ rest, mm_vk M w) (hag : mm_ag M ad M' ad') (hR' : mm_R (c_D C) (c_aC C) ad' M' (mm_A ad M H.size) H') (hz : H.size ≤ H'.size) (hV : va_S (c_A C) (c_s C).heap H' locs') (hv : ∀ w, v = some w → mm_vk M' w) (hN : N'.1 ≤ (c_R C).cells ∧ N'.2 ≤ (c_R C).slots) : mm_S C lv (v.toList ++ rest) M' N' ad' H' locs' ls := by
  have ha : ∀ b, (M.1 b).1 ≠ 0 → ad' b = ad b := fun b hb => (hag.1 b hb).1
  have hm : ∀ b, (M.1 b).1 ≠ 0 → M'.1 b = M.1 b := fun b hb => (hag.1 b hb).2
  refine ⟨hS.1.tr hag, hS.2.1.back (mm_sub G hS) hag hz hR', hV, hS.2.2.2.1.re hS.2.2.2.2.2.1.2 ha, hS.2.2.2.2.1, ⟨fun w hw => ?_, fun i w hw => (hS.2.2.2.2.2.1.2 i w hw).mono hm⟩, hN.1, hN.2⟩
  rcases List.mem_append.mp hw with h | h
  · exact hv w (by simpa using h)
  · exact (hr w h).mono hm
theorem mm_callR {pc : Nat} {lv : mm_L} {st rest : List Value} {st0 : List Value} {a : Array Value} {M : mm_M} {N : mm_N} {mc ms : Nat} {ad : Nat → Nat} {H : Heap} {locs : List Loc} {ls : Array Slot} {Post : Option Value → mm_M → Prop} {PX : String → mm_M → Prop} (G : mm_G C own cc ret nL rm) (hS : mm_S C lv st M N ad H locs ls) (hrest : ∀ w ∈ rest, mm_vk M w)
    (hr : vx_Run (c_p C) (c_l C) (c_e C) (c_R C) (c_s C) (c_m C) (c_a C) (c_b C) (c_t C) (c_c C) H locs N.1 N.2 mc ms (F0 (c_m C) pc ls st0) (rest.map (mm_v ad)) (mm_PQ (c_D C) (c_aC C) ad M (mm_A ad M H.size) Post a) (mm_PX (c_D C) (c_aC C) ad M (mm_A ad M H.size) PX) (mm_A ad M H.size))
    (hN : N.1 + mc ≤ (c_R C).cells ∧ N.2 + ms ≤ (c_R C).slots) (kk : ∀ v M', Post v M' → mm_W C (pc + 3) lv (v.toList ++ rest) M' (N.1 + mc, N.2 + ms))
    (kx : ∀ E M' (ad' : Nat → Nat) (H' : Heap) (locs' : List Loc) (ce : Cell) (q : Addr), PX E M' → mm_S C lv rest M' (N.1 + mc, N.2 + ms) ad' H' locs' ls → H'[q]? = some ce → ce.vm = .none → (c_s C).vm.findClass E = some ce.cls → vx_W (c_p C) (c_l C) (c_e C) (c_R C) (c_s C) (c_m C) (c_a C) (c_b C) (c_t C) (c_c C) H' locs' (N.1 + mc) (N.2 + ms) (mm_Q C) (F0 (c_m C) pc ls (rest.map (mm_v ad'))) q) :
    mm_Wc C H locs N (F0 (c_m C) pc ls st0) := by
  have hsub := mm_sub G hS
  intro T hT X
  rcases hr T hT X with ⟨v, st₀, t, T', L, h0, X', hL, e1, e2, ⟨⟨v', M', ad', hv, hp, hag, hR', hvk⟩, hF⟩, stp⟩ | ⟨q, st₀, t, T', L, E, ce, h0, X', hL, e1, e2, ⟨⟨M', ad', hp, hag, hR'⟩, hF⟩, hce, hcv, hcl, stp⟩
  · have hv : v = v'.map (mm_v ad') := by cases hv; rfl
    subst hv
    obtain ⟨k1, k2, k3⟩ := vx_keep h0 e1 hS.2.2.1 (fun q _ h => hsub q h) hsub hL hF
    have hS' := mm_behind (v := v') G hS hrest hag (H' := T'.heap) (by rw [e1]; exact hR') k1 k3 hvk (N' := (N.1 + mc, N.2 + ms)) hN
    have h2 := kk v' M' hp ad' T'.heap (locs ++ L) ls hS'
    have e9 : (v'.toList ++ rest).map (mm_v ad') = (v'.map (mm_v ad')).toList ++ rest.map (mm_v ad) := by
      rw [List.map_append, mm_map_re hrest (fun b hb => (hag.1 b hb).1)]
      cases v' <;> rfl
    rw [e9] at h2
    obtain ⟨t2, a1, b1⟩ := h2 T' rfl X'
    exact ⟨t2, stp t2 a1, b1⟩
  · obtain ⟨k1, k2, k3⟩ := vx_keep h0 e1 hS.2.2.1 (fun q _ h => hsub q h) hsub hL hF
    have hS' := mm_behind (v := none) G hS hrest hag (H' := T'.heap) (by rw [e1]; exact hR') k1 k3 (fun w e => by cases e) (N' := (N.1 + mc, N.2 + ms)) hN
    have h2 := kx E M' ad' T'.heap (locs ++ L) ce q hp hS' (by rw [e1]; exact hce) hcv hcl
    rw [mm_map_re hrest (fun b hb => (hag.1 b hb).1)] at h2
    obtain ⟨t2, a1, b1⟩ := h2 T' rfl X'
    exact ⟨t2, Steps.trans stp a1, b1⟩
end MMC
/-! the call's transformer -/
def mm_pop : Nat → List Value → List Value → (List Value → List Value → Prop) → Prop
  | 0, st, acc, f => f acc st
  | n + 1, v :: st, acc, f => mm_pop n st (v :: acc) f
  | _ + 1, [], _, _ => False
theorem mm_pop_eq : ∀ (n : Nat) (st acc : List Value) (f : List Value → List Value → Prop), mm_pop n st acc f → ∃ as rest, st = as.reverse ++ rest ∧ as.length = n ∧ f (as ++ acc) rest
  | 0, st, acc, f, h => ⟨[], st, rfl, rfl, h⟩
  | n + 1, [], _, _, h => h.elim
  | n + 1, v :: st, acc, f, h => by
    obtain ⟨as, rest, e1, e2, e3⟩ := mm_pop_eq n st (v :: acc) f h
    refine ⟨as ++ [v], rest, ?_, by simp [e2], by simpa using e3⟩
    rw [e1]
    simp
def mm_dep : List Value → Nat
  | [] => 0
  | v :: r => (match v with
    | .long _ => 2
    | .double _ => 2
    | _ => 1) + mm_dep r
theorem mm_dep_eq (ad : Nat → Nat) : ∀ (st : List Value), ((st.map (mm_v ad)).map fun v => v.category).sum = mm_dep st
  | [] => rfl
  | v :: r => by
    rw [List.map_cons, List.map_cons, List.sum_cons, mm_dep_eq ad r, mm_v_cat]
    cases v <;> rfl
def mm_rcv (ci : Nat) (as : List Value) (M : mm_M) : Bool := match as with
  | .ref h :: _ => Nat.beq (M.1 h).2 ci && (Nat.beq (M.1 h).1 1 || Nat.beq (M.1 h).1 17)
  | _ => false
/-- a throw that leaves the method -/
def mm_thr (K : mm_K) (N : mm_N) (E : String) (M : mm_M) : Prop := ∃ i, mm_ex[i]? = some E ∧ K 1 (List.replicate i none) [] M N
/-- a call of n arguments (the receiver counts) of a method that makes no cells -/
def o_callv (nx n ci : Nat) (sp : mm_Sp) : mm_O := fun lv st M N K => mm_pop n st [] (fun as r => bif mm_rcv ci as M && Nat.ble (mm_dep r) 8 then sp as M (fun v M' => K (nx + 2) lv (v.toList ++ r) M' N) (mm_thr K N) else False)
def o_calls (nx n : Nat) (sp : mm_Sp) : mm_O := fun lv st M N K => mm_pop n st [] (fun as r => bif Nat.ble (mm_dep r) 8 then sp as M (fun v M' => K (nx + 2) lv (v.toList ++ r) M' N) (mm_thr K N) else False)
section MMD
variable {C : mm_C} {own : String} {cc : ByteArray} {ret : Option FieldType} {nL : Nat} {rm : Room}
theorem mm_out {pc : Nat} {lv : mm_L} {rest st : List Value} {M : mm_M} {N : mm_N} {ad : Nat → Nat} {H : Heap} {locs : List Loc} {ls : Array Slot} {E : String} {ce : Cell} {q : Addr} (G : mm_G C own cc ret nL rm) (hout : ∀ x ∈ (c_c C).exceptionTable.toList, covers x pc = false) (hS : mm_S C lv st M N ad H locs ls) (hp : c_X C E M) (h1 : N.1 ≤ c_mc C) (h2 : N.2 ≤ c_ms C) (hce : H[q]? = some ce) (hcv : ce.vm = .none) (hcl : (c_s C).vm.findClass E = some ce.cls) : vx_W (c_p C) (c_l C) (c_e C) (c_R C) (c_s C) (c_m C) (c_a C) (c_b C) (c_t C) (c_c C) H locs N.1 N.2 (mm_Q C) (F0 (c_m C) pc ls rest) q :=
  vx_out hout G.hlk hce hcv hcl (fun t ht _ => ⟨⟨M, ad, hp, hS.1, by rw [ht]; exact hS.2.1⟩, hS.2.2.1.F ht⟩) hS.2.2.1.2.2 h1 h2
/-- no handler is there -/
def mm_nh (C : mm_C) : Prop := ∀ x ∈ (c_c C).exceptionTable.toList, False
theorem mm_thr_ok {K : mm_K} {N : mm_N} {E : String} {M : mm_M} (hK : ∀ q lv st M N, K q lv st M N → mm_Z C q lv st M N) (h : mm_thr K N E M) : c_X C E M ∧ N.1 ≤ c_mc C ∧ N.2 ≤ c_ms C := by
  obtain ⟨i, hi, h⟩ := h
  obtain ⟨⟨E', h1, h2⟩, h3⟩ := hK _ _ _ _ _ h
  rw [List.length_replicate, hi] at h1
  cases h1
  exact ⟨h2, h3⟩
theorem mm_rcv_ok {ci : Nat} {as : List Value} {M : mm_M} (h : mm_rcv ci as M = true) : ∃ x r, as = .ref x :: r ∧ (M.1 x).2 = ci ∧ ((M.1 x).1 = 1 ∨ (M.1 x).1 = 17) := by
  unfold mm_rcv at h
  split at h
  · next x r =>
    rw [Bool.and_eq_true, Bool.or_eq_true] at h
    exact ⟨x, r, rfl, mm_beq h.1, h.2.imp mm_beq mm_beq⟩
  · cases h
theorem mm_recv {lv : mm_L} {st : List Value} {M : mm_M} {N : mm_N} {ad : Nat → Nat} {H : Heap} {locs : List Loc} {ls : Array Slot} {ci x : Nat} {r : vw_C} (G : mm_G C own cc ret nL rm) (hS : mm_S C lv st M N ad H locs ls) (hc : mm_cl[ci]? = some r) (e1 : (M.1 x).2 = ci) (e2 : (M.1 x).1 = 1 ∨ (M.1 x).1 = 17) : ∃ cellB : Cell, H[ad x]? = some cellB ∧ cellB.vm.isStatics = false ∧ (c_s C).vm.findClass r.1 = some cellB.cls := by
  have key : ∀ M9 : mm_M, mm_at (c_D C) (c_aC C) ad M9 x 1 ci H → ∃ cellB : Cell, H[ad x]? = some cellB ∧ cellB.vm.isStatics = false ∧ (c_s C).vm.findClass r.1 = some cellB.cls := by
    intro M9 h
    obtain ⟨r', hr', cell, g1, g2, g3, g4⟩ := mm_at_obj h
    cases hr'.symm.trans hc
    exact ⟨cell, g1, by rw [g3]; rfl, by rw [g2]; exact (G.hK.1 ci _ hc).2.1⟩
  rcases e2 with e2 | e2
  · have hcell := hS.2.1.cell (h := x) (by rw [e2]; decide) (by rw [e2]; decide)
    rw [e2, e1] at hcell
    exact key _ hcell
  · have hcell := hS.2.1.cellK (h := x) (by rw [e2]; decide) (by rw [e2]; decide)
    rw [e2, e1] at hcell
    obtain ⟨r', hr', cell, g1, g2, g3, g4⟩ := mm_at_obj hcell
    cases hr'.symm.trans hc
    obtain ⟨c', k1, k2, k3, k4, k5⟩ := mm_hK_at g1 g3
    exact ⟨c', k1, k5, by rw [k2, g2]; exact (G.hK.1 ci _ hc).2.1⟩
theorem mm_room (m : MethodId) (pc : Nat) (ls : Array Slot) {rest : List Value} {st : List Value} (ad : Nat → Nat) (h : mm_dep rest ≤ 8) : 2 * (F0 m pc ls st).monitorRoom + ((rest.map (mm_v ad)).map fun v => v.category).sum ≤ 8 := lv_room (by rw [mm_dep_eq]; exact h)
theorem ok_callv (G : mm_G C own cc ret nL rm) (hnh : mm_nh C) {pc nx n idx ci : Nat} {y : MethodName} {bytes : ByteArray} {maxL : Nat} {ret' : Option FieldType} {rm' : Room} {sp : mm_Sp} (hsp : mm_Spec (c_l C) y (ws_ y bytes maxL ret') rm' sp) (hrc : rm'.cells = 0) (hrs : rm'.slots = 0) (r : vw_C) (hc : mm_cl[ci]? = some r)
    (w1 : Cond.methodLink own idx y ∈ lw_all) (w2 : Cond.instanceMethod y ∈ lw_all) (w3 : Cond.selects r.1 y y ∈ lw_all) (w4 : Cond.initialized r.1 ∈ lw_all) (w5 : Cond.code y bytes maxL ret' ∈ lw_all)
    (hd : y.cls = r.1 ∧ y.cls ≠ "java/lang/invoke/MethodHandle" ∧ y.cls ≠ "java/lang/invoke/VarHandle" ∧ (parseMethodDescriptor y.desc).map (fun d => d.parameters.length) = some n) (hR : rm'.frames + 1 ≤ rm.frames ∧ 8 + (maxL + 11) + rm'.locals ≤ rm.locals) (hdg : decode cc pc = .ok (.invokevirtual idx, 3)) (hn : pc + 3 = nx) : mm_OK C pc (o_callv nx (n + 1) ci sp) := by
  subst hn
  intro lv st M N K hK h ad H locs ls hS
  obtain ⟨as, rest, e1, e2, h9⟩ := mm_pop_eq _ _ _ _ h
  clear h
  rw [List.append_nil] at h9
  obtain ⟨b1, b2, h9⟩ := mm_and2 h9 (fun q => q)
  obtain ⟨x, as', e3, e4, e5⟩ := mm_rcv_ok b1
  subst e3
  have hlen : as'.length = n := by simpa using e2
  subst e1
  have hav : ∀ v ∈ (Value.ref x :: as'), mm_vk M v := fun v hv => hS.2.2.2.2.2.1.1 v (List.mem_append_left _ (List.mem_reverse.mpr hv))
  have hrv : ∀ v ∈ rest, mm_vk M v := fun v hv => hS.2.2.2.2.2.1.1 v (List.mem_append_right _ hv)
  have hM := hsp _ _ _ _ h9 (c_D C) (c_aC C) ad H.size
  rw [hrc, hrs] at hM
  have hst : ((Value.ref x :: as').reverse ++ rest).map (mm_v ad) = (as'.map (mm_v ad)).reverse ++ .ref (ad x) :: rest.map (mm_v ad) := by
    simp [mm_v]
  rw [hst]
  refine mm_callR G hS hrv (vx_runV (As := as'.map (mm_v ad)) (rest := rest.map (mm_v ad)) ⟨G.hx, G.hb, G.hm, G.ho, G.ht⟩ hM (cwV n G.ht (lw_V w1 w2 w3 w4 w5) rfl hrc hrs hd (by rw [G.hR]; exact hR)) ⟨mm_blind, mm_recv G hS hc e4 e5, fun U hU hW => mm_start G hS hav hU hW⟩ rfl (by rw [List.length_map]; exact hlen) (by rw [← G.hm]; exact hS.2.2.2.2.1) rfl (mm_room _ _ _ ad (Nat.le_of_ble_eq_true b2)) hdg ⟨hS.2.2.2.2.2.2.1, hS.2.2.2.2.2.2.2⟩) ⟨hS.2.2.2.2.2.2.1, hS.2.2.2.2.2.2.2⟩ (fun v M' hp => hK _ _ _ _ _ hp) (fun E M' ad' H' locs' ce q hp hS' hce hcv hcl => ?_)
  obtain ⟨k1, k2, k3⟩ := mm_thr_ok hK hp
  exact mm_out (N := N) G (fun z hz => (hnh z hz).elim) hS' k1 k2 k3 hce hcv hcl
theorem ok_calls (G : mm_G C own cc ret nL rm) (hnh : mm_nh C) {pc nx n idx : Nat} {y : MethodName} {bytes : ByteArray} {maxL : Nat} {ret' : Option FieldType} {rm' : Room} {sp : mm_Sp} (hsp : mm_Spec (c_l C) y (ws_ y bytes maxL ret') rm' sp) (hrc : rm'.cells = 0) (hrs : rm'.slots = 0)
    (w1 : Cond.methodLink own idx y ∈ lw_all) (w2 : Cond.static y ∈ lw_all) (w4 : Cond.initialized y.cls ∈ lw_all) (w5 : Cond.code y bytes maxL ret' ∈ lw_all)
    (hd : y.cls ≠ "java/lang/invoke/MethodHandle" ∧ y.cls ≠ "java/lang/invoke/VarHandle" ∧ (parseMethodDescriptor y.desc).map (fun d => d.parameters.length) = some n) (hR : rm'.frames + 1 ≤ rm.frames ∧ 8 + (maxL + 11) + rm'.locals ≤ rm.locals) (hdg : decode cc pc = .ok (.invokestatic idx, 3)) (hn : pc + 3 = nx) : mm_OK C pc (o_calls nx n sp) := by
  subst hn
  intro lv st M N K hK h ad H locs ls hS
  obtain ⟨as, rest, e1, e2, h9⟩ := mm_pop_eq _ _ _ _ h
  clear h
  rw [List.append_nil] at h9
  obtain ⟨b2, h9⟩ := mm_bif h9 (fun q => q)
  subst e1
  have hav : ∀ v ∈ as, mm_vk M v := fun v hv => hS.2.2.2.2.2.1.1 v (List.mem_append_left _ (List.mem_reverse.mpr hv))
  have hrv : ∀ v ∈ rest, mm_vk M v := fun v hv => hS.2.2.2.2.2.1.1 v (List.mem_append_right _ hv)
  have hM := hsp _ _ _ _ h9 (c_D C) (c_aC C) ad H.size
  rw [hrc, hrs] at hM
  have hst : (as.reverse ++ rest).map (mm_v ad) = (as.map (mm_v ad)).reverse ++ rest.map (mm_v ad) := by
    simp
  rw [hst]
  refine mm_callR G hS hrv (vx_runS (As := as.map (mm_v ad)) (rest := rest.map (mm_v ad)) ⟨G.hx, G.hb, G.hm, G.ho, G.ht⟩ hM (va_cwS n G.ht (lw_S w1 w2 w4 w5) rfl hrc hrs hd (by rw [G.hR]; exact hR)) ⟨mm_blind, fun U hU hW => mm_start G hS hav hU hW⟩ rfl (by rw [List.length_map]; exact e2) (by rw [← G.hm]; exact hS.2.2.2.2.1) rfl (mm_room _ _ _ ad (Nat.le_of_ble_eq_true b2)) hdg ⟨hS.2.2.2.2.2.2.1, hS.2.2.2.2.2.2.2⟩) ⟨hS.2.2.2.2.2.2.1, hS.2.2.2.2.2.2.2⟩ (fun v M' hp => hK _ _ _ _ _ hp) (fun E M' ad' H' locs' ce q hp hS' hce hcv hcl => ?_)
  obtain ⟨k1, k2, k3⟩ := mm_thr_ok hK hp
  exact mm_out (N := N) G (fun z hz => (hnh z hz).elim) hS' k1 k2 k3 hce hcv hcl
end MMD
/-! a method's start -/
def mm_ent : List Value → mm_L
  | [] => []
  | v :: r => if v.category = 2 then some v :: none :: mm_ent r else some v :: mm_ent r
def mm_lv0 (as : List Value) (n : Nat) : mm_L := mm_ent as ++ List.replicate (n - (mm_ent as).length) none
theorem mm_ent_len (ad : Nat → Nat) : ∀ (as : List Value), (lg_sl (as.map (mm_v ad))).length = (mm_ent as).length
  | [] => rfl
  | v :: r => by
    have ih := mm_ent_len ad r
    unfold lg_sl at ih ⊢
    rw [List.map_cons, List.flatMap_cons, List.length_append, ih, mm_v_cat]
    have e : (mm_ent (v :: r)).length = (if v.category = 2 then some v :: none :: mm_ent r else some v :: mm_ent r).length := rfl
    rw [e]
    by_cases hc : v.category = 2
    · rw [if_pos hc, if_pos hc]
      simp only [List.length_cons, List.length_nil]
      omega
    · rw [if_neg hc, if_neg hc]
      simp only [List.length_cons, List.length_nil]
      omega
theorem mm_ent_at (ad : Nat → Nat) : ∀ (as : List Value) (n i : Nat) (v : Value), (mm_ent as)[i]? = some (some v) → (n + i, mm_v ad v) ∈ lv_args n (as.map (mm_v ad))
  | [], _, _, _, h => by simp [mm_ent] at h
  | w :: r, n, i, v, h => by
    unfold mm_ent at h
    rw [List.map_cons]
    unfold lv_args
    rw [mm_v_cat]
    split at h
    · next hc =>
      rw [if_pos hc]
      match i, h with
      | 0, h =>
        simp at h
        rw [h]
        exact List.mem_cons_self
      | 1, h => simp at h
      | i + 2, h =>
        have := mm_ent_at ad r (n + 2) i v (by simpa using h)
        rw [show n + (i + 2) = n + 2 + i by omega]
        exact List.mem_cons_of_mem _ this
    · next hc =>
      rw [if_neg hc]
      match i, h with
      | 0, h =>
        simp at h
        rw [h]
        exact List.mem_cons_self
      | i + 1, h =>
        have := mm_ent_at ad r (n + 1) i v (by simpa using h)
        rw [show n + (i + 1) = n + 1 + i by omega]
        exact List.mem_cons_of_mem _ this
theorem mm_lv0_at {as : List Value} {n i : Nat} {v : Value} (h : (mm_lv0 as n)[i]? = some (some v)) : (mm_ent as)[i]? = some (some v) := by
  unfold mm_lv0 at h
  by_cases hi : i < (mm_ent as).length
  · rwa [List.getElem?_append_left hi] at h
  · rw [List.getElem?_append_right (by omega)] at h
    have := List.mem_of_getElem? h
    rw [List.mem_replicate] at this
    cases this.2
theorem mm_ent_vk {M : mm_M} : ∀ (as : List Value) (i : Nat) (v : Value), (∀ w ∈ as, mm_vk M w) → (mm_ent as)[i]? = some (some v) → mm_vk M v
  | [], _, _, _, h => by simp [mm_ent] at h
  | w :: r, i, v, hw, h => by
    have hr : ∀ w ∈ r, mm_vk M w := fun x hx => hw x (List.mem_cons_of_mem _ hx)
    unfold mm_ent at h
    split at h
    · match i, h with
      | 0, h => simp at h; rw [← h]; exact hw w List.mem_cons_self
      | 1, h => simp at h
      | i + 2, h => exact mm_ent_vk r i v hr (by simpa using h)
    · match i, h with
      | 0, h => simp at h; rw [← h]; exact hw w List.mem_cons_self
      | i + 1, h => exact mm_ent_vk r i v hr (by simpa using h)
/-- a method without handlers, by the run of its body -/
theorem mm_Met.of {l : Launch} {y : MethodName} {cc : ByteArray} {nL : Nat} {ret : Option FieldType} {rm : Room} {as : List Value} {M : mm_M} {Post : Option Value → mm_M → Prop} {PX : String → mm_M → Prop} (hl : l.stackTraces = false) (hy : plainName y.cls = true) (hn : (mm_ent as).length ≤ nL)
    (body : ∀ C : mm_C, mm_G C y.cls cc ret nL rm → mm_nh C → c_l C = l → c_Q C = Post → c_X C = PX → c_mc C = rm.cells → c_ms C = rm.slots → c_M C = M → mm_W C 0 (mm_lv0 as nL) [] M (0, 0)) : mm_Met l y (ws_ y cc nL ret) rm as M Post PX := by
  intro D aC ad sz
  refine vx_ofW (cc := cc) (maxL := nL) (ret := ret) hy rfl ?_
  intro p e s m args below meth c s₁ B hml hnx hv
  obtain ⟨rfl, hsz, hR, ⟨hK, hT, hX, hcs⟩, hvk⟩ := hv
  have hts := atoms_spec (ws := ws_ y cc nL ret) B.pre
  have hts : ∀ w ∈ lw_all, w.before _ s = true := fun w h => hts w (List.mem_cons_of_mem _ h)
  have hown : s.vm.findClass y.cls = some m.cls := findClass_of_methodNamed B.named
  let C : mm_C := ((p, l, e, rm, s, m), ((as.map (mm_v ad)).toArray, below, meth, c), (Post, PX, rm.cells, rm.slots), (D, aC, ad, M, mm_A ad M sz))
  have hG : mm_G C y.cls cc ret nL rm := ⟨B.exec, B.bytes, hown, hts, hT, hK, fun q h => Or.inr (by rw [← hsz]; exact h), B.notSynchronized, hX, hcs, B.returns, hl, hml, rfl⟩
  have hw := body C hG hnx rfl rfl rfl rfl rfl rfl
  rw [lg_entry_eq]
  have hlen : (lg_sl (as.map (mm_v ad))).length ≤ nL := by rw [mm_ent_len]; exact hn
  have hent := lv_entry (as.map (mm_v ad)) (n := nL) hlen
  generalize (lg_sl (as.map (mm_v ad)) ++ List.replicate (nL - (lg_sl (as.map (mm_v ad))).length) Slot.unset).toArray = ls at hent ⊢
  have hl0 : (mm_lv0 as nL).length = nL := by
    unfold mm_lv0
    rw [List.length_append, List.length_replicate]
    omega
  refine hw ad s.heap [] ls ⟨mm_ag.rf, hR, va_S.rf, ⟨hent.2.1, by rw [hl0]; exact hent.1, fun i v hv => ?_⟩, by rw [hent.1]; exact hml.symm, ⟨fun v hv => absurd hv List.not_mem_nil, fun i v hv => mm_ent_vk as i v hvk (mm_lv0_at hv)⟩, Nat.zero_le _, Nat.zero_le _⟩
  have h2 := mm_ent_at ad as 0 i v (mm_lv0_at hv)
  rw [Nat.zero_add] at h2
  exact hent.2.2 _ h2
/-! the judgement without its machine: from the point pc the run of the code comes to K -/
def mm_J (c : mm_P) (K : mm_K) (pc : Nat) (lv : mm_L) (st : List Value) (M : mm_M) (N : mm_N) : Prop := ∀ C : mm_C, mm_OKs C c → (∀ lv st M N, K 0 lv st M N → mm_Z C 0 lv st M N) → (∀ lv st M N, K 1 lv st M N → mm_Z C 1 lv st M N) → mm_W C pc lv st M N
def mm_JK (c : mm_P) (K : mm_K) : mm_K := fun q lv st M N => match q with
  | 0 => K 0 lv st M N
  | 1 => K 1 lv st M N
  | pc + 2 => mm_J c K pc lv st M N
theorem mm_go2 {C : mm_C} {c : mm_P} {K : mm_K} (hc : mm_OKs C c) (hK : ∀ q lv st M N, K q lv st M N → mm_Z C q lv st M N) (stops : List Nat) : ∀ (n pc : Nat) (lv : mm_L) (st : List Value) (M : mm_M) (N : mm_N), mm_run c stops K n pc lv st M N → mm_W C pc lv st M N
  | 0, pc, lv, st, M, N, h => hK _ _ _ _ _ h
  | n + 1, pc, lv, st, M, N, h => by
    unfold mm_run at h
    cases hf : mm_find c pc with
    | none => rw [hf] at h; exact hK _ _ _ _ _ h
    | some op =>
      rw [hf] at h
      refine mm_find_ok hc hf lv st M N _ ?_ h
      intro q lv st M N hq
      match q, hq with
      | 0, hq => exact hK _ _ _ _ _ hq
      | 1, hq => exact hK _ _ _ _ _ hq
      | p + 2, hq =>
        revert hq
        show (bif stops.elem p then K (p + 2) lv st M N else mm_run c stops K n p lv st M N) → mm_W C p lv st M N
        cases stops.elem p with
        | true => exact fun h => hK _ _ _ _ _ h
        | false => exact fun h => mm_go2 hc hK stops n p lv st M N h
theorem mm_J.go {c : mm_P} {K : mm_K} (stops : List Nat) (n : Nat) {pc : Nat} {lv : mm_L} {st : List Value} {M : mm_M} {N : mm_N} (h : mm_run c stops (mm_JK c K) n pc lv st M N) : mm_J c K pc lv st M N := by
  intro C hc h0 h1
  refine mm_go2 hc ?_ stops n pc lv st M N h
  intro q lv st M N hq
  match q, hq with
  | 0, hq => exact h0 _ _ _ _ hq
  | 1, hq => exact h1 _ _ _ _ hq
  | p + 2, hq => exact hq C hc h0 h1
/-- the contract's end as the judgement's: the return, the throw -/
def mm_ret (Q : Option Value → mm_M → Prop) (X : String → mm_M → Prop) (mc ms : Nat) : mm_K := fun q lv st M N => match q with
  | 0 => Q st.head? M ∧ N.1 ≤ mc ∧ N.2 ≤ ms
  | 1 => (∃ E, mm_ex[lv.length]? = some E ∧ X E M) ∧ N.1 ≤ mc ∧ N.2 ≤ ms
  | _ => False
theorem mm_Met.J {l : Launch} {y : MethodName} {cc : ByteArray} {nL : Nat} {ret : Option FieldType} {rm : Room} {as : List Value} {M : mm_M} {Q : Option Value → mm_M → Prop} {X : String → mm_M → Prop} {c : mm_P} (hl : l.stackTraces = false) (hy : plainName y.cls = true) (hn : (mm_ent as).length ≤ nL)
    (ht : ∀ C : mm_C, mm_G C y.cls cc ret nL rm → mm_nh C → mm_OKs C c) (h : mm_J c (mm_ret Q X rm.cells rm.slots) 0 (mm_lv0 as nL) [] M (0, 0)) : mm_Met l y (ws_ y cc nL ret) rm as M Q X := by
  refine mm_Met.of hl hy hn (fun C G hnh _ eQ eX e1 e2 _ => ?_)
  refine h C (ht C G hnh) ?_ ?_
  · rintro lv st M N ⟨h1, h2, h3⟩
    exact ⟨by rw [eQ]; exact h1, by rw [e1]; exact h2, by rw [e2]; exact h3⟩
  · rintro lv st M N ⟨⟨E, h0, h1⟩, h2, h3⟩
    exact ⟨⟨E, h0, by rw [eX]; exact h1⟩, by rw [e1]; exact h2, by rw [e2]; exact h3⟩
