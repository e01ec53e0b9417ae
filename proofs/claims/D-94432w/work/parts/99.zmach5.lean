/-! ===== constructors: the method's name is known ===== -/
theorem mm_Met.ofN {l : Launch} {y : MethodName} {cc : ByteArray} {nL : Nat} {ret : Option FieldType} {rm : Room} {as : List Value} {M : mm_M} {Post : Option Value → mm_M → Prop} {PX : String → mm_M → Prop} (hl : l.stackTraces = false) (hy : plainName y.cls = true) (hn : (mm_ent as).length ≤ nL)
    (body : ∀ C : mm_C, mm_G C y.cls cc ret nL rm → mm_nh C → (c_t C).name = y.name → c_l C = l → c_Q C = Post → c_X C = PX → c_mc C = rm.cells → c_ms C = rm.slots → c_M C = M → mm_W C 0 (mm_lv0 as nL) [] M (0, 0)) : mm_Met l y (ws_ y cc nL ret) rm as M Post PX := by
  intro D aC ad sz
  refine vx_ofW (cc := cc) (maxL := nL) (ret := ret) hy rfl ?_
  intro p e s m args below meth c s₁ B hml hnx hv
  obtain ⟨rfl, hsz, hR, ⟨hK, hT, hX, hcs⟩, hvk⟩ := hv
  have hts := atoms_spec (ws := ws_ y cc nL ret) B.pre
  have hts : ∀ w ∈ lw_all, w.before _ s = true := fun w h => hts w (List.mem_cons_of_mem _ h)
  have hown : s.vm.findClass y.cls = some m.cls := findClass_of_methodNamed B.named
  have hnm : meth.name = y.name := (name_of_methodNamed B.named B.method).1
  let C : mm_C := ((p, l, e, rm, s, m), ((as.map (mm_v ad)).toArray, below, meth, c), (Post, PX, rm.cells, rm.slots), (D, aC, ad, M, mm_A ad M sz))
  have hG : mm_G C y.cls cc ret nL rm := ⟨B.exec, B.bytes, hown, hts, hT, hK, fun q h => Or.inr (by rw [← hsz]; exact h), B.notSynchronized, hX, hcs, B.returns, hl, hml, rfl⟩
  have hw := body C hG hnx hnm rfl rfl rfl rfl rfl rfl
  rw [lg_entry_eq]
  have hlen : (lg_sl (as.map (mm_v ad))).length ≤ nL := by rw [mm_ent_len]; exact hn
  have hent := lv_entry (as.map (mm_v ad)) (n := nL) hlen
  generalize (lg_sl (as.map (mm_v ad)) ++ List.replicate (nL - (lg_sl (as.map (mm_v ad))).length) Slot.unset).toArray = ls at hent ⊢
  have hl0 : (mm_lv0 as nL).length = nL := by
    unfold mm_lv0
    rw [List.length_append, List.length_replicate]
    omega
  refine hw ad s.heap [] ls ⟨mm_ag.rf, hR, va_S.rf, ⟨hent.2.1, by rw [hl0]; exact hent.1, fun i v hv => ?_⟩, by rw [hent.1]; exact hml.symm, ⟨fun v hv => absurd hv List.not_mem_nil, fun i v hv => mm_ent_vk as i v hvk (mm_lv0_at hv)⟩, Nat.zero_le _, Nat.zero_le _⟩
  have h2 := mm_ent_at ad as 0 i v (mm_lv0_at hv)
  rw [Nat.zero_add] at h2
  exact hent.2.2 _ h2
theorem zz_Met.JI {l : Launch} {y : MethodName} {cc : ByteArray} {nL : Nat} {ret : Option FieldType} {rm : Room} {sp : zz_Sp} {c : zz_P} (hl : l.stackTraces = false) (hy : plainName y.cls = true) (hyn : y.name = "<init>")
    (ht : ∀ C : mm_C, mm_G C y.cls cc ret nL rm → mm_nh C → (c_t C).name = "<init>" → zz_OKs C c) (h : ∀ as M Q X, sp as M Q X → Nat.ble (zz_ent as).length nL = true ∧ zz_JD M c (zz_retD M Q X rm.cells rm.slots) 0 (zz_lv0 as nL) [] M (0, 0)) : mm_Spec l y (ws_ y cc nL ret) rm (zE sp) := by
  rintro as M Q X ⟨as', M', Q', X', rfl, rfl, hs, hQ, hX⟩
  obtain ⟨h1, h2⟩ := h _ _ _ _ hs
  refine mm_Met.drop (mm_Met.ofN hl hy (by rw [← zz_ent_e, eL_len]; exact Nat.le_of_ble_eq_true h1) (fun C G hnh hnm _ eQ eX e1 e2 eM' => ?_))
  intro ad H locs ls hS
  have hcl : mm_cl0 (eM M') := hS.2.1.2.2
  rw [← zz_lv0_e] at hS
  have h3 := h2 C eM' hcl (ht C G hnh (hnm.trans hyn)) (fun lv st M N hq => ?_) (fun lv st M N hq => ?_)
  · exact h3 ad H locs ls hS
  · have := zz_retD_0 hQ hq
    exact ⟨by rw [eQ]; exact this.1, by rw [e1]; exact this.2.1, by rw [e2]; exact this.2.2⟩
  · obtain ⟨⟨E, k1, k2⟩, k3, k4⟩ := zz_retD_1 hX hq
    exact ⟨⟨E, k1, by rw [eX]; exact k2⟩, by rw [e1]; exact k3, by rw [e2]; exact k4⟩
theorem zz_Met.JN {l : Launch} {y : MethodName} {cc : ByteArray} {nL : Nat} {ret : Option FieldType} {rm : Room} {sp : zz_Sp} {c : zz_P} (hl : l.stackTraces = false) (hy : plainName y.cls = true) (hyn : y.name = "<init>")
    (ht : ∀ C : mm_C, mm_G C y.cls cc ret nL rm → mm_nh C → (c_t C).name = "<init>" → zz_OKs C c) (h : ∀ as M Q X, sp as M Q X → Nat.ble (zz_ent as).length nL = true ∧ zz_J c (zz_ret Q X rm.cells rm.slots) 0 (zz_lv0 as nL) [] M (0, 0)) : mm_Spec l y (ws_ y cc nL ret) rm (zE sp) := by
  rintro as M Q X ⟨as', M', Q', X', rfl, rfl, hs, hQ, hX⟩
  obtain ⟨h1, h2⟩ := h _ _ _ _ hs
  refine mm_Met.ofN hl hy (by rw [← zz_ent_e, eL_len]; exact Nat.le_of_ble_eq_true h1) (fun C G hnh hnm _ eQ eX e1 e2 _ => ?_)
  have h3 := h2 C (ht C G hnh (hnm.trans hyn)) ?_ ?_
  · rw [zz_lv0_e] at h3
    exact h3
  · intro lv st M N hq
    obtain ⟨h2, h3, h1⟩ := mm_and2 (show (bif Nat.ble N.1 rm.cells && Nat.ble N.2 rm.slots then Q' st.head? M else False) from hq) (fun q => q)
    refine ⟨?_, by rw [e1]; exact Nat.le_of_ble_eq_true h2, by rw [e2]; exact Nat.le_of_ble_eq_true h3⟩
    rw [eQ, List.head?_map]
    exact hQ _ _ h1
  · intro lv st M N hq
    obtain ⟨h2, h3, h1⟩ := mm_and2 (show (bif Nat.ble N.1 rm.cells && (Nat.ble N.2 rm.slots && Nat.ble lv.length 5) then X' lv.length M else False) from hq) (fun q => q)
    rw [Bool.and_eq_true] at h3
    have h4 := Nat.le_of_ble_eq_true h3.2
    have h5 : ∃ E, mm_ex[lv.length]? = some E := ⟨mm_ex[lv.length]'(by show lv.length < 6; omega), List.getElem?_eq_getElem _⟩
    obtain ⟨E, hE⟩ := h5
    exact ⟨⟨E, by rw [eL_len]; exact hE, by rw [eX]; exact hX _ _ _ hE h1⟩, by rw [e1]; exact Nat.le_of_ble_eq_true h2, by rw [e2]; exact Nat.le_of_ble_eq_true h3.1⟩
/-! ===== super.m(..) ===== -/
theorem lw_SU {own : String} {idx : Nat} {y : MethodName} {b : ByteArray} {L : Nat} {r : Option FieldType} (h1 : Cond.methodLink own idx y ∈ lw_all) (h0 : Cond.sameMethod y.cls y.cls y.name y.desc ∈ lw_all) (h3 : Cond.superclass own y.cls ∈ lw_all) (h2 : Cond.instanceMethod y ∈ lw_all) (h4 : Cond.initialized y.cls ∈ lw_all) (h5 : Cond.code y b L r ∈ lw_all) : GoodIn lw_all (va_wsSU own idx y (ws_ y b L r)) := by
  refine lw_app ?_ (lw_meth h5)
  intro w hw
  simp only [List.mem_cons, List.not_mem_nil, or_false] at hw
  rcases hw with e | e | e | e | e
  · rw [e]; exact h1
  · rw [e]; exact h0
  · rw [e]; exact h3
  · rw [e]; exact h2
  · rw [e]; exact h4
section MMP
variable {C : mm_C} {own : String} {cc : ByteArray} {ret : Option FieldType} {nL : Nat} {rm : Room}
theorem ok_calpF (G : mm_G C own cc ret nL rm) {pc : Nat} (hnq : mm_nq C pc) {nx n idx ci : Nat} {y : MethodName} {bytes : ByteArray} {maxL : Nat} {ret' : Option FieldType} {lvl c s : Nat} {sp : mm_Sp} (hsp : mm_Spec (c_l C) y (ws_ y bytes maxL ret') (mm_rm lvl c s) sp) (r : vw_C) (hc : mm_cl[ci]? = some r)
    (w1 : Cond.methodLink own idx y ∈ lw_all) (w0 : Cond.sameMethod y.cls y.cls y.name y.desc ∈ lw_all) (w3 : Cond.superclass own y.cls ∈ lw_all) (w2 : Cond.instanceMethod y ∈ lw_all) (w4 : Cond.initialized y.cls ∈ lw_all) (w5 : Cond.code y bytes maxL ret' ∈ lw_all)
    (hd : y.name ≠ "<init>" ∧ (parseMethodDescriptor y.desc).map (fun d => d.parameters.length) = some n) (hR : lvl + 1 ≤ rm.frames ∧ 8 + (maxL + 11) + 48 * lvl ≤ rm.locals) (hdg : decode cc pc = .ok (.invokespecial idx, 3)) (hn : pc + 3 = nx) : mm_OK C pc (o_calvF rm nx (n + 1) ci c s sp) := by
  subst hn
  intro lv st M N K hK h ad H locs ls hS
  obtain ⟨as, rest, e1, e2, h9⟩ := mm_pop_eq _ _ _ _ h
  clear h
  rw [List.append_nil] at h9
  obtain ⟨b1, b2, h9⟩ := mm_and2 h9 (fun q => q)
  obtain ⟨x0, as', e3, e4, e5⟩ := mm_rcv_ok b1
  subst e3
  have hlen : as'.length = n := by simpa using e2
  obtain ⟨⟨hc1, hc2⟩, h9⟩ := h9
  subst e1
  have hav : ∀ v ∈ (Value.ref x0 :: as'), mm_vk M v := fun v hv => hS.2.2.2.2.2.1.1 v (List.mem_append_left _ (List.mem_reverse.mpr hv))
  have hrv : ∀ v ∈ rest, mm_vk M v := fun v hv => hS.2.2.2.2.2.1.1 v (List.mem_append_right _ hv)
  have hM := hsp _ _ _ _ h9 (c_D C) (c_aC C) ad H.size
  have hN : N.1 + c ≤ (c_R C).cells ∧ N.2 + s ≤ (c_R C).slots := by rw [G.hR]; exact ⟨hc1, hc2⟩
  have hst : ((Value.ref x0 :: as').reverse ++ rest).map (mm_v ad) = (as'.map (mm_v ad)).reverse ++ .ref (ad x0) :: rest.map (mm_v ad) := by
    simp [mm_v]
  rw [hst]
  obtain ⟨-, hfc, kC, hkC, hkind⟩ := G.hK.1 ci _ hc
  refine mm_callR G hS hrv (vx_runSU (C := r.1) (As := as'.map (mm_v ad)) (rest := rest.map (mm_v ad)) ⟨hfc, kC, hkC, hkind⟩ ⟨G.hx, G.hb, G.hm, G.ho, G.ht⟩ hM (va_cwSU n G.ht (lw_SU w1 w0 w3 w2 w4 w5) rfl rfl rfl hd (by rw [G.hR]; exact hR)) ⟨mm_blind, mm_recv G hS hc e4 e5, fun U hU hW => mm_start G hS hav hU hW⟩ rfl (by rw [List.length_map]; exact hlen) (by rw [← G.hm]; exact hS.2.2.2.2.1) rfl (mm_room _ _ _ ad (Nat.le_of_ble_eq_true b2)) hdg hN) hN (fun v M' hp => hK _ _ _ _ _ hp) (fun E M' ad' H' locs' ce q hp hS' hce hcv hcl => ?_)
  obtain ⟨k1, k2, k3⟩ := mm_thr_ok hK hp
  exact mm_out (N := (N.1 + c, N.2 + s)) G hnq hS' k1 k2 k3 hce hcv hcl
end MMP
/-! ===== a method that another one overrides ===== -/
theorem lw_O {own : String} {idx : Nat} {C owner : String} {x y : MethodName} {b : ByteArray} {L : Nat} {r : Option FieldType} (h1 : Cond.methodLink own idx x ∈ lw_all) (h0 : Cond.sameMethod x.cls owner x.name x.desc ∈ lw_all) (h6 : Cond.instanceMethod ⟨owner, x.name, x.desc⟩ ∈ lw_all) (h3 : Cond.selects C x y ∈ lw_all) (h2 : Cond.instanceMethod y ∈ lw_all) (h4 : Cond.initialized y.cls ∈ lw_all) (h5 : Cond.code y b L r ∈ lw_all) : GoodIn lw_all (va_wsO own idx C owner x y (ws_ y b L r)) := by
  refine lw_app ?_ (lw_meth h5)
  intro w hw
  simp only [List.mem_cons, List.not_mem_nil, or_false] at hw
  rcases hw with e | e | e | e | e | e
  · rw [e]; exact h1
  · rw [e]; exact h0
  · rw [e]; exact h6
  · rw [e]; exact h3
  · rw [e]; exact h2
  · rw [e]; exact h4
section MMO
variable {C : mm_C} {own : String} {cc : ByteArray} {ret : Option FieldType} {nL : Nat} {rm : Room}
theorem ok_caloF (G : mm_G C own cc ret nL rm) {pc : Nat} (hnq : mm_nq C pc) {nx n idx ci : Nat} {x y : MethodName} {owner : String} {bytes b0 : ByteArray} {maxL m0 : Nat} {ret' r0 : Option FieldType} {lvl c s : Nat} {sp : mm_Sp} (hsp : mm_Spec (c_l C) y (ws_ y bytes maxL ret') (mm_rm lvl c s) sp) (r : vw_C) (hc : mm_cl[ci]? = some r)
    (w1 : Cond.methodLink own idx x ∈ lw_all) (w0 : Cond.sameMethod x.cls owner x.name x.desc ∈ lw_all) (w6 : Cond.instanceMethod ⟨owner, x.name, x.desc⟩ ∈ lw_all) (w7 : Cond.code ⟨owner, x.name, x.desc⟩ b0 m0 r0 ∈ lw_all) (w2 : Cond.instanceMethod y ∈ lw_all) (w3 : Cond.selects r.1 x y ∈ lw_all) (w4 : Cond.initialized y.cls ∈ lw_all) (w5 : Cond.code y bytes maxL ret' ∈ lw_all)
    (hd : owner ≠ "java/lang/invoke/MethodHandle" ∧ owner ≠ "java/lang/invoke/VarHandle" ∧ (parseMethodDescriptor x.desc).map (fun d => d.parameters.length) = some n) (hR : lvl + 1 ≤ rm.frames ∧ 8 + (maxL + 11) + 48 * lvl ≤ rm.locals) (hdg : decode cc pc = .ok (.invokevirtual idx, 3)) (hn : pc + 3 = nx) : mm_OK C pc (o_calvF rm nx (n + 1) ci c s sp) := by
  subst hn
  intro lv st M N K hK h ad H locs ls hS
  obtain ⟨as, rest, e1, e2, h9⟩ := mm_pop_eq _ _ _ _ h
  clear h
  rw [List.append_nil] at h9
  obtain ⟨b1, b2, h9⟩ := mm_and2 h9 (fun q => q)
  obtain ⟨x0, as', e3, e4, e5⟩ := mm_rcv_ok b1
  subst e3
  have hlen : as'.length = n := by simpa using e2
  obtain ⟨⟨hc1, hc2⟩, h9⟩ := h9
  subst e1
  have hav : ∀ v ∈ (Value.ref x0 :: as'), mm_vk M v := fun v hv => hS.2.2.2.2.2.1.1 v (List.mem_append_left _ (List.mem_reverse.mpr hv))
  have hrv : ∀ v ∈ rest, mm_vk M v := fun v hv => hS.2.2.2.2.2.1.1 v (List.mem_append_right _ hv)
  have hM := hsp _ _ _ _ h9 (c_D C) (c_aC C) ad H.size
  have hN : N.1 + c ≤ (c_R C).cells ∧ N.2 + s ≤ (c_R C).slots := by rw [G.hR]; exact ⟨hc1, hc2⟩
  have hst : ((Value.ref x0 :: as').reverse ++ rest).map (mm_v ad) = (as'.map (mm_v ad)).reverse ++ .ref (ad x0) :: rest.map (mm_v ad) := by
    simp [mm_v]
  rw [hst]
  refine mm_callR G hS hrv (vx_runU (C := r.1) (As := as'.map (mm_v ad)) (rest := rest.map (mm_v ad)) ⟨G.hx, G.hb, G.hm, G.ho, G.ht⟩ hM (va_cwO n G.ht (lw_O w1 w0 w6 w3 w2 w4 w5) rfl rfl rfl w7 hd (by rw [G.hR]; exact hR)) ⟨mm_blind, mm_recv G hS hc e4 e5, fun U hU hW => mm_start G hS hav hU hW⟩ rfl (by rw [List.length_map]; exact hlen) (by rw [← G.hm]; exact hS.2.2.2.2.1) rfl (mm_room _ _ _ ad (Nat.le_of_ble_eq_true b2)) hdg hN) hN (fun v M' hp => hK _ _ _ _ _ hp) (fun E M' ad' H' locs' ce q hp hS' hce hcv hcl => ?_)
  obtain ⟨k1, k2, k3⟩ := mm_thr_ok hK hp
  exact mm_out (N := (N.1 + c, N.2 + s)) G hnq hS' k1 k2 k3 hce hcv hcl
end MMO
/-! ===== a private method of a class above ===== -/
section
variable {p : Program} {l : Launch} {e : Env} {R : Room} {s : State} {m : MethodId} {args : Array Value} {below : List Frame} {meth : Method} {c : Code} {H : Heap} {locs : List Loc} {cells slots : Nat}
theorem mm_callP {T : State} {locs : List Loc} {cells slots : Nat} (X : Stand p l e R s m args below meth c T locs cells slots) (hexec : p.tables.exec = Jvm.exec) {own : String} {index : Nat} {y : MethodName} {bytes : ByteArray} {maxL : Nat} {ret : Option FieldType}
    (hown : s.vm.findClass own = some m.cls) (hlink : (Cond.methodLink own index y).before args s = true) (hsame : (Cond.sameMethod y.cls y.cls y.name y.desc).before args s = true) (howner : y.cls ≠ "java/lang/invoke/MethodHandle" ∧ y.cls ≠ "java/lang/invoke/VarHandle")
    (hpriv : s.PrivateAt y) (hinst : (Cond.instanceMethod y).before args s = true) (hcode : (Cond.code y bytes maxL ret).before args s = true)
    {W : Nat} {Pre : Pt → Array Value → Prop} {Post : Pt → Array Value → Option Value → Pt → Prop} {PostX : Pt → Array Value → Addr → Pt → Prop} (hK : vx_Back l R p e below s args y 3 W Pre Post PostX)
    {b : Addr} {cellB : Cell} (hcell : T.heap[b]? = some cellB) (hobj : cellB.vm.isStatics = false)
    {g : JFrame} (hg : g.method = m) (hsize : g.locals.size = c.maxLocals) {argsL rest : List Value} (hlen : ∀ sig, parseMethodDescriptor y.desc = some sig → argsL.length = sig.parameters.length)
    (hstack : g.stack = argsL.reverse ++ .ref b :: rest) (hW : 2 * g.monitorRoom + (rest.map fun v => v.category).sum ≤ W) (hdg : decode c.code g.pc = .ok (.invokevirtual index, 3))
    (hpre : ∀ vm₁, s.WarmedH vm₁ → Pre ⟨T.setVm vm₁, locs, cells, slots⟩ (Value.ref b :: argsL).toArray) :
    (∃ (v : Option Value) (vm₁ : Vm) (B : Pt), s.WarmedH vm₁ ∧ Stand p l e R s m args below meth c B.U B.locs B.cells B.slots ∧ Post ⟨T.setVm vm₁, locs, cells, slots⟩ (Value.ref b :: argsL).toArray v B ∧
      ∀ target, Steps p.tables e below (B.U.setTop { g with pc := g.pc + 3, stack := v.toList ++ rest }) target → Steps p.tables e below (T.setTop g) target) ∨
    (∃ (q : Addr) (vm₁ : Vm) (B : Pt), s.WarmedH vm₁ ∧ Stand p l e R s m args below meth c B.U B.locs B.cells B.slots ∧ PostX ⟨T.setVm vm₁, locs, cells, slots⟩ (Value.ref b :: argsL).toArray q B ∧
      Steps p.tables e below (T.setTop g) ((B.U.setTop { g with stack := rest }).pushFrame (.throwing q))) := by
  obtain ⟨mk, methM, hnamed, hmethM, hstM, habM⟩ := Cond.instanceMethod_spec hinst
  obtain ⟨methM', cM, hmethM', -, -, -, -, -, -, hsigM⟩ := Cond.code_spec hnamed hcode
  cases hmethM.symm.trans hmethM'
  obtain ⟨cn, ck, r1, hcn, hck, hni, hf, hn1⟩ := Cond.sameMethod_found hsame
  have hn : s.methodNamed? ⟨y.cls, y.name, y.desc⟩ = some mk := hnamed
  have hpm : cn = mk.cls := Option.some.inj (hcn.symm.trans (findClass_of_methodNamed hnamed))
  have hselP : selectMethod e.platform s.vm cellB.cls mk = .method mk := selectMethod_private hmethM (hpriv mk methM hnamed hmethM)
  obtain ⟨vm₁, X₁, hstep₁⟩ := X.invokevirtualUp hexec hown hlink hsame howner hn hmethM hstM (a := b) (cell := cellB) hcell
    (fun z h => by rw [h] at hobj; cases hobj) hselP hmethM habM (by rw [← hpm]; exact hck) hni (g := g) hg (argsL := argsL) (rest := rest) (hlen _ hsigM) hstack hdg
  rcases hK m meth c ⟨T.setVm vm₁, locs, cells, slots⟩ { g with stack := rest } (.invokevirtual index) mk (Value.ref b :: argsL).toArray X₁ hg hsize hdg hW (X₁.named hnamed) (hpre vm₁ X₁.warmed) with ⟨v, B, X', hpost, hsteps⟩ | ⟨q, B, X', hpost, hsteps⟩
  · exact Or.inl ⟨v, vm₁, B, X₁.warmed, X', hpost, fun target h => hstep₁ _ fun acts => by rw [doInvoke_state]; exact hsteps.trans h⟩
  · exact Or.inr ⟨q, vm₁, B, X₁.warmed, X', hpost, hstep₁ _ fun acts => by rw [doInvoke_state]; exact hsteps⟩
def mm_wsP (own : String) (idx : Nat) (y : MethodName) (ws : List Cond) : List Cond := ([.methodLink own idx y, .sameMethod y.cls y.cls y.name y.desc, .instanceMethod y, .initialized y.cls] : List Cond) ++ ws
theorem lw_P {own : String} {idx : Nat} {y : MethodName} {b : ByteArray} {L : Nat} {r : Option FieldType} (h1 : Cond.methodLink own idx y ∈ lw_all) (h0 : Cond.sameMethod y.cls y.cls y.name y.desc ∈ lw_all) (h2 : Cond.instanceMethod y ∈ lw_all) (h4 : Cond.initialized y.cls ∈ lw_all) (h5 : Cond.code y b L r ∈ lw_all) : GoodIn lw_all (mm_wsP own idx y (ws_ y b L r)) := by
  refine lw_app ?_ (lw_meth h5)
  intro w hw
  simp only [List.mem_cons, List.not_mem_nil, or_false] at hw
  rcases hw with e | e | e | e
  · rw [e]; exact h1
  · rw [e]; exact h0
  · rw [e]; exact h2
  · rw [e]; exact h4
abbrev mm_CP (R : Room) (s : State) (args : Array Value) (own : String) (index : Nat) (y : MethodName) (bytes : ByteArray) (maxL : Nat) (ret : Option FieldType) (ws : List Cond) (rm : Room) (mc ms n : Nat) : Prop :=
  (rm.cells = mc ∧ rm.slots = ms ∧ rm.frames + 1 ≤ R.frames ∧ 8 + (maxL + 11) + rm.locals ≤ R.locals ∧ (∀ w ∈ ws, ∀ (a' : Array Value) (U : State), s.WarmedH U.vm → w.before a' U = true) ∧ Cond.code y bytes maxL ret ∈ ws) ∧
  (Cond.methodLink own index y).before args s = true ∧ (Cond.sameMethod y.cls y.cls y.name y.desc).before args s = true ∧ (Cond.instanceMethod y).before args s = true ∧ (Cond.initialized y.cls).before args s = true ∧ (Cond.code y bytes maxL ret).before args s = true ∧ (y.cls ≠ "java/lang/invoke/MethodHandle" ∧ y.cls ≠ "java/lang/invoke/VarHandle") ∧ (∀ sig, parseMethodDescriptor y.desc = some sig → n = sig.parameters.length)
theorem mm_cwP {own : String} {index maxL mc ms : Nat} {y : MethodName} {bytes : ByteArray} {ret : Option FieldType} {Ts ws ws' : List Cond} {rm : Room} (n : Nat) (ht : ∀ w ∈ Ts, w.before args s = true) (hT : GoodIn Ts (mm_wsP own index y ws)) (hw : ws = Cond.code y bytes maxL ret :: ws') (hrc : rm.cells = mc) (hrs : rm.slots = ms)
    (hd : (y.cls ≠ "java/lang/invoke/MethodHandle" ∧ y.cls ≠ "java/lang/invoke/VarHandle") ∧ (parseMethodDescriptor y.desc).map (fun d => d.parameters.length) = some n) (hR : rm.frames + 1 ≤ R.frames ∧ 8 + (maxL + 11) + rm.locals ≤ R.locals) : mm_CP R s args own index y bytes maxL ret ws rm mc ms n := by
  have ok : ∀ w ∈ mm_wsP own index y ws, w.before args s = true := fun w h => ht w (hT w h).1
  have hG : GoodIn Ts ws := fun w h => hT w (by unfold mm_wsP; exact List.mem_append_right _ h)
  have hc : Cond.code y bytes maxL ret ∈ ws := by rw [hw]; exact List.mem_cons_self
  refine ⟨⟨hrc, hrs, hR.1, hR.2, pay_in ht hG, hc⟩, ok _ (by simp [mm_wsP]), ok _ (by simp [mm_wsP]), ok _ (by simp [mm_wsP]), ok _ (by simp [mm_wsP]), ht _ (hG _ hc).1, hd.1, fun sig h => ?_⟩
  have h2 := hd.2
  rw [h] at h2
  exact (Option.some.inj h2).symm
theorem mm_runP {y : MethodName} {bytes cc : ByteArray} {maxL nL mc ms n index : Nat} {ret : Option FieldType} {ws : List Cond} {rm : Room} {Pc : Array Value → State → Prop} {Qc : Array Value → State → Outcome → State → Prop} {XC : String → State → State → Prop} {free : Addr → Prop} {Ts : List Cond} {own C : String} {b : Addr} {As rest : List Value} {g : JFrame}
    (S : CallFix p m c cc nL s args Ts own) (hM : vx_Met l y ws rm Pc Qc XC mc ms free) (cw : mm_CP R s args own index y bytes maxL ret ws rm mc ms n) (hpr : s.PrivateAt y) (hp : PreV s H C b Pc As)
    (hg : g.method = m) (hn : As.length = n) (hsize : g.locals.size = nL) (hstack : g.stack = As.reverse ++ .ref b :: rest) (hW : 2 * g.monitorRoom + (rest.map fun v => v.category).sum ≤ 8) (hdg : decode cc g.pc = .ok (.invokevirtual index, 3)) (hf : cells + mc ≤ R.cells ∧ slots + ms ≤ R.slots) :
    vx_Run p l e R s m args below meth c H locs cells slots mc ms g rest (Qc (Value.ref b :: As).toArray) XC free := by
  obtain ⟨⟨hrc, hrs, hfr, hlo, hws, hcw⟩, hl1, hl2, hl4, hini, hcode, hno, hlen⟩ := cw
  have hK : vx_Back l R p e below s args y 3 8 (PreOf R mc ms Pc) (PostOf Qc mc ms free) (vx_Post XC mc ms free) := vx_back (bytes := bytes) (maxL := maxL) (ret := ret) hM hp.1 hrc hrs hfr hlo hws hcw (fun a' U hW => word_at hW (Or.inl (by first | rfl | simp [Cond.onTables, Cond.keeps, Cond.steady])) hini)
  obtain ⟨hx, hb, hml, ho, -⟩ := S
  obtain ⟨-, ⟨cellB, hcB, hoB, hclB⟩, hPc⟩ := hp
  intro T hT X
  rcases mm_callP X hx (bytes := bytes) (maxL := maxL) (ret := ret) ho hl1 hl2 hno hpr hl4 hcode hK (by rw [hT]; exact hcB) hoB hg (hsize.trans hml.symm) (argsL := As) (rest := rest) (fun sig h => hn.trans (hlen sig h)) hstack hW (by rw [hb]; exact hdg)
    (fun vm₁ hW₁ => ⟨hf.1, hf.2, hPc (T.setVm vm₁) hT hW₁⟩) with ⟨v, vm₁, ⟨U', l2, c2, s2⟩, hW₁, X', ⟨g', mk, t, L, e1, e2, hq, h1, hL, h2, h3⟩, st⟩ | ⟨q, vm₁, ⟨U', l2, c2, s2⟩, hW₁, X', ⟨g', mk, t, L, E, ce, e1, e2, hq, hce, hcv, hcl, h1, hL, h2, h3⟩, st⟩
  · dsimp only [Pt.U, Pt.locs, Pt.cells, Pt.slots] at X' e1 e2 h1 h2 h3 st
    subst h1; subst h2; subst h3
    exact Or.inl ⟨v, (T.setVm vm₁).calling g' mk (Value.ref b :: As).toArray, t, U', L, hT, X', hL, e1, e2, hq, st⟩
  · dsimp only [Pt.U, Pt.locs, Pt.cells, Pt.slots] at X' e1 e2 h1 h2 h3 st hcl
    subst h1; subst h2; subst h3
    exact Or.inr ⟨q, (T.setVm vm₁).calling g' mk (Value.ref b :: As).toArray, t, U', L, E, ce, hT, X', hL, e1, e2, hq, hce, hcv, vx_cls hW₁ hcl, st⟩
end
section MMQ
variable {C : mm_C} {own : String} {cc : ByteArray} {ret : Option FieldType} {nL : Nat} {rm : Room}
theorem ok_calrF (G : mm_G C own cc ret nL rm) {pc : Nat} (hnq : mm_nq C pc) {nx n idx ci : Nat} {y : MethodName} {bytes : ByteArray} {maxL : Nat} {ret' : Option FieldType} {lvl c s : Nat} {sp : mm_Sp} (hsp : mm_Spec (c_l C) y (ws_ y bytes maxL ret') (mm_rm lvl c s) sp) (r : vw_C) (hc : mm_cl[ci]? = some r)
    (w1 : Cond.methodLink own idx y ∈ lw_all) (w0 : Cond.sameMethod y.cls y.cls y.name y.desc ∈ lw_all) (w3 : Cond.privateMethod y ∈ lw_tbl) (w2 : Cond.instanceMethod y ∈ lw_all) (w4 : Cond.initialized y.cls ∈ lw_all) (w5 : Cond.code y bytes maxL ret' ∈ lw_all)
    (hd : (y.cls ≠ "java/lang/invoke/MethodHandle" ∧ y.cls ≠ "java/lang/invoke/VarHandle") ∧ (parseMethodDescriptor y.desc).map (fun d => d.parameters.length) = some n) (hR : lvl + 1 ≤ rm.frames ∧ 8 + (maxL + 11) + 48 * lvl ≤ rm.locals) (hdg : decode cc pc = .ok (.invokevirtual idx, 3)) (hn : pc + 3 = nx) : mm_OK C pc (o_calvF rm nx (n + 1) ci c s sp) := by
  subst hn
  intro lv st M N K hK h ad H locs ls hS
  obtain ⟨as, rest, e1, e2, h9⟩ := mm_pop_eq _ _ _ _ h
  clear h
  rw [List.append_nil] at h9
  obtain ⟨b1, b2, h9⟩ := mm_and2 h9 (fun q => q)
  obtain ⟨x0, as', e3, e4, e5⟩ := mm_rcv_ok b1
  subst e3
  have hlen : as'.length = n := by simpa using e2
  obtain ⟨⟨hc1, hc2⟩, h9⟩ := h9
  subst e1
  have hav : ∀ v ∈ (Value.ref x0 :: as'), mm_vk M v := fun v hv => hS.2.2.2.2.2.1.1 v (List.mem_append_left _ (List.mem_reverse.mpr hv))
  have hrv : ∀ v ∈ rest, mm_vk M v := fun v hv => hS.2.2.2.2.2.1.1 v (List.mem_append_right _ hv)
  have hM := hsp _ _ _ _ h9 (c_D C) (c_aC C) ad H.size
  have hN : N.1 + c ≤ (c_R C).cells ∧ N.2 + s ≤ (c_R C).slots := by rw [G.hR]; exact ⟨hc1, hc2⟩
  have hst : ((Value.ref x0 :: as').reverse ++ rest).map (mm_v ad) = (as'.map (mm_v ad)).reverse ++ .ref (ad x0) :: rest.map (mm_v ad) := by
    simp [mm_v]
  rw [hst]
  refine mm_callR G hS hrv (mm_runP (C := r.1) (As := as'.map (mm_v ad)) (rest := rest.map (mm_v ad)) ⟨G.hx, G.hb, G.hm, G.ho, G.ht⟩ hM (mm_cwP n G.ht (lw_P w1 w0 w2 w4 w5) rfl rfl rfl hd (by rw [G.hR]; exact hR)) (Cond.privateMethod_at (G.hn _ w3 rfl)) ⟨mm_blind, mm_recv G hS hc e4 e5, fun U hU hW => mm_start G hS hav hU hW⟩ rfl (by rw [List.length_map]; exact hlen) (by rw [← G.hm]; exact hS.2.2.2.2.1) rfl (mm_room _ _ _ ad (Nat.le_of_ble_eq_true b2)) hdg hN) hN (fun v M' hp => hK _ _ _ _ _ hp) (fun E M' ad' H' locs' ce q hp hS' hce hcv hcl => ?_)
  obtain ⟨k1, k2, k3⟩ := mm_thr_ok hK hp
  exact mm_out (N := (N.1 + c, N.2 + s)) G hnq hS' k1 k2 k3 hce hcv hcl
end MMQ
/-! ===== families of contracts out of single ones ===== -/
theorem mm_pop_ex {k : Nat → Nat → List Value → List Value → Prop} : ∀ (n : Nat) (st acc : List Value), mm_pop n st acc (fun as r => ∃ c s, k c s as r) → ∃ c s, mm_pop n st acc (k c s)
  | 0, _, _, h => h
  | _ + 1, [], _, h => h.elim
  | n + 1, v :: st, acc, h => mm_pop_ex n st (v :: acc) h
theorem mm_pop_mo {k k' : List Value → List Value → Prop} (hk : ∀ as r, k as r → k' as r) : ∀ (n : Nat) (st acc : List Value), mm_pop n st acc k → mm_pop n st acc k'
  | 0, _, _, h => hk _ _ h
  | _ + 1, [], _, h => h.elim
  | n + 1, v :: st, acc, h => mm_pop_mo hk n st (v :: acc) h
theorem ok_famv {C : mm_C} {pc : Nat} {rm : Room} {nx n ci : Nat} {sp : Nat → Nat → mm_Sp} (h : ∀ c s, mm_OK C pc (o_calvF rm nx n ci c s (sp c s))) : mm_OK C pc (o_calv rm nx n ci sp) := by
  intro lv st M N K hK hh
  obtain ⟨c, s, h2⟩ := mm_pop_ex (k := fun c s as r => bif mm_rcv ci as M && Nat.ble (mm_dep r) 8 then (N.1 + c ≤ rm.cells ∧ N.2 + s ≤ rm.slots) ∧ sp c s as M (fun v M' => K (nx + 2) lv (v.toList ++ r) M' (N.1 + c, N.2 + s)) (mm_thr K (N.1 + c, N.2 + s)) else False) n st [] (mm_pop_mo (fun as r hq => by
    obtain ⟨b1, b2, h9⟩ := mm_and2 hq (fun q => q)
    obtain ⟨c, s, h3⟩ := h9
    refine ⟨c, s, ?_⟩
    rw [b1, b2]
    exact ⟨⟨h3.1, h3.2.1⟩, h3.2.2⟩) n st [] hh)
  exact h c s lv st M N K hK h2
/-! ===== the end of a contract whose cost is no written number ===== -/
def zz_retP (Q : Option zv → zz_M → Prop) (X : Nat → zz_M → Prop) (mc ms : Nat) : zz_K := fun q lv st M N => match q with
  | 0 => (N.1 ≤ mc ∧ N.2 ≤ ms) ∧ Q st.head? M
  | 1 => (N.1 ≤ mc ∧ N.2 ≤ ms) ∧ lv.length ≤ 5 ∧ X lv.length M
  | _ => False
theorem zz_retP_J {Q : Option zv → zz_M → Prop} {X : Nat → zz_M → Prop} {mc ms : Nat} {c : zz_P} {pc : Nat} {lv : zz_L} {st : List zv} {M : zz_M} {N : mm_N} (h : zz_J c (zz_retP Q X mc ms) pc lv st M N) : zz_J c (zz_ret Q X mc ms) pc lv st M N := by
  intro C hc h0 h1
  refine h C hc (fun lv st M N hq => h0 _ _ _ _ ?_) (fun lv st M N hq => h1 _ _ _ _ ?_)
  · obtain ⟨⟨a, b⟩, c⟩ := hq
    show (bif Nat.ble N.1 mc && Nat.ble N.2 ms then Q st.head? M else False)
    rw [Nat.ble_eq_true_of_le a, Nat.ble_eq_true_of_le b]
    exact c
  · obtain ⟨⟨a, b⟩, d, c⟩ := hq
    show (bif Nat.ble N.1 mc && (Nat.ble N.2 ms && Nat.ble lv.length 5) then X lv.length M else False)
    rw [Nat.ble_eq_true_of_le a, Nat.ble_eq_true_of_le b, Nat.ble_eq_true_of_le d]
    exact c
/-! ===== a field of a class above, by the name of the class below ===== -/
section
variable {C : mm_C} {own : String} {cc : ByteArray} {ret : Option FieldType} {nL : Nat} {rm : Room}
theorem mm_fldS (G : mm_G C own cc ret nL rm) {idx : Nat} {R o n d : String} (hl : Cond.fieldLink own idx R n d ∈ lw_all) (hs : Cond.sameField R o n d ∈ lw_all) {cf i : Nat} {kf : Class} {f : Field} (hi : (c_s C).fieldFound? o n d = some (cf, kf, i, f)) : (c_s C).fieldFound? R n d = some (cf, kf, i, f) := by
  obtain ⟨_, c', k', i', f', hi', -, -⟩ := Cond.fieldLink_spec G.ho (G.ht _ hl) ({} : Platform) rfl
  have := Cond.sameField_spec hi' (G.ht _ hs)
  rw [hi] at this
  cases this
  exact hi'
theorem ok_getS (G : mm_G C own cc ret nL rm) {pc nx idx ci kd k : Nat} {R : String} (r : vw_C) (hc : mm_cl[ci]? = some r) (hk : k < r.2.2) (hkd : mm_kd ci k = kd) (hl : Cond.fieldLink own idx R (r.2.1 k).2.1 (r.2.1 k).2.2.1 ∈ lw_all) (hs : Cond.sameField R (r.2.1 k).1 (r.2.1 k).2.1 (r.2.1 k).2.2.1 ∈ lw_all) (hd : decode cc pc = .ok (.getfield idx, 3)) (hn : pc + 3 = nx) : mm_OK C pc (o_get nx ci kd k) :=
  ok_getG G (idx := idx) hc hk hkd (fun hi hst g1 g2 g3 kk => W.getf G.hx G.hb G.ho (G.ht _ hl) (mm_fldS G hl hs hi) hst g1 g2 g3 rfl rfl hd kk) hn
theorem mm_pwS (G : mm_G C own cc ret nL rm) {pc idx ci k : Nat} {R : String} (r : vw_C) (hc : mm_cl[ci]? = some r) (hk : k < r.2.2) (hfin : (r.2.1 k).2.2.2 = false) (hl : Cond.fieldLink own idx R (r.2.1 k).2.1 (r.2.1 k).2.2.1 ∈ lw_all) (hs : Cond.sameField R (r.2.1 k).1 (r.2.1 k).2.1 (r.2.1 k).2.2.1 ∈ lw_all) (hd : decode cc pc = .ok (.putfield idx, 3)) : mm_PW C own idx pc ci k r := by
  intro N ad v rest H locs ls cf i kf f a cell hn hf hi hst g1 g3 g2 hlt kk
  obtain ⟨-, hfc, kC, hkC, hkind⟩ := G.hK.1 ci _ hc
  have h6 := u_store hfc hkC hkind (mm_lay G hc hk hfin) hi ((mm_clok ci r hc).2.1 k hk) hn hf
  exact W.putK G.hx G.hb (f := f) ⟨G.ho, G.ht _ hl, ⟨_, _, _, mm_fldS G hl hs hi⟩, hst⟩ (by rw [g2]; exact h6) g1 g3 hlt rfl rfl hd kk
end
