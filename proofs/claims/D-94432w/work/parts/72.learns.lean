/-! ===== the component learns what comes behind ===== -/
set_option maxRecDepth 100000
/-! methods of a class that has entries of the machine, but none for this method -/
theorem vx_ofWF {l : Launch} {y : MethodName} {ws ws' : List Cond} {rm : Room} {Pc : Array Value → State → Prop} {Qc : Array Value → State → Outcome → State → Prop} {XC : String → State → State → Prop} {mc ms : Nat} {free : Addr → Prop} {cc : ByteArray} {maxL : Nat} {ret : Option FieldType}
    (hy : plainFor y = true) (hw : ws = Cond.code y cc maxL ret :: ws')
    (body : ∀ p e s m args below meth c s₁, BodyLoose p l y (headSpec ws rm) cc maxL ret e s m args below meth c s₁ → c.maxLocals = maxL → (∀ x ∈ c.exceptionTable.toList, False) → Pc args s →
      W p l e (headSpec ws rm).room s m args below meth c s.heap [] 0 0 (vx_MQ below Qc XC args s mc ms free) (entryFrame m args maxL)) : vx_Met l y ws rm Pc Qc XC mc ms free := by
  refine MetFree.of_bodySF (code := cc) (maxLocals := maxL) (ret := ret) hy ?_ ?_
  · intro args s m h hn
    obtain ⟨meth, c, h1, h2, h3, h4, h5, h6, -, -⟩ := Cond.code_spec hn (atoms_spec (ws := ws) h _ (by rw [hw]; exact List.mem_cons_self))
    exact ⟨meth, c, h1, h2, h3, h4, h5, h6⟩
  · intro p e s m args below meth c s₁ B hml hP _
    have hh0 : s₁.heap = s.heap := by rw [B.state]; rfl
    have ht : ∀ x ∈ c.exceptionTable.toList, False := by
      obtain ⟨meth9, c9, h1, h2, -, -, -, -, h7, -⟩ := Cond.code_spec B.named (atoms_spec (ws := ws) B.pre _ (by rw [hw]; exact List.mem_cons_self))
      cases Option.some.inj (h1.symm.trans B.method)
      cases Option.some.inj (h2.symm.trans (Stand.of_body B).code)
      intro x hx
      rw [Array.isEmpty_iff.mp h7] at hx
      cases hx
    obtain ⟨t, a1, o, b1, b2, b3⟩ := body p e s m args below meth c s₁ B hml ht hP s₁ hh0 (Stand.of_body B)
    exact ⟨t, o, a1, b1, b2, b3⟩
theorem mm_Met.ofF {l : Launch} {y : MethodName} {cc : ByteArray} {nL : Nat} {ret : Option FieldType} {rm : Room} {as : List Value} {M : mm_M} {Post : Option Value → mm_M → Prop} {PX : String → mm_M → Prop} (hl : l.stackTraces = false) (hy : plainFor y = true) (hn : (mm_ent as).length ≤ nL)
    (body : ∀ C : mm_C, mm_G C y.cls cc ret nL rm → mm_nh C → c_l C = l → c_Q C = Post → c_X C = PX → c_mc C = rm.cells → c_ms C = rm.slots → c_M C = M → mm_W C 0 (mm_lv0 as nL) [] M (0, 0)) : mm_Met l y (ws_ y cc nL ret) rm as M Post PX := by
  intro D aC ad sz
  refine vx_ofWF (cc := cc) (maxL := nL) (ret := ret) hy rfl ?_
  intro p e s m args below meth c s₁ B hml hnx hv
  obtain ⟨rfl, hsz, hR, ⟨hK, hT, hX, hcs⟩, hvk⟩ := hv
  have hts := atoms_spec (ws := ws_ y cc nL ret) B.pre
  have hts : ∀ w ∈ lw_all, w.before _ s = true := fun w h => hts w (List.mem_cons_of_mem _ h)
  have hown : s.vm.findClass y.cls = some m.cls := findClass_of_methodNamed B.named
  let C : mm_C := ((p, l, e, rm, s, m), ((as.map (mm_v ad)).toArray, below, meth, c), (Post, PX, rm.cells, rm.slots), (D, aC, ad, M, mm_A ad M sz))
  have hG : mm_G C y.cls cc ret nL rm := ⟨B.exec, B.bytes, hown, hts, hT, hK, fun q h => Or.inr (by rw [← hsz]; exact h), B.notSynchronized, hX, hcs, B.returns, hl, hml, rfl⟩
  have hw := body C hG hnx rfl rfl rfl rfl rfl rfl
  rw [lg_entry_eq]
  have hlen : (lg_sl (as.map (mm_v ad))).length ≤ nL := by rw [mm_ent_len]; exact hn
  have hent := lv_entry (as.map (mm_v ad)) (n := nL) hlen
  generalize (lg_sl (as.map (mm_v ad)) ++ List.replicate (nL - (lg_sl (as.map (mm_v ad))).length) Slot.unset).toArray = ls at hent ⊢
  have hl0 : (mm_lv0 as nL).length = nL := by
    unfold mm_lv0
    rw [List.length_append, List.length_replicate]
    omega
  refine hw ad s.heap [] ls ⟨mm_ag.rf, hR, va_S.rf, ⟨hent.2.1, by rw [hl0]; exact hent.1, fun i v hv => ?_⟩, by rw [hent.1]; exact hml.symm, ⟨fun v hv => absurd hv List.not_mem_nil, fun i v hv => mm_ent_vk as i v hvk (mm_lv0_at hv)⟩, Nat.zero_le _, Nat.zero_le _⟩
  have h2 := mm_ent_at ad as 0 i v (mm_lv0_at hv)
  rw [Nat.zero_add] at h2
  exact hent.2.2 _ h2
theorem zz_Met.JF {l : Launch} {y : MethodName} {cc : ByteArray} {nL : Nat} {ret : Option FieldType} {rm : Room} {sp : zz_Sp} {c : zz_P} (hl : l.stackTraces = false) (hy : plainFor y = true)
    (ht : ∀ C : mm_C, mm_G C y.cls cc ret nL rm → mm_nh C → zz_OKs C c) (h : ∀ as M Q X, sp as M Q X → Nat.ble (zz_ent as).length nL = true ∧ zz_J c (zz_ret Q X rm.cells rm.slots) 0 (zz_lv0 as nL) [] M (0, 0)) : mm_Spec l y (ws_ y cc nL ret) rm (zE sp) := by
  rintro as M Q X ⟨as', M', Q', X', rfl, rfl, hs, hQ, hX⟩
  obtain ⟨h1, h2⟩ := h _ _ _ _ hs
  refine mm_Met.ofF hl hy (by rw [← zz_ent_e, eL_len]; exact Nat.le_of_ble_eq_true h1) (fun C G hnh _ eQ eX e1 e2 _ => ?_)
  have h3 := h2 C (ht C G hnh) ?_ ?_
  · rw [zz_lv0_e] at h3
    exact h3
  · intro lv st M N hq
    obtain ⟨h2, h3, h1⟩ := mm_and2 (show (bif Nat.ble N.1 rm.cells && Nat.ble N.2 rm.slots then Q' st.head? M else False) from hq) (fun q => q)
    refine ⟨?_, by rw [e1]; exact Nat.le_of_ble_eq_true h2, by rw [e2]; exact Nat.le_of_ble_eq_true h3⟩
    rw [eQ, List.head?_map]
    exact hQ _ _ h1
  · intro lv st M N hq
    obtain ⟨h2, h3, h1⟩ := mm_and2 (show (bif Nat.ble N.1 rm.cells && (Nat.ble N.2 rm.slots && Nat.ble lv.length 5) then X' lv.length M else False) from hq) (fun q => q)
    rw [Bool.and_eq_true] at h3
    have h4 := Nat.le_of_ble_eq_true h3.2
    have h5 : ∃ E, mm_ex[lv.length]? = some E := ⟨mm_ex[lv.length]'(by show lv.length < 6; omega), List.getElem?_eq_getElem _⟩
    obtain ⟨E, hE⟩ := h5
    exact ⟨⟨E, by rw [eL_len]; exact hE, by rw [eX]; exact hX _ _ _ hE h1⟩, by rw [e1]; exact Nat.le_of_ble_eq_true h2, by rw [e2]; exact Nat.le_of_ble_eq_true h3.1⟩
def zJ4_min : zz_Sp := fun as M Q X => match as with
  | [.inl a, .inl b] => R32 a ∧ R32 b ∧ (a ≤ b → Q (some (vi a)) M) ∧ (¬ a ≤ b → Q (some (vi b)) M)
  | _ => False

def zpJ4_min : zz_P := [(0, zo_ild 1 0), (1, zo_ild 2 1), (2, zo_cgt false false 5 9), (5, zo_ild 6 0), (6, zo_goto 10), (9, zo_ild 10 1), (10, zo_iret)]
theorem ztJ4_min {C : mm_C} (G : mm_G C RJ4 cJ4_min (some .int) 2 (mm_rm 1 0 0)) (hnh : mm_nh C) : zz_OKs C zpJ4_min :=
  ⟨zz_of (ok_iload_n G dJ4_min_0 rfl rfl) (z_ild _ _),
   zz_of (ok_iload_n G dJ4_min_1 rfl rfl) (z_ild _ _),
   zz_of (ok_cgt G dJ4_min_2 rfl rfl) (z_cgt _ _ _ _),
   zz_of (ok_iload_n G dJ4_min_5 rfl rfl) (z_ild _ _),
   zz_of (ok_goto G dJ4_min_6 rfl) (z_goto _),
   zz_of (ok_iload_n G dJ4_min_9 rfl rfl) (z_ild _ _),
   zz_of (ok_iret G dJ4_min_10) (z_iret), trivial⟩

theorem zwJ4_min_0 {Q : Option zv → zz_M → Prop} {X : Nat → zz_M → Prop} {M : zz_M} {a : Int} {b : Int} (h : R32 a ∧ (R32 b ∧ ((b < a → Q (some (vi b)) M) ∧ (¬ b < a → Q (some (vi a)) M)))) : zz_J zpJ4_min (zz_ret Q X 0 0) 0 [some (vi a), some (vi b)] [] M (0, 0) := zz_J.go [] 400 h

theorem zmJ4_min (l : Launch) (hl : l.stackTraces = false) : mm_Spec l yJ4_min (ws_ yJ4_min cJ4_min 2 (some .int)) (mm_rm 1 0 0) (zE zJ4_min) := by
  refine zz_Met.JF hl (by decide +kernel) (fun C G hnh => ztJ4_min G hnh) ?_
  rintro as M Q X h
  unfold zJ4_min at h
  split at h
  rotate_left
  · exact h.elim
  rename_i a b
  refine ⟨rfl, ?_⟩
  obtain ⟨h1, h2, q1, q2⟩ := h
  refine zwJ4_min_0 ?_
  (repeat' (first | omega | exact q1 (by omega) | exact q2 (by omega) | apply And.intro | intro _)) <;> omega
def zJ4_max : zz_Sp := fun as M Q X => match as with
  | [.inl a, .inl b] => R32 a ∧ R32 b ∧ (b ≤ a → Q (some (vi a)) M) ∧ (¬ b ≤ a → Q (some (vi b)) M)
  | _ => False

def zpJ4_max : zz_P := [(0, zo_ild 1 0), (1, zo_ild 2 1), (2, zo_clt false false 5 9), (5, zo_ild 6 0), (6, zo_goto 10), (9, zo_ild 10 1), (10, zo_iret)]
theorem ztJ4_max {C : mm_C} (G : mm_G C RJ4 cJ4_max (some .int) 2 (mm_rm 1 0 0)) (hnh : mm_nh C) : zz_OKs C zpJ4_max :=
  ⟨zz_of (ok_iload_n G dJ4_max_0 rfl rfl) (z_ild _ _),
   zz_of (ok_iload_n G dJ4_max_1 rfl rfl) (z_ild _ _),
   zz_of (ok_clt G dJ4_max_2 rfl rfl) (z_clt _ _ _ _),
   zz_of (ok_iload_n G dJ4_max_5 rfl rfl) (z_ild _ _),
   zz_of (ok_goto G dJ4_max_6 rfl) (z_goto _),
   zz_of (ok_iload_n G dJ4_max_9 rfl rfl) (z_ild _ _),
   zz_of (ok_iret G dJ4_max_10) (z_iret), trivial⟩

theorem zwJ4_max_0 {Q : Option zv → zz_M → Prop} {X : Nat → zz_M → Prop} {M : zz_M} {a : Int} {b : Int} (h : R32 a ∧ (R32 b ∧ ((a < b → Q (some (vi b)) M) ∧ (¬ a < b → Q (some (vi a)) M)))) : zz_J zpJ4_max (zz_ret Q X 0 0) 0 [some (vi a), some (vi b)] [] M (0, 0) := zz_J.go [] 400 h

theorem zmJ4_max (l : Launch) (hl : l.stackTraces = false) : mm_Spec l yJ4_max (ws_ yJ4_max cJ4_max 2 (some .int)) (mm_rm 1 0 0) (zE zJ4_max) := by
  refine zz_Met.JF hl (by decide +kernel) (fun C G hnh => ztJ4_max G hnh) ?_
  rintro as M Q X h
  unfold zJ4_max at h
  split at h
  rotate_left
  · exact h.elim
  rename_i a b
  refine ⟨rfl, ?_⟩
  obtain ⟨h1, h2, q1, q2⟩ := h
  refine zwJ4_max_0 ?_
  (repeat' (first | omega | exact q1 (by omega) | exact q2 (by omega) | apply And.intro | intro _)) <;> omega
def zJ4_abs : zz_Sp := fun as M Q X => match as with
  | [.inl a] => (-2147483648 < a ∧ a < 2147483648) ∧ (0 ≤ a → Q (some (vi a)) M) ∧ (a < 0 → Q (some (vi (-a))) M)
  | _ => False

def zpJ4_abs : zz_P := [(0, zo_ild 1 0), (1, zo_ifge false 4 9), (4, zo_ild 5 0), (5, zo_ineg 6), (6, zo_goto 10), (9, zo_ild 10 0), (10, zo_iret)]
theorem ztJ4_abs {C : mm_C} (G : mm_G C RJ4 cJ4_abs (some .int) 1 (mm_rm 1 0 0)) (hnh : mm_nh C) : zz_OKs C zpJ4_abs :=
  ⟨zz_of (ok_iload_n G dJ4_abs_0 rfl rfl) (z_ild _ _),
   zz_of (ok_ifge G dJ4_abs_1 rfl rfl) (z_ifge _ _ _),
   zz_of (ok_iload_n G dJ4_abs_4 rfl rfl) (z_ild _ _),
   zz_of (ok_ineg G dJ4_abs_5 rfl) (z_ineg _),
   zz_of (ok_goto G dJ4_abs_6 rfl) (z_goto _),
   zz_of (ok_iload_n G dJ4_abs_9 rfl rfl) (z_ild _ _),
   zz_of (ok_iret G dJ4_abs_10) (z_iret), trivial⟩

theorem zwJ4_abs_0 {Q : Option zv → zz_M → Prop} {X : Nat → zz_M → Prop} {M : zz_M} {a : Int} (h : R32 a ∧ ((0 ≤ a → Q (some (vi a)) M) ∧ (¬ 0 ≤ a → Q (some (vi (-a))) M))) : zz_J zpJ4_abs (zz_ret Q X 0 0) 0 [some (vi a)] [] M (0, 0) := zz_J.go [] 400 h

theorem zmJ4_abs (l : Launch) (hl : l.stackTraces = false) : mm_Spec l yJ4_abs (ws_ yJ4_abs cJ4_abs 1 (some .int)) (mm_rm 1 0 0) (zE zJ4_abs) := by
  refine zz_Met.JF hl (by decide +kernel) (fun C G hnh => ztJ4_abs G hnh) ?_
  rintro as M Q X h
  unfold zJ4_abs at h
  split at h
  rotate_left
  · exact h.elim
  rename_i a
  refine ⟨rfl, ?_⟩
  obtain ⟨h1, q1, q2⟩ := h
  refine zwJ4_abs_0 ?_
  (repeat' (first | omega | exact q1 (by omega) | exact q2 (by omega) | apply And.intro | intro _)) <;> omega
def zX1_ended : zz_Sp := fun as M Q X => match as with
  | [.inr (.inr (some h_)), .inr (.inr (some s)), .inl was] => bif Nat.beq h_ 100 && Nat.beq M.1.1 2 && Nat.beq s 112 then (was = 0 ∧ scV (cx M.2.1 112) ∧ (0 ≤ cx M.2.1 112 7 ∧ cx M.2.1 112 7 ≤ 100) ∧ (0 ≤ cx M.2.1 112 8 ∧ cx M.2.1 112 8 ≤ 100) ∧ Q (some (vi (enV (cx M.2.1 112)))) ((2, M.1.2), M.2.1, M.2.2.1, M.2.2.2)) else False
  | _ => False

def zpX1_ended : zz_P := [(0, zo_ald 1 1), (1, zo_get 4 2 2 1), (4, zo_c 5 (vi 0)), (5, zo_ialc 6 0), (6, zo_ald 7 1), (7, zo_get 10 2 2 1), (10, zo_c 11 (vi 1)), (11, zo_ialc 12 1), (12, zo_iadd 13), (13, zo_ild 14 2), (14, zo_cne false false 17 24), (17, zo_ald 18 1), (18, zo_callv 21 1 2 zX3_code_112), (21, zo_goto 47), (24, zo_c 25 (vi (-1))), (25, zo_c 26 (vi 2)), (26, zo_ald 27 1), (27, zo_get 30 2 2 1), (30, zo_c 31 (vi 1)), (31, zo_ialc 32 1), (32, zo_ifle false 35 39), (35, zo_c 36 (vi 1)), (36, zo_goto 40), (39, zo_c 40 (vi 0)), (40, zo_imul 41), (41, zo_ald 42 1), (42, zo_get 45 2 0 3), (45, zo_iadd 46), (46, zo_isub 47), (47, zo_iret)]
theorem ztX1_ended {C : mm_C} (G : mm_G C RX1 cX1_ended (some .int) 3 (mm_rm 2 0 0)) (hnh : mm_nh C) : zz_OKs C zpX1_ended :=
  ⟨zz_of (ok_aload_n G dX1_ended_0 rfl rfl) (z_ald _ _),
   zz_of (ok_getN G (nx := 4) (ci := 2) (kd := 2) (k := 1) (RX3, TX3, 7) rfl (by decide) rfl q183 dX1_ended_1 rfl) (z_get _ _ _ _),
   zz_of (ok_iconst G (v := 0) dX1_ended_4 (by decide) rfl) (z_cn 5 0),
   zz_of (ok_iald G dX1_ended_5 rfl) (z_ialc _ _),
   zz_of (ok_aload_n G dX1_ended_6 rfl rfl) (z_ald _ _),
   zz_of (ok_getN G (nx := 10) (ci := 2) (kd := 2) (k := 1) (RX3, TX3, 7) rfl (by decide) rfl q183 dX1_ended_7 rfl) (z_get _ _ _ _),
   zz_of (ok_iconst G (v := 1) dX1_ended_10 (by decide) rfl) (z_cn 11 1),
   zz_of (ok_iald G dX1_ended_11 rfl) (z_ialc _ _),
   zz_of (ok_iadd G dX1_ended_12 rfl) (z_iadd _),
   zz_of (ok_iload_n G dX1_ended_13 rfl rfl) (z_ild _ _),
   zz_of (ok_cne G dX1_ended_14 rfl rfl) (z_cne _ _ _ _),
   zz_of (ok_aload_n G dX1_ended_17 rfl rfl) (z_ald _ _),
   zz_of (ok_callv G hnh (zmX3_code_112 _ G.hst) rfl rfl (RX3, TX3, 7) rfl q1597 q1598 q1599 q87 q1600 (by decide +kernel) ⟨by decide, by decide⟩ dX1_ended_18 rfl) (z_callv _ _ _ _),
   zz_of (ok_goto G dX1_ended_21 rfl) (z_goto _),
   zz_of (ok_iconst G (v := (zI (-1))) dX1_ended_24 (by decide) rfl) (z_cz 25 (-1)),
   zz_of (ok_iconst G (v := 2) dX1_ended_25 (by decide) rfl) (z_cn 26 2),
   zz_of (ok_aload_n G dX1_ended_26 rfl rfl) (z_ald _ _),
   zz_of (ok_getN G (nx := 30) (ci := 2) (kd := 2) (k := 1) (RX3, TX3, 7) rfl (by decide) rfl q183 dX1_ended_27 rfl) (z_get _ _ _ _),
   zz_of (ok_iconst G (v := 1) dX1_ended_30 (by decide) rfl) (z_cn 31 1),
   zz_of (ok_iald G dX1_ended_31 rfl) (z_ialc _ _),
   zz_of (ok_ifle G dX1_ended_32 rfl rfl) (z_ifle _ _ _),
   zz_of (ok_iconst G (v := 1) dX1_ended_35 (by decide) rfl) (z_cn 36 1),
   zz_of (ok_goto G dX1_ended_36 rfl) (z_goto _),
   zz_of (ok_iconst G (v := 0) dX1_ended_39 (by decide) rfl) (z_cn 40 0),
   zz_of (ok_imul G dX1_ended_40 rfl) (z_imul _),
   zz_of (ok_aload_n G dX1_ended_41 rfl rfl) (z_ald _ _),
   zz_of (ok_getN G (nx := 45) (ci := 2) (kd := 0) (k := 3) (RX3, TX3, 7) rfl (by decide) rfl q189 dX1_ended_42 rfl) (z_get _ _ _ _),
   zz_of (ok_iadd G dX1_ended_45 rfl) (z_iadd _),
   zz_of (ok_isub G dX1_ended_46 rfl) (z_isub _),
   zz_of (ok_iret G dX1_ended_47) (z_iret), trivial⟩

theorem zwX1_ended_0 {Q : Option zv → zz_M → Prop} {X : Nat → zz_M → Prop} {f : Nat → Nat × Nat} {S L : Nat → Nat → Int} {P : Nat → Nat → Option Nat} {was : Int} (h : R32 ((S 114 0) + (S 114 1)) ∧ (R32 was ∧ ((¬ ((S 114 0) + (S 114 1)) = was → R32 (S 114 1) ∧ (((S 114 1) ≤ 0 → Q (some (vi ((-1) - (((2 : Int) * 0) + (S 112 3))))) ((2, f), S, L, P)) ∧ (¬ (S 114 1) ≤ 0 → Q (some (vi ((-1) - (((2 : Int) * 1) + (S 112 3))))) ((2, f), S, L, P)))) ∧ (((S 114 0) + (S 114 1)) = was → (scV (cx S 112) ∧ (Q (some (vi (nuR (cx S 112)))) ((2, f), S, L, P))))))) : zz_J zpX1_ended (zz_ret Q X 0 0) 0 [some (vr 100), some (vr 112), some (vi was)] [] ((2, f), S, L, P) (0, 0) := zz_J.go [] 400 h

theorem zmX1_ended (l : Launch) (hl : l.stackTraces = false) : mm_Spec l yX1_ended (ws_ yX1_ended cX1_ended 3 (some .int)) (mm_rm 2 0 0) (zE zX1_ended) := by
  refine zz_Met.J hl (by decide) (fun C G hnh => ztX1_ended G hnh) ?_
  rintro as ⟨⟨t_, f⟩, S, L, P⟩ Q X h
  unfold zX1_ended at h
  split at h
  rotate_left
  · exact h.elim
  rename_i h_ s was
  obtain ⟨e12_, e3_, h⟩ := mm_and2 h (fun q => q)
  rw [Bool.and_eq_true] at e12_
  cases mm_beq e12_.1
  cases mm_beq e12_.2
  cases mm_beq e3_
  try dsimp only at h
  refine ⟨rfl, ?_⟩
  obtain ⟨rfl, hx, h7, h8, hq⟩ := h
  have e7 : cx S 112 7 = S 114 0 := rfl
  have e8 : cx S 112 8 = S 114 1 := rfl
  have e2 : cx S 112 2 = S 112 3 := rfl
  have h2 := hx.2.1
  unfold enV at hq
  rw [e7, e8, e2] at hq
  rw [e7] at h7
  rw [e8] at h8
  rw [e2] at h2
  have kr : ∀ v : Int, v = (if S 114 0 + S 114 1 = 0 then nuR (cx S 112) else -1 - (2 * (if 0 < S 114 1 then 1 else 0) + S 112 3)) → Q (some (vi v)) ((2, f), S, L, P) := fun v e => by rw [e]; exact hq
  refine zwX1_ended_0 ?_
  (repeat' (first | omega | exact hx | exact kr _ (by rw [if_pos (by omega)]) | exact kr _ (by rw [if_neg (by omega), if_pos (by omega)] <;> omega) | exact kr _ (by rw [if_neg (by omega), if_neg (by omega)] <;> omega) | apply And.intro | intro _)) <;> omega
theorem scV_xE {x z : Nat → Int} (hz : scV z) (h : xE x z) : scV x := by
  obtain ⟨h0, h1, h2, h3, h4, h5, h6, -, -⟩ := h
  obtain ⟨p, q, r⟩ := hz
  refine ⟨?_, by rw [h2]; exact q, ?_⟩
  · unfold pV at *
    rw [h0, h1]
    exact p
  · unfold hV at *
    rw [h3, h6]
    rcases r with ⟨a, b⟩ | ⟨a, b, c⟩ | ⟨a, b, c⟩
    · exact Or.inl ⟨a, b⟩
    · rw [h4 (by omega)]
      exact Or.inr (Or.inl ⟨a, b, c⟩)
    · rw [h4 (by omega), h5 (by omega)]
      exact Or.inr (Or.inr ⟨a, b, c⟩)
theorem cchR_9 {w x : Nat → Int} (hx : ∀ j, 9 ≤ j → x j = 0) : ∀ j, 9 ≤ j → cchR w x j = 0 := by
  intro j hj
  have := hx j hj
  unfold cchR chR
  split
  · split
    · rw [if_neg (by omega), if_neg (by omega)]
      exact this
    · exact this
  · exact this
theorem crR_9 {w x : Nat → Int} {how line : Int} (h2 : x 2 = 0 ∨ x 2 = 1) (hx : ∀ j, 9 ≤ j → x j = 0) : ∀ j, 9 ≤ j → crR w x how line j = 0 := by
  have hA := crA_9 (how := how) (line := line) hx
  have hin := rlW_in' w x (clH x how line) h2
  unfold crR
  refine cchR_9 ?_
  split
  · exact hA
  · next hne =>
    refine pnt_9 ?_ hA
    rcases hin with e | e
    · exact absurd e hne
    · exact e.1
theorem isX_9 (x : Nat → Int) (c : Int) : ∀ j, 9 ≤ j → isX x c j = 0 := by
  intro j hj
  unfold isX unR
  grind
theorem isX_V {c : Int} (x : Nat → Int) (h0 : 0 ≤ c) (h1 : c < 15488) (hc : cbR c = true) : scV (isX x c) := by
  have h := unR_V (w := fun _ => 0) (x := fun _ => 0) h0 h1 hc
  have e := isX_z (fun _ => 0) x c
  obtain ⟨p, q, r⟩ := h
  have e0 := e 0 (by decide)
  have e1 := e 1 (by decide)
  have e2 := e 2 (by decide)
  have e3 := e 3 (by decide)
  have e4 := e 4 (by decide)
  have e5 := e 5 (by decide)
  have e6 := e 6 (by decide)
  unfold scX at e0 e1 e2 e3 e4 e5 e6
  refine ⟨?_, by rw [e2]; exact q, ?_⟩
  · unfold pV at *
    rw [e0, e1]
    exact p
  · unfold hV at *
    rw [e3, e4, e5, e6]
    exact r
theorem isX_b {c : Int} {x : Nat → Int} (h0 : 0 ≤ c) (h1 : c < 15488) (h7 : -50 ≤ x 7 ∧ x 7 ≤ 50) (h8 : -50 ≤ x 8 ∧ x 8 ≤ 50) : scb (isX x c) := by
  intro j
  by_cases j7 : j = 7
  · subst j7; exact h7
  by_cases j8 : j = 8
  · subst j8; exact h8
  unfold isX
  rw [if_neg j7, if_neg j8]
  unfold unR
  grind
/-- one entry of the tables -/
def lE (T : Nat → Nat → Int) (w : Nat → Int) (c : Nat) : Prop := T 106 c = (if cbR (c : Int) = true then 1 else 0) ∧ (cbR (c : Int) = true → (∀ o : Nat, o < 12 → T 104 (12 * c + o) = bhV w (c : Int) (o : Int)) ∧ ∀ p : Nat, p < 2 → T 105 (2 * c + p) = tkV w (c : Int) p)
/-- cells that learning writes -/
def lnk (h k : Nat) : Bool := decide (h = 104 ∨ h = 105 ∨ h = 106) || decide (108 ≤ h ∧ h ≤ 115) || decide (h = 100 ∧ k = 8)
/-- the tables are right below c -/
def lI (S : Nat → Nat → Int) (w : Nat → Int) (c : Nat) (T : Nat → Nat → Int) : Prop := (∀ h k, lnk h k = false → T h k = S h k) ∧ T 100 8 = 1 ∧ ∀ c', c' < c → lE T w c'
theorem lE.c {T T' : Nat → Nat → Int} {w : Nat → Int} {c : Nat} (h : lE T w c) (e6 : T' 106 c = T 106 c) (e4 : ∀ o, o < 12 → T' 104 (12 * c + o) = T 104 (12 * c + o)) (e5 : ∀ p, p < 2 → T' 105 (2 * c + p) = T 105 (2 * c + p)) : lE T' w c := by
  refine ⟨by rw [e6]; exact h.1, fun hc => ⟨fun o ho => ?_, fun p hp => ?_⟩⟩
  · rw [e4 o ho]; exact (h.2 hc).1 o ho
  · rw [e5 p hp]; exact (h.2 hc).2 p hp
theorem lI.x {S T : Nat → Nat → Int} {w : Nat → Int} {c : Nat} (h : lI S w c T) {q : Nat} (hq : q = 108 ∨ q = 112) (x : Nat → Int) : lI S w c (cxW T q x) := by
  have o : ∀ h', h' < 108 ∨ 115 < h' → cxW T q x h' = T h' := fun h' hh => cxW_o T q x (by omega) (by omega) (by omega) (by omega)
  refine ⟨fun h' k hk => ?_, by rw [o 100 (by decide)]; exact h.2.1, fun c' hc => ?_⟩
  · by_cases e : h' < 108 ∨ 115 < h'
    · rw [o h' e]; exact h.1 h' k hk
    · unfold lnk at hk
      have : (108 ≤ h' ∧ h' ≤ 115) := by omega
      simp [this] at hk
  · exact (h.2.2 c' hc).c (by rw [o 106 (by decide)]) (fun _ _ => by rw [o 104 (by decide)]) (fun _ _ => by rw [o 105 (by decide)])
theorem lI.g {S T : Nat → Nat → Int} {w : Nat → Int} {c : Nat} (h : lI S w c T) (v u : Int) : lI S w c (mm_up (mm_up T 110 0 v) 110 1 u) := by
  refine ⟨fun h' k hk => ?_, h.2.1, fun c' hc => (h.2.2 c' hc).c rfl (fun _ _ => rfl) (fun _ _ => rfl)⟩
  have : h' ≠ 110 := by rintro rfl; simp [lnk] at hk
  simp only [up_eq]
  rw [if_neg (fun q => this q.1), if_neg (fun q => this q.1)]
  exact h.1 h' k hk
theorem lI.u {S T : Nat → Nat → Int} {w : Nat → Int} {c : Nat} (h : lI S w c T) {a i : Nat} {v : Int} (ha : (a = 106 ∧ c ≤ i) ∨ (a = 104 ∧ 12 * c ≤ i) ∨ (a = 105 ∧ 2 * c ≤ i)) : lI S w c (mm_up T a i v) := by
  refine ⟨fun h' k hk => ?_, ?_, fun c' hc => (h.2.2 c' hc).c ?_ (fun o ho => ?_) (fun p hp => ?_)⟩
  · have : h' ≠ a := by rintro rfl; unfold lnk at hk; rcases ha with e | e | e <;> simp [e.1] at hk
    simp only [up_eq]
    rw [if_neg (fun q => this q.1)]
    exact h.1 h' k hk
  · simp only [up_eq]
    rw [if_neg (fun q => by omega)]
    exact h.2.1
  all_goals
    simp only [up_eq]
    rw [if_neg (fun q => by omega)]
def lnQ (S S' : Nat → Nat → Int) (w : Nat → Int) : Prop := (∀ h k, lnk h k = false → S' h k = S h k) ∧ S' 100 8 = 1 ∧ lT S' w
def zX1_learns : zz_Sp := fun as M Q X => match as with
  | [.inr (.inr (some h_))] => bif Nat.beq h_ 100 && Nat.beq M.1.1 2 then (∃ w_ : Nat → Int, wsc M.2.1 w_ ∧ wV w_ ∧ (M.2.1 100 8 = 0 ∨ (M.2.1 100 8 = 1 ∧ lT M.2.1 w_)) ∧ (∀ S_ : Nat → Nat → Int, lnQ M.2.1 S_ w_ → Q none ((2, M.1.2), S_, M.2.2.1, M.2.2.2))) else False
  | _ => False

def zpX1_learns : zz_P := [(0, zo_ald 1 0), (1, zo_get 4 0 0 8), (4, zo_ifeq false 7 8), (7, zo_vret), (8, zo_ald 9 0), (9, zo_c 10 (vi 1)), (10, zo_putz true 13 0 8), (13, zo_c 14 (vi 0)), (14, zo_ist 15 1), (15, zo_ild 16 1), (16, zo_c 19 (vi 15488)), (19, zo_cge false true 22 189), (22, zo_ald 23 0), (23, zo_get 26 0 2 9), (26, zo_get 29 2 2 1), (29, zo_c 30 (vi 0)), (30, zo_c 31 (vi 0)), (31, zo_iasc 32 0), (32, zo_ald 33 0), (33, zo_get 36 0 2 9), (36, zo_get 39 2 2 1), (39, zo_c 40 (vi 1)), (40, zo_c 41 (vi 0)), (41, zo_iasc 42 1), (42, zo_ald 43 0), (43, zo_get 46 0 2 6), (46, zo_ild 47 1), (47, zo_ald 48 0), (48, zo_get 51 0 2 9), (51, zo_ild 52 1), (52, zo_callv 55 2 2 zX3_is_108), (55, zo_zast true 56), (56, zo_ald 57 0), (57, zo_get 60 0 2 6), (60, zo_ild 61 1), (61, zo_bald 62), (62, zo_ifne false 65 68), (65, zo_goto 183), (68, zo_c 69 (vi 0)), (69, zo_ist 70 2), (70, zo_ild 71 2), (71, zo_c 73 (vi 12)), (73, zo_cge false true 76 130), (76, zo_ald 77 0), (77, zo_get 80 0 2 10), (80, zo_ald 81 0), (81, zo_get 84 0 2 9), (84, zo_callv 87 2 2 zX3_takes_108112), (87, zo_pop 88), (88, zo_ald 89 0), (89, zo_get 92 0 2 10), (92, zo_ild 93 2), (93, zo_c 94 (vi 2)), (94, zo_calls 97 2 zJ4_min), (97, zo_ild 98 2), (98, zo_c 99 (vi 2)), (99, zo_isub 100), (100, zo_callv 103 3 2 zX3_rally_112), (103, zo_pop 104), (104, zo_ald 105 0), (105, zo_get 108 0 2 4), (108, zo_c 110 (vi 12)), (110, zo_ild 111 1), (111, zo_imul 112), (112, zo_ild 113 2), (113, zo_iadd 114), (114, zo_ald 115 0), (115, zo_ald 116 0), (116, zo_get 119 0 2 10), (119, zo_c 120 (vi 0)), (120, zo_callv 123 3 0 zX1_ended), (123, zo_iasd 124), (124, zo_inc 127 2 1), (127, zo_goto 70), (130, zo_c 131 (vi 0)), (131, zo_ist 132 2), (132, zo_ild 133 2), (133, zo_c 134 (vi 2)), (134, zo_cge false true 137 183), (137, zo_ald 138 0), (138, zo_get 141 0 2 10), (141, zo_ald 142 0), (142, zo_get 145 0 2 9), (145, zo_callv 148 2 2 zX3_takes_108112), (148, zo_pop 149), (149, zo_ald 150 0), (150, zo_get 153 0 2 10), (153, zo_ild 154 2), (154, zo_callv 157 2 2 zX3_gains_112), (157, zo_pop 158), (158, zo_ald 159 0), (159, zo_get 162 0 2 5), (162, zo_c 163 (vi 2)), (163, zo_ild 164 1), (164, zo_imul 165), (165, zo_ild 166 2), (166, zo_iadd 167), (167, zo_ald 168 0), (168, zo_ald 169 0), (169, zo_get 172 0 2 10), (172, zo_c 173 (vi 0)), (173, zo_callv 176 3 0 zX1_ended), (176, zo_iasd 177), (177, zo_inc 180 2 1), (180, zo_goto 132), (183, zo_inc 186 1 1), (186, zo_goto 15), (189, zo_vret)]
theorem ztX1_learns {C : mm_C} (G : mm_G C RX1 cX1_learns none 3 (mm_rm 6 0 0)) (hnh : mm_nh C) : zz_OKs C zpX1_learns :=
  ⟨zz_of (ok_aload_n G dX1_learns_0 rfl rfl) (z_ald _ _),
   zz_of (ok_get G (nx := 4) (ci := 0) (kd := 0) (k := 8) (RX1, TX1, 19) rfl (by decide) rfl q417 dX1_learns_1 rfl) (z_get _ _ _ _),
   zz_of (ok_ifeq G dX1_learns_4 rfl rfl) (z_ifeq _ _ _),
   zz_of (ok_vret G dX1_learns_7) (z_vret),
   zz_of (ok_aload_n G dX1_learns_8 rfl rfl) (z_ald _ _),
   zz_of (ok_iconst G (v := 1) dX1_learns_9 (by decide) rfl) (z_cn 10 1),
   zz_of (ok_putz G (nx := 13) (idx := 205) (ci := 0) (k := 8) (RX1, TX1, 19) rfl (by decide) rfl (mm_pw G (ci := 0) (k := 8) (RX1, TX1, 19) rfl (by decide) rfl q417 dX1_learns_10) rfl) (z_putz _ _ _ _),
   zz_of (ok_iconst G (v := 0) dX1_learns_13 (by decide) rfl) (z_cn 14 0),
   zz_of (ok_istore_n G dX1_learns_14 rfl rfl (by decide)) (z_ist _ _),
   zz_of (ok_iload_n G dX1_learns_15 rfl rfl) (z_ild _ _),
   zz_of (ok_sipush G (v := 15488) dX1_learns_16 (by decide) rfl) (z_cn 19 15488),
   zz_of (ok_cge G dX1_learns_19 rfl rfl) (z_cge _ _ _ _),
   zz_of (ok_aload_n G dX1_learns_22 rfl rfl) (z_ald _ _),
   zz_of (ok_get G (nx := 26) (ci := 0) (kd := 2) (k := 9) (RX1, TX1, 19) rfl (by decide) rfl q418 dX1_learns_23 rfl) (z_get _ _ _ _),
   zz_of (ok_getN G (nx := 29) (ci := 2) (kd := 2) (k := 1) (RX3, TX3, 7) rfl (by decide) rfl q183 dX1_learns_26 rfl) (z_get _ _ _ _),
   zz_of (ok_iconst G (v := 0) dX1_learns_29 (by decide) rfl) (z_cn 30 0),
   zz_of (ok_iconst G (v := 0) dX1_learns_30 (by decide) rfl) (z_cn 31 0),
   zz_of (ok_iast G dX1_learns_31 rfl) (z_iasc _ _),
   zz_of (ok_aload_n G dX1_learns_32 rfl rfl) (z_ald _ _),
   zz_of (ok_get G (nx := 36) (ci := 0) (kd := 2) (k := 9) (RX1, TX1, 19) rfl (by decide) rfl q418 dX1_learns_33 rfl) (z_get _ _ _ _),
   zz_of (ok_getN G (nx := 39) (ci := 2) (kd := 2) (k := 1) (RX3, TX3, 7) rfl (by decide) rfl q183 dX1_learns_36 rfl) (z_get _ _ _ _),
   zz_of (ok_iconst G (v := 1) dX1_learns_39 (by decide) rfl) (z_cn 40 1),
   zz_of (ok_iconst G (v := 0) dX1_learns_40 (by decide) rfl) (z_cn 41 0),
   zz_of (ok_iast G dX1_learns_41 rfl) (z_iasc _ _),
   zz_of (ok_aload_n G dX1_learns_42 rfl rfl) (z_ald _ _),
   zz_of (ok_get G (nx := 46) (ci := 0) (kd := 2) (k := 6) (RX1, TX1, 19) rfl (by decide) rfl q411 dX1_learns_43 rfl) (z_get _ _ _ _),
   zz_of (ok_iload_n G dX1_learns_46 rfl rfl) (z_ild _ _),
   zz_of (ok_aload_n G dX1_learns_47 rfl rfl) (z_ald _ _),
   zz_of (ok_get G (nx := 51) (ci := 0) (kd := 2) (k := 9) (RX1, TX1, 19) rfl (by decide) rfl q418 dX1_learns_48 rfl) (z_get _ _ _ _),
   zz_of (ok_iload_n G dX1_learns_51 rfl rfl) (z_ild _ _),
   zz_of (ok_callv G hnh (zmX3_is_108 _ G.hst) rfl rfl (RX3, TX3, 7) rfl q1586 q1587 q1588 q87 q1589 (by decide +kernel) ⟨by decide, by decide⟩ dX1_learns_52 rfl) (z_callv _ _ _ _),
   zz_of (ok_bast G dX1_learns_55 rfl) (z_zast _ _),
   zz_of (ok_aload_n G dX1_learns_56 rfl rfl) (z_ald _ _),
   zz_of (ok_get G (nx := 60) (ci := 0) (kd := 2) (k := 6) (RX1, TX1, 19) rfl (by decide) rfl q411 dX1_learns_57 rfl) (z_get _ _ _ _),
   zz_of (ok_iload_n G dX1_learns_60 rfl rfl) (z_ild _ _),
   zz_of (ok_bald G dX1_learns_61 rfl) (z_bald _),
   zz_of (ok_ifne G dX1_learns_62 rfl rfl) (z_ifne _ _ _),
   zz_of (ok_goto G dX1_learns_65 rfl) (z_goto _),
   zz_of (ok_iconst G (v := 0) dX1_learns_68 (by decide) rfl) (z_cn 69 0),
   zz_of (ok_istore_n G dX1_learns_69 rfl rfl (by decide)) (z_ist _ _),
   zz_of (ok_iload_n G dX1_learns_70 rfl rfl) (z_ild _ _),
   zz_of (ok_bipush G (v := 12) dX1_learns_71 (by decide) rfl) (z_cn 73 12),
   zz_of (ok_cge G dX1_learns_73 rfl rfl) (z_cge _ _ _ _),
   zz_of (ok_aload_n G dX1_learns_76 rfl rfl) (z_ald _ _),
   zz_of (ok_get G (nx := 80) (ci := 0) (kd := 2) (k := 10) (RX1, TX1, 19) rfl (by decide) rfl q420 dX1_learns_77 rfl) (z_get _ _ _ _),
   zz_of (ok_aload_n G dX1_learns_80 rfl rfl) (z_ald _ _),
   zz_of (ok_get G (nx := 84) (ci := 0) (kd := 2) (k := 9) (RX1, TX1, 19) rfl (by decide) rfl q418 dX1_learns_81 rfl) (z_get _ _ _ _),
   zz_of (ok_callv G hnh (zmX3_takes_108112 _ G.hst) rfl rfl (RX3, TX3, 7) rfl q1591 q580 q581 q87 q582 (by decide +kernel) ⟨by decide, by decide⟩ dX1_learns_84 rfl) (z_callv _ _ _ _),
   zz_of (ok_pop G dX1_learns_87 rfl) (z_pop _),
   zz_of (ok_aload_n G dX1_learns_88 rfl rfl) (z_ald _ _),
   zz_of (ok_get G (nx := 92) (ci := 0) (kd := 2) (k := 10) (RX1, TX1, 19) rfl (by decide) rfl q420 dX1_learns_89 rfl) (z_get _ _ _ _),
   zz_of (ok_iload_n G dX1_learns_92 rfl rfl) (z_ild _ _),
   zz_of (ok_iconst G (v := 2) dX1_learns_93 (by decide) rfl) (z_cn 94 2),
   zz_of (ok_calls G hnh (zmJ4_min _ G.hst) rfl rfl q1592 q559 q96 q560 (by decide +kernel) ⟨by decide, by decide⟩ dX1_learns_94 rfl) (z_calls _ _ _),
   zz_of (ok_iload_n G dX1_learns_97 rfl rfl) (z_ild _ _),
   zz_of (ok_iconst G (v := 2) dX1_learns_98 (by decide) rfl) (z_cn 99 2),
   zz_of (ok_isub G dX1_learns_99 rfl) (z_isub _),
   zz_of (ok_callv G hnh (zmX3_rally_112 _ G.hst) rfl rfl (RX3, TX3, 7) rfl q1541 q1542 q1543 q87 q1544 (by decide +kernel) ⟨by decide, by decide⟩ dX1_learns_100 rfl) (z_callv _ _ _ _),
   zz_of (ok_pop G dX1_learns_103 rfl) (z_pop _),
   zz_of (ok_aload_n G dX1_learns_104 rfl rfl) (z_ald _ _),
   zz_of (ok_get G (nx := 108) (ci := 0) (kd := 2) (k := 4) (RX1, TX1, 19) rfl (by decide) rfl q406 dX1_learns_105 rfl) (z_get _ _ _ _),
   zz_of (ok_bipush G (v := 12) dX1_learns_108 (by decide) rfl) (z_cn 110 12),
   zz_of (ok_iload_n G dX1_learns_110 rfl rfl) (z_ild _ _),
   zz_of (ok_imul G dX1_learns_111 rfl) (z_imul _),
   zz_of (ok_iload_n G dX1_learns_112 rfl rfl) (z_ild _ _),
   zz_of (ok_iadd G dX1_learns_113 rfl) (z_iadd _),
   zz_of (ok_aload_n G dX1_learns_114 rfl rfl) (z_ald _ _),
   zz_of (ok_aload_n G dX1_learns_115 rfl rfl) (z_ald _ _),
   zz_of (ok_get G (nx := 119) (ci := 0) (kd := 2) (k := 10) (RX1, TX1, 19) rfl (by decide) rfl q420 dX1_learns_116 rfl) (z_get _ _ _ _),
   zz_of (ok_iconst G (v := 0) dX1_learns_119 (by decide) rfl) (z_cn 120 0),
   zz_of (ok_callv G hnh (zmX1_ended _ G.hst) rfl rfl (RX1, TX1, 19) rfl q1593 q1595 qs25 q82 q1596 (by decide +kernel) ⟨by decide, by decide⟩ dX1_learns_120 rfl) (z_callv _ _ _ _),
   zz_of (ok_iast G dX1_learns_123 rfl) (z_iasd _),
   zz_of (ok_iinc G (v := 1) dX1_learns_124 (by decide) rfl (by decide)) (z_incn 127 2 1),
   zz_of (ok_goto G dX1_learns_127 rfl) (z_goto _),
   zz_of (ok_iconst G (v := 0) dX1_learns_130 (by decide) rfl) (z_cn 131 0),
   zz_of (ok_istore_n G dX1_learns_131 rfl rfl (by decide)) (z_ist _ _),
   zz_of (ok_iload_n G dX1_learns_132 rfl rfl) (z_ild _ _),
   zz_of (ok_iconst G (v := 2) dX1_learns_133 (by decide) rfl) (z_cn 134 2),
   zz_of (ok_cge G dX1_learns_134 rfl rfl) (z_cge _ _ _ _),
   zz_of (ok_aload_n G dX1_learns_137 rfl rfl) (z_ald _ _),
   zz_of (ok_get G (nx := 141) (ci := 0) (kd := 2) (k := 10) (RX1, TX1, 19) rfl (by decide) rfl q420 dX1_learns_138 rfl) (z_get _ _ _ _),
   zz_of (ok_aload_n G dX1_learns_141 rfl rfl) (z_ald _ _),
   zz_of (ok_get G (nx := 145) (ci := 0) (kd := 2) (k := 9) (RX1, TX1, 19) rfl (by decide) rfl q418 dX1_learns_142 rfl) (z_get _ _ _ _),
   zz_of (ok_callv G hnh (zmX3_takes_108112 _ G.hst) rfl rfl (RX3, TX3, 7) rfl q1591 q580 q581 q87 q582 (by decide +kernel) ⟨by decide, by decide⟩ dX1_learns_145 rfl) (z_callv _ _ _ _),
   zz_of (ok_pop G dX1_learns_148 rfl) (z_pop _),
   zz_of (ok_aload_n G dX1_learns_149 rfl rfl) (z_ald _ _),
   zz_of (ok_get G (nx := 153) (ci := 0) (kd := 2) (k := 10) (RX1, TX1, 19) rfl (by decide) rfl q420 dX1_learns_150 rfl) (z_get _ _ _ _),
   zz_of (ok_iload_n G dX1_learns_153 rfl rfl) (z_ild _ _),
   zz_of (ok_callv G hnh (zmX3_gains_112 _ G.hst) rfl rfl (RX3, TX3, 7) rfl q1564 q1565 q1566 q87 q1567 (by decide +kernel) ⟨by decide, by decide⟩ dX1_learns_154 rfl) (z_callv _ _ _ _),
   zz_of (ok_pop G dX1_learns_157 rfl) (z_pop _),
   zz_of (ok_aload_n G dX1_learns_158 rfl rfl) (z_ald _ _),
   zz_of (ok_get G (nx := 162) (ci := 0) (kd := 2) (k := 5) (RX1, TX1, 19) rfl (by decide) rfl q409 dX1_learns_159 rfl) (z_get _ _ _ _),
   zz_of (ok_iconst G (v := 2) dX1_learns_162 (by decide) rfl) (z_cn 163 2),
   zz_of (ok_iload_n G dX1_learns_163 rfl rfl) (z_ild _ _),
   zz_of (ok_imul G dX1_learns_164 rfl) (z_imul _),
   zz_of (ok_iload_n G dX1_learns_165 rfl rfl) (z_ild _ _),
   zz_of (ok_iadd G dX1_learns_166 rfl) (z_iadd _),
   zz_of (ok_aload_n G dX1_learns_167 rfl rfl) (z_ald _ _),
   zz_of (ok_aload_n G dX1_learns_168 rfl rfl) (z_ald _ _),
   zz_of (ok_get G (nx := 172) (ci := 0) (kd := 2) (k := 10) (RX1, TX1, 19) rfl (by decide) rfl q420 dX1_learns_169 rfl) (z_get _ _ _ _),
   zz_of (ok_iconst G (v := 0) dX1_learns_172 (by decide) rfl) (z_cn 173 0),
   zz_of (ok_callv G hnh (zmX1_ended _ G.hst) rfl rfl (RX1, TX1, 19) rfl q1593 q1595 qs25 q82 q1596 (by decide +kernel) ⟨by decide, by decide⟩ dX1_learns_173 rfl) (z_callv _ _ _ _),
   zz_of (ok_iast G dX1_learns_176 rfl) (z_iasd _),
   zz_of (ok_iinc G (v := 1) dX1_learns_177 (by decide) rfl (by decide)) (z_incn 180 2 1),
   zz_of (ok_goto G dX1_learns_180 rfl) (z_goto _),
   zz_of (ok_iinc G (v := 1) dX1_learns_183 (by decide) rfl (by decide)) (z_incn 186 1 1),
   zz_of (ok_goto G dX1_learns_186 rfl) (z_goto _),
   zz_of (ok_vret G dX1_learns_189) (z_vret), trivial⟩

theorem zwX1_learns_0 {Q : Option zv → zz_M → Prop} {X : Nat → zz_M → Prop} {f : Nat → Nat × Nat} {S L : Nat → Nat → Int} {P : Nat → Nat → Option Nat}  (h : R32 (S 100 8) ∧ (((S 100 8) = 0 → zz_J zpX1_learns (zz_ret Q X 0 0) 15 [some (vr 100), some (vi 0), none] [] ((2, f), mm_up S 100 8 1, L, P) (0, 0)) ∧ (¬ (S 100 8) = 0 → Q none ((2, f), S, L, P)))) : zz_J zpX1_learns (zz_ret Q X 0 0) 0 [some (vr 100), none, none] [] ((2, f), S, L, P) (0, 0) := zz_J.go [(15, [2]), (70, []), (132, [])] 400 h
theorem zwX1_learns_15 {Q : Option zv → zz_M → Prop} {X : Nat → zz_M → Prop} {f : Nat → Nat × Nat} {S L : Nat → Nat → Int} {P : Nat → Nat → Option Nat} {x1 : Int} (h : R32 x1 ∧ ((15488 ≤ x1 → Q none ((2, f), S, L, P)) ∧ (¬ 15488 ≤ x1 → ((0 ≤ x1 ∧ x1 < 15488) ∧ (cbR x1 = true → ((0 ≤ x1 ∧ x1 < 15488) ∧ ((0 ≤ x1 ∧ x1 < 15488) ∧ (R32 ((mm_up (cxW (mm_up (mm_up S 110 0 0) 110 1 0) 108 (isX (cx (mm_up (mm_up S 110 0 0) 110 1 0) 108) x1)) 106 x1.toNat 1) 106 x1.toNat) ∧ ((¬ ((mm_up (cxW (mm_up (mm_up S 110 0 0) 110 1 0) 108 (isX (cx (mm_up (mm_up S 110 0 0) 110 1 0) 108) x1)) 106 x1.toNat 1) 106 x1.toNat) = 0 → zz_J zpX1_learns (zz_ret Q X 0 0) 70 [some (vr 100), some (vi x1), some (vi 0)] [] ((2, f), mm_up (cxW (mm_up (mm_up S 110 0 0) 110 1 0) 108 (isX (cx (mm_up (mm_up S 110 0 0) 110 1 0) 108) x1)) 106 x1.toNat 1, L, P) (0, 0)) ∧ (((mm_up (cxW (mm_up (mm_up S 110 0 0) 110 1 0) 108 (isX (cx (mm_up (mm_up S 110 0 0) 110 1 0) 108) x1)) 106 x1.toNat 1) 106 x1.toNat) = 0 → zz_J zpX1_learns (zz_ret Q X 0 0) 15 [some (vr 100), some (vi (x1 + 1)), none] [] ((2, f), mm_up (cxW (mm_up (mm_up S 110 0 0) 110 1 0) 108 (isX (cx (mm_up (mm_up S 110 0 0) 110 1 0) 108) x1)) 106 x1.toNat 1, L, P) (0, 0))))))) ∧ (cbR x1 = false → ((0 ≤ x1 ∧ x1 < 15488) ∧ ((0 ≤ x1 ∧ x1 < 15488) ∧ (R32 ((mm_up (cxW (mm_up (mm_up S 110 0 0) 110 1 0) 108 (isX (cx (mm_up (mm_up S 110 0 0) 110 1 0) 108) x1)) 106 x1.toNat 0) 106 x1.toNat) ∧ ((¬ ((mm_up (cxW (mm_up (mm_up S 110 0 0) 110 1 0) 108 (isX (cx (mm_up (mm_up S 110 0 0) 110 1 0) 108) x1)) 106 x1.toNat 0) 106 x1.toNat) = 0 → zz_J zpX1_learns (zz_ret Q X 0 0) 70 [some (vr 100), some (vi x1), some (vi 0)] [] ((2, f), mm_up (cxW (mm_up (mm_up S 110 0 0) 110 1 0) 108 (isX (cx (mm_up (mm_up S 110 0 0) 110 1 0) 108) x1)) 106 x1.toNat 0, L, P) (0, 0)) ∧ (((mm_up (cxW (mm_up (mm_up S 110 0 0) 110 1 0) 108 (isX (cx (mm_up (mm_up S 110 0 0) 110 1 0) 108) x1)) 106 x1.toNat 0) 106 x1.toNat) = 0 → zz_J zpX1_learns (zz_ret Q X 0 0) 15 [some (vr 100), some (vi (x1 + 1)), none] [] ((2, f), mm_up (cxW (mm_up (mm_up S 110 0 0) 110 1 0) 108 (isX (cx (mm_up (mm_up S 110 0 0) 110 1 0) 108) x1)) 106 x1.toNat 0, L, P) (0, 0))))))))))) : zz_J zpX1_learns (zz_ret Q X 0 0) 15 [some (vr 100), some (vi x1), none] [] ((2, f), S, L, P) (0, 0) := zz_J.go [(15, [2]), (70, []), (132, [])] 400 h
theorem zwX1_learns_70 {Q : Option zv → zz_M → Prop} {X : Nat → zz_M → Prop} {f : Nat → Nat × Nat} {S L : Nat → Nat → Int} {P : Nat → Nat → Option Nat} {x1 : Int} {x2 : Int} (h : R32 x2 ∧ ((12 ≤ x2 → zz_J zpX1_learns (zz_ret Q X 0 0) 132 [some (vr 100), some (vi x1), some (vi 0)] [] ((2, f), S, L, P) (0, 0)) ∧ (¬ 12 ≤ x2 → ((cx S 108 6 = 0 ∨ cx S 108 6 = 1) ∧ ((R32 x2 ∧ R32 (2 : Int) ∧ (x2 ≤ (2 : Int) → (((0 ≤ x2 ∧ x2 ≤ 2) ∧ R32 (x2 - 2) ∧ (cx (cxW S 112 (cx S 108)) 112 6 = 0 → x2 = 2 → 0 ≤ (x2 - 2) ∧ (x2 - 2) ≤ 9) ∧ scb (cx (cxW S 112 (cx S 108)) 112) ∧ scV (cx (cxW S 112 (cx S 108)) 112) ∧ ∃ w_3 : Nat → Int, wsc (cxW S 112 (cx S 108)) w_3 ∧ wV w_3 ∧ (((0 : Int) = 0 ∧ scV (cx (cxW (cxW S 112 (cx S 108)) 112 (crR w_3 (cx (cxW S 112 (cx S 108)) 112) x2 (x2 - 2))) 112) ∧ (0 ≤ cx (cxW (cxW S 112 (cx S 108)) 112 (crR w_3 (cx (cxW S 112 (cx S 108)) 112) x2 (x2 - 2))) 112 7 ∧ cx (cxW (cxW S 112 (cx S 108)) 112 (crR w_3 (cx (cxW S 112 (cx S 108)) 112) x2 (x2 - 2))) 112 7 ≤ 100) ∧ (0 ≤ cx (cxW (cxW S 112 (cx S 108)) 112 (crR w_3 (cx (cxW S 112 (cx S 108)) 112) x2 (x2 - 2))) 112 8 ∧ cx (cxW (cxW S 112 (cx S 108)) 112 (crR w_3 (cx (cxW S 112 (cx S 108)) 112) x2 (x2 - 2))) 112 8 ≤ 100) ∧ ((0 ≤ ((12 * x1) + x2) ∧ ((12 * x1) + x2) < 185856) ∧ (zz_J zpX1_learns (zz_ret Q X 0 0) 70 [some (vr 100), some (vi x1), some (vi (x2 + 1))] [] ((2, f), mm_up (cxW (cxW S 112 (cx S 108)) 112 (crR w_3 (cx (cxW S 112 (cx S 108)) 112) x2 (x2 - 2))) 104 (((12 * x1) + x2).toNat) (enV (cx (cxW (cxW S 112 (cx S 108)) 112 (crR w_3 (cx (cxW S 112 (cx S 108)) 112) x2 (x2 - 2))) 112)), L, P) (0, 0)))))))) ∧ (¬ x2 ≤ (2 : Int) → (((0 ≤ (2 : Int) ∧ (2 : Int) ≤ 2) ∧ R32 (x2 - 2) ∧ (cx (cxW S 112 (cx S 108)) 112 6 = 0 → (2 : Int) = 2 → 0 ≤ (x2 - 2) ∧ (x2 - 2) ≤ 9) ∧ scb (cx (cxW S 112 (cx S 108)) 112) ∧ scV (cx (cxW S 112 (cx S 108)) 112) ∧ ∃ w_5 : Nat → Int, wsc (cxW S 112 (cx S 108)) w_5 ∧ wV w_5 ∧ (((0 : Int) = 0 ∧ scV (cx (cxW (cxW S 112 (cx S 108)) 112 (crR w_5 (cx (cxW S 112 (cx S 108)) 112) (2 : Int) (x2 - 2))) 112) ∧ (0 ≤ cx (cxW (cxW S 112 (cx S 108)) 112 (crR w_5 (cx (cxW S 112 (cx S 108)) 112) (2 : Int) (x2 - 2))) 112 7 ∧ cx (cxW (cxW S 112 (cx S 108)) 112 (crR w_5 (cx (cxW S 112 (cx S 108)) 112) (2 : Int) (x2 - 2))) 112 7 ≤ 100) ∧ (0 ≤ cx (cxW (cxW S 112 (cx S 108)) 112 (crR w_5 (cx (cxW S 112 (cx S 108)) 112) (2 : Int) (x2 - 2))) 112 8 ∧ cx (cxW (cxW S 112 (cx S 108)) 112 (crR w_5 (cx (cxW S 112 (cx S 108)) 112) (2 : Int) (x2 - 2))) 112 8 ≤ 100) ∧ ((0 ≤ ((12 * x1) + x2) ∧ ((12 * x1) + x2) < 185856) ∧ (zz_J zpX1_learns (zz_ret Q X 0 0) 70 [some (vr 100), some (vi x1), some (vi (x2 + 1))] [] ((2, f), mm_up (cxW (cxW S 112 (cx S 108)) 112 (crR w_5 (cx (cxW S 112 (cx S 108)) 112) (2 : Int) (x2 - 2))) 104 (((12 * x1) + x2).toNat) (enV (cx (cxW (cxW S 112 (cx S 108)) 112 (crR w_5 (cx (cxW S 112 (cx S 108)) 112) (2 : Int) (x2 - 2))) 112)), L, P) (0, 0)))))))))))))) : zz_J zpX1_learns (zz_ret Q X 0 0) 70 [some (vr 100), some (vi x1), some (vi x2)] [] ((2, f), S, L, P) (0, 0) := zz_J.go [(15, [2]), (70, []), (132, [])] 400 h
theorem zwX1_learns_132 {Q : Option zv → zz_M → Prop} {X : Nat → zz_M → Prop} {f : Nat → Nat × Nat} {S L : Nat → Nat → Int} {P : Nat → Nat → Option Nat} {x1 : Int} {x2 : Int} (h : R32 x2 ∧ ((2 ≤ x2 → zz_J zpX1_learns (zz_ret Q X 0 0) 15 [some (vr 100), some (vi (x1 + 1)), none] [] ((2, f), S, L, P) (0, 0)) ∧ (¬ 2 ≤ x2 → ((cx S 108 6 = 0 ∨ cx S 108 6 = 1) ∧ (((x2 = 0 ∨ x2 = 1) ∧ scb (cx (cxW S 112 (cx S 108)) 112) ∧ 0 ≤ cx (cxW S 112 (cx S 108)) 112 3 ∧ (cx (cxW S 112 (cx S 108)) 112 6 = 0 ∨ cx (cxW S 112 (cx S 108)) 112 6 = 1) ∧ ∃ w_2 : Nat → Int, wsc (cxW S 112 (cx S 108)) w_2 ∧ wV w_2 ∧ (ptw (cx (cxW S 112 (cx S 108)) 112) x2.toNat = true → (((0 : Int) = 0 ∧ scV (cx (cxW (cxW S 112 (cx S 108)) 112 (cchR w_2 (pnt w_2 (cx (cxW S 112 (cx S 108)) 112) x2.toNat))) 112) ∧ (0 ≤ cx (cxW (cxW S 112 (cx S 108)) 112 (cchR w_2 (pnt w_2 (cx (cxW S 112 (cx S 108)) 112) x2.toNat))) 112 7 ∧ cx (cxW (cxW S 112 (cx S 108)) 112 (cchR w_2 (pnt w_2 (cx (cxW S 112 (cx S 108)) 112) x2.toNat))) 112 7 ≤ 100) ∧ (0 ≤ cx (cxW (cxW S 112 (cx S 108)) 112 (cchR w_2 (pnt w_2 (cx (cxW S 112 (cx S 108)) 112) x2.toNat))) 112 8 ∧ cx (cxW (cxW S 112 (cx S 108)) 112 (cchR w_2 (pnt w_2 (cx (cxW S 112 (cx S 108)) 112) x2.toNat))) 112 8 ≤ 100) ∧ ((0 ≤ ((2 * x1) + x2) ∧ ((2 * x1) + x2) < 30976) ∧ (zz_J zpX1_learns (zz_ret Q X 0 0) 132 [some (vr 100), some (vi x1), some (vi (x2 + 1))] [] ((2, f), mm_up (cxW (cxW S 112 (cx S 108)) 112 (cchR w_2 (pnt w_2 (cx (cxW S 112 (cx S 108)) 112) x2.toNat))) 105 (((2 * x1) + x2).toNat) (enV (cx (cxW (cxW S 112 (cx S 108)) 112 (cchR w_2 (pnt w_2 (cx (cxW S 112 (cx S 108)) 112) x2.toNat))) 112)), L, P) (0, 0)))))) ∧ (ptw (cx (cxW S 112 (cx S 108)) 112) x2.toNat = false → (((0 : Int) = 0 ∧ scV (cx (cxW (cxW S 112 (cx S 108)) 112 (cchR w_2 (pnt w_2 (cx (cxW S 112 (cx S 108)) 112) x2.toNat))) 112) ∧ (0 ≤ cx (cxW (cxW S 112 (cx S 108)) 112 (cchR w_2 (pnt w_2 (cx (cxW S 112 (cx S 108)) 112) x2.toNat))) 112 7 ∧ cx (cxW (cxW S 112 (cx S 108)) 112 (cchR w_2 (pnt w_2 (cx (cxW S 112 (cx S 108)) 112) x2.toNat))) 112 7 ≤ 100) ∧ (0 ≤ cx (cxW (cxW S 112 (cx S 108)) 112 (cchR w_2 (pnt w_2 (cx (cxW S 112 (cx S 108)) 112) x2.toNat))) 112 8 ∧ cx (cxW (cxW S 112 (cx S 108)) 112 (cchR w_2 (pnt w_2 (cx (cxW S 112 (cx S 108)) 112) x2.toNat))) 112 8 ≤ 100) ∧ ((0 ≤ ((2 * x1) + x2) ∧ ((2 * x1) + x2) < 30976) ∧ (zz_J zpX1_learns (zz_ret Q X 0 0) 132 [some (vr 100), some (vi x1), some (vi (x2 + 1))] [] ((2, f), mm_up (cxW (cxW S 112 (cx S 108)) 112 (cchR w_2 (pnt w_2 (cx (cxW S 112 (cx S 108)) 112) x2.toNat))) 105 (((2 * x1) + x2).toNat) (enV (cx (cxW (cxW S 112 (cx S 108)) 112 (cchR w_2 (pnt w_2 (cx (cxW S 112 (cx S 108)) 112) x2.toNat))) 112)), L, P) (0, 0)))))))))))) : zz_J zpX1_learns (zz_ret Q X 0 0) 132 [some (vr 100), some (vi x1), some (vi x2)] [] ((2, f), S, L, P) (0, 0) := zz_J.go [(15, [2]), (70, []), (132, [])] 400 h

theorem zmX1_learns (l : Launch) (hl : l.stackTraces = false) : mm_Spec l yX1_learns (ws_ yX1_learns cX1_learns 3 none) (mm_rm 6 0 0) (zE zX1_learns) := by
  refine zz_Met.J hl (by decide) (fun C G hnh => ztX1_learns G hnh) ?_
  rintro as ⟨⟨t_, f⟩, S, L, P⟩ Q X h
  unfold zX1_learns at h
  split at h
  rotate_left
  · exact h.elim
  rename_i h_
  obtain ⟨e1_, e2_, h⟩ := mm_and2 h (fun q => q)
  cases mm_beq e1_
  cases mm_beq e2_
  try dsimp only at h
  refine ⟨rfl, ?_⟩
  obtain ⟨w, hw, hv, hk, hq⟩ := h
  have wq : ∀ T, (∀ h k, lnk h k = false → T h k = S h k) → wsc T w := fun T e => by
    refine ⟨?_, ?_, ?_, ?_, ?_⟩ <;> rw [e 200 _ rfl]
    · exact hw.1
    · exact hw.2.1
    · exact hw.2.2.1
    · exact hw.2.2.2.1
    · exact hw.2.2.2.2
  have t15 : ∀ (m c : Nat) (T : Nat → Nat → Int), c + m = 15488 → lI S w c T → zz_J zpX1_learns (zz_ret Q X 0 0) 15 [some (vr 100), some (vi (c : Int)), none] [] ((2, f), T, L, P) (0, 0) := by
    intro m
    induction m with
    | zero =>
      intro c T hm hI
      refine zwX1_learns_15 ⟨by omega, fun _ => hq T ⟨hI.1, hI.2.1, fun c' hc => hI.2.2 c' (by omega)⟩, fun c' => absurd c' (by omega)⟩
    | succ m ih =>
      intro c T hm hI
      have c0 : (0 : Int) ≤ (c : Int) := by omega
      have c1 : (c : Int) < 15488 := by omega
      have hy9 := isX_9 (fun _ => 0) (c : Int)
      have t132 : cbR (c : Int) = true → ∀ (n p : Nat) (T : Nat → Nat → Int), p + n = 2 → lI S w c T → cx T 108 = isX (fun _ => 0) (c : Int) → T 106 c = 1 → (∀ o : Nat, o < 12 → T 104 (12 * c + o) = bhV w (c : Int) (o : Int)) → (∀ p' : Nat, p' < p → T 105 (2 * c + p') = tkV w (c : Int) p') → zz_J zpX1_learns (zz_ret Q X 0 0) 132 [some (vr 100), some (vi (c : Int)), some (vi (p : Int))] [] ((2, f), T, L, P) (0, 0) := by
        intro hcb
        have hV := isX_V (fun _ => 0) c0 c1 hcb
        have hB : scb (isX (fun _ => 0) (c : Int)) := isX_b c0 c1 (by decide) (by decide)
        have h36 : 0 ≤ isX (fun _ => 0) (c : Int) 3 ∧ (isX (fun _ => 0) (c : Int) 6 = 0 ∨ isX (fun _ => 0) (c : Int) 6 = 1) := by
          rcases hV.2.2 with ⟨a, b⟩ | ⟨a, b, -⟩ | ⟨a, b, -⟩ <;> omega
        intro n
        induction n with
        | zero =>
          intro p T hp hI hx h6 h4 h5
          refine zwX1_learns_132 ⟨by omega, fun _ => ?_, fun c' => absurd c' (by omega)⟩
          refine ih (c + 1) T (by omega) ⟨hI.1, hI.2.1, fun c' hc' => ?_⟩
          by_cases e : c' = c
          · subst e
            exact ⟨by rw [h6, if_pos hcb], fun _ => ⟨h4, fun p' hp' => h5 p' (by omega)⟩⟩
          · exact hI.2.2 c' (by omega)
        | succ n ih2 =>
          intro p T hp hI hx h6 h4 h5
          have hp2 : p < 2 := by omega
          have ecx : cx (cxW T 112 (isX (fun _ => 0) (c : Int))) 112 = isX (fun _ => 0) (c : Int) := cx_cxW T 112 _ hy9
          have hz := cbq_eq (w := w) (x := isX (fun _ => 0) (c : Int)) hp2 h36.2
          have hz9 : ∀ j, 9 ≤ j → bqR w (isX (fun _ => 0) (c : Int)) p j = 0 := by
            rw [← hz]
            exact cchR_9 (pnt_9 hp2 hy9)
          have ecx2 : cx (cxW T 112 (bqR w (isX (fun _ => 0) (c : Int)) p)) 112 = bqR w (isX (fun _ => 0) (c : Int)) p := cx_cxW T 112 _ hz9
          have hzV : scV (bqR w (isX (fun _ => 0) (c : Int)) p) := bqR_V hv hp2 hV
          have i7 : isX (fun _ => 0) (c : Int) 7 = 0 := rfl
          have i8 : isX (fun _ => 0) (c : Int) 8 = 0 := rfl
          have g := bq_g (w := w) (x := isX (fun _ => 0) (c : Int)) hp2
          rw [i7, i8] at g
          have g7 : 0 ≤ bqR w (isX (fun _ => 0) (c : Int)) p 7 ∧ bqR w (isX (fun _ => 0) (c : Int)) p 7 ≤ 100 := by
            rcases g with ⟨-, a, b⟩ | ⟨-, -, a, b⟩ | ⟨-, -, a, b⟩ <;> omega
          have g8 : 0 ≤ bqR w (isX (fun _ => 0) (c : Int)) p 8 ∧ bqR w (isX (fun _ => 0) (c : Int)) p 8 ≤ 100 := by
            rcases g with ⟨-, a, b⟩ | ⟨-, -, a, b⟩ | ⟨-, -, a, b⟩ <;> omega
          have hI2 := hI.x (q := 112) (Or.inr rfl) (isX (fun _ => 0) (c : Int))
          have hI3 := hI.x (q := 112) (Or.inr rfl) (bqR w (isX (fun _ => 0) (c : Int)) p)
          have fin : zz_J zpX1_learns (zz_ret Q X 0 0) 132 [some (vr 100), some (vi (c : Int)), some (vi ((p : Int) + 1))] [] ((2, f), mm_up (cxW T 112 (bqR w (isX (fun _ => 0) (c : Int)) p)) 105 (((2 * (c : Int)) + (p : Int)).toNat) (enV (bqR w (isX (fun _ => 0) (c : Int)) p)), L, P) (0, 0) := by
            have ei : ((2 * (c : Int)) + (p : Int)).toNat = 2 * c + p := by omega
            rw [ei]
            refine ih2 (p + 1) _ (by omega) (hI3.u (Or.inr (Or.inr ⟨rfl, by omega⟩))) ?_ ?_ (fun o ho => ?_) (fun p' hp' => ?_)
            · exact (cx_ne T 112 108 (bqR w (isX (fun _ => 0) (c : Int)) p) (by decide)).trans hx
            · exact (congrFun (cxW_o T 112 (bqR w (isX (fun _ => 0) (c : Int)) p) (h := 106) (by decide) (by decide) (by decide) (by decide)) c).trans h6
            · exact (congrFun (cxW_o T 112 (bqR w (isX (fun _ => 0) (c : Int)) p) (h := 104) (by decide) (by decide) (by decide) (by decide)) _).trans (h4 o ho)
            · by_cases e : p' = p
              · subst e
                rw [up_eq, if_pos ⟨rfl, rfl⟩]
                rfl
              · rw [up_eq, if_neg (fun q => e (by omega)), cxW_o T 112 _ (by decide) (by decide) (by decide) (by decide)]
                exact h5 p' (by omega)
          refine zwX1_learns_132 ⟨by omega, fun c' => absurd c' (by omega), fun _ => ?_⟩
          rw [hx, ecx, Int.toNat_natCast]
          refine ⟨h36.2, by omega, hB, h36.1, h36.2, w, wq _ hI2.1, hv, ?_⟩
          rw [cxW_cxW, hz, ecx2]
          exact ⟨fun _ => ⟨rfl, hzV, g7, g8, by omega, fin⟩, fun _ => ⟨rfl, hzV, g7, g8, by omega, fin⟩⟩
      have t70 : cbR (c : Int) = true → ∀ (n o : Nat) (T : Nat → Nat → Int), o + n = 12 → lI S w c T → cx T 108 = isX (fun _ => 0) (c : Int) → T 106 c = 1 → (∀ o' : Nat, o' < o → T 104 (12 * c + o') = bhV w (c : Int) (o' : Int)) → zz_J zpX1_learns (zz_ret Q X 0 0) 70 [some (vr 100), some (vi (c : Int)), some (vi (o : Int))] [] ((2, f), T, L, P) (0, 0) := by
        intro hcb
        have hV := isX_V (fun _ => 0) c0 c1 hcb
        have hB : scb (isX (fun _ => 0) (c : Int)) := isX_b c0 c1 (by decide) (by decide)
        have h36 : 0 ≤ isX (fun _ => 0) (c : Int) 3 ∧ (isX (fun _ => 0) (c : Int) 6 = 0 ∨ isX (fun _ => 0) (c : Int) 6 = 1) := by
          rcases hV.2.2 with ⟨a, b⟩ | ⟨a, b, -⟩ | ⟨a, b, -⟩ <;> omega
        intro n
        induction n with
        | zero =>
          intro o T ho hI hx h6 h4
          refine zwX1_learns_70 ⟨by omega, fun _ => ?_, fun c' => absurd c' (by omega)⟩
          exact t132 hcb 2 0 T rfl hI hx h6 (fun o' ho' => h4 o' (by omega)) (fun p' hp' => absurd hp' (by omega))
        | succ n ih2 =>
          intro o T ho hI hx h6 h4
          have ecx : cx (cxW T 112 (isX (fun _ => 0) (c : Int))) 112 = isX (fun _ => 0) (c : Int) := cx_cxW T 112 _ hy9
          have hI2 := hI.x (q := 112) (Or.inr rfl) (isX (fun _ => 0) (c : Int))
          have key : ∀ how line : Int, 0 ≤ how → how ≤ 2 → (how = 2 → 0 ≤ line ∧ line ≤ 9) → (rlR w (isX (fun _ => 0) (c : Int)) (clH (isX (fun _ => 0) (c : Int)) how line) = rlR w (isX (fun _ => 0) (c : Int)) (o : Int)) → (scV (crR w (isX (fun _ => 0) (c : Int)) how line) ∧ (0 ≤ crR w (isX (fun _ => 0) (c : Int)) how line 7 ∧ crR w (isX (fun _ => 0) (c : Int)) how line 7 ≤ 100) ∧ (0 ≤ crR w (isX (fun _ => 0) (c : Int)) how line 8 ∧ crR w (isX (fun _ => 0) (c : Int)) how line 8 ≤ 100) ∧ zz_J zpX1_learns (zz_ret Q X 0 0) 70 [some (vr 100), some (vi (c : Int)), some (vi ((o : Int) + 1))] [] ((2, f), mm_up (cxW T 112 (crR w (isX (fun _ => 0) (c : Int)) how line)) 104 (((12 * (c : Int)) + (o : Int)).toNat) (enV (crR w (isX (fun _ => 0) (c : Int)) how line)), L, P) (0, 0)) := by
            intro how line hh0 hh1 hl hr
            have xe := crR_xE (w := w) (x := isX (fun _ => 0) (c : Int)) (how := how) (line := line) hV hh0 hh1 (fun _ => hl)
            rw [hr] at xe
            have hrV : scV (rlR w (isX (fun _ => 0) (c : Int)) (o : Int)) := rlR_V hv hV (by omega) (by omega) (fun _ => by omega)
            have i7 : isX (fun _ => 0) (c : Int) 7 = 0 := rfl
            have i8 : isX (fun _ => 0) (c : Int) 8 = 0 := rfl
            have g := rl_g (w := w) (x := isX (fun _ => 0) (c : Int)) (how := (o : Int)) hV.2.1
            rw [i7, i8] at g
            have r7 := xe.2.2.2.2.2.2.2.1
            have r8 := xe.2.2.2.2.2.2.2.2
            refine ⟨scV_xE hrV xe, by rw [r7]; omega, by rw [r8]; omega, ?_⟩
            have ei : ((12 * (c : Int)) + (o : Int)).toNat = 12 * c + o := by omega
            have eb : enV (crR w (isX (fun _ => 0) (c : Int)) how line) = bhV w (c : Int) (o : Int) := enV_xE hrV xe
            rw [ei, eb]
            have hI3 := hI.x (q := 112) (Or.inr rfl) (crR w (isX (fun _ => 0) (c : Int)) how line)
            refine ih2 (o + 1) _ (by omega) (hI3.u (Or.inr (Or.inl ⟨rfl, by omega⟩))) ?_ ?_ (fun o' ho' => ?_)
            · exact (cx_ne T 112 108 (crR w (isX (fun _ => 0) (c : Int)) how line) (by decide)).trans hx
            · exact (congrFun (cxW_o T 112 (crR w (isX (fun _ => 0) (c : Int)) how line) (h := 106) (by decide) (by decide) (by decide) (by decide)) c).trans h6
            · by_cases e : o' = o
              · subst e
                rw [up_eq, if_pos ⟨rfl, rfl⟩]
              · rw [up_eq, if_neg (fun q => e (by omega)), cxW_o T 112 _ (by decide) (by decide) (by decide) (by decide)]
                exact h4 o' (by omega)
          have ecx2 : ∀ how line : Int, cx (cxW T 112 (crR w (isX (fun _ => 0) (c : Int)) how line)) 112 = crR w (isX (fun _ => 0) (c : Int)) how line := fun how line => cx_cxW T 112 _ (crR_9 hV.2.1 hy9)
          refine zwX1_learns_70 ⟨by omega, fun c' => absurd c' (by omega), fun _ => ?_⟩
          rw [hx, ecx]
          refine ⟨h36.2, by omega, by decide, fun d => ?_, fun d => ?_⟩
          · refine ⟨by omega, by omega, fun _ _ => by omega, hB, hV, w, wq _ hI2.1, hv, rfl, ?_⟩
            rw [cxW_cxW, ecx2]
            obtain ⟨k1, k2, k3, k4⟩ := key (o : Int) ((o : Int) - 2) (by omega) (by omega) (fun _ => by omega) (by
              by_cases e : (o : Int) < 2
              · unfold clH
                rw [if_pos e]
              · have e2 : (o : Int) = 2 := by omega
                have := (clH_rl w (isX (fun _ => 0) (c : Int)) (line := (o : Int) - 2) (by omega) (by omega) h36.2).1
                rw [e2] at this ⊢
                exact this)
            exact ⟨k1, k2, k3, by omega, k4⟩
          · refine ⟨by decide, by omega, fun _ _ => by omega, hB, hV, w, wq _ hI2.1, hv, rfl, ?_⟩
            rw [cxW_cxW, ecx2]
            obtain ⟨k1, k2, k3, k4⟩ := key 2 ((o : Int) - 2) (by decide) (by decide) (fun _ => by omega) (by
              have := (clH_rl w (isX (fun _ => 0) (c : Int)) (line := (o : Int) - 2) (by omega) (by omega) h36.2).1
              have e2 : 2 + ((o : Int) - 2) = (o : Int) := by omega
              rw [e2] at this
              exact this)
            exact ⟨k1, k2, k3, by omega, k4⟩
      have ey : isX (cx (mm_up (mm_up T 110 0 0) 110 1 0) 108) (c : Int) = isX (fun _ => 0) (c : Int) := by
        funext j
        unfold isX
        have e7 : cx (mm_up (mm_up T 110 0 0) 110 1 0) 108 7 = 0 := rfl
        have e8 : cx (mm_up (mm_up T 110 0 0) 110 1 0) 108 8 = 0 := rfl
        rw [e7, e8]
      refine zwX1_learns_15 ⟨by omega, fun c' => absurd c' (by omega), fun _ => ⟨⟨c0, c1⟩, fun hcb => ⟨⟨c0, c1⟩, ⟨c0, c1⟩, ?_⟩, fun hcb => ⟨⟨c0, c1⟩, ⟨c0, c1⟩, ?_⟩⟩⟩
      · rw [ey, Int.toNat_natCast]
        have hI2 := ((hI.g 0 0).x (q := 108) (Or.inl rfl) (isX (fun _ => 0) (c : Int))).u (a := 106) (i := c) (v := 1) (Or.inl ⟨rfl, Nat.le_refl _⟩)
        have er : mm_up (cxW (mm_up (mm_up T 110 0 0) 110 1 0) 108 (isX (fun _ => 0) (c : Int))) 106 c 1 106 c = 1 := by
          rw [up_eq, if_pos ⟨rfl, rfl⟩]
        rw [er]
        refine ⟨by decide, fun _ => ?_, fun e => absurd e (by decide)⟩
        refine t70 hcb 12 0 _ rfl hI2 ?_ er (fun o' ho' => absurd ho' (by omega))
        exact cx_cxW (mm_up (mm_up T 110 0 0) 110 1 0) 108 (isX (fun _ => 0) (c : Int)) hy9
      · rw [ey, Int.toNat_natCast]
        have hI2 := ((hI.g 0 0).x (q := 108) (Or.inl rfl) (isX (fun _ => 0) (c : Int))).u (a := 106) (i := c) (v := 0) (Or.inl ⟨rfl, Nat.le_refl _⟩)
        have er : mm_up (cxW (mm_up (mm_up T 110 0 0) 110 1 0) 108 (isX (fun _ => 0) (c : Int))) 106 c 0 106 c = 0 := by
          rw [up_eq, if_pos ⟨rfl, rfl⟩]
        rw [er]
        refine ⟨by decide, fun e => absurd rfl e, fun _ => ?_⟩
        refine ih (c + 1) _ (by omega) ⟨hI2.1, hI2.2.1, fun c' hc' => ?_⟩
        by_cases e : c' = c
        · subst e
          exact ⟨by rw [er, hcb]; rfl, fun k => by rw [hcb] at k; cases k⟩
        · exact hI2.2.2 c' (by omega)
  refine zwX1_learns_0 ?_
  rcases hk with hk | ⟨hk, hT⟩
  · rw [hk]
    refine ⟨by decide, fun _ => ?_, fun e => absurd rfl e⟩
    refine t15 15488 0 _ rfl ⟨fun h k hh => ?_, rfl, fun c' hc' => absurd hc' (by omega)⟩
    simp only [up_eq]
    rw [if_neg]
    rintro ⟨rfl, rfl⟩
    cases hh
  · rw [hk]
    exact ⟨by decide, fun e => absurd e (by decide), fun _ => hq S ⟨fun _ _ _ => rfl, hk, hT⟩⟩
