/-! THE CLAIM OUT OF ONE WALK OF THE LAW'S BODY. Your part is whole_start (and what it stands on); all else here is the same for every law, but numbers. -/
def R_law : String := "ChaseCourtLaw"
def ly_P (b : Addr) (xs : List Int32) (args : Array Value) (s : State) : Prop := args = #[.ref b] ∧ s.IntsAt b xs ∧ xs.length ≤ 384 ∧ (Jvm.Cond.and given_1 narrow_1).before args s = true
def ly_Q (_ : Array Value) (s : State) (o : Outcome) (t : State) : Prop := o = .returned (some (.int 1)) ∧ Framed s o t [] 1076108 5861636
def ly_Z (below : List Frame) (a : Array Value) (s : State) : State → Prop := fun t => ∃ o, t.status = .running ∧ Ended t below o ∧ ly_Q a s o t
/-- the law's own end, with 1 on the stack, nothing written that was there before, its room as the claim has it -/
theorem lw_ret {p : Program} {l : Launch} {e : Env} {s : State} {m : MethodId} {below : List Frame} {meth : Method} {c : Code} {b : Nat} (hx : p.tables.exec = Jvm.exec) (hb : c.code = code) (hr : meth.sig.returnType = ret) (hlocks : meth.locks = false) {pc : Nat} {H : Heap} {ls : Array Slot} (hdg : decode code pc = .ok (.ireturn, 1)) : W p l e room_1 s m #[Value.ref b] below meth c H [] 1076108 5861636 (ly_Z below #[Value.ref b] s) (F0 m pc ls [.int 1]) := by
  intro T hT X
  obtain ⟨fs, hret, hrun, hended, hW, hframe⟩ := X.leave (v := some (.int 1)) (hlocks := hlocks) (fun h => by rw [hr] at h; cases h)
  have hmeth' : T.vm.method? m = some meth := X.method'
  refine ⟨T.setFrames fs, ?_, .returned (some (.int 1)), hrun, hended, rfl, ⟨_, rfl⟩, hW, hframe⟩
  jvm_step X.here [X.here.top, hx, hb, hdg, hmeth', hr, ret, narrow_b1]
  (try refine ⟨rfl, ?_⟩); (try refine ⟨rfl, ?_⟩)
  first | (intro acts; rw [hret _ acts rfl rfl rfl]) | rw [hret _ _ rfl rfl rfl]
  exact Steps.refl _
/-- what holds at the law's entry: the machine, the code, the tables' words (any of lw_tbl by 'hts w (by decide +kernel)'), the script of L ints xs at the cell b, what the Statement gives of the start (any of its parts by flat_of_before) -/
def lw_At (p : Program) (s : State) (m : MethodId) (meth : Method) (c : Code) (b L : Nat) (xs : Nat → Int32) : Prop :=
  p.tables.exec = Jvm.exec ∧ c.code = code ∧ meth.sig.returnType = ret ∧ c.maxLocals = 8 ∧ s.vm.findClass R_law = some m.cls ∧ (∀ w ∈ lw_tbl, w.before #[Value.ref b] s = true) ∧ va_X b L xs s s.heap ∧ b < s.heap.size ∧ meth.locks = false ∧ (Jvm.Cond.and given_1 narrow_1).before #[Value.ref b] s = true ∧ ∀ x ∈ c.exceptionTable.toList, False
-- ===== the part that is ours =====
theorem lw_mono {p : Program} {l : Launch} {e : Env} {R : Room} {s : State} {m : MethodId} {args : Array Value} {below : List Frame} {meth : Method} {c : Code} {H : Heap} {locs : List Loc} {cells slots : Nat} {Q Q' : State → Prop} {g : JFrame} (h : W p l e R s m args below meth c H locs cells slots Q g) (f : ∀ t, Q t → Q' t) : W p l e R s m args below meth c H locs cells slots Q' g := by
  intro T hT X
  obtain ⟨t, a, b⟩ := h T hT X
  exact ⟨t, a, f t b⟩
/-- nothing that was there is written -/
theorem lw_framed {s t : State} {o : Outcome} {L : List Loc} {k n : Nat} (h : FrameEnd s o t L k n) (hL : ∀ q ∈ L, s.heap.size ≤ q.base) : Framed s o t [] k n := by
  obtain ⟨h1, h2, g1, g2, g3, g4, g5, g6⟩ := h
  refine ⟨h1, h2, g1, g2, g3, g4, g5, fun a c hc => ?_⟩
  obtain ⟨c', k1, k2, k3, k4⟩ := g6 a c hc
  refine ⟨c', k1, k2, k3, fun i _ => k4 i fun hi => ?_⟩
  have := hL _ hi
  exact absurd (Array.getElem?_eq_some_iff.mp hc).1 (Nat.not_lt.mpr this)
/-- YOUR PART: from the entry, for every script of at most 384 ints, the law comes to its end with true ('hflags': the launch's flags, for a law that throws: no stack traces) -/
theorem whole_start {p : Program} {e : Env} {s : State} {m : MethodId} {below : List Frame} {meth : Method} {c : Code} (l : Launch) (hflags : l.flags = flags0) {b L : Nat} {xs : Nat → Int32} (hL : L ≤ 384) (C0 : lw_At p s m meth c b L xs) : W p l e room_1 s m #[Value.ref b] below meth c s.heap [] 0 0 (ly_Z below #[Value.ref b] s) (entryFrame m ([Value.ref b] : List Value).toArray 8) := by
  obtain ⟨hx, hbd, hr, hml, hown, hts, hX, hbl, hlk, hgv, hnh⟩ := C0
  have hst : l.stackTraces = false := by
    unfold Launch.stackTraces
    rw [hflags]
    decide +kernel
  obtain ⟨D, aC, ad, e15, hK, hXX, hR, hcs⟩ := vy_start (n := L) (M := eM (lM0 L)) (fun _ => rfl) (fun _ _ => rfl) (fun a b c => kP_b a b c) hgv hts hbl
  subst e15
  let C : mm_C := ((p, l, e, room_1, s, m), (#[Value.ref (ad 1500)], below, meth, c), (fun v _ => v = some (.int 1), fun _ _ => False, 1076108, 5861636), (D, aC, ad, eM (lM0 L), fun q => s.heap.size ≤ q))
  have G : mm_G C RL cL_law (some .boolean) 8 room_1 := ⟨hx, hbd, hown, fun w hw => hts w (lw_all_tbl hw), vy_T hgv hts, hK, fun q h => h, hlk, hXX, hcs, hr, hst, hml, rfl⟩
  have hs : lw_scr C L (fun k => (xs k).toInt) := ⟨by show (32 : Nat) ≠ 0; decide, xs, hX, fun _ => rfl, Nat.not_le.mpr hbl, hbl, hL⟩
  have hw := law_start (Q := fun v _ => v = some (vi 1)) (X := fun _ _ => False) (Mi := eM (lM0 L)) (n := L) (sc := fun k => (xs k).toInt) (fun h hh => ?_) hL (fun k => i32_r (xs k)) (fun _ _ _ => rfl) C rfl (ztL_law L _ G hnh hs) (fun lv st M N hk => ?_) (fun lv st M N hk => hk.2.2.elim)
  · refine lw_mono (Q := mm_Q C) ?_ ?_
    · rw [lg_entry_eq]
      have hlen : (lg_sl [Value.ref (ad 1500)]).length ≤ 8 := by
        show (1 : Nat) ≤ 8
        decide
      have hent := lv_entry [Value.ref (ad 1500)] (n := 8) hlen
      generalize (lg_sl [Value.ref (ad 1500)] ++ List.replicate (8 - (lg_sl [Value.ref (ad 1500)]).length) Slot.unset).toArray = ls at hent ⊢
      refine hw ad s.heap [] ls ⟨mm_ag.rf, hR, va_S.rf, ⟨hent.2.1, hent.1, fun i v hv => ?_⟩, hent.1.trans hml.symm, ⟨fun v hv => absurd hv List.not_mem_nil, fun i v hv => ?_⟩, Nat.zero_le _, Nat.zero_le _⟩
      · have hv : (mm_lv0 [Value.ref 1500] 8)[i]? = some (some v) := hv
        have h2 := mm_ent_at ad [Value.ref 1500] 0 i v (mm_lv0_at hv)
        rw [Nat.zero_add] at h2
        exact hent.2.2 _ h2
      · have hv : (mm_lv0 [Value.ref 1500] 8)[i]? = some (some v) := hv
        refine mm_ent_vk [Value.ref 1500] i v (fun w hw b e => ?_) (mm_lv0_at hv)
        cases List.mem_singleton.mp hw
        cases e
        show (32 : Nat) ≠ 0
        decide
    · rintro t ⟨o, b1, b2, (⟨⟨⟨v, M, ad', e1, e2, -⟩, -⟩, L', f1, f2⟩ | ⟨q, -, E, ce, L', ⟨⟨M, ad', e2, -⟩, -⟩, -⟩)⟩
      · have e2 : v = some (.int 1) := e2
        subst e2
        exact ⟨o, b1, b2, e1, lw_framed f1 f2⟩
      · exact e2.elim
  · have hh : ((if h = 1500 then ((32, L) : Nat × Nat) else if 1000 ≤ h then mm_cS h else (0, 0))).1 ≠ 0 := hh
    by_cases c1 : h = 1500
    · exact Or.inl c1
    · rw [if_neg c1] at hh
      by_cases c2 : 1000 ≤ h
      · rw [if_pos c2] at hh
        exact Or.inr ⟨c2, cS_l hh⟩
      · rw [if_neg c2] at hh
        exact absurd rfl hh
  · refine ⟨?_, hk.1.1, hk.1.2⟩
    show (st.map ev).head? = some (.int 1)
    rw [List.head?_map, show st.head? = some (vi 1) from hk.2]
    rfl
-- ===== end of it =====
set_option maxHeartbeats 4000000 in
theorem lw_walk (l : Launch) (hflags : l.flags = flags0) (b : Addr) (xs : List Int32) : MetFree l x (headSpec (Jvm.Cond.code x code maxLocals ret :: tables_1) room_1) (ly_P b xs) (fun _ _ _ _ _ => True) ly_Q := by
  refine MetFree.of_bodyS (code := code) (maxLocals := maxLocals) (ret := ret) (by decide) ?_ ?_
  · intro args s m h hn
    obtain ⟨meth, c, h1, h2, h3, h4, h5, h6, -, -⟩ := Cond.code_spec hn (atoms_spec (ws := Jvm.Cond.code x code maxLocals ret :: tables_1) h _ List.mem_cons_self)
    exact ⟨meth, c, h1, h2, h3, h4, h5, h6⟩
  · intro p e s m args below meth c s₁ B hml0 hP _
    obtain ⟨rfl, hx, hbd, hgv⟩ := hP
    obtain ⟨scr, harrAt, hlist, hof, hsmall⟩ := hx
    obtain ⟨hcb, hkn, -, -⟩ := State.arrayAt?_spec harrAt
    have hown : s.vm.findClass R_law = some m.cls := findClass_of_methodNamed B.named
    have hts0 : ∀ c ∈ (Jvm.Cond.code x code maxLocals ret :: tables_1), c.before #[Value.ref b] s = true := atoms_spec (ws := Jvm.Cond.code x code maxLocals ret :: tables_1) B.pre
    have hts : ∀ w ∈ lw_tbl, w.before #[Value.ref b] s = true := k2_hts_sels lw_privs (fun w hw => hts0 w (List.mem_cons_of_mem _ hw)) lw_privs_ok
    have hml : c.maxLocals = 8 := B.maxLocals_eq (hts0 _ List.mem_cons_self)
    have hnh : ∀ x ∈ c.exceptionTable.toList, False := by
      obtain ⟨meth9, c9, h1, h2, -, -, -, -, h7, -⟩ := Cond.code_spec B.named (hts0 _ List.mem_cons_self)
      cases Option.some.inj (h1.symm.trans B.method)
      cases Option.some.inj (h2.symm.trans (Stand.of_body B).code)
      intro x hx
      rw [Array.isEmpty_iff.mp h7] at hx
      cases hx
    have X₀ : Stand p l e room_1 s m #[Value.ref b] below meth c s₁ [] 0 0 := Stand.of_body B
    have hh0 : s₁.heap = s.heap := by rw [B.state]; rfl
    have hsz : scr.slots.size = xs.length := by rw [← Array.length_toList, hlist, List.length_map]
    have hval : ∀ j : Nat, j < xs.length → scr.slots[j]? = some (.int (xs.getD j 0)) := fun j hj => by
      rw [← Array.getElem?_toList, hlist]
      simp [hj]
    have hbl : b < s.heap.size := (Array.getElem?_eq_some_iff.mp hcb).1
    have hX : va_X b xs.length (fun j => xs.getD j 0) s s.heap := ⟨scr, hcb, hof, hkn, hsz, hval⟩
    have K : W p l e room_1 s m #[Value.ref b] below meth c s₁.heap [] 0 0 (ly_Z below #[Value.ref b] s) (entryFrame m ([Value.ref b] : List Value).toArray 8) := by
      rw [hh0]
      exact whole_start l hflags hbd ⟨B.exec, B.bytes, B.returns, hml, hown, hts, hX, hbl, B.notSynchronized, hgv, hnh⟩
    obtain ⟨t, a1, o, b1, b2, b3⟩ := K s₁ rfl X₀
    exact ⟨t, o, a1, b1, b2, b3⟩
theorem lw_pre_spec {args : Array Value} {s : State} (h : (Jvm.Cond.and given_1 narrow_1).before args s = true) (hr : rest_1_c.before args s = true) : ∃ (b : Addr) (xs : List Int32), ly_P b xs args s := by
  have hs := flat_of_before _ h
  have hq := flat_of_before _ hr
  have hc : (Cond.count 1).before args s = true := hs _ (by decide +kernel)
  have harr : (Cond.arrayOf (.arg 0) .int).before args s = true := hs _ (by decide +kernel)
  have hle : (Cond.le (.length (.arg 0)) (.int 384)).before args s = true := hs _ (by decide +kernel)
  have hlen : (Cond.isInt (.length (.arg 0))).before args s = true := hq _ (by decide +kernel)
  have hall : (Cond.all (.arg 0) (.isInt (.elem (.arg 0) (.index 0)))).before args s = true := hq _ (by decide +kernel)
  obtain ⟨b, xs, hb, hx⟩ := State.ints_of_pre rfl harr hlen hall
  have hsm : xs.length < 2 ^ 31 := hx.choose_spec.2.2.2
  have hev : (Term.length (.arg 0)).eval args s none [] s = some (.int xs.length.toInt32) := hx.length_eval hb
  have hv := Cond.le_ints hev (show (Term.int 384).eval args s none [] s = some (.int 384) from rfl)
  have hd : xs.length.toInt32 ≤ 384 := by
    simpa [Cond.before, Cond.holds, hv] using hle
  have hN : xs.length ≤ 384 := (Int32.ofNat_le_ofNat hsm (by decide)).mp (show Int32.ofNat xs.length ≤ Int32.ofNat 384 from hd)
  exact ⟨b, xs, Cond.one_arg hc (show args[0]? = some (.ref b) from hb), hx, hN, h⟩
theorem lw_comes (l : Launch) (hflags : l.flags = flags0) : Comes l x (Jvm.Cond.code x code maxLocals ret :: tables_1) room_1 (fun tb e args s => Calls_1 tb e args s ∧ rest_1 tb e args s ∧ Pre_1 tb e args s)
    (fun _ _ args s o t => ly_Q args s o t) := by
  intro p e ha hc hk s m args below hf hfit hheap happ hpre
  obtain ⟨b, xs, hP⟩ := lw_pre_spec hpre.2.2 hpre.2.1
  obtain ⟨k, o, h1, h2, h3, hQ⟩ := lw_walk l hflags b xs p e ha hc hk s m args below hf ((Spec.applies_iff_loose hf).mp happ).1 hP trivial
  exact ⟨k, o, h1, h2, h3, hQ⟩
theorem lw_frame {s t : State} {o : Outcome} {args : Array Value} (h : Framed s o t [] 1076108 5861636) :
    Framed s o t (fieldLocs frame_1_writes args s ++ arrayLocs frame_1_arrays args s ++ staticLocs frame_1_statics s) 1076108 5861636 := h
theorem lw_limb (L : Cond) (hL : ∀ (args : Array Value) (s t : State), L.after args s (.returned (some (.int 1))) t = true) :
    ArmFor flags0 classFile x code maxLocals ret World_1 tables_1 room_1 Calls_1 rest_1 Pre_1
      (fun tb e a s o t => postC L tb e a s o t ∧ Framed s o t (fieldLocs frame_1_writes a s ++ arrayLocs frame_1_arrays a s ++ staticLocs frame_1_statics s) 1076108 5861636) := by
  intro l hflags _ _ p e ha hc hk s m args below hf hfit hheap happ hpre
  obtain ⟨k, o, h1, h2, h3, rfl, hF⟩ := lw_comes l hflags p e ha hc hk s m args below hf hfit hheap happ hpre
  exact ⟨k, _, h1, h2, h3, hL args s _, lw_frame hF⟩
theorem i_vc : Claimed_1_1 ∧ Claimed_1_2 := ⟨lw_limb limb_1_1 (fun args s t => by simp [limb_1_1, Cond.after, Cond.holds, Cond.value]), lw_limb limb_1_2 (fun args s t => Cond.after_iff.mpr (by
  first | (rw [show limb_1_2 = Cond.eq .result (.int 1) from rfl, Cond.eq_ints (x := 1) (y := 1) rfl rfl]; simp; done) | (simp [limb_1_2, Cond.value, Term.eval]; done)))⟩
