/-! ===== memory: reads, writes, returns, calls ===== -/
set_option maxRecDepth 100000
theorem mm_at_obj {D : va_G} {aC : Nat → ClassId} {ad : Nat → Nat} {M : mm_M} {h n : Nat} {H : Heap} (q : mm_at D aC ad M h 1 n H) : ∃ r : vw_C, mm_cl[n]? = some r ∧ t_OB (ad h) (D.1 n) r.2.2 (D.2 n) H (fun k => mm_v ad (mm_fa M h (mm_kd n k) k)) := by
  unfold mm_at at q
  rw [if_pos rfl] at q
  exact q
theorem mm_at_arr {D : va_G} {aC : Nat → ClassId} {ad : Nat → Nat} {M : mm_M} {h t n : Nat} {H : Heap} (ht : t ≠ 1) (q : mm_at D aC ad M h t n H) : H[ad h]? = some (arrV (aC t) n (fun j => mm_v ad (mm_ea M h t j))) := by
  unfold mm_at at q
  rw [if_neg ht] at q
  exact q
theorem mm_at_mk {D : va_G} {aC : Nat → ClassId} {ad : Nat → Nat} {M : mm_M} {h t n : Nat} {H : Heap} (ht : t ≠ 1) (q : H[ad h]? = some (arrV (aC t) n (fun j => mm_v ad (mm_ea M h t j)))) : mm_at D aC ad M h t n H := by
  unfold mm_at
  rw [if_neg ht]
  exact q
theorem mm_at_mko {D : va_G} {aC : Nat → ClassId} {ad : Nat → Nat} {M : mm_M} {h n : Nat} {H : Heap} (q : ∃ r : vw_C, mm_cl[n]? = some r ∧ t_OB (ad h) (D.1 n) r.2.2 (D.2 n) H (fun k => mm_v ad (mm_fa M h (mm_kd n k) k))) : mm_at D aC ad M h 1 n H := by
  unfold mm_at
  rw [if_pos rfl]
  exact q
theorem mm_at_lt {D : va_G} {aC : Nat → ClassId} {ad : Nat → Nat} {M : mm_M} {h t n : Nat} {H : Heap} (q : mm_at D aC ad M h t n H) : ad h < H.size := by
  by_cases ht : t = 1
  · subst ht
    obtain ⟨r, -, cell, h1, -⟩ := mm_at_obj q
    exact (Array.getElem?_eq_some_iff.mp h1).1
  · exact (Array.getElem?_eq_some_iff.mp (mm_at_arr ht q)).1
/-- the cell of a handle depends on its own rows alone -/
theorem mm_at_kept {D : va_G} {aC : Nat → ClassId} {ad ad' : Nat → Nat} {M M' : mm_M} {h t n : Nat} {H H' : Heap} (q : mm_at D aC ad M h t n H) (hh : ad' h = ad h) (hH : H'[ad h]? = H[ad h]?) (hI : M'.2.1 h = M.2.1 h) (hJ : M'.2.2.1 h = M.2.2.1 h) (hP : M'.2.2.2 h = M.2.2.2 h) (hc : ∀ k b, M.2.2.2 h k = some b → ad' b = ad b) : mm_at D aC ad' M' h t n H' := by
  have hr : ∀ k, mm_v ad' (va_rf (M.2.2.2 h k)) = mm_v ad (va_rf (M.2.2.2 h k)) := by
    intro k
    cases e : M.2.2.2 h k with
    | none => rfl
    | some b => show Value.ref _ = Value.ref _; rw [hc k b e]
  by_cases ht : t = 1
  · subst ht
    obtain ⟨r, h1, h2⟩ := mm_at_obj q
    refine mm_at_mko ⟨r, h1, ?_⟩
    rw [hh]
    refine t_OB.to (h2.kept hH) (fun k _ => ?_)
    unfold mm_fa
    rw [hI, hJ, hP]
    split
    · rfl
    · rfl
    · exact (hr k).symm
  · refine mm_at_mk ht ?_
    rw [hh, hH, mm_at_arr ht q]
    congr 2
    funext j
    unfold mm_ea
    rw [hI, hJ, hP]
    split <;> first | rfl | exact (hr j).symm
theorem mm_me_lo {M : mm_M} {t : Nat} (h : t < 16) : mm_me M t = M := by
  unfold mm_me
  have e : Nat.ble 16 t = false := by
    cases hb : Nat.ble 16 t with
    | false => rfl
    | true => exact absurd (Nat.le_of_ble_eq_true hb) (by omega)
  rw [e]
  rfl
theorem mm_me_hi {M : mm_M} {t : Nat} (h : ¬ t < 16) : mm_me M t = mm_kM := by
  unfold mm_me
  have e : Nat.ble 16 t = true := Nat.ble_eq_true_of_le (by omega)
  rw [e]
  rfl
theorem mm_hn_lo {t : Nat} {H : Heap} (h : t < 16) : mm_hn t H = H := by
  unfold mm_hn
  have e : Nat.ble 16 t = false := by
    cases hb : Nat.ble 16 t with
    | false => rfl
    | true => exact absurd (Nat.le_of_ble_eq_true hb) (by omega)
  rw [e]
  rfl
theorem mm_hn_hi {t : Nat} {H : Heap} (h : ¬ t < 16) : mm_hn t H = mm_hK H := by
  unfold mm_hn
  have e : Nat.ble 16 t = true := Nat.ble_eq_true_of_le (by omega)
  rw [e]
  rfl
theorem mm_hn_at {t a : Nat} {H H' : Heap} (h : H'[a]? = H[a]?) : (mm_hn t H')[a]? = (mm_hn t H)[a]? := by
  by_cases ht : t < 16
  · rw [mm_hn_lo ht, mm_hn_lo ht]
    exact h
  · rw [mm_hn_hi ht, mm_hn_hi ht]
    unfold mm_hK
    rw [Array.getElem?_map, Array.getElem?_map, h]
/-- what one who only reads finds at a -/
def mm_lk (H : Heap) (a : Nat) (c : Cell) : Prop := ∃ c' : Cell, H[a]? = some c' ∧ c'.cls = c.cls ∧ c'.slots = c.slots ∧ c'.vm ≠ .unknown ∧ c'.vm.isStatics = false
theorem mm_hK_at {H : Heap} {a : Nat} {c : Cell} (h : (mm_hK H)[a]? = some c) (hv : c.vm = .none) : mm_lk H a c := by
  unfold mm_hK at h
  rw [Array.getElem?_map] at h
  cases e : H[a]? with
  | none => rw [e] at h; cases h
  | some c0 =>
    rw [e] at h
    have h2 : mm_nrm c0 = c := Option.some.inj h
    subst h2
    refine ⟨c0, e, rfl, rfl, fun q => ?_, ?_⟩
    · simp [mm_nrm, q] at hv
    · cases hq : c0.vm with
      | statics k => simp [mm_nrm, hq] at hv
      | _ => rfl
theorem mm_hK_mk {H : Heap} {a : Nat} {c c' : Cell} (h : H[a]? = some c') (e1 : c'.cls = c.cls) (e2 : c'.slots = c.slots) (e3 : c'.vm ≠ .unknown) (e4 : c'.vm.isStatics = false) (hm : c = { cls := c.cls, slots := c.slots, vm := .none }) : (mm_hK H)[a]? = some c := by
  unfold mm_hK
  rw [Array.getElem?_map, h, hm, ← e1, ← e2]
  show some (mm_nrm c') = _
  unfold mm_nrm
  congr 2
  cases hq : c'.vm with
  | unknown => exact absurd hq e3
  | statics k => rw [hq] at e4; cases e4
  | _ => rfl
theorem mm_R.cell {D : va_G} {aC : Nat → ClassId} {ad : Nat → Nat} {M : mm_M} {A : Nat → Prop} {H : Heap} (hR : mm_R D aC ad M A H) {h : Nat} (h0 : (M.1 h).1 ≠ 0) (h1 : (M.1 h).1 < 16) : mm_at D aC ad M h (M.1 h).1 (M.1 h).2 H := by
  have q := (hR.1 h _ _ rfl h0).2.2 (Nat.lt_of_lt_of_le h1 (by decide))
  rw [mm_me_lo h1, mm_hn_lo h1, Nat.mod_eq_of_lt h1] at q
  exact q
theorem mm_R.cellK {D : va_G} {aC : Nat → ClassId} {ad : Nat → Nat} {M : mm_M} {A : Nat → Prop} {H : Heap} (hR : mm_R D aC ad M A H) {h : Nat} (h0 : ¬ (M.1 h).1 < 16) (h1 : (M.1 h).1 < 32) : mm_at D aC ad mm_kM h ((M.1 h).1 % 16) (M.1 h).2 (mm_hK H) := by
  have hne : (M.1 h).1 ≠ 0 := by
    intro e
    rw [e] at h0
    exact h0 (by decide)
  have q := (hR.1 h _ _ rfl hne).2.2 h1
  rw [mm_me_hi h0, mm_hn_hi h0] at q
  exact q
theorem mm_R.lt {D : va_G} {aC : Nat → ClassId} {ad : Nat → Nat} {M : mm_M} {A : Nat → Prop} {H : Heap} (hR : mm_R D aC ad M A H) {h : Nat} (h0 : (M.1 h).1 ≠ 0) (h48 : (M.1 h).1 < 48) : ad h < H.size := by
  by_cases h1 : (M.1 h).1 < 16
  · exact mm_at_lt (hR.cell h0 h1)
  · exact ((hR.1 h _ _ rfl h0).2.1 h1 h48).2
/-- a write into the cell of one handle -/
theorem mm_R.write {D : va_G} {aC : Nat → ClassId} {ad : Nat → Nat} {M M' : mm_M} {A : Nat → Prop} {H H' : Heap} (hR : mm_R D aC ad M A H) {h : Nat} (h0 : (M.1 h).1 ≠ 0) (h1 : (M.1 h).1 < 16) (hS : M'.1 = M.1) (hI : ∀ a, a ≠ h → M'.2.1 a = M.2.1 a) (hJ : ∀ a, a ≠ h → M'.2.2.1 a = M.2.2.1 a) (hP : ∀ a, a ≠ h → M'.2.2.2 a = M.2.2.2 a)
    (hat : mm_at D aC ad M' h (M.1 h).1 (M.1 h).2 H') (z : H'.size = H.size) (oq : ∀ q : Nat, q ≠ ad h → H'[q]? = H[q]?) (hcl : ∀ k b, M'.2.2.2 h k = some b → (M.1 b).1 ≠ 0) : mm_R D aC ad M' A H' := by
  refine ⟨fun x t n hx ht => ?_, fun x y hx hy hx1 hy1 e => hR.2.1 x y (by rw [← hS]; exact hx) (by rw [← hS]; exact hy) (by rw [← hS]; exact hx1) (by rw [← hS]; exact hy1) e, fun x k b hx hb => ?_⟩
  · rw [hS] at hx
    obtain ⟨q1, q2, q3⟩ := hR.1 x t n hx ht
    refine ⟨q1, fun q r => ⟨(q2 q r).1, by rw [z]; exact (q2 q r).2⟩, fun q => ?_⟩
    by_cases hxh : x = h
    · subst hxh
      rw [hx] at hat h1
      rw [mm_me_lo h1, mm_hn_lo h1, Nat.mod_eq_of_lt h1]
      exact hat
    · have hne : ad x ≠ ad h := by
        intro e
        by_cases h16 : t < 16
        · exact hxh (hR.2.1 x h (by rw [hx]; exact ht) h0 (by rw [hx]; exact h16) h1 e)
        · exact (q2 h16 (by omega)).1 (by rw [e]; exact (hR.1 h _ _ rfl h0).1 h1)
      by_cases h16 : t < 16
      · rw [mm_me_lo h16]
        have q4 := q3 q
        rw [mm_me_lo h16] at q4
        exact mm_at_kept q4 rfl (mm_hn_at (oq _ hne)) (hI x hxh) (hJ x hxh) (hP x hxh) (fun _ _ _ => rfl)
      · rw [mm_me_hi h16]
        have q4 := q3 q
        rw [mm_me_hi h16] at q4
        exact mm_at_kept q4 rfl (mm_hn_at (oq _ hne)) rfl rfl rfl (fun _ _ _ => rfl)
  · rw [hS] at hx hb ⊢
    by_cases h16 : (M.1 x).1 < 16
    · rw [mm_me_lo h16] at hb
      by_cases hxh : x = h
      · subst hxh
        exact hcl k b hb
      · rw [hP x hxh] at hb
        exact hR.2.2 x k b hx (by rw [mm_me_lo h16]; exact hb)
    · rw [mm_me_hi h16] at hb
      exact hR.2.2 x k b hx (by rw [mm_me_hi h16]; exact hb)
theorem mm_S.mem {C : mm_C} {lv : mm_L} {st st' : List Value} {M M' : mm_M} {N : mm_N} {ad : Nat → Nat} {H H' : Heap} {locs locs' : List Loc} {ls : Array Slot} (h : mm_S C lv st M N ad H locs ls) (hM : M'.1 = M.1) (hR : mm_R (c_D C) (c_aC C) ad M' (c_A C) H') (hV : va_S (c_A C) (c_s C).heap H' locs') (hk : mm_ok M lv st') : mm_S C lv st' M' N ad H' locs' ls := by
  refine ⟨⟨fun x hx => by rw [hM]; exact h.1.1 x hx, fun x hx => h.1.2 x (by rw [← hM]; exact hx)⟩, hR, hV, h.2.2.2.1, h.2.2.2.2.1, ⟨fun v hv b e => ?_, fun i v hv b e => ?_⟩, h.2.2.2.2.2.2⟩
  · rw [hM]; exact hk.1 v hv b e
  · rw [hM]; exact hk.2 i v hv b e
theorem mm_beq {a b : Nat} (h : Nat.beq a b = true) : a = b := Nat.eq_of_beq_eq_true h
theorem mm_fa_vk {D : va_G} {aC : Nat → ClassId} {ad : Nat → Nat} {M : mm_M} {A : Nat → Prop} {H : Heap} (hR : mm_R D aC ad M A H) {h : Nat} (h0 : (M.1 h).1 ≠ 0) (kd k : Nat) : mm_vk M (mm_fa (mm_me M (M.1 h).1) h kd k) := by
  intro b e
  unfold mm_fa at e
  split at e
  · cases e
  · cases e
  · cases hq : (mm_me M (M.1 h).1).2.2.2 h k with
    | none => rw [hq] at e; cases e
    | some x =>
      rw [hq] at e
      cases e
      exact hR.2.2 h k b h0 hq
section MMF
variable {C : mm_C} {own : String} {cc : ByteArray} {ret : Option FieldType} {nL : Nat} {rm : Room}
/-- a field's facts -/
theorem mm_fld (G : mm_G C own cc ret nL rm) {ci k : Nat} {r : vw_C} (hc : mm_cl[ci]? = some r) (hk : k < r.2.2) : ∃ (cf : ClassId) (kf : Class) (fi : Nat) (f : Field), (c_s C).fieldFound? (r.2.1 k).1 (r.2.1 k).2.1 (r.2.1 k).2.2.1 = some (cf, kf, fi, f) ∧ f.slot = (c_D C).2 ci k ∧ f.isStatic = false := by
  obtain ⟨hS, hfc, kC, hkC, hkind⟩ := G.hK.1 ci _ hc
  obtain ⟨cf, kf, fi, f, hi, hsl⟩ := hS k hk
  exact ⟨cf, kf, fi, f, hi, hsl, (u_facts hfc hkC (u_lays G.ht (mm_clok ci r hc).1 hk) hi).1⟩
theorem ok_getG (G : mm_G C own cc ret nL rm) {pc nx idx ci kd k : Nat} {r : vw_C} (hc : mm_cl[ci]? = some r) (hk : k < r.2.2) (hkd : mm_kd ci k = kd)
    (hget : ∀ {H : Heap} {locs : List Loc} {N : mm_N} {ls : Array Slot} {rest : List Value} {cf i : Nat} {kf : Class} {f : Field} {a : Addr} {cell : Cell} {v : Value}, (c_s C).fieldFound? (r.2.1 k).1 (r.2.1 k).2.1 (r.2.1 k).2.2.1 = some (cf, kf, i, f) → f.isStatic = false → H[a]? = some cell → cell.vm ≠ .unknown → cell.slots[f.slot]? = some v → mm_Wc C H locs N (F0 (c_m C) (pc + 3) ls (v :: rest)) → mm_Wc C H locs N (F0 (c_m C) pc ls (.ref a :: rest))) (hn : pc + 3 = nx) : mm_OK C pc (o_get nx ci kd k) := by
  subst hn
  intro lv st M N K hK h ad H locs ls hS
  unfold o_get at h
  split at h
  · next x rest =>
    obtain ⟨e1, h⟩ := mm_bif h (fun q => q)
    have e1 := mm_beq e1
    obtain ⟨cf, kf, fi, f, hi, hsl, hst⟩ := mm_fld G hc hk
    cases hz : Nat.beq (M.1 x).1 1 with
    | true =>
      rw [hz] at h
      have e2 : (M.1 x).1 = 1 := mm_beq hz
      have h1 : mm_W C (pc + 3) lv (mm_fa M x kd k :: rest) M N := hK _ _ _ _ _ h
      have hcell := hS.2.1.cell (h := x) (by rw [e2]; decide) (by rw [e2]; decide)
      rw [e2, e1] at hcell
      obtain ⟨r', hr', cell, g1, g2, g3, g4⟩ := mm_at_obj hcell
      cases hr'.symm.trans hc
      have hv := mm_fa_vk hS.2.1 (h := x) (by rw [e2]; decide) kd k
      rw [e2, mm_me_lo (by decide)] at hv
      refine hget hi hst g1 (by rw [g3]; exact fun h => by cases h) (v := mm_v ad (mm_fa M x kd k)) ?_ (h1 ad H locs ls (hS.st fun q => q.pop.push hv))
      rw [hsl, g4 k hk]
      show some (mm_v ad (mm_fa M x (mm_kd ci k) k)) = _
      rw [hkd]
    | false =>
      rw [hz, cond_false] at h
      obtain ⟨e2, h⟩ := mm_bif h (fun q => q)
      have e2 : (M.1 x).1 = 17 := mm_beq e2
      have h1 : mm_W C (pc + 3) lv (mm_fa mm_kM x kd k :: rest) M N := hK _ _ _ _ _ h
      have hcell := hS.2.1.cellK (h := x) (by rw [e2]; decide) (by rw [e2]; decide)
      rw [e2, e1] at hcell
      obtain ⟨r', hr', cell, g1, g2, g3, g4⟩ := mm_at_obj hcell
      cases hr'.symm.trans hc
      have hv := mm_fa_vk hS.2.1 (h := x) (by rw [e2]; decide) kd k
      rw [e2, mm_me_hi (by decide)] at hv
      obtain ⟨c', k1, k2, k3, k4, k5⟩ := mm_hK_at g1 g3
      refine hget hi hst k1 k4 (v := mm_v ad (mm_fa mm_kM x kd k)) ?_ (h1 ad H locs ls (hS.st fun q => q.pop.push hv))
      rw [hsl, k3, g4 k hk]
      show some (mm_v ad (mm_fa mm_kM x (mm_kd ci k) k)) = _
      rw [hkd]
  · exact h.elim
theorem ok_get (G : mm_G C own cc ret nL rm) {pc nx idx ci kd k : Nat} (r : vw_C) (hc : mm_cl[ci]? = some r) (hk : k < r.2.2) (hkd : mm_kd ci k = kd) (hl : Cond.fieldLink own idx (r.2.1 k).1 (r.2.1 k).2.1 (r.2.1 k).2.2.1 ∈ lw_all) (hd : decode cc pc = .ok (.getfield idx, 3)) (hn : pc + 3 = nx) : mm_OK C pc (o_get nx ci kd k) :=
  ok_getG G (idx := idx) hc hk hkd (fun hi hst g1 g2 g3 kk => W.getf G.hx G.hb G.ho (G.ht _ hl) hi hst g1 g2 g3 rfl rfl hd kk) hn
theorem ok_getN (G : mm_G C own cc ret nL rm) {pc nx idx ci kd k : Nat} {host : String} (r : vw_C) (hc : mm_cl[ci]? = some r) (hk : k < r.2.2) (hkd : mm_kd ci k = kd) (hl : Cond.fieldLinkNest own idx (r.2.1 k).1 (r.2.1 k).2.1 (r.2.1 k).2.2.1 host ∈ lw_tbl) (hd : decode cc pc = .ok (.getfield idx, 3)) (hn : pc + 3 = nx) : mm_OK C pc (o_get nx ci kd k) :=
  ok_getG G (idx := idx) hc hk hkd (fun hi hst g1 g2 g3 kk => va_Wgetf G.hx G.hb G.ho (va_Nw.use rfl (G.hn _ hl rfl)) hi hst g1 g2 g3 rfl rfl hd kk) hn
/-- a field's write, in the cell -/
theorem mm_putcell (G : mm_G C own cc ret nL rm) {ad : Nat → Nat} {M M' : mm_M} {H' : Heap} {ci k x : Nat} {r : vw_C} {f : Field} {v : Value} {cell : Cell} (hc : mm_cl[ci]? = some r) (hk : k < r.2.2) (hsl : f.slot = (c_D C).2 ci k)
    (g2 : cell.cls = (c_D C).1 ci) (g3 : cell.vm = .none) (g4 : ∀ k, k < r.2.2 → cell.slots[(c_D C).2 ci k]? = some (mm_v ad (mm_fa M x (mm_kd ci k) k))) (e1 : H'[ad x]? = some (cell.setSlot f.slot (mm_v ad v)))
    (hk' : mm_fa M' x (mm_kd ci k) k = v) (ho : ∀ j, j < r.2.2 → j ≠ k → mm_fa M' x (mm_kd ci j) j = mm_fa M x (mm_kd ci j) j) : mm_at (c_D C) (c_aC C) ad M' x 1 ci H' := by
  have hap := va_apart (own := own) G.ht (mm_clok ci r hc).1 (mm_ty ci) (mm_clok ci r hc).2.1 (mm_clok ci r hc).2.2 G.hK hc
  rw [hsl] at e1
  refine mm_at_mko ⟨r, hc, t_OB.to (V := updV (fun k => mm_v ad (mm_fa M x (mm_kd ci k) k)) k (mm_v ad v)) ⟨_, e1, g2, g3, t_set g4 hap hk _⟩ (fun j hj => ?_)⟩
  unfold updV
  by_cases hjk : j = k
  · rw [if_pos hjk, hjk, hk']
  · rw [if_neg hjk, ho j hj hjk]
theorem ok_putG (G : mm_G C own cc ret nL rm) {pc ci k : Nat} {r : vw_C} (hc : mm_cl[ci]? = some r) (hk : k < r.2.2) {lv : mm_L} {rest : List Value} {M M' : mm_M} {N : mm_N} {v : Value} {x : Nat}
    (hput : ∀ {ad : Nat → Nat} {H : Heap} {locs : List Loc} {ls : Array Slot} {cf i : Nat} {kf : Class} {f : Field} {a : Addr} {cell : Cell}, (c_s C).fieldFound? (r.2.1 k).1 (r.2.1 k).2.1 (r.2.1 k).2.2.1 = some (cf, kf, i, f) → f.isStatic = false → H[a]? = some cell → cell.vm = .none → cell.cls = (c_D C).1 ci → f.slot < cell.slots.size → (∀ H' : Heap, H'[a]? = some (cell.setSlot f.slot (mm_v ad v)) → H'.size = H.size → (∀ q, q ≠ a → H'[q]? = H[q]?) → mm_Wc C H' (locs ++ [⟨a, f.slot⟩]) N (F0 (c_m C) (pc + 3) ls (rest.map (mm_v ad)))) → mm_Wc C H locs N (F0 (c_m C) pc ls (mm_v ad v :: .ref a :: rest.map (mm_v ad))))
    (e1 : (M.1 x).2 = ci) (e2 : (M.1 x).1 = 1) (hS1 : M'.1 = M.1) (hI : ∀ a, a ≠ x → M'.2.1 a = M.2.1 a) (hJ : ∀ a, a ≠ x → M'.2.2.1 a = M.2.2.1 a) (hP : ∀ a, a ≠ x → M'.2.2.2 a = M.2.2.2 a)
    (hk' : mm_fa M' x (mm_kd ci k) k = v) (ho : ∀ j, j < r.2.2 → j ≠ k → mm_fa M' x (mm_kd ci j) j = mm_fa M x (mm_kd ci j) j) (hcl : ∀ j b, M'.2.2.2 x j = some b → M.2.2.2 x j = some b ∨ v = .ref b)
    (h1 : mm_W C (pc + 3) lv rest M' N) : mm_W C pc lv (v :: .ref x :: rest) M N := by
  intro ad H locs ls hS
  obtain ⟨cf, kf, fi, f, hi, hsl, hst⟩ := mm_fld G hc hk
  have hcell := hS.2.1.cell (h := x) (by rw [e2]; decide) (by rw [e2]; decide)
  rw [e2, e1] at hcell
  obtain ⟨r', hr', cell, g1, g2, g3, g4⟩ := mm_at_obj hcell
  cases hr'.symm.trans hc
  have hAx : c_A C (ad x) := (hS.2.1.1 x _ _ rfl (by rw [e2]; decide)).1 (by rw [e2]; decide)
  refine hput hi hst g1 g3 g2 (by rw [hsl]; exact k2_hasslot (g4 k hk)) (fun H' q1 q2 q3 => ?_)
  have hat := mm_putcell G (M := M) (M' := M') (v := v) hc hk hsl g2 g3 g4 q1 hk' ho
  refine h1 ad H' _ ls (hS.mem hS1 (hS.2.1.write (h := x) (by rw [e2]; decide) (by rw [e2]; decide) hS1 hI hJ hP (by rw [e2, e1]; exact hat) q2 q3 (fun j b hb => ?_)) (hS.2.2.1.put q2 q3 hAx) hS.2.2.2.2.2.1.pop.pop)
  rcases hcl j b hb with h | h
  · exact hS.2.1.2.2 x j b (by rw [e2]; decide) (by rw [e2, mm_me_lo (by decide)]; exact h)
  · exact hS.2.2.2.2.2.1.top b h
/-- the four ways by which a field is written: own, nest mate's, final in a constructor -/
def mm_PW (C : mm_C) (own : String) (idx pc ci k : Nat) (r : vw_C) : Prop := ∀ {N : mm_N} {ad : Nat → Nat} {v : Value} {rest : List Value} {H : Heap} {locs : List Loc} {ls : Array Slot} {cf i : Nat} {kf : Class} {f : Field} {a : Addr} {cell : Cell}, narrow (mm_ty ci k) (mm_v ad v) = mm_v ad v → fits (mm_ty ci k) (mm_v ad v) = true → (c_s C).fieldFound? (r.2.1 k).1 (r.2.1 k).2.1 (r.2.1 k).2.2.1 = some (cf, kf, i, f) → f.isStatic = false → H[a]? = some cell → cell.vm = .none → cell.cls = (c_D C).1 ci → f.slot < cell.slots.size → (∀ H' : Heap, H'[a]? = some (cell.setSlot f.slot (mm_v ad v)) → H'.size = H.size → (∀ q, q ≠ a → H'[q]? = H[q]?) → mm_Wc C H' (locs ++ [⟨a, f.slot⟩]) N (F0 (c_m C) (pc + 3) ls (rest.map (mm_v ad)))) → mm_Wc C H locs N (F0 (c_m C) pc ls (mm_v ad v :: .ref a :: rest.map (mm_v ad)))
theorem mm_lay (G : mm_G C own cc ret nL rm) {ci k : Nat} {r : vw_C} (hc : mm_cl[ci]? = some r) (hk : k < r.2.2) (hfin : (r.2.1 k).2.2.2 = false) : (Cond.lays r.1 (r.2.1 k).1 (r.2.1 k).2.1 (r.2.1 k).2.2.1).before (c_a C) (c_s C) = true := by
  have hlay := G.ht _ ((mm_clok ci r hc).1 _ (u_in_lay hk))
  unfold u_lay at hlay
  rw [if_neg (by rw [hfin]; decide)] at hlay
  exact hlay
theorem mm_pw (G : mm_G C own cc ret nL rm) {pc idx ci k : Nat} (r : vw_C) (hc : mm_cl[ci]? = some r) (hk : k < r.2.2) (hfin : (r.2.1 k).2.2.2 = false) (hl : Cond.fieldLink own idx (r.2.1 k).1 (r.2.1 k).2.1 (r.2.1 k).2.2.1 ∈ lw_all) (hd : decode cc pc = .ok (.putfield idx, 3)) : mm_PW C own idx pc ci k r := by
  intro N ad v rest H locs ls cf i kf f a cell hn hf hi hst g1 g3 g2 hlt kk
  obtain ⟨-, hfc, kC, hkC, hkind⟩ := G.hK.1 ci _ hc
  have h6 := u_store hfc hkC hkind (mm_lay G hc hk hfin) hi ((mm_clok ci r hc).2.1 k hk) hn hf
  exact W.putK G.hx G.hb (f := f) ⟨G.ho, G.ht _ hl, ⟨_, _, _, hi⟩, hst⟩ (by rw [g2]; exact h6) g1 g3 hlt rfl rfl hd kk
theorem mm_pwN (G : mm_G C own cc ret nL rm) {pc idx ci k : Nat} {host : String} (r : vw_C) (hc : mm_cl[ci]? = some r) (hk : k < r.2.2) (hfin : (r.2.1 k).2.2.2 = false) (hl : Cond.fieldLinkNest own idx (r.2.1 k).1 (r.2.1 k).2.1 (r.2.1 k).2.2.1 host ∈ lw_tbl) (hd : decode cc pc = .ok (.putfield idx, 3)) : mm_PW C own idx pc ci k r := by
  intro N ad v rest H locs ls cf i kf f a cell hn hf hi hst g1 g3 g2 hlt kk
  obtain ⟨-, hfc, kC, hkC, hkind⟩ := G.hK.1 ci _ hc
  have h6 := u_store hfc hkC hkind (mm_lay G hc hk hfin) hi ((mm_clok ci r hc).2.1 k hk) hn hf
  exact va_WputK G.hx G.hb (f := f) G.ho (va_Nw.use rfl (G.hn _ hl rfl)) hi hst (by rw [g2]; exact h6) g1 g3 hlt rfl rfl hd kk
theorem mm_pwF (G : mm_G C own cc ret nL rm) {pc idx ci k : Nat} (r : vw_C) (hc : mm_cl[ci]? = some r) (hk : k < r.2.2) (hfin : (r.2.1 k).2.2.2 = true) (hin2 : (c_t C).name = "<init>") (hdecl : (r.2.1 k).1 = own) (hl : Cond.fieldLink own idx (r.2.1 k).1 (r.2.1 k).2.1 (r.2.1 k).2.2.1 ∈ lw_all) (hd : decode cc pc = .ok (.putfield idx, 3)) : mm_PW C own idx pc ci k r := by
  intro N ad v rest H locs ls cf i kf f a cell hn hf hi hst g1 g3 g2 hlt kk
  obtain ⟨-, hfc, kC, hkC, hkind⟩ := G.hK.1 ci _ hc
  have hlay := G.ht _ ((mm_clok ci r hc).1 _ (u_in_lay hk))
  unfold u_lay at hlay
  rw [if_pos hfin] at hlay
  have hcf : (c_m C).cls = cf := by
    obtain ⟨_, _, c', _, _, _, -, -, hf', -, -, -, hown2, -⟩ := Cond.laysFinal_spec hlay
    have e1 : c' = cf := by have := hi.symm.trans hf'; simp at this; exact this.1.symm
    rw [hdecl] at hown2
    rw [← e1]; exact Option.some.inj (G.ho.symm.trans hown2)
  have h6 := u_fits hfc hkC hkind (Or.inr hlay) hi ((mm_clok ci r hc).2.1 k hk) hn hf
  exact W.putFinK G.hx G.hb G.ho (G.ht _ hl) hi hst hcf hin2 (by rw [g2]; exact h6) g1 g3 hlt rfl rfl hd kk
theorem mm_fa_wI {M : mm_M} {x k : Nat} {v : Int32} : mm_fa (mm_wI M x k v) x 0 k = .int v := by
  unfold mm_fa mm_wI
  show Value.int (mm_up M.2.1 x k v x k) = _
  rw [mm_up_a, if_pos rfl]
theorem mm_fa_wI_o {M : mm_M} {x k j kd : Nat} {v : Int32} (h : j ≠ k) : mm_fa (mm_wI M x k v) x kd j = mm_fa M x kd j := by
  unfold mm_fa mm_wI
  split
  · show Value.int (mm_up M.2.1 x k v x j) = _
    rw [mm_up_a, if_neg h]
  · rfl
  · rfl
theorem mm_fa_wP {M : mm_M} {x k : Nat} {v : Option Nat} : mm_fa (mm_wP M x k v) x 2 k = va_rf v := by
  unfold mm_fa mm_wP
  show va_rf (mm_up M.2.2.2 x k v x k) = _
  rw [mm_up_a, if_pos rfl]
theorem mm_fa_wP_o {M : mm_M} {x k j kd : Nat} {v : Option Nat} (h : j ≠ k) : mm_fa (mm_wP M x k v) x kd j = mm_fa M x kd j := by
  unfold mm_fa mm_wP
  split
  · rfl
  · rfl
  · show va_rf (mm_up M.2.2.2 x k v x j) = _
    rw [mm_up_a, if_neg h]
theorem ok_puti (G : mm_G C own cc ret nL rm) {pc nx idx ci k : Nat} (r : vw_C) (hc : mm_cl[ci]? = some r) (hk : k < r.2.2) (hty : mm_ty ci k = .int) (hw : mm_PW C own idx pc ci k r) (hn : pc + 3 = nx) : mm_OK C pc (o_puti nx ci k) := by
  subst hn
  intro lv st M N K hK h
  unfold o_puti at h
  split at h
  · next v x rest =>
    obtain ⟨e1, e2, h⟩ := mm_and2 h (fun q => q)
    have h1 : mm_W C (pc + 3) lv rest (mm_wI M x k v) N := hK _ _ _ _ _ h
    have hkd : mm_kd ci k = 0 := by unfold mm_kd; rw [hty]; rfl
    exact ok_putG G hc hk (M' := mm_wI M x k v) (v := .int v) (fun hi hst g1 g3 g2 hlt kk => hw (v := .int v) (by rw [hty]; rfl) (by rw [hty]; rfl) hi hst g1 g3 g2 hlt kk) (mm_beq e1) (mm_beq e2) rfl (fun a ha => mm_up_n _ _ _ ha) (fun _ _ => rfl) (fun _ _ => rfl) (by rw [hkd]; exact mm_fa_wI) (fun j _ hj => mm_fa_wI_o hj) (fun j b hb => Or.inl hb) h1
  · exact h.elim
theorem mm_bool {v : Int32} (h : v = 0 ∨ v = 1) : narrow .boolean (.int v) = .int v ∧ fits .boolean (.int v) = true := by
  rcases h with h | h <;> rw [h] <;> exact ⟨by decide, by decide⟩
theorem ok_putz (G : mm_G C own cc ret nL rm) {pc nx idx ci k : Nat} (r : vw_C) (hc : mm_cl[ci]? = some r) (hk : k < r.2.2) (hty : mm_ty ci k = .boolean) (hw : mm_PW C own idx pc ci k r) (hn : pc + 3 = nx) : mm_OK C pc (o_putz nx ci k) := by
  subst hn
  intro lv st M N K hK h
  unfold o_putz at h
  split at h
  · next v x rest =>
    obtain ⟨e1, e2, h0, h⟩ := mm_and2 h (fun q => q)
    have h1 : mm_W C (pc + 3) lv rest (mm_wI M x k v) N := hK _ _ _ _ _ h
    have hkd : mm_kd ci k = 0 := by unfold mm_kd; rw [hty]; rfl
    exact ok_putG G hc hk (M' := mm_wI M x k v) (v := .int v) (fun hi hst g1 g3 g2 hlt kk => hw (v := .int v) (by rw [hty]; exact (mm_bool h0).1) (by rw [hty]; exact (mm_bool h0).2) hi hst g1 g3 g2 hlt kk) (mm_beq e1) (mm_beq e2) rfl (fun a ha => mm_up_n _ _ _ ha) (fun _ _ => rfl) (fun _ _ => rfl) (by rw [hkd]; exact mm_fa_wI) (fun j _ hj => mm_fa_wI_o hj) (fun j b hb => Or.inl hb) h1
  · exact h.elim
theorem mm_reft {ty : FieldType} (h : mm_kind ty = 2) (v : Value) (hv : v = .null ∨ ∃ a, v = .ref a) : narrow ty v = v ∧ fits ty v = true := by
  cases ty <;> first | exact absurd h (by decide) | (rcases hv with e | ⟨a, e⟩ <;> rw [e] <;> exact ⟨rfl, rfl⟩)
theorem ok_putr (G : mm_G C own cc ret nL rm) {pc nx idx ci k : Nat} (r : vw_C) (hc : mm_cl[ci]? = some r) (hk : k < r.2.2) (hkd : mm_kd ci k = 2) (hw : mm_PW C own idx pc ci k r) (hn : pc + 3 = nx) : mm_OK C pc (o_putr nx ci k) := by
  subst hn
  intro lv st M N K hK h
  have hnf : ∀ v : Value, (v = .null ∨ ∃ a, v = .ref a) → narrow (mm_ty ci k) v = v ∧ fits (mm_ty ci k) v = true := fun v hv => mm_reft hkd v hv
  unfold o_putr at h
  split at h
  · next y x rest =>
    obtain ⟨e1, e2, h⟩ := mm_and2 h (fun q => q)
    have h1 : mm_W C (pc + 3) lv rest (mm_wP M x k (some y)) N := hK _ _ _ _ _ h
    refine ok_putG G hc hk (M' := mm_wP M x k (some y)) (v := .ref y) (fun {ad} _ _ _ _ _ _ _ _ _ hi hst g1 g3 g2 hlt kk => hw (v := .ref y) (hnf _ (Or.inr ⟨_, rfl⟩)).1 (hnf _ (Or.inr ⟨_, rfl⟩)).2 hi hst g1 g3 g2 hlt kk) (mm_beq e1) (mm_beq e2) rfl (fun _ _ => rfl) (fun _ _ => rfl) (fun a ha => mm_up_n _ _ _ ha) (by rw [hkd]; exact mm_fa_wP) (fun j _ hj => mm_fa_wP_o hj) (fun j b hb => ?_) h1
    have hb : mm_up M.2.2.2 x k (some y) x j = some b := hb
    rw [mm_up_a] at hb
    by_cases hj : j = k
    · rw [if_pos hj] at hb; cases hb; exact Or.inr rfl
    · rw [if_neg hj] at hb; exact Or.inl hb
  · next x rest =>
    obtain ⟨e1, e2, h⟩ := mm_and2 h (fun q => q)
    have h1 : mm_W C (pc + 3) lv rest (mm_wP M x k none) N := hK _ _ _ _ _ h
    refine ok_putG G hc hk (M' := mm_wP M x k none) (v := .null) (fun hi hst g1 g3 g2 hlt kk => hw (v := .null) (hnf _ (Or.inl rfl)).1 (hnf _ (Or.inl rfl)).2 hi hst g1 g3 g2 hlt kk) (mm_beq e1) (mm_beq e2) rfl (fun _ _ => rfl) (fun _ _ => rfl) (fun a ha => mm_up_n _ _ _ ha) (by rw [hkd]; exact mm_fa_wP) (fun j _ hj => mm_fa_wP_o hj) (fun j b hb => ?_) h1
    have hb : mm_up M.2.2.2 x k none x j = some b := hb
    rw [mm_up_a] at hb
    by_cases hj : j = k
    · rw [if_pos hj] at hb; cases hb
    · rw [if_neg hj] at hb; exact Or.inl hb
  · exact h.elim
end MMF
