/-! ===== the machine once more, ints by whole numbers: values, memory, transformers, judgement ===== -/
set_option maxRecDepth 100000
def o_bad : mm_O := fun _ _ _ _ _ => False
theorem ok_bad {C : mm_C} {pc : Nat} : mm_OK C pc o_bad := fun _ _ _ _ _ _ h => h.elim
abbrev R32 (a : Int) : Prop := -2147483648 ≤ a ∧ a < 2147483648
abbrev R64 (a : Int) : Prop := -9223372036854775808 ≤ a ∧ a < 9223372036854775808
/-- an int, a long, a reference -/
abbrev zv : Type := Int ⊕ Int ⊕ Option Nat
abbrev vi (a : Int) : zv := .inl a
abbrev vl (a : Int) : zv := .inr (.inl a)
abbrev vr (h : Nat) : zv := .inr (.inr (some h))
abbrev vn : zv := .inr (.inr none)
def ev : zv → Value
  | .inl a => .int (zI a)
  | .inr (.inl a) => .long (zL a)
  | .inr (.inr (some h)) => .ref h
  | .inr (.inr none) => .null
theorem ev_rf (o : Option Nat) : ev (.inr (.inr o)) = va_rf o := by cases o <;> rfl
def mS (h : Nat) : Nat × Nat := bif Nat.ble 1000 h then mm_cS h else [(1, 8), (2, 2616), (2, 2616), (2, 201), (2, 400), (2, 5), (2, 9), (2, 30976), (2, 15488), (2, 15488), (2, 15488), (2, 15488), (3, 8), (3, 4), (2, 4000), (2, 4000), (3, 124000), (3, 124000)].getD h (0, 0)
def mP (h k : Nat) : Option Nat := bif Nat.beq h 0 then [none, some 1, some 2, none, some 3, some 4, none, none, none, none, none, none, some 5, none, none, none, some 6, none, none, some 7, some 8, some 9, some 10, some 11, some 12, some 13, some 14, some 15, some 16, some 17, none, none].getD k none else none
/-- the component's cells that stay: 100 on its own, 200 on the world that is -/
def cS1 : List (Nat × Nat) := [(1, 0), (1, 3), (4, 400), (1, 4), (2, 185856), (2, 30976), (5, 15488), (4, 15488), (1, 2), (2, 2), (2, 2), (2, 2), (1, 2), (2, 2), (2, 2), (2, 2), (1, 5), (2, 15488), (2, 15488), (2, 4), (1, 5), (2, 15488), (2, 15488), (2, 4), (1, 6), (2, 15488), (2, 15488), (6, 3), (2, 4), (2, 4), (2, 4), (2, 98), (2, 30), (2, 30), (1, 7), (2, 4096), (2, 4096), (2, 4096), (2, 4096), (3, 4096), (3, 4096)]
def cS2 : List (Nat × Nat) := [(1, 1), (6, 16), (1, 17), (2, 2), (1, 2), (2, 2), (2, 2), (2, 2), (0, 0), (0, 0), (2, 12), (2, 12), (2, 12), (2, 12), (2, 12), (2, 12), (2, 12), (2, 12), (2, 12), (2, 12), (2, 12), (2, 12), (2, 12), (2, 12), (2, 12), (2, 12)]
def cS (h : Nat) : Nat × Nat := bif Nat.ble 1000 h then mm_cS h else bif Nat.ble 200 h then cS2.getD (h - 200) (0, 0) else cS1.getD (h - 100) (0, 0)
def cP (h k : Nat) : Option Nat := bif Nat.beq h 100 then [some 200, none, some 101, some 103, some 104, some 105, some 106, some 107, none, some 108, some 112, some 116, some 120, some 124, some 127, some 131, some 132, some 133, some 134].getD k none
  else bif Nat.beq h 101 then [some 102].getD k none
  else bif Nat.beq h 103 then [none, none, some 100].getD k none
  else bif Nat.beq h 108 then [some 109, some 110, some 111, none, none, none, some 100].getD k none
  else bif Nat.beq h 112 then [some 113, some 114, some 115, none, none, none, some 100].getD k none
  else bif Nat.beq h 116 then [none, none, some 119, none, some 100].getD k none
  else bif Nat.beq h 120 then [none, none, some 123, none, some 100].getD k none
  else bif Nat.beq h 124 then [none, none, none, some 100].getD k none
  else bif Nat.beq h 127 then (bif Nat.ble k 2 then some (128 + k) else none)
  else bif Nat.beq h 134 then [some 135, some 136, some 137, some 138, some 139, some 140, none, none, some 100].getD k none
  else bif Nat.beq h 200 then [none, none, none, none, none, none, some 201, some 202, some 203, some 204, some 100].getD k none
  else bif Nat.beq h 201 then (bif Nat.ble k 15 then some (210 + k) else none)
  else bif Nat.beq h 204 then [some 205, some 206, some 207, none, none, none, some 100].getD k none
  else none
/-- shapes that stay, by the kind of memory: 1 the model's, 2 the component's, 3 the component's with another world, 0 none -/
def zfs (t h : Nat) : Bool := bif Nat.beq t 1 then true else bif Nat.beq t 2 || Nat.beq t 3 then ((Nat.ble 100 h && Nat.ble h 140) || (Nat.ble 200 h && Nat.ble h 207) || (Nat.ble 210 h && Nat.ble h 225) || (Nat.ble 1000 h && Nat.ble h 1399)) else false
def zfS (t h : Nat) : Nat × Nat := bif Nat.beq t 1 then mS h else cS h
/-- references that stay -/
def zfx (t h k : Nat) : Bool := bif Nat.beq t 1 then true else bif Nat.beq t 2 || Nat.beq t 3 then (((Nat.ble 100 h && Nat.ble h 140) || (Nat.ble 200 h && Nat.ble h 207) || (Nat.ble 210 h && Nat.ble h 225) || (Nat.ble 1000 h && Nat.ble h 1399)) && !((Nat.beq h 100 && (Nat.beq k 1 || (Nat.beq t 3 && Nat.beq k 0))) || (Nat.beq h 103 && Nat.beq k 0) || ((Nat.beq h 116 || Nat.beq h 120 || Nat.beq h 124) && Nat.ble k 1) || (Nat.beq h 202 && Nat.beq k 1))) else false
def zfp (t h k : Nat) : Option Nat := bif Nat.beq t 1 then mP h k else cP h k
/-- memory: its kind with the other shapes, ints, longs, the other references -/
abbrev zz_M : Type := (Nat × (Nat → Nat × Nat)) × (Nat → Nat → Int) × (Nat → Nat → Int) × (Nat → Nat → Option Nat)
def zsh (M : zz_M) (h : Nat) : Nat × Nat := bif zfs M.1.1 h then zfS M.1.1 h else M.1.2 h
def zpt (M : zz_M) (h k : Nat) : Option Nat := bif zfx M.1.1 h k then zfp M.1.1 h k else M.2.2.2 h k
def eM (M : zz_M) : mm_M := (zsh M, zS M.2.1, zJ M.2.2.1, zpt M)
/-- the model's memory -/
abbrev zm (S L : Nat → Nat → Int) : zz_M := ((1, fun _ => (0, 0)), S, L, fun _ _ => none)
abbrev zz_L : Type := List (Option zv)
def eL (lv : zz_L) : mm_L := lv.map (fun o => o.map ev)
abbrev zz_K : Type := Nat → zz_L → List zv → zz_M → mm_N → Prop
abbrev zz_O : Type := zz_L → List zv → zz_M → mm_N → zz_K → Prop
def zz_ok (zo : zz_O) (o : mm_O) : Prop := ∀ lv st M N (K : zz_K) (K' : mm_K), (∀ q lv st M N, K q lv st M N → K' q (eL lv) (st.map ev) (eM M) N) → zo lv st M N K → o (eL lv) (st.map ev) (eM M) N K'
def zz_OK (C : mm_C) (pc : Nat) (zo : zz_O) : Prop := ∀ lv st M N (K : zz_K), (∀ q lv st M N, K q lv st M N → mm_Z C q (eL lv) (st.map ev) (eM M) N) → zo lv st M N K → mm_W C pc (eL lv) (st.map ev) (eM M) N
theorem zz_of {C : mm_C} {pc : Nat} {o : mm_O} {zo : zz_O} (h : mm_OK C pc o) (hz : zz_ok zo o) : zz_OK C pc zo := fun lv st M N K hK h2 => h _ _ _ _ (mm_Z C) (fun _ _ _ _ _ q => q) (hz lv st M N K (mm_Z C) hK h2)
abbrev zz_P : Type := List (Nat × zz_O)
def zz_OKs (C : mm_C) : zz_P → Prop
  | [] => True
  | q :: r => zz_OK C q.1 q.2 ∧ zz_OKs C r
def zz_find : zz_P → Nat → Option zz_O
  | [], _ => none
  | q :: r, pc => bif Nat.beq q.1 pc then some q.2 else zz_find r pc
theorem zz_find_ok {C : mm_C} {pc : Nat} {op : zz_O} : ∀ {c : zz_P}, zz_OKs C c → zz_find c pc = some op → zz_OK C pc op
  | [], _, h => by cases h
  | q :: r, hk, h => by
    unfold zz_find at h
    cases hq : Nat.beq q.1 pc with
    | true =>
      rw [hq] at h
      cases h
      have e : q.1 = pc := Nat.eq_of_beq_eq_true hq
      rw [← e]
      exact hk.1
    | false =>
      rw [hq] at h
      exact zz_find_ok hk.2 h
/-- locals that are forgotten -/
def zz_clr : zz_L → Nat → zz_L
  | [], _ => []
  | _ :: r, 0 => none :: r
  | a :: r, n + 1 => a :: zz_clr r n
def zz_fgt : List Nat → zz_L → zz_L
  | [], l => l
  | i :: r, l => zz_fgt r (zz_clr l i)
theorem zz_clr_e : ∀ (l : zz_L) (i : Nat), eL (zz_clr l i) = mm_clr (eL l) i
  | [], _ => rfl
  | _ :: _, 0 => rfl
  | a :: r, n + 1 => by
    show a.map ev :: eL (zz_clr r n) = a.map ev :: mm_clr (eL r) n
    rw [zz_clr_e r n]
theorem mm_W.clr {C : mm_C} {pc : Nat} {lv : mm_L} {st : List Value} {M : mm_M} {N : mm_N} (i : Nat) (h : mm_W C pc (mm_clr lv i) st M N) : mm_W C pc lv st M N := by
  intro ad H locs ls hS
  refine h ad H locs ls (hS.lv (lv' := mm_clr lv i) ⟨hS.2.2.2.1.1, by rw [mm_clr_len]; exact hS.2.2.2.1.2.1, fun j v hv => hS.2.2.2.1.2.2 j v (mm_clr_at _ _ _ _ hv).2⟩ (mm_clr_len _ _) hS.2.2.2.2.2.1.clr)
theorem zz_fgt_W {C : mm_C} {pc : Nat} {st : List Value} {M : mm_M} {N : mm_N} : ∀ (fl : List Nat) (lv : zz_L), mm_W C pc (eL (zz_fgt fl lv)) st M N → mm_W C pc (eL lv) st M N
  | [], _, h => h
  | i :: r, lv, h => by
    have h1 := zz_fgt_W r (zz_clr lv i) h
    rw [zz_clr_e] at h1
    exact mm_W.clr i h1
/-- the points where a run is cut, with the locals that are forgotten there -/
def zz_stop : List (Nat × List Nat) → Nat → Option (List Nat)
  | [], _ => none
  | q :: r, pc => bif Nat.beq q.1 pc then some q.2 else zz_stop r pc
def zz_run (c : zz_P) (stops : List (Nat × List Nat)) (K : zz_K) : Nat → zz_K
  | 0, pc, lv, st, M, N => K (pc + 2) lv st M N
  | n + 1, pc, lv, st, M, N => match zz_find c pc with
    | none => K (pc + 2) lv st M N
    | some op => op lv st M N (fun q lv' st' M' N' => match q with
      | 0 => K 0 lv' st' M' N'
      | 1 => K 1 lv' st' M' N'
      | p + 2 => match zz_stop stops p with
        | some fl => K (p + 2) (zz_fgt fl lv') st' M' N'
        | none => zz_run c stops K n p lv' st' M' N')
theorem zz_go2 {C : mm_C} {c : zz_P} {K : zz_K} (hc : zz_OKs C c) (hK : ∀ q lv st M N, K q lv st M N → mm_Z C q (eL lv) (st.map ev) (eM M) N) (stops : List (Nat × List Nat)) : ∀ (n pc : Nat) (lv : zz_L) (st : List zv) (M : zz_M) (N : mm_N), zz_run c stops K n pc lv st M N → mm_W C pc (eL lv) (st.map ev) (eM M) N
  | 0, pc, lv, st, M, N, h => hK _ _ _ _ _ h
  | n + 1, pc, lv, st, M, N, h => by
    unfold zz_run at h
    cases hf : zz_find c pc with
    | none => rw [hf] at h; exact hK _ _ _ _ _ h
    | some op =>
      rw [hf] at h
      refine zz_find_ok hc hf lv st M N _ ?_ h
      intro q lv st M N hq
      match q, hq with
      | 0, hq => exact hK _ _ _ _ _ hq
      | 1, hq => exact hK _ _ _ _ _ hq
      | p + 2, hq =>
        revert hq
        show (match zz_stop stops p with | some fl => K (p + 2) (zz_fgt fl lv) st M N | none => zz_run c stops K n p lv st M N) → mm_W C p (eL lv) (st.map ev) (eM M) N
        cases zz_stop stops p with
        | some fl => exact fun h => zz_fgt_W fl lv (hK _ _ _ _ _ h)
        | none => exact fun h => zz_go2 hc hK stops n p lv st M N h
/-- from the point pc the run of the code comes to K -/
def zz_J (c : zz_P) (K : zz_K) (pc : Nat) (lv : zz_L) (st : List zv) (M : zz_M) (N : mm_N) : Prop := ∀ C : mm_C, zz_OKs C c → (∀ lv st M N, K 0 lv st M N → mm_Z C 0 (eL lv) (st.map ev) (eM M) N) → (∀ lv st M N, K 1 lv st M N → mm_Z C 1 (eL lv) (st.map ev) (eM M) N) → mm_W C pc (eL lv) (st.map ev) (eM M) N
def zz_JK (c : zz_P) (K : zz_K) : zz_K := fun q lv st M N => match q with
  | 0 => K 0 lv st M N
  | 1 => K 1 lv st M N
  | pc + 2 => zz_J c K pc lv st M N
theorem zz_J.go {c : zz_P} {K : zz_K} (stops : List (Nat × List Nat)) (n : Nat) {pc : Nat} {lv : zz_L} {st : List zv} {M : zz_M} {N : mm_N} (h : zz_run c stops (zz_JK c K) n pc lv st M N) : zz_J c K pc lv st M N := by
  intro C hc h0 h1
  refine zz_go2 hc ?_ stops n pc lv st M N h
  intro q lv st M N hq
  match q, hq with
  | 0, hq => exact h0 _ _ _ _ hq
  | 1, hq => exact h1 _ _ _ _ hq
  | p + 2, hq => exact hq C hc h0 h1
/-- the contract's end: the return, the throw (by its number) -/
def zz_ret (Q : Option zv → zz_M → Prop) (X : Nat → zz_M → Prop) (mc ms : Nat) : zz_K := fun q lv st M N => match q with
  | 0 => bif Nat.ble N.1 mc && Nat.ble N.2 ms then Q st.head? M else False
  | 1 => bif Nat.ble N.1 mc && (Nat.ble N.2 ms && Nat.ble lv.length 5) then X lv.length M else False
  | _ => False
abbrev zz_Sp : Type := List zv → zz_M → (Option zv → zz_M → Prop) → (Nat → zz_M → Prop) → Prop
/-- a contract by whole numbers as one of the machine's -/
def zE (sp : zz_Sp) : mm_Sp := fun as M Q X => ∃ as' M' Q' X', as = as'.map ev ∧ M = eM M' ∧ sp as' M' Q' X' ∧ (∀ v m, Q' v m → Q (v.map ev) (eM m)) ∧ (∀ i m E, mm_ex[i]? = some E → X' i m → X E (eM m))
theorem zE_of {l : Launch} {y : MethodName} {ws : List Cond} {rm : Room} {s : mm_Sp} {sp : zz_Sp} (h : mm_Spec l y ws rm s) (hs : ∀ as M Q X (Q' : Option Value → mm_M → Prop) (X' : String → mm_M → Prop), (∀ v m, Q v m → Q' (v.map ev) (eM m)) → (∀ i m E, mm_ex[i]? = some E → X i m → X' E (eM m)) → sp as M Q X → s (as.map ev) (eM M) Q' X') : mm_Spec l y ws rm (zE sp) := by
  rintro as M Q X ⟨as', M', Q', X', rfl, rfl, h1, h2, h3⟩
  exact h _ _ _ _ (hs _ _ _ _ _ _ h2 h3 h1)
def zz_ent : List zv → zz_L
  | [] => []
  | .inr (.inl a) :: r => some (.inr (.inl a)) :: none :: zz_ent r
  | .inl a :: r => some (.inl a) :: zz_ent r
  | .inr (.inr a) :: r => some (.inr (.inr a)) :: zz_ent r
def zz_lv0 (as : List zv) (n : Nat) : zz_L := zz_ent as ++ List.replicate (n - (zz_ent as).length) none
theorem zz_ent_e : ∀ (as : List zv), eL (zz_ent as) = mm_ent (as.map ev)
  | [] => rfl
  | .inl a :: r => by
    show some (Value.int (zI a)) :: eL (zz_ent r) = some (Value.int (zI a)) :: mm_ent (r.map ev)
    rw [zz_ent_e r]
  | .inr (.inl a) :: r => by
    show some (Value.long (zL a)) :: none :: eL (zz_ent r) = some (Value.long (zL a)) :: none :: mm_ent (r.map ev)
    rw [zz_ent_e r]
  | .inr (.inr none) :: r => by
    show some (Value.null) :: eL (zz_ent r) = some (Value.null) :: mm_ent (r.map ev)
    rw [zz_ent_e r]
  | .inr (.inr (some h)) :: r => by
    show some (Value.ref h) :: eL (zz_ent r) = some (Value.ref h) :: mm_ent (r.map ev)
    rw [zz_ent_e r]
theorem eL_len (lv : zz_L) : (eL lv).length = lv.length := by simp [eL]
theorem zz_lv0_e (as : List zv) (n : Nat) : eL (zz_lv0 as n) = mm_lv0 (as.map ev) n := by
  unfold zz_lv0 mm_lv0
  rw [← zz_ent_e, eL_len]
  simp [eL]
/-- a method without handlers, by the run of its body -/
theorem zz_Met.J {l : Launch} {y : MethodName} {cc : ByteArray} {nL : Nat} {ret : Option FieldType} {rm : Room} {sp : zz_Sp} {c : zz_P} (hl : l.stackTraces = false) (hy : plainName y.cls = true)
    (ht : ∀ C : mm_C, mm_G C y.cls cc ret nL rm → mm_nh C → zz_OKs C c) (h : ∀ as M Q X, sp as M Q X → Nat.ble (zz_ent as).length nL = true ∧ zz_J c (zz_ret Q X rm.cells rm.slots) 0 (zz_lv0 as nL) [] M (0, 0)) : mm_Spec l y (ws_ y cc nL ret) rm (zE sp) := by
  rintro as M Q X ⟨as', M', Q', X', rfl, rfl, hs, hQ, hX⟩
  obtain ⟨h1, h2⟩ := h _ _ _ _ hs
  refine mm_Met.of hl hy (by rw [← zz_ent_e, eL_len]; exact Nat.le_of_ble_eq_true h1) (fun C G hnh _ eQ eX e1 e2 _ => ?_)
  have h3 := h2 C (ht C G hnh) ?_ ?_
  · rw [zz_lv0_e] at h3
    exact h3
  · intro lv st M N hq
    obtain ⟨h2, h3, h1⟩ := mm_and2 (show (bif Nat.ble N.1 rm.cells && Nat.ble N.2 rm.slots then Q' st.head? M else False) from hq) (fun q => q)
    refine ⟨?_, by rw [e1]; exact Nat.le_of_ble_eq_true h2, by rw [e2]; exact Nat.le_of_ble_eq_true h3⟩
    rw [eQ, List.head?_map]
    exact hQ _ _ h1
  · intro lv st M N hq
    obtain ⟨h2, h3, h1⟩ := mm_and2 (show (bif Nat.ble N.1 rm.cells && (Nat.ble N.2 rm.slots && Nat.ble lv.length 5) then X' lv.length M else False) from hq) (fun q => q)
    rw [Bool.and_eq_true] at h3
    have h4 := Nat.le_of_ble_eq_true h3.2
    have h5 : ∃ E, mm_ex[lv.length]? = some E := ⟨mm_ex[lv.length]'(by show lv.length < 6; omega), List.getElem?_eq_getElem _⟩
    obtain ⟨E, hE⟩ := h5
    exact ⟨⟨E, by rw [eL_len]; exact hE, by rw [eX]; exact hX _ _ _ hE h1⟩, by rw [e1]; exact Nat.le_of_ble_eq_true h2, by rw [e2]; exact Nat.le_of_ble_eq_true h3.1⟩
theorem zz_Jm {c : zz_P} {K : zz_K} {pc : Nat} {lv : zz_L} {st : List zv} {M M' : zz_M} {N : mm_N} (e : M = M') (h : zz_J c K pc lv st M' N) : zz_J c K pc lv st M N := e ▸ h
theorem zz_Jl {c : zz_P} {K : zz_K} {pc : Nat} {lv lv' : zz_L} {st : List zv} {M : zz_M} {N : mm_N} (e : lv = lv') (h : zz_J c K pc lv' st M N) : zz_J c K pc lv st M N := e ▸ h
theorem zz_Jx {c : zz_P} {K : zz_K} {pc : Nat} {lv : zz_L} {st st' : List zv} {M : zz_M} {N : mm_N} (e : st = st') (h : zz_J c K pc lv st' M N) : zz_J c K pc lv st M N := e ▸ h
theorem zz_Qm {Q : Option zv → zz_M → Prop} {r : Option zv} {M M' : zz_M} (e : M = M') (h : Q r M') : Q r M := e ▸ h
/-! locals -/
def zz_get : zz_L → Nat → Option zv
  | [], _ => none
  | a :: _, 0 => a
  | _ :: r, n + 1 => zz_get r n
theorem zz_get_e : ∀ (lv : zz_L) (i : Nat), mm_get (eL lv) i = (zz_get lv i).map ev
  | [], _ => rfl
  | _ :: _, 0 => rfl
  | _ :: r, n + 1 => zz_get_e r n
def zz_setK : zz_L → Nat → zv → (zz_L → Prop) → Prop
  | [], _, _, k => k []
  | _ :: r, 0, v, k => k (some v :: r)
  | a :: r, 1, v, k => (match a with
    | some (.inr (.inl _)) => zz_setK r 0 v (fun r' => k (none :: r'))
    | b => zz_setK r 0 v (fun r' => k (b :: r')))
  | a :: r, n + 2, v, k => zz_setK r (n + 1) v (fun r' => k (a :: r'))
theorem zz_setK_e : ∀ (lv : zz_L) (i : Nat) (v : zv) (k : zz_L → Prop) (k' : mm_L → Prop), (∀ l, k l → k' (eL l)) → zz_setK lv i v k → mm_setK (eL lv) i (ev v) k'
  | [], _, _, _, _, hk, h => hk _ h
  | _ :: _, 0, _, _, _, hk, h => hk _ h
  | none :: r, 1, v, k, k', hk, h => zz_setK_e r 0 v (fun r' => k (none :: r')) (fun r' => k' (none :: r')) (fun l hl => hk _ hl) h
  | some (.inl a) :: r, 1, v, k, k', hk, h => zz_setK_e r 0 v (fun r' => k (some (.inl a) :: r')) (fun r' => k' (some (.int (zI a)) :: r')) (fun l hl => hk _ hl) h
  | some (.inr (.inl a)) :: r, 1, v, k, k', hk, h => zz_setK_e r 0 v (fun r' => k (none :: r')) (fun r' => k' (none :: r')) (fun l hl => hk _ hl) h
  | some (.inr (.inr none)) :: r, 1, v, k, k', hk, h => zz_setK_e r 0 v (fun r' => k (some (.inr (.inr none)) :: r')) (fun r' => k' (some .null :: r')) (fun l hl => hk _ hl) h
  | some (.inr (.inr (some b))) :: r, 1, v, k, k', hk, h => zz_setK_e r 0 v (fun r' => k (some (.inr (.inr (some b))) :: r')) (fun r' => k' (some (.ref b) :: r')) (fun l hl => hk _ hl) h
  | a :: r, n + 2, v, k, k', hk, h => zz_setK_e r (n + 1) v (fun r' => k (a :: r')) (fun r' => k' (a.map ev :: r')) (fun l hl => hk _ hl) h
def zz_clrK : zz_L → Nat → (zz_L → Prop) → Prop
  | [], _, k => k []
  | _ :: r, 0, k => k (none :: r)
  | a :: r, n + 1, k => zz_clrK r n (fun r' => k (a :: r'))
theorem zz_clrK_e : ∀ (lv : zz_L) (i : Nat) (k : zz_L → Prop) (k' : mm_L → Prop), (∀ l, k l → k' (eL l)) → zz_clrK lv i k → mm_clrK (eL lv) i k'
  | [], _, _, _, hk, h => hk _ h
  | _ :: _, 0, _, _, hk, h => hk _ h
  | a :: r, n + 1, k, k', hk, h => zz_clrK_e r n (fun r' => k (a :: r')) (fun r' => k' (a.map ev :: r')) (fun l hl => hk _ hl) h
/-! written numbers -/
def zlit : Int → Bool
  | .ofNat n => Nat.ble n 2147483647
  | .negSucc n => Nat.ble n 2147483647
theorem zlit_r : ∀ {x : Int}, zlit x = true → R32 x
  | .ofNat n, h => by
    have h1 := Nat.le_of_ble_eq_true h
    constructor
    · show (-2147483648 : Int) ≤ (n : Int); omega
    · show (n : Int) < 2147483648; omega
  | .negSucc n, h => by
    have h1 := Nat.le_of_ble_eq_true h
    constructor
    · show (-2147483648 : Int) ≤ Int.negSucc n; omega
    · show Int.negSucc n < 2147483648; omega
def zeq : Int → Nat → Bool
  | .ofNat n, c => Nat.beq n c
  | .negSucc _, _ => false
theorem zeq_t : ∀ {x : Int} {c : Nat}, zeq x c = true → x = c
  | .ofNat n, c, h => by
    have h1 : n = c := Nat.eq_of_beq_eq_true h
    rw [h1]
    rfl
  | .negSucc _, _, h => by cases h
theorem zeq_f : ∀ {x : Int} {c : Nat}, zeq x c = false → x ≠ c
  | .ofNat n, c, h, e => by
    have h1 : n = c := Int.ofNat.inj e
    rw [h1] at h
    have h2 : Nat.beq c c = true := Nat.beq_refl c
    rw [show zeq (Int.ofNat c) c = Nat.beq c c from rfl, h2] at h
    cases h
  | .negSucc n, c, _, e => by
    have h1 : Int.negSucc n = Int.ofNat c := e
    cases h1
def zpos (b : Nat) : Int → Bool
  | .ofNat n => Nat.ble 1 n && Nat.ble n b
  | .negSucc _ => false
theorem zpos_t {b : Nat} : ∀ {x : Int}, zpos b x = true → 0 < x ∧ x ≤ b
  | .ofNat n, h => by
    have h : (Nat.ble 1 n && Nat.ble n b) = true := h
    rw [Bool.and_eq_true] at h
    have h1 := Nat.le_of_ble_eq_true h.1
    have h2 := Nat.le_of_ble_eq_true h.2
    constructor
    · show (0 : Int) < (n : Int); omega
    · show (n : Int) ≤ (b : Int); omega
  | .negSucc _, h => by cases h
/-- the number x is an int: by its writing (f), or as a premise -/
def zr (f : Bool) (x : Int) (P : Prop) : Prop := bif f then (bif zlit x then P else False) else (R32 x ∧ P)
theorem zr_ok {f : Bool} {x : Int} {P : Prop} (h : zr f x P) : R32 x ∧ P := by
  unfold zr at h
  cases f with
  | false => exact h
  | true =>
    cases hz : zlit x with
    | true => rw [hz] at h; exact ⟨zlit_r hz, h⟩
    | false => rw [hz] at h; exact h.elim
def zand (x y : Int) : Int := (zI x &&& zI y).toInt
def zor (x y : Int) : Int := (zI x ||| zI y).toInt
def zshr (x y : Int) : Int := (zI x >>> (zI y &&& 31)).toInt
def zshl (x y : Int) : Int := (zI x <<< (zI y &&& 31)).toInt
def zushr (x y : Int) : Int := ((zI x).toUInt32 >>> ((zI y).toUInt32 &&& Int32.toUInt32 31)).toInt32.toInt
def zbyte (x : Int) : Int := ((zI x).toInt8.toInt32).toInt
def zchar (x : Int) : Int := (((zI x).toUInt32 % 65536).toInt32).toInt
def zcmp (x y : Int) : Int := if y < x then 1 else if x = y then 0 else -1
theorem zcmp_e {x y : Int} (hx : R64 x) (hy : R64 y) : lg_cmp (zL x) (zL y) = zI (zcmp x y) := by
  have e1 : (zL x > zL y) ↔ y < x := by
    show zL y < zL x ↔ _
    rw [Int64.lt_iff_toInt_lt, zL_toInt hx.1 hx.2, zL_toInt hy.1 hy.2]
  have e2 : (zL x = zL y) ↔ x = y := by
    rw [← Int64.toInt_inj, zL_toInt hx.1 hx.2, zL_toInt hy.1 hy.2]
  unfold lg_cmp zcmp
  by_cases h : y < x
  · rw [if_pos (e1.mpr h), if_pos h]; rfl
  · rw [if_neg (fun q => h (e1.mp q)), if_neg h]
    by_cases h2 : x = y
    · rw [if_pos (e2.mpr h2), if_pos h2]; rfl
    · rw [if_neg (fun q => h2 (e2.mp q)), if_neg h2]; rfl
def zz_wI (M : zz_M) (h k : Nat) (x : Int) : zz_M := (M.1, mm_up M.2.1 h k x, M.2.2.1, M.2.2.2)
def zz_wJ (M : zz_M) (h k : Nat) (x : Int) : zz_M := (M.1, M.2.1, mm_up M.2.2.1 h k x, M.2.2.2)
def zz_wP (M : zz_M) (h k : Nat) (x : Option Nat) : zz_M := (M.1, M.2.1, M.2.2.1, mm_up M.2.2.2 h k x)
theorem eM_wI (M : zz_M) (h k : Nat) (x : Int) : mm_wI (eM M) h k (zI x) = eM (zz_wI M h k x) := by
  show (zsh M, mm_up (zS M.2.1) h k (zI x), zJ M.2.2.1, zpt M) = (zsh M, zS (mm_up M.2.1 h k x), zJ M.2.2.1, zpt M)
  rw [zS_up]
theorem eM_wJ (M : zz_M) (h k : Nat) (x : Int) : mm_wJ (eM M) h k (zL x) = eM (zz_wJ M h k x) := by
  show (zsh M, zS M.2.1, mm_up (zJ M.2.2.1) h k (zL x), zpt M) = (zsh M, zS M.2.1, zJ (mm_up M.2.2.1 h k x), zpt M)
  rw [zJ_up]
theorem eM_wP {M : zz_M} {h k : Nat} {x : Option Nat} (hf : zfx M.1.1 h k = false) : mm_wP (eM M) h k x = eM (zz_wP M h k x) := by
  show (zsh M, zS M.2.1, zJ M.2.2.1, mm_up (zpt M) h k x) = (zsh M, zS M.2.1, zJ M.2.2.1, zpt (zz_wP M h k x))
  have e : mm_up (zpt M) h k x = zpt (zz_wP M h k x) := by
    funext a b
    rw [up_eq]
    show _ = (bif zfx M.1.1 a b then zfp M.1.1 a b else mm_up M.2.2.2 h k x a b)
    rw [up_eq]
    by_cases hab : a = h ∧ b = k
    · rw [if_pos hab, if_pos hab, hab.1, hab.2, hf]
      rfl
    · rw [if_neg hab, if_neg hab]
      rfl
  rw [e]
/-- a field's value -/
def zz_fa (M : zz_M) (h kd k : Nat) : zv := match kd with
  | 0 => .inl (M.2.1 h k)
  | 1 => .inr (.inl (M.2.2.1 h k))
  | _ => .inr (.inr (zpt M h k))
theorem zz_fa_e (M : zz_M) (h kd k : Nat) : mm_fa (eM M) h kd k = ev (zz_fa M h kd k) := by
  match kd with
  | 0 => rfl
  | 1 => rfl
  | _ + 2 => exact (ev_rf _).symm
def zz_fk (h kd k : Nat) : zv := match kd with
  | 0 => .inl (mm_kI h k).toInt
  | 1 => .inr (.inl 0)
  | _ => .inr (.inr (mm_kP h k))
theorem zz_fk_e (h kd k : Nat) : mm_fa mm_kM h kd k = ev (zz_fk h kd k) := by
  match kd with
  | 0 => exact congrArg Value.int (zI_of _)
  | 1 => rfl
  | _ + 2 => exact (ev_rf _).symm
def zc1 (v : zv) : Bool := match v with
  | .inr (.inl _) => false
  | _ => true
theorem zc1_e {v : zv} (h : zc1 v = true) : mm_c1 (ev v) = true := by
  match v, h with
  | .inl _, _ => rfl
  | .inr (.inl _), h => cases h
  | .inr (.inr none), _ => rfl
  | .inr (.inr (some _)), _ => rfl
theorem vi_norm (v : Int) : ev (vi v) = ev (vi (zI v).toInt) := congrArg Value.int (zI_of _)
theorem i32_r (x : Int32) : R32 x.toInt := ⟨by have := x.le_toInt; omega, by have := x.toInt_lt; omega⟩
theorem zz_Jev {c : zz_P} {K : zz_K} {pc : Nat} {lv lv' : zz_L} {st st' : List zv} {M M' : zz_M} {N : mm_N} (e1 : eL lv = eL lv') (e2 : st.map ev = st'.map ev) (e3 : eM M = eM M') (h : zz_J c K pc lv' st' M' N) : zz_J c K pc lv st M N := by
  intro C hc h0 h1
  rw [e1, e2, e3]
  exact h C hc h0 h1
