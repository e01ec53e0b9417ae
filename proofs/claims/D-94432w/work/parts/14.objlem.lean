/-! ===== casts, comparisons of references, stores of references, switches, copies, class objects, throws ===== -/
set_option maxRecDepth 100000
def mm_mem : List Nat → Nat → Bool
  | [], _ => false
  | a :: r, x => bif Nat.beq a x then true else mm_mem r x
theorem mm_mem_ok {x : Nat} : ∀ {l : List Nat}, mm_mem l x = true → x ∈ l
  | [], h => by cases h
  | a :: r, h => by
    unfold mm_mem at h
    cases hq : Nat.beq a x with
    | true => rw [mm_beq hq]; exact List.mem_cons_self
    | false => rw [hq] at h; exact List.mem_cons_of_mem _ (mm_mem_ok h)
/-- checkcast: null, or an object of one of these classes -/
def o_cast (nx : Nat) (l : List Nat) : mm_O := fun lv st M N K => match st with
  | .null :: r => K (nx + 2) lv (.null :: r) M N
  | .ref h :: r => bif (Nat.beq (M.1 h).1 1 || Nat.beq (M.1 h).1 17) && mm_mem l (M.1 h).2 then K (nx + 2) lv (.ref h :: r) M N else False
  | _ => False
/-- checkcast of an array of the kind t (also of one that is only read) -/
def o_casta (nx t : Nat) : mm_O := fun lv st M N K => match st with
  | .ref h :: r => bif Nat.beq (M.1 h).1 t || Nat.beq (M.1 h).1 (t + 16) then K (nx + 2) lv (.ref h :: r) M N else False
  | _ => False
def o_inst (nx ci : Nat) : mm_O := fun lv st M N K => match st with
  | .ref h :: r => bif (Nat.beq (M.1 h).1 1 || Nat.beq (M.1 h).1 17) && Nat.beq (M.1 h).2 ci then K (nx + 2) lv (.int 1 :: r) M N else False
  | _ => False
/-- two references are the same: by their handles, if one of them is no constant -/
def mm_same (M : mm_M) (a b : Nat) (T F : Prop) : Prop := bif Nat.beq a b then T else bif (Nat.ble (M.1 a).1 15 && Nat.ble (M.1 b).1 47) || (Nat.ble (M.1 b).1 15 && Nat.ble (M.1 a).1 47) then F else False
def o_aceq (nx tgt : Nat) : mm_O := fun lv st M N K => match st with
  | .ref b :: .ref a :: r => mm_same M a b (K (tgt + 2) lv r M N) (K (nx + 2) lv r M N)
  | _ => False
def o_acne (nx tgt : Nat) : mm_O := fun lv st M N K => match st with
  | .ref b :: .ref a :: r => mm_same M a b (K (nx + 2) lv r M N) (K (tgt + 2) lv r M N)
  | _ => False
/-- a store into an Object[] of an object of one of these classes -/
def o_aast (nx : Nat) (l : List Nat) : mm_O := fun lv st M N K => match st with
  | .ref v :: .int i :: .ref h :: r => bif Nat.beq (M.1 h).1 7 && ((Nat.beq (M.1 v).1 1 || Nat.beq (M.1 v).1 17) && mm_mem l (M.1 v).2) then vp_in i (M.1 h).2 ∧ K (nx + 2) lv r (mm_wP M h i.toNatClampNeg (some v)) N else False
  | _ => False
/-- a switch: cases and default -/
def mm_sw (x : Int32) (K : Nat → Prop) : List (Int × Nat) → Nat → Prop
  | [], d => K d
  | q :: r, d => (x.toInt = q.1 → K q.2) ∧ (x.toInt ≠ q.1 → mm_sw x K r d)
def o_sw (l : List (Int × Nat)) (d : Nat) : mm_O := fun lv st M N K => match st with
  | .int x :: r => mm_sw x (fun t => K (t + 2) lv r M N) l d
  | _ => False
theorem mm_sw_ok {x : Int32} {K : Nat → Prop} : ∀ {l : List (Int × Nat)} {d : Nat}, mm_sw x K l d → K ((l.find? (fun q => decide (x.toInt = q.1))).elim d (fun q => q.2))
  | [], _, h => h
  | q :: r, d, h => by
    unfold mm_sw at h
    by_cases e : x.toInt = q.1
    · rw [List.find?_cons_of_pos (by simpa using e)]
      exact h.1 e
    · rw [List.find?_cons_of_neg (by simpa using e)]
      exact mm_sw_ok (h.2 e)
/-- the places of a memory's rows after a copy -/
def mm_cpI (M : mm_M) (x y sp dp n : Nat) : mm_M := (M.1, fun a => if a = y then va_cpy (M.2.1 x) (M.2.1 y) sp dp n else M.2.1 a, M.2.2.1, M.2.2.2)
def mm_cpJ (M : mm_M) (x y sp dp n : Nat) : mm_M := (M.1, M.2.1, fun a => if a = y then va_cpy (M.2.2.1 x) (M.2.2.1 y) sp dp n else M.2.2.1 a, M.2.2.2)
def mm_cpP (M : mm_M) (x y sp dp n : Nat) : mm_M := (M.1, M.2.1, M.2.2.1, fun a => if a = y then va_cpy (M.2.2.2 x) (M.2.2.2 y) sp dp n else M.2.2.2 a)
/-- System.arraycopy: of int[] and byte[] (kind t), long[], Object[] -/
def o_acpi (nx t : Nat) : mm_O := fun lv st M N K => match st with
  | .int n :: .int dp :: .ref y :: .int sp :: .ref x :: r => bif Nat.beq (M.1 x).1 t && (Nat.beq (M.1 y).1 t && Nat.ble (mm_dep r) 8) then (x ≠ y ∧ (¬ sp < 0 ∧ ¬ dp < 0 ∧ ¬ n < 0) ∧ sp.toNatClampNeg + n.toNatClampNeg ≤ (M.1 x).2 ∧ dp.toNatClampNeg + n.toNatClampNeg ≤ (M.1 y).2 ∧ (t = 4 → ∀ i, i < n.toNatClampNeg → fits .byte (.int (M.2.1 x (sp.toNatClampNeg + i))) = true)) ∧ K (nx + 2) lv r (mm_cpI M x y sp.toNatClampNeg dp.toNatClampNeg n.toNatClampNeg) N else False
  | _ => False
def o_acpj (nx : Nat) : mm_O := fun lv st M N K => match st with
  | .int n :: .int dp :: .ref y :: .int sp :: .ref x :: r => bif Nat.beq (M.1 x).1 3 && (Nat.beq (M.1 y).1 3 && Nat.ble (mm_dep r) 8) then (x ≠ y ∧ (¬ sp < 0 ∧ ¬ dp < 0 ∧ ¬ n < 0) ∧ sp.toNatClampNeg + n.toNatClampNeg ≤ (M.1 x).2 ∧ dp.toNatClampNeg + n.toNatClampNeg ≤ (M.1 y).2) ∧ K (nx + 2) lv r (mm_cpJ M x y sp.toNatClampNeg dp.toNatClampNeg n.toNatClampNeg) N else False
  | _ => False
def o_acpq (nx : Nat) (l : List Nat) : mm_O := fun lv st M N K => match st with
  | .int n :: .int dp :: .ref y :: .int sp :: .ref x :: r => bif (Nat.beq (M.1 x).1 7 || (Nat.beq (M.1 x).1 23 && Nat.beq (M.1 x).2 0)) && (Nat.beq (M.1 y).1 7 && Nat.ble (mm_dep r) 8) then (x ≠ y ∧ (¬ sp < 0 ∧ ¬ dp < 0 ∧ ¬ n < 0) ∧ sp.toNatClampNeg + n.toNatClampNeg ≤ (M.1 x).2 ∧ dp.toNatClampNeg + n.toNatClampNeg ≤ (M.1 y).2 ∧ (∀ i, i < n.toNatClampNeg → ∀ b, M.2.2.2 x (sp.toNatClampNeg + i) = some b → (M.1 b).1 = 1 ∧ (M.1 b).2 ∈ l)) ∧ K (nx + 2) lv r (mm_cpP M x y sp.toNatClampNeg dp.toNatClampNeg n.toNatClampNeg) N else False
  | _ => False
/-- getClass of an Object[] -/
def o_getc (nx : Nat) : mm_O := fun lv st M N K => match st with
  | .ref h :: r => bif (Nat.beq (M.1 h).1 7 || Nat.beq (M.1 h).1 23) && Nat.ble (mm_dep r) 8 then K (nx + 2) lv (.ref 1303 :: r) M N else False
  | _ => False
/-- a new cell with an old one's content -/
def mm_ac (M : mm_M) (h t n : Nat) (I : Nat → Int32) (P : Nat → Option Nat) : mm_M := (fun x => if x = h then (t, n) else M.1 x, fun x => if x = h then I else M.2.1 x, fun x => if x = h then (fun _ => 0) else M.2.2.1 x, fun x => if x = h then P else M.2.2.2 x)
/-- clone of a byte[], or of the array of the Facts -/
def o_clob (rm : Room) (nx : Nat) : mm_O := fun lv st M N K => match st with
  | .ref x :: r => bif Nat.beq (M.1 x).1 4 && Nat.ble (mm_dep r) 8 then (∃ h, (M.1 h).1 = 0 ∧ (∀ i, i < (M.1 x).2 → fits .byte (.int (M.2.1 x i)) = true) ∧ N.1 + 1 ≤ rm.cells ∧ N.2 + (M.1 x).2 ≤ rm.slots ∧ K (nx + 2) lv (.ref h :: r) (mm_ac M h 4 (M.1 x).2 (M.2.1 x) (fun _ => none)) (N.1 + 1, N.2 + (M.1 x).2)) else False
  | _ => False
def o_clof (rm : Room) (nx : Nat) : mm_O := fun lv st M N K => match st with
  | .ref x :: r => bif Nat.beq x 1301 && Nat.ble (mm_dep r) 8 then (∃ h, (M.1 h).1 = 0 ∧ N.1 + 1 ≤ rm.cells ∧ N.2 + 5 ≤ rm.slots ∧ K (nx + 2) lv (.ref h :: r) (mm_ac M h 8 5 (fun _ => 0) (mm_kP 1301)) (N.1 + 1, N.2 + 5)) else False
  | _ => False
/-- a Fact's word and number -/
def o_toldF (nx : Nat) : mm_O := fun lv st M N K => match st with
  | .ref h :: r => bif Nat.ble 1200 h && Nat.ble h 1204 then K (nx + 2) lv (.ref (mm_tf (h - 1200)) :: r) M N else False
  | _ => False
def o_ordF (nx : Nat) : mm_O := fun lv st M N K => match st with
  | .ref h :: r => bif Nat.ble 1200 h && Nat.ble h 1204 then K (nx + 2) lv (.int (nI (h - 1200)) :: r) M N else False
  | _ => False
/-- 'throw new E()', at its new -/
def o_thr0 (rm : Room) (i : Nat) : mm_O := fun lv st M N K => bif Nat.ble (mm_dep st) 8 then (N.1 + 1 ≤ rm.cells ∧ N.2 + 6 ≤ rm.slots) ∧ K 1 (List.replicate i none) [] M (N.1 + 1, N.2 + 6) else False
/-- 'throw x' of a Wrong -/
def o_athr (ci i : Nat) : mm_O := fun lv st M N K => match st with
  | .ref h :: r => bif Nat.beq (M.1 h).1 1 && Nat.beq (M.1 h).2 ci then K 1 (List.replicate i none) [] M N else False
  | _ => False
section MMG
variable {C : mm_C} {own : String} {cc : ByteArray} {ret : Option FieldType} {nL : Nat} {rm : Room}
theorem mm_objcell {lv : mm_L} {st : List Value} {M : mm_M} {N : mm_N} {ad : Nat → Nat} {H : Heap} {locs : List Loc} {ls : Array Slot} {x : Nat} (hS : mm_S C lv st M N ad H locs ls) (e : (M.1 x).1 = 1 ∨ (M.1 x).1 = 17) : ∃ r : vw_C, mm_cl[(M.1 x).2]? = some r := by
  rcases e with e2 | e2
  · have hcell := hS.2.1.cell (h := x) (by rw [e2]; decide) (by rw [e2]; decide)
    rw [e2] at hcell
    obtain ⟨r', hr', -⟩ := mm_at_obj hcell
    exact ⟨r', hr'⟩
  · have hcell := hS.2.1.cellK (h := x) (by rw [e2]; decide) (by rw [e2]; decide)
    rw [e2] at hcell
    obtain ⟨r', hr', -⟩ := mm_at_obj hcell
    exact ⟨r', hr'⟩
theorem mm_or {a b : Nat} {x : Nat} (h : (Nat.beq x a || Nat.beq x b) = true) : x = a ∨ x = b := by
  rw [Bool.or_eq_true] at h
  exact h.imp mm_beq mm_beq
theorem ok_cast (G : mm_G C own cc ret nL rm) {pc nx idx : Nat} {nm : String} {l : List Nat} (hl : ∀ ci ∈ l, ∀ r, mm_cl[ci]? = some r → r.1 = nm ∨ Cond.castable r.1 nm ∈ lw_tbl) (hcl : Cond.classLink own idx nm ∈ lw_all) (hd : decode cc pc = .ok (.checkcast idx, 3)) (hn : pc + 3 = nx) : mm_OK C pc (o_cast nx l) := by
  subst hn
  intro lv st M N K hK h ad H locs ls hS
  unfold o_cast at h
  split at h
  · next r =>
    have h1 : mm_W C (pc + 3) lv (.null :: r) M N := hK _ _ _ _ _ h
    exact lv_castN G.hx G.hb hd (h1 ad H locs ls hS)
  · next x r =>
    obtain ⟨e1, e2, h⟩ := mm_and2 h (fun q => q)
    have h1 : mm_W C (pc + 3) lv (.ref x :: r) M N := hK _ _ _ _ _ h
    have e1 := mm_or e1
    obtain ⟨rr, hr⟩ := mm_objcell hS e1
    have hv := mm_recv G hS hr rfl e1
    rcases hl _ (mm_mem_ok e2) rr hr with e | e
    · exact va_castE G.hx G.hb G.ho (G.ht _ hcl) (by rw [← e]; exact hv) hd (h1 ad H locs ls hS)
    · exact va_castY G.hx G.hb G.ho (G.ht _ hcl) (G.hn _ e rfl) hv hd (h1 ad H locs ls hS)
  · exact h.elim
theorem mm_arrcell {lv : mm_L} {st : List Value} {M : mm_M} {N : mm_N} {ad : Nat → Nat} {H : Heap} {locs : List Loc} {ls : Array Slot} {x t : Nat} (ht : 2 ≤ t ∧ t < 16) (hS : mm_S C lv st M N ad H locs ls) (e : (M.1 x).1 = t ∨ (M.1 x).1 = t + 16) (h32 : t + 16 < 32) : ∃ c : Cell, H[ad x]? = some c ∧ c.vm.isStatics = false ∧ c.cls = c_aC C t := by
  rcases e with e | e
  · have q := hS.2.1.cell (h := x) (by omega) (by omega)
    rw [e] at q
    exact ⟨_, mm_at_arr (by omega) q, rfl, rfl⟩
  · have q := hS.2.1.cellK (h := x) (by omega) (by omega)
    rw [e, show (t + 16) % 16 = t by omega] at q
    obtain ⟨cx, k1, k2, k3, k4, k5⟩ := mm_hK_at (mm_at_arr (by omega) q) rfl
    exact ⟨cx, k1, k5, k2⟩
theorem mm_arrname (G : mm_G C own cc ret nL rm) {t : Nat} {ty : FieldType} {nm : String} (htt : (mm_tys (c_aC C))[t - 2]? = some (c_aC C t, ty)) (hnm : va_RA (c_s C) (c_aC C t) ty → (c_s C).vm.findClass nm = some (c_aC C t)) : (c_s C).vm.findClass nm = some (c_aC C t) := hnm (G.hK.2 _ _ htt).2
theorem ok_casta (G : mm_G C own cc ret nL rm) {pc nx idx t : Nat} {nm : String} {ty : FieldType} (ht : 2 ≤ t ∧ t < 16) (htt : (mm_tys (c_aC C))[t - 2]? = some (c_aC C t, ty)) (hnm : va_RA (c_s C) (c_aC C t) ty → (c_s C).vm.findClass nm = some (c_aC C t)) (hcl : Cond.classLink own idx nm ∈ lw_all) (hd : decode cc pc = .ok (.checkcast idx, 3)) (hn : pc + 3 = nx) : mm_OK C pc (o_casta nx t) := by
  subst hn
  intro lv st M N K hK h ad H locs ls hS
  unfold o_casta at h
  split at h
  · next x r =>
    obtain ⟨e1, h⟩ := mm_bif h (fun q => q)
    have h1 : mm_W C (pc + 3) lv (.ref x :: r) M N := hK _ _ _ _ _ h
    obtain ⟨cx, hf, hst, hcx⟩ := mm_arrcell ht hS (mm_or e1) (by omega)
    exact va_castE G.hx G.hb G.ho (G.ht _ hcl) ⟨cx, hf, hst, by rw [hcx]; exact mm_arrname G htt hnm⟩ hd (h1 ad H locs ls hS)
  · exact h.elim
theorem ok_inst (G : mm_G C own cc ret nL rm) {pc nx idx ci : Nat} (r : vw_C) (hc : mm_cl[ci]? = some r) (hcl : Cond.classLink own idx r.1 ∈ lw_all) (hd : decode cc pc = .ok (.instanceof idx, 3)) (hn : pc + 3 = nx) : mm_OK C pc (o_inst nx ci) := by
  subst hn
  intro lv st M N K hK h ad H locs ls hS
  unfold o_inst at h
  split at h
  · next x rest =>
    obtain ⟨e1, e2, h⟩ := mm_and2 h (fun q => q)
    have h1 : mm_W C (pc + 3) lv (.int 1 :: rest) M N := hK _ _ _ _ _ h
    exact va_instS G.hx G.hb G.ho (G.ht _ hcl) (mm_clat G hc) (mm_recv G hS hc (mm_beq e2) (mm_or e1)) hd (h1 ad H locs ls (hS.st fun k => k.pop.push (mm_vk_i _)))
  · exact h.elim
theorem mm_same_ok {lv : mm_L} {st : List Value} {M : mm_M} {N : mm_N} {ad : Nat → Nat} {H : Heap} {locs : List Loc} {ls : Array Slot} {a b : Nat} {T F : Prop} (hS : mm_S C lv st M N ad H locs ls) (ha : (M.1 a).1 ≠ 0) (hb : (M.1 b).1 ≠ 0) (h : mm_same M a b T F) : (ad a = ad b → T) ∧ (¬ ad a = ad b → F) := by
  unfold mm_same at h
  cases hab : Nat.beq a b with
  | true =>
    rw [hab] at h
    have e := mm_beq hab
    exact ⟨fun _ => h, fun q => absurd (by rw [e]) q⟩
  | false =>
    rw [hab, cond_false] at h
    obtain ⟨e, h⟩ := mm_bif h (fun q => q)
    have hne : a ≠ b := fun q => by
      rw [q] at hab
      have : Nat.beq b b = true := Nat.beq_refl b
      rw [this] at hab
      cases hab
    refine ⟨fun q => ?_, fun _ => h⟩
    exfalso
    have key : ∀ x y : Nat, (M.1 x).1 ≠ 0 → (M.1 y).1 ≠ 0 → x ≠ y → (M.1 x).1 < 16 → (M.1 y).1 < 48 → ad x ≠ ad y := by
      intro x y hx hy hxy h16 h48 e
      by_cases hy16 : (M.1 y).1 < 16
      · exact hxy (hS.2.1.2.1 x y hx hy h16 hy16 e)
      · exact ((hS.2.1.1 y _ _ rfl hy).2.1 hy16 h48).1 (by rw [← e]; exact (hS.2.1.1 x _ _ rfl hx).1 h16)
    rw [Bool.or_eq_true, Bool.and_eq_true, Bool.and_eq_true] at e
    rcases e with ⟨e, e'⟩ | ⟨e, e'⟩
    · exact key a b ha hb hne (by have := Nat.le_of_ble_eq_true e; omega) (by have := Nat.le_of_ble_eq_true e'; omega) q
    · exact key b a hb ha (Ne.symm hne) (by have := Nat.le_of_ble_eq_true e; omega) (by have := Nat.le_of_ble_eq_true e'; omega) q.symm
theorem ok_aceq (G : mm_G C own cc ret nL rm) {pc nx tgt : Nat} {off : Int} (hd : decode cc pc = .ok (.if_acmp .eq off, 3)) (hn : pc + 3 = nx) (ht : (pc : Int) + off = (tgt : Int)) : mm_OK C pc (o_aceq nx tgt) := by
  subst hn
  intro lv st M N K hK h ad H locs ls hS
  unfold o_aceq at h
  split at h
  · next b a r =>
    have hb := hS.2.2.2.2.2.1.top b rfl
    have ha := hS.2.2.2.2.2.1.pop.top a rfl
    obtain ⟨h1, h2⟩ := mm_same_ok hS ha hb h
    refine lv_acmp_eq (rx := some (ad a)) (ry := some (ad b)) G.hx G.hb hd ht (fun e => ?_) (fun e => ?_)
    · have h3 : mm_W C tgt lv r M N := hK _ _ _ _ _ (h1 (Option.some.inj e))
      exact h3 ad H locs ls (hS.st fun k => k.pop.pop)
    · have h3 : mm_W C (pc + 3) lv r M N := hK _ _ _ _ _ (h2 (fun q => e (by rw [q])))
      exact h3 ad H locs ls (hS.st fun k => k.pop.pop)
  · exact h.elim
theorem ok_acne (G : mm_G C own cc ret nL rm) {pc nx tgt : Nat} {off : Int} (hd : decode cc pc = .ok (.if_acmp .ne off, 3)) (hn : pc + 3 = nx) (ht : (pc : Int) + off = (tgt : Int)) : mm_OK C pc (o_acne nx tgt) := by
  subst hn
  intro lv st M N K hK h ad H locs ls hS
  unfold o_acne at h
  split at h
  · next b a r =>
    have hb := hS.2.2.2.2.2.1.top b rfl
    have ha := hS.2.2.2.2.2.1.pop.top a rfl
    obtain ⟨h1, h2⟩ := mm_same_ok hS ha hb h
    refine lv_acmp_ne (rx := some (ad a)) (ry := some (ad b)) G.hx G.hb hd ht (fun e => ?_) (fun e => ?_)
    · have h3 : mm_W C tgt lv r M N := hK _ _ _ _ _ (h2 (fun q => e (by rw [q])))
      exact h3 ad H locs ls (hS.st fun k => k.pop.pop)
    · have h3 : mm_W C (pc + 3) lv r M N := hK _ _ _ _ _ (h1 (Option.some.inj e))
      exact h3 ad H locs ls (hS.st fun k => k.pop.pop)
  · exact h.elim
theorem ok_aast (G : mm_G C own cc ret nL rm) {pc nx : Nat} {l : List Nat} (hl : ∀ ci ∈ l, ∀ r, mm_cl[ci]? = some r → Cond.castable r.1 "java/lang/Object" ∈ lw_tbl) (hd : decode cc pc = .ok (.aastore, 1)) (hn : pc + 1 = nx) : mm_OK C pc (o_aast nx l) := by
  subst hn
  intro lv st M N K hK h ad H locs ls hS
  unfold o_aast at h
  split at h
  · next v i x rest =>
    obtain ⟨e1, e2, h⟩ := mm_and2 h (fun q => q)
    rw [Bool.and_eq_true] at e2
    obtain ⟨hin, h⟩ := h
    have h1 : mm_W C (pc + 1) lv rest (mm_wP M x i.toNatClampNeg (some v)) N := hK _ _ _ _ _ h
    have e1 := mm_beq e1
    have ev := mm_or e2.1
    obtain ⟨rr, hr⟩ := mm_objcell hS ev
    obtain ⟨cellV, g1, g2, g3⟩ := mm_recv G hS hr rfl ev
    have hcell := hS.2.1.cell (h := x) (by rw [e1]; decide) (by rw [e1]; decide)
    rw [e1] at hcell
    have hcell := mm_at_arr (by decide) hcell
    have hAx : c_A C (ad x) := (hS.2.1.1 x _ _ rfl (by rw [e1]; decide)).1 (by rw [e1]; decide)
    obtain ⟨kA, comp, k1, k2, k3, -⟩ := (G.hK.2 5 _ rfl).2
    obtain ⟨kE, hkE, -⟩ := Vm.findClass_spec k3
    obtain ⟨c0, t1, f1, f2, f3⟩ := Cond.castable_spec (va_Nw.use (A := c_a C) rfl (G.hn _ (hl _ (mm_mem_ok e2.2) rr hr) rfl))
    cases g3.symm.trans f1
    cases k3.symm.trans f2
    obtain ⟨kC, hkC, -⟩ := Vm.findClass_spec g3
    have hlt : i.toNatClampNeg < (M.1 x).2 := Nat.not_le.mp fun q => hin (Or.inr q)
    refine W.aast G.hx G.hb hcell (fun q h => by cases h) (fun h => by cases h) k1 k2 rfl hkE ⟨fun q => hin (Or.inl q), by rw [arrV_size]; exact hlt⟩ g1 (fun q h => by rw [h] at g2; cases g2) hkC f3 rfl rfl hd fun H1 e z oq => ?_
    have hvk := hS.2.2.2.2.2.1.top v rfl
    refine h1 ad H1 _ ls (hS.mem rfl (hS.2.1.write (h := x) (by rw [e1]; decide) (by rw [e1]; decide) rfl (fun _ _ => rfl) (fun _ _ => rfl) (fun a ha => mm_up_n _ _ _ ha) ?_ z oq (fun k b hb => ?_)) (hS.2.2.1.put z oq hAx) hS.2.2.2.2.2.1.pop.pop.pop)
    · rw [e1]
      refine mm_at_mk (by decide) ?_
      rw [e, arrV_store]
      congr 2
      funext j
      unfold updV
      show _ = mm_v ad (va_rf (mm_up M.2.2.2 x i.toNatClampNeg (some v) x j))
      rw [mm_up_a]
      split <;> rfl
    · have hb : mm_up M.2.2.2 x i.toNatClampNeg (some v) x k = some b := hb
      rw [mm_up_a] at hb
      by_cases hk : k = i.toNatClampNeg
      · rw [if_pos hk] at hb; cases hb; exact hvk
      · rw [if_neg hk] at hb
        exact hS.2.1.2.2 x k b (by rw [e1]; decide) (by rw [e1, mm_me_lo (by decide)]; exact hb)
  · exact h.elim
/-! switches -/
theorem ok_lsw (G : mm_G C own cc ret nL rm) {pc len : Nat} {dflt : Int} {ps : Array (Int × Int)} {l : List (Int × Nat)} {d : Nat} (hd : decode cc pc = .ok (.lookupswitch dflt ps, len)) (hp : (ps.toList.zip (ps.toList.drop 1)).all (fun (a, next) => a.1 < next.1) = true) (hl : ∀ x : Int, (pc : Int) + Op.lookupswitch.offset ps.toList dflt x = (((l.find? (fun q => decide (x = q.1))).elim d (fun q => q.2) : Nat) : Int)) : mm_OK C pc (o_sw l d) := by
  intro lv st M N K hK h ad H locs ls hS
  unfold o_sw at h
  split at h
  · next x r =>
    have h := mm_sw_ok h
    have h1 : mm_W C _ lv r M N := hK _ _ _ _ _ h
    exact lv_lookup G.hx G.hb hd hp rfl (hl x.toInt) (h1 ad H locs ls (hS.st fun k => k.pop))
  · exact h.elim
theorem ok_tsw (G : mm_G C own cc ret nL rm) {pc len : Nat} {dflt lo hi : Int} {offs : Array Int} {l : List (Int × Nat)} {d : Nat} (hd : decode cc pc = .ok (.tableswitch dflt lo hi offs, len)) (h1 : ∀ x : Int, x < lo ∨ hi < x → (pc : Int) + dflt = (((l.find? (fun q => decide (x = q.1))).elim d (fun q => q.2) : Nat) : Int)) (h2 : ∀ x : Int, ¬ x < lo → ¬ hi < x → ∃ off, offs[(x - lo).toNat]? = some off ∧ (pc : Int) + off = (((l.find? (fun q => decide (x = q.1))).elim d (fun q => q.2) : Nat) : Int)) : mm_OK C pc (o_sw l d) := by
  intro lv st M N K hK h ad H locs ls hS
  unfold o_sw at h
  split at h
  · next x r =>
    have h := mm_sw_ok h
    have hw : mm_W C _ lv r M N := hK _ _ _ _ _ h
    by_cases hx : x.toInt < lo ∨ hi < x.toInt
    · exact lv_tableOut G.hx G.hb hd hx (h1 _ hx) (hw ad H locs ls (hS.st fun k => k.pop))
    · obtain ⟨off, e1, e2⟩ := h2 x.toInt (fun q => hx (Or.inl q)) (fun q => hx (Or.inr q))
      exact lv_tableIn G.hx G.hb hd (fun q => hx (Or.inl q)) (fun q => hx (Or.inr q)) e1 e2 (hw ad H locs ls (hS.st fun k => k.pop))
  · exact h.elim
theorem mm_acpI (G : mm_G C own cc ret nL rm) {pc idx : Nat} (w1 : Cond.methodLink own idx arraycopyName ∈ lw_all) (w2 : Cond.native arraycopyName ∈ lw_all) (w3 : Cond.static arraycopyName ∈ lw_all) (w4 : Cond.initialized "java/lang/System" ∈ lw_all) (hroom : 1 ≤ rm.frames ∧ 8 + (nativeFrameWords "java/lang/System" "arraycopy" 5 + 11) ≤ rm.locals) (hd : decode cc pc = .ok (.invokestatic idx, 3)) {H : Heap} {locs : List Loc} {N : mm_N} {ls : Array Slot} (hls : ls.size = (c_c C).maxLocals) {rest : List Value} (hrest : (rest.map fun v => v.category).sum ≤ 8)
    {a0 a n0 n1 : Nat} {c0 c1 : ClassId} {f g : Nat → Int32} {ty : FieldType} (hc0 : H[a0]? = some (arrV c0 n0 (fun j => Value.int (f j)))) (hc1 : H[a]? = some (arrV c1 n1 (fun j => Value.int (g j)))) (hA0 : ArrOfT (c_s C) c0 ty) (hA1 : ArrOfT (c_s C) c1 ty) (hprim : refKind ty = false)
    {sp dp n : Int32} (h1 : ¬ sp < 0) (h2 : ¬ dp < 0) (h3 : ¬ n < 0) (h4 : sp.toNatClampNeg + n.toNatClampNeg ≤ n0) (h5 : dp.toNatClampNeg + n.toNatClampNeg ≤ n1) (hfit : ∀ i, i < n.toNatClampNeg → fits ty (.int (f (sp.toNatClampNeg + i))) = true)
    (kk : ∀ (H1 : Heap) (locs1 : List Loc), H1[a]? = some (arrV c1 n1 (fun j => Value.int (va_cpy f g sp.toNatClampNeg dp.toNatClampNeg n.toNatClampNeg j))) → H1.size = H.size → (∀ q : Nat, q ≠ a → H1[q]? = H[q]?) → (∀ l ∈ locs1, l ∈ locs ∨ l.base = a) → mm_Wc C H1 locs1 N (F0 (c_m C) (pc + 3) ls rest)) : mm_Wc C H locs N (F0 (c_m C) pc ls (.int n :: .int dp :: .ref a :: .int sp :: .ref a0 :: rest)) := by
  have nn : ∀ z : Int32, ¬ z < 0 → z.toInt = (z.toNatClampNeg : Int) := by
    intro z hz
    have hz0 : (0 : Int) ≤ z.toInt := by
      have := Int32.not_lt.mp hz
      simpa using Int32.le_iff_toInt_le.mp this
    show z.toInt = ((z.toInt.toNat : Nat) : Int)
    omega
  intro T hT X
  obtain ⟨-, k0, hk0, cm0, hkk0⟩ := hA0 n0 (fun j => Value.int (f j))
  obtain ⟨-, k1, hk1, cm1, hkk1⟩ := hA1 n1 (fun j => Value.int (g j))
  have hR := G.hR
  obtain ⟨vm', X', step⟩ := X.arraycopy G.hx G.ho (G.ht _ w1) (G.ht _ w2) (G.ht _ w3) (G.ht _ w4) (src := a0) (dst := a) (cs := arrV c0 n0 (fun j => Value.int (f j))) (cd := arrV c1 n1 (fun j => Value.int (g j))) (srcPos := sp) (destPos := dp) (n := n) (by rw [hT]; exact hc0) (by rw [hT]; exact hc1)
    (fun _ h => by cases h) (fun _ h => by cases h) (fun h => by cases h) (fun h => by cases h) hk0 hk1 hkk0 hkk1 (by simp [hprim]) h1 h2 h3
    (by rw [nn sp h1, nn n h3, arrV_size]; omega)
    (by rw [nn dp h2, nn n h3, arrV_size]; omega)
    (fun vm₁ hal i hi => by
      have e : (arrV c0 n0 (fun j => Value.int (f j))).slots.getD (sp.toNatClampNeg + i) .null = .int (f (sp.toNatClampNeg + i)) := by
        rw [Array.getD_eq_getD_getElem?, arrV_read _ _ (by omega)]
        rfl
      refine ⟨?_, ?_⟩
      · rw [e]
        exact hfit i hi
      · rw [e]
        exact trivial)
    (g := F0 (c_m C) pc ls (.int n :: .int dp :: .ref a :: .int sp :: .ref a0 :: rest)) rfl hls (rest := rest) rfl (by rw [G.hb]; exact hd) (by rw [hR]; exact hroom.1) (by rw [hR]; show 2 * 0 + _ + _ ≤ _; have := hroom.2; omega)
  have e1 : copied (arrV c0 n0 (fun j => Value.int (f j))) (arrV c1 n1 (fun j => Value.int (g j))) sp dp n = arrV c1 n1 (fun j => Value.int (va_cpy f g sp.toNatClampNeg dp.toNatClampNeg n.toNatClampNeg j)) := va_copied (fun z => .int z) c0 c1 f g h4
  rw [e1] at X' step
  generalize hce : arrV c1 n1 (fun j => Value.int (va_cpy f g sp.toNatClampNeg dp.toNatClampNeg n.toNatClampNeg j)) = ce at X' step kk
  have hl : a < H.size := (Array.getElem?_eq_some_iff.mp hc1).1
  have hheap : ((T.setVm vm').setCell a ce).heap = H.setIfInBounds a ce := by rw [← hT]; rfl
  obtain ⟨t, a1, b1⟩ := kk _ _ (show (H.setIfInBounds a ce)[a]? = some _ by simp [Array.getElem?_setIfInBounds, hl]) (by simp) (fun q hq => by simp [Array.getElem?_setIfInBounds, Ne.symm hq]) (fun q hq => by
      rcases List.mem_append.mp hq with h | h
      · exact Or.inl h
      · obtain ⟨z, -, hz⟩ := List.mem_map.mp h
        rw [← hz]
        exact Or.inr rfl) _ hheap X'
  exact ⟨t, step t a1, b1⟩
theorem mm_acpJ (G : mm_G C own cc ret nL rm) {pc idx : Nat} (w1 : Cond.methodLink own idx arraycopyName ∈ lw_all) (w2 : Cond.native arraycopyName ∈ lw_all) (w3 : Cond.static arraycopyName ∈ lw_all) (w4 : Cond.initialized "java/lang/System" ∈ lw_all) (hroom : 1 ≤ rm.frames ∧ 8 + (nativeFrameWords "java/lang/System" "arraycopy" 5 + 11) ≤ rm.locals) (hd : decode cc pc = .ok (.invokestatic idx, 3)) {H : Heap} {locs : List Loc} {N : mm_N} {ls : Array Slot} (hls : ls.size = (c_c C).maxLocals) {rest : List Value} (hrest : (rest.map fun v => v.category).sum ≤ 8)
    {a0 a n0 n1 : Nat} {c0 c1 : ClassId} {f g : Nat → Int64} {ty : FieldType} (hc0 : H[a0]? = some (arrV c0 n0 (fun j => Value.long (f j)))) (hc1 : H[a]? = some (arrV c1 n1 (fun j => Value.long (g j)))) (hA0 : ArrOfT (c_s C) c0 ty) (hA1 : ArrOfT (c_s C) c1 ty) (hprim : refKind ty = false)
    {sp dp n : Int32} (h1 : ¬ sp < 0) (h2 : ¬ dp < 0) (h3 : ¬ n < 0) (h4 : sp.toNatClampNeg + n.toNatClampNeg ≤ n0) (h5 : dp.toNatClampNeg + n.toNatClampNeg ≤ n1) (hfit : ∀ i, i < n.toNatClampNeg → fits ty (.long (f (sp.toNatClampNeg + i))) = true)
    (kk : ∀ (H1 : Heap) (locs1 : List Loc), H1[a]? = some (arrV c1 n1 (fun j => Value.long (va_cpy f g sp.toNatClampNeg dp.toNatClampNeg n.toNatClampNeg j))) → H1.size = H.size → (∀ q : Nat, q ≠ a → H1[q]? = H[q]?) → (∀ l ∈ locs1, l ∈ locs ∨ l.base = a) → mm_Wc C H1 locs1 N (F0 (c_m C) (pc + 3) ls rest)) : mm_Wc C H locs N (F0 (c_m C) pc ls (.int n :: .int dp :: .ref a :: .int sp :: .ref a0 :: rest)) := by
  have nn : ∀ z : Int32, ¬ z < 0 → z.toInt = (z.toNatClampNeg : Int) := by
    intro z hz
    have hz0 : (0 : Int) ≤ z.toInt := by
      have := Int32.not_lt.mp hz
      simpa using Int32.le_iff_toInt_le.mp this
    show z.toInt = ((z.toInt.toNat : Nat) : Int)
    omega
  intro T hT X
  obtain ⟨-, k0, hk0, cm0, hkk0⟩ := hA0 n0 (fun j => Value.long (f j))
  obtain ⟨-, k1, hk1, cm1, hkk1⟩ := hA1 n1 (fun j => Value.long (g j))
  have hR := G.hR
  obtain ⟨vm', X', step⟩ := X.arraycopy G.hx G.ho (G.ht _ w1) (G.ht _ w2) (G.ht _ w3) (G.ht _ w4) (src := a0) (dst := a) (cs := arrV c0 n0 (fun j => Value.long (f j))) (cd := arrV c1 n1 (fun j => Value.long (g j))) (srcPos := sp) (destPos := dp) (n := n) (by rw [hT]; exact hc0) (by rw [hT]; exact hc1)
    (fun _ h => by cases h) (fun _ h => by cases h) (fun h => by cases h) (fun h => by cases h) hk0 hk1 hkk0 hkk1 (by simp [hprim]) h1 h2 h3
    (by rw [nn sp h1, nn n h3, arrV_size]; omega)
    (by rw [nn dp h2, nn n h3, arrV_size]; omega)
    (fun vm₁ hal i hi => by
      have e : (arrV c0 n0 (fun j => Value.long (f j))).slots.getD (sp.toNatClampNeg + i) .null = .long (f (sp.toNatClampNeg + i)) := by
        rw [Array.getD_eq_getD_getElem?, arrV_read _ _ (by omega)]
        rfl
      refine ⟨?_, ?_⟩
      · rw [e]
        exact hfit i hi
      · rw [e]
        exact trivial)
    (g := F0 (c_m C) pc ls (.int n :: .int dp :: .ref a :: .int sp :: .ref a0 :: rest)) rfl hls (rest := rest) rfl (by rw [G.hb]; exact hd) (by rw [hR]; exact hroom.1) (by rw [hR]; show 2 * 0 + _ + _ ≤ _; have := hroom.2; omega)
  have e1 : copied (arrV c0 n0 (fun j => Value.long (f j))) (arrV c1 n1 (fun j => Value.long (g j))) sp dp n = arrV c1 n1 (fun j => Value.long (va_cpy f g sp.toNatClampNeg dp.toNatClampNeg n.toNatClampNeg j)) := va_copied (fun z => .long z) c0 c1 f g h4
  rw [e1] at X' step
  generalize hce : arrV c1 n1 (fun j => Value.long (va_cpy f g sp.toNatClampNeg dp.toNatClampNeg n.toNatClampNeg j)) = ce at X' step kk
  have hl : a < H.size := (Array.getElem?_eq_some_iff.mp hc1).1
  have hheap : ((T.setVm vm').setCell a ce).heap = H.setIfInBounds a ce := by rw [← hT]; rfl
  obtain ⟨t, a1, b1⟩ := kk _ _ (show (H.setIfInBounds a ce)[a]? = some _ by simp [Array.getElem?_setIfInBounds, hl]) (by simp) (fun q hq => by simp [Array.getElem?_setIfInBounds, Ne.symm hq]) (fun q hq => by
      rcases List.mem_append.mp hq with h | h
      · exact Or.inl h
      · obtain ⟨z, -, hz⟩ := List.mem_map.mp h
        rw [← hz]
        exact Or.inr rfl) _ hheap X'
  exact ⟨t, step t a1, b1⟩
theorem mm_acpQ (G : mm_G C own cc ret nL rm) {pc idx : Nat} (w1 : Cond.methodLink own idx arraycopyName ∈ lw_all) (w2 : Cond.native arraycopyName ∈ lw_all) (w3 : Cond.static arraycopyName ∈ lw_all) (w4 : Cond.initialized "java/lang/System" ∈ lw_all) (hroom : 1 ≤ rm.frames ∧ 8 + (nativeFrameWords "java/lang/System" "arraycopy" 5 + 11) ≤ rm.locals) (hd : decode cc pc = .ok (.invokestatic idx, 3)) {H : Heap} {locs : List Loc} {N : mm_N} {ls : Array Slot} (hls : ls.size = (c_c C).maxLocals) {rest : List Value} (hrest : (rest.map fun v => v.category).sum ≤ 8)
    {a0 a n0 n1 : Nat} {c0 c1 : ClassId} {f g : Nat → Option Nat} {ty : FieldType} (hc0 : mm_lk H a0 (arrV c0 n0 (fun j => va_rf (f j)))) (hc1 : H[a]? = some (arrV c1 n1 (fun j => va_rf (g j)))) (hA0 : ArrOfT (c_s C) c0 ty) (hA1 : ArrOfT (c_s C) c1 ty) (hE : ty = .object "java/lang/Object") (hRA : va_RA (c_s C) c1 ty)
    {sp dp n : Int32} (h1 : ¬ sp < 0) (h2 : ¬ dp < 0) (h3 : ¬ n < 0) (h4 : sp.toNatClampNeg + n.toNatClampNeg ≤ n0) (h5 : dp.toNatClampNeg + n.toNatClampNeg ≤ n1) (hel : ∀ i : Nat, i < n.toNatClampNeg → ∀ y : Nat, f (sp.toNatClampNeg + i) = some y → ∃ (nm : String) (cellV : Cell), H[y]? = some cellV ∧ cellV.vm.isStatics = false ∧ (c_s C).vm.findClass nm = some cellV.cls ∧ va_Nw (.castable nm "java/lang/Object") (c_s C))
    (kk : ∀ (H1 : Heap) (locs1 : List Loc), H1[a]? = some (arrV c1 n1 (fun j => va_rf (va_cpy f g sp.toNatClampNeg dp.toNatClampNeg n.toNatClampNeg j))) → H1.size = H.size → (∀ q : Nat, q ≠ a → H1[q]? = H[q]?) → (∀ l ∈ locs1, l ∈ locs ∨ l.base = a) → mm_Wc C H1 locs1 N (F0 (c_m C) (pc + 3) ls rest)) : mm_Wc C H locs N (F0 (c_m C) pc ls (.int n :: .int dp :: .ref a :: .int sp :: .ref a0 :: rest)) := by
  have nn : ∀ z : Int32, ¬ z < 0 → z.toInt = (z.toNatClampNeg : Int) := by
    intro z hz
    have hz0 : (0 : Int) ≤ z.toInt := by
      have := Int32.not_lt.mp hz
      simpa using Int32.le_iff_toInt_le.mp this
    show z.toInt = ((z.toInt.toNat : Nat) : Int)
    omega
  obtain ⟨cx, hc0, ecl, esl, hu, hst⟩ := hc0
  intro T hT X
  obtain ⟨-, k0, hk0, cm0, hkk0⟩ := hA0 n0 (fun j => va_rf (f j))
  obtain ⟨-, k1, hk1, cm1, hkk1⟩ := hA1 n1 (fun j => va_rf (g j))
  have hR := G.hR
  obtain ⟨vm', X', step⟩ := X.arraycopy G.hx G.ho (G.ht _ w1) (G.ht _ w2) (G.ht _ w3) (G.ht _ w4) (src := a0) (dst := a) (cs := cx) (cd := arrV c1 n1 (fun j => va_rf (g j))) (srcPos := sp) (destPos := dp) (n := n) (by rw [hT]; exact hc0) (by rw [hT]; exact hc1)
    (fun _ h => by rw [h] at hst; cases hst) (fun _ h => by cases h) hu (fun h => by cases h) (by rw [ecl]; exact hk0) hk1 hkk0 hkk1 (by rw [hE]; rfl) h1 h2 h3
    (by rw [nn sp h1, nn n h3, esl, arrV_size]; omega)
    (by rw [nn dp h2, nn n h3, arrV_size]; omega)
    (fun vm₁ hal i hi => by
      have e : cx.slots.getD (sp.toNatClampNeg + i) .null = va_rf (f (sp.toNatClampNeg + i)) := by
        rw [esl, Array.getD_eq_getD_getElem?, arrV_read _ _ (by omega)]
        rfl
      rw [e]
      cases hy : f (sp.toNatClampNeg + i) with
      | none => exact ⟨by rw [hE]; rfl, trivial⟩
      | some y =>
        obtain ⟨nm, cellV, g1, g2, g3, g4⟩ := hel i hi y hy
        subst hE
        obtain ⟨kA, comp, r1, r2, r3, -⟩ := hRA
        cases hk1.symm.trans r1
        cases hkk1.symm.trans r2
        obtain ⟨c0', t1, f1, f2, f3⟩ := Cond.castable_spec (va_Nw.use (A := c_a C) rfl g4)
        cases g3.symm.trans f1
        cases r3.symm.trans f2
        obtain ⟨kC, hkC, -⟩ := Vm.findClass_spec g3
        obtain ⟨kE, hkE, -⟩ := Vm.findClass_spec r3
        obtain ⟨kC', hkC', -⟩ := hal.2.2 _ _ hkC
        obtain ⟨kE', hkE', -⟩ := hal.2.2 _ _ hkE
        refine ⟨rfl, cellV, (show T.heap[y]? = some cellV by rw [hT]; exact g1), (fun q h => by rw [h] at g2; cases g2), ⟨kC', hkC'⟩, ?_, ?_⟩
        · exact ⟨kE', hkE'⟩
        · show vm₁.assignable _ _ = true
          rw [hal.assignable]
          exact f3)
    (g := F0 (c_m C) pc ls (.int n :: .int dp :: .ref a :: .int sp :: .ref a0 :: rest)) rfl hls (rest := rest) rfl (by rw [G.hb]; exact hd) (by rw [hR]; exact hroom.1) (by rw [hR]; show 2 * 0 + _ + _ ≤ _; have := hroom.2; omega)
  have e1 : copied cx (arrV c1 n1 (fun j => va_rf (g j))) sp dp n = arrV c1 n1 (fun j => va_rf (va_cpy f g sp.toNatClampNeg dp.toNatClampNeg n.toNatClampNeg j)) := (show copied cx (arrV c1 n1 (fun j => va_rf (g j))) sp dp n = copied (arrV c0 n0 (fun j => va_rf (f j))) (arrV c1 n1 (fun j => va_rf (g j))) sp dp n by unfold copied Cell.stretch; rw [esl]).trans (va_copied (fun z => va_rf z) c0 c1 f g h4)
  rw [e1] at X' step
  generalize hce : arrV c1 n1 (fun j => va_rf (va_cpy f g sp.toNatClampNeg dp.toNatClampNeg n.toNatClampNeg j)) = ce at X' step kk
  have hl : a < H.size := (Array.getElem?_eq_some_iff.mp hc1).1
  have hheap : ((T.setVm vm').setCell a ce).heap = H.setIfInBounds a ce := by rw [← hT]; rfl
  obtain ⟨t, a1, b1⟩ := kk _ _ (show (H.setIfInBounds a ce)[a]? = some _ by simp [Array.getElem?_setIfInBounds, hl]) (by simp) (fun q hq => by simp [Array.getElem?_setIfInBounds, Ne.symm hq]) (fun q hq => by
      rcases List.mem_append.mp hq with h | h
      · exact Or.inl h
      · obtain ⟨z, -, hz⟩ := List.mem_map.mp h
        rw [← hz]
        exact Or.inr rfl) _ hheap X'
  exact ⟨t, step t a1, b1⟩
/-- the memory behind a write of a whole row -/
theorem mm_rowS {lv : mm_L} {st st' : List Value} {M M' : mm_M} {N : mm_N} {ad : Nat → Nat} {H H1 : Heap} {locs locs1 : List Loc} {ls : Array Slot} {y : Nat} (hS : mm_S C lv st M N ad H locs ls) (h0 : (M.1 y).1 ≠ 0) (h16 : (M.1 y).1 < 16) (e1 : M'.1 = M.1) (hI : ∀ a, a ≠ y → M'.2.1 a = M.2.1 a) (hJ : ∀ a, a ≠ y → M'.2.2.1 a = M.2.2.1 a) (hP : ∀ a, a ≠ y → M'.2.2.2 a = M.2.2.2 a) (hat : mm_at (c_D C) (c_aC C) ad M' y (M.1 y).1 (M.1 y).2 H1) (z : H1.size = H.size) (oq : ∀ q : Nat, q ≠ ad y → H1[q]? = H[q]?) (hl : ∀ l ∈ locs1, l ∈ locs ∨ l.base = ad y) (hcl : ∀ k b, M'.2.2.2 y k = some b → (M.1 b).1 ≠ 0) (hk : mm_ok M lv st') : mm_S C lv st' M' N ad H1 locs1 ls := by
  have hAx : c_A C (ad y) := (hS.2.1.1 y _ _ rfl h0).1 h16
  refine hS.mem e1 (hS.2.1.write (h := y) h0 h16 e1 hI hJ hP hat z oq hcl) ⟨by rw [z]; exact hS.2.2.1.1, fun q g1 g2 => ?_, fun l hq => ?_⟩ hk
  · rw [oq q (fun e => g2 (by rw [e]; exact hAx))]
    exact hS.2.2.1.2.1 q g1 g2
  · rcases hl l hq with h | h
    · exact hS.2.2.1.2.2 l h
    · rw [h]; exact hAx
theorem ok_acpi (G : mm_G C own cc ret nL rm) {pc nx t idx : Nat} {ty : FieldType} (ht : t = 2 ∧ ty = .int ∨ t = 4 ∧ ty = .byte) (w1 : Cond.methodLink own idx arraycopyName ∈ lw_all) (w2 : Cond.native arraycopyName ∈ lw_all) (w3 : Cond.static arraycopyName ∈ lw_all) (w4 : Cond.initialized "java/lang/System" ∈ lw_all) (hroom : 1 ≤ rm.frames ∧ 8 + (nativeFrameWords "java/lang/System" "arraycopy" 5 + 11) ≤ rm.locals) (hd : decode cc pc = .ok (.invokestatic idx, 3)) (hn : pc + 3 = nx) : mm_OK C pc (o_acpi nx t) := by
  subst hn
  intro lv st M N K hK h ad H locs ls hS
  unfold o_acpi at h
  split at h
  · next n dp y sp x r =>
    obtain ⟨e1, e2, ⟨hxy, ⟨q1, q2, q3⟩, q4, q5, q6⟩, h⟩ := mm_and2 h (fun q => q)
    rw [Bool.and_eq_true] at e2
    have e1 := mm_beq e1
    have e3 := mm_beq e2.1
    have hk : mm_W C (pc + 3) lv r _ N := hK _ _ _ _ _ h
    have ht1 : t ≠ 0 ∧ t < 16 ∧ t ≠ 1 := by omega
    have c0 := hS.2.1.cell (h := x) (by omega) (by omega)
    have c1 := hS.2.1.cell (h := y) (by omega) (by omega)
    rw [e1] at c0
    rw [e3] at c1
    have c0 := mm_at_arr ht1.2.2 c0
    have c1 := mm_at_arr ht1.2.2 c1
    have ee : ∀ (M : mm_M) (h j : Nat), mm_v ad (mm_ea M h t j) = .int (M.2.1 h j) := by
      intro M h j
      rcases ht with ⟨e, -⟩ | ⟨e, -⟩ <;> subst e <;> rfl
    simp only [ee] at c0 c1
    obtain ⟨ty', htt, -⟩ := mm_ty_at (c_aC C) t (by omega) (by omega)
    have ety : ty' = ty := by
      rcases ht with ⟨e, e'⟩ | ⟨e, e'⟩ <;> subst e <;> subst e' <;> cases htt <;> rfl
    subst ety
    have hA := (G.hK.2 _ _ htt).1
    refine mm_acpI G w1 w2 w3 w4 hroom hd hS.2.2.2.2.1 (by rw [mm_dep_eq]; exact Nat.le_of_ble_eq_true e2.2) c0 c1 hA hA (by rcases ht with ⟨-, e⟩ | ⟨-, e⟩ <;> rw [e] <;> rfl) q1 q2 q3 q4 q5 (fun i hi => ?_) (fun H1 locs1 f1 f2 f3 f4 => ?_)
    · rcases ht with ⟨-, e⟩ | ⟨e, e'⟩
      · rw [e]; rfl
      · rw [e']; exact q6 e i hi
    · refine hk ad H1 locs1 ls (mm_rowS (y := y) hS (by omega) (by omega) rfl (fun a ha => if_neg ha) (fun _ _ => rfl) (fun _ _ => rfl) ?_ f2 f3 f4 (fun k b hb => hS.2.1.2.2 y k b (by omega) (by rw [mm_me_lo (by omega)]; exact hb)) hS.2.2.2.2.2.1.pop.pop.pop.pop.pop)
      rw [e3]
      refine mm_at_mk ht1.2.2 ?_
      rw [f1]
      congr 2
      funext j
      rw [ee]
      show _ = Value.int ((if y = y then va_cpy (M.2.1 x) (M.2.1 y) sp.toNatClampNeg dp.toNatClampNeg n.toNatClampNeg else M.2.1 y) j)
      rw [if_pos rfl]
  · exact h.elim
theorem ok_acpj (G : mm_G C own cc ret nL rm) {pc nx idx : Nat} (w1 : Cond.methodLink own idx arraycopyName ∈ lw_all) (w2 : Cond.native arraycopyName ∈ lw_all) (w3 : Cond.static arraycopyName ∈ lw_all) (w4 : Cond.initialized "java/lang/System" ∈ lw_all) (hroom : 1 ≤ rm.frames ∧ 8 + (nativeFrameWords "java/lang/System" "arraycopy" 5 + 11) ≤ rm.locals) (hd : decode cc pc = .ok (.invokestatic idx, 3)) (hn : pc + 3 = nx) : mm_OK C pc (o_acpj nx) := by
  subst hn
  intro lv st M N K hK h ad H locs ls hS
  unfold o_acpj at h
  split at h
  · next n dp y sp x r =>
    obtain ⟨e1, e2, ⟨hxy, ⟨q1, q2, q3⟩, q4, q5⟩, h⟩ := mm_and2 h (fun q => q)
    rw [Bool.and_eq_true] at e2
    have e1 := mm_beq e1
    have e3 := mm_beq e2.1
    have hk : mm_W C (pc + 3) lv r _ N := hK _ _ _ _ _ h
    have c0 := hS.2.1.cell (h := x) (by omega) (by omega)
    have c1 := hS.2.1.cell (h := y) (by omega) (by omega)
    rw [e1] at c0
    rw [e3] at c1
    have c0 := mm_at_arr (by decide) c0
    have c1 := mm_at_arr (by decide) c1
    have ee : ∀ (M : mm_M) (h j : Nat), mm_v ad (mm_ea M h 3 j) = .long (M.2.2.1 h j) := fun _ _ _ => rfl
    simp only [ee] at c0 c1
    have hA := (G.hK.2 1 _ rfl).1
    refine mm_acpJ G w1 w2 w3 w4 hroom hd hS.2.2.2.2.1 (by rw [mm_dep_eq]; exact Nat.le_of_ble_eq_true e2.2) c0 c1 hA hA rfl q1 q2 q3 q4 q5 (fun i hi => rfl) (fun H1 locs1 f1 f2 f3 f4 => ?_)
    refine hk ad H1 locs1 ls (mm_rowS (y := y) hS (by omega) (by omega) rfl (fun _ _ => rfl) (fun a ha => if_neg ha) (fun _ _ => rfl) ?_ f2 f3 f4 (fun k b hb => hS.2.1.2.2 y k b (by omega) (by rw [mm_me_lo (by omega)]; exact hb)) hS.2.2.2.2.2.1.pop.pop.pop.pop.pop)
    rw [e3]
    refine mm_at_mk (by decide) ?_
    rw [f1]
    congr 2
    funext j
    rw [ee]
    show _ = Value.long ((if y = y then va_cpy (M.2.2.1 x) (M.2.2.1 y) sp.toNatClampNeg dp.toNatClampNeg n.toNatClampNeg else M.2.2.1 y) j)
    rw [if_pos rfl]
  · exact h.elim
theorem ok_acpq (G : mm_G C own cc ret nL rm) {pc nx idx : Nat} {l : List Nat} (hl : ∀ ci ∈ l, ∀ r, mm_cl[ci]? = some r → Cond.castable r.1 "java/lang/Object" ∈ lw_tbl) (w1 : Cond.methodLink own idx arraycopyName ∈ lw_all) (w2 : Cond.native arraycopyName ∈ lw_all) (w3 : Cond.static arraycopyName ∈ lw_all) (w4 : Cond.initialized "java/lang/System" ∈ lw_all) (hroom : 1 ≤ rm.frames ∧ 8 + (nativeFrameWords "java/lang/System" "arraycopy" 5 + 11) ≤ rm.locals) (hd : decode cc pc = .ok (.invokestatic idx, 3)) (hn : pc + 3 = nx) : mm_OK C pc (o_acpq nx l) := by
  subst hn
  intro lv st M N K hK h ad H locs ls hS
  unfold o_acpq at h
  split at h
  · next n dp y sp x r =>
    obtain ⟨e1, e2, ⟨hxy, ⟨q1, q2, q3⟩, q4, q5, q6⟩, h⟩ := mm_and2 h (fun q => q)
    rw [Bool.and_eq_true] at e2
    have e3 := mm_beq e2.1
    have hk : mm_W C (pc + 3) lv r _ N := hK _ _ _ _ _ h
    have c1 := hS.2.1.cell (h := y) (by omega) (by omega)
    rw [e3] at c1
    have c1 := mm_at_arr (by decide) c1
    have ee : ∀ (M : mm_M) (h j : Nat), mm_ea M h 7 j = va_rf (M.2.2.2 h j) := fun _ _ _ => rfl
    have er : ∀ o : Option Nat, mm_v ad (va_rf o) = va_rf (o.map ad) := fun o => by cases o <;> rfl
    simp only [ee, er] at c1
    have hA := (G.hK.2 5 _ rfl).1
    have hc0 : ∃ f : Nat → Option Nat, mm_lk H (ad x) (arrV (c_aC C 7) (M.1 x).2 (fun j => va_rf (f j))) ∧ ∀ i, i < (M.1 x).2 → f i = (M.2.2.2 x i).map ad := by
      rw [Bool.or_eq_true, Bool.and_eq_true] at e1
      rcases e1 with e1 | ⟨e1, e4⟩
      · have e1 := mm_beq e1
        have c0 := hS.2.1.cell (h := x) (by omega) (by omega)
        rw [e1] at c0
        have c0 := mm_at_arr (by decide) c0
        simp only [ee, er] at c0
        exact ⟨_, mm_lk.of c0, fun _ _ => rfl⟩
      · have e1 := mm_beq e1
        have e4 := mm_beq e4
        have c0 := hS.2.1.cellK (h := x) (by omega) (by omega)
        rw [e1] at c0
        have c0 := mm_at_arr (by decide) c0
        simp only [ee, er] at c0
        exact ⟨_, mm_hK_at c0 rfl, fun i hi => by omega⟩
    obtain ⟨f, hf, hfe⟩ := hc0
    refine mm_acpQ (f := f) (g := fun j => (M.2.2.2 y j).map ad) G w1 w2 w3 w4 hroom hd hS.2.2.2.2.1 (by rw [mm_dep_eq]; exact Nat.le_of_ble_eq_true e2.2) hf c1 hA hA rfl (G.hK.2 5 _ rfl).2 q1 q2 q3 q4 q5 (fun i hi b hb => ?_) (fun H1 locs1 f1 f2 f3 f4 => ?_)
    · rw [hfe _ (by omega)] at hb
      cases hb2 : M.2.2.2 x (sp.toNatClampNeg + i) with
      | none => rw [hb2] at hb; cases hb
      | some b' =>
        rw [hb2] at hb
        cases hb
        obtain ⟨g1, g2⟩ := q6 i hi b' hb2
        obtain ⟨rr, hr⟩ := mm_objcell hS (x := b') (Or.inl g1)
        obtain ⟨cellV, k1, k2, k3⟩ := mm_recv G hS hr rfl (Or.inl g1)
        exact ⟨rr.1, cellV, k1, k2, k3, G.hn _ (hl _ g2 rr hr) rfl⟩
    · refine hk ad H1 locs1 ls (mm_rowS (y := y) hS (by omega) (by omega) rfl (fun _ _ => rfl) (fun _ _ => rfl) (fun a ha => if_neg ha) ?_ f2 f3 f4 (fun k b hb => ?_) hS.2.2.2.2.2.1.pop.pop.pop.pop.pop)
      · rw [e3]
        refine mm_at_mk (by decide) ?_
        rw [f1]
        congr 2
        funext j
        rw [ee, er]
        show _ = va_rf (((if y = y then va_cpy (M.2.2.2 x) (M.2.2.2 y) sp.toNatClampNeg dp.toNatClampNeg n.toNatClampNeg else M.2.2.2 y) j).map ad)
        rw [if_pos rfl]
        unfold va_cpy
        split
        · rw [hfe _ (by omega)]
        · rfl
      · have hb : (if y = y then va_cpy (M.2.2.2 x) (M.2.2.2 y) sp.toNatClampNeg dp.toNatClampNeg n.toNatClampNeg else M.2.2.2 y) k = some b := hb
        rw [if_pos rfl] at hb
        unfold va_cpy at hb
        split at hb
        · next hin =>
          have := (q6 (k - dp.toNatClampNeg) (by omega) b hb).1
          omega
        · exact hS.2.1.2.2 y k b (by omega) (by rw [mm_me_lo (by omega)]; exact hb)
  · exact h.elim
theorem ok_getc (G : mm_G C own cc ret nL rm) {pc nx idx : Nat} (w1 : Cond.methodLink own idx ⟨"java/lang/Object", "getClass", "()Ljava/lang/Class;"⟩ ∈ lw_all) (w2 : Cond.selects "[Ljava/lang/Object;" ⟨"java/lang/Object", "getClass", "()Ljava/lang/Class;"⟩ ⟨"java/lang/Object", "getClass", "()Ljava/lang/Class;"⟩ ∈ lw_all) (w3 : Cond.instanceMethod ⟨"java/lang/Object", "getClass", "()Ljava/lang/Class;"⟩ ∈ lw_all) (w4 : Cond.native ⟨"java/lang/Object", "getClass", "()Ljava/lang/Class;"⟩ ∈ lw_all) (hroom : 1 ≤ rm.frames ∧ 22 ≤ rm.locals) (hd : decode cc pc = .ok (.invokevirtual idx, 3)) (hn : pc + 3 = nx) : mm_OK C pc (o_getc nx) := by
  subst hn
  intro lv st M N K hK h ad H locs ls hS
  unfold o_getc at h
  split at h
  · next x r =>
    obtain ⟨e1, e2, h⟩ := mm_and2 h (fun q => q)
    have hk : mm_W C (pc + 3) lv (.ref 1303 :: r) M N := hK _ _ _ _ _ h
    obtain ⟨cx, hf, hst, hcx⟩ := mm_arrcell (t := 7) (by decide) hS (mm_or e1) (by decide)
    have hne : ((c_M C).1 1303).1 ≠ 0 := by rw [G.hc 1303 (by decide) (by decide) (by decide)]; decide
    have hvk : mm_vk M (.ref 1303) := by
      intro b e
      cases e
      rw [(hS.1.1 1303 hne).2]
      exact hne
    have h2 := hk ad H locs ls (hS.st fun k => k.pop.push hvk)
    have e3 : mm_v ad (.ref 1303) = .ref (c_ad C 1303) := by
      show Value.ref _ = Value.ref _
      rw [(hS.1.1 1303 hne).1]
    rw [List.map_cons, e3] at h2
    exact va_getC G.hx G.hb (by rw [hS.2.2.2.2.1]) G.ho (G.ht _ w1) (va_Dc.use G.hT.2.2.2) (G.ht _ w2) (G.ht _ w3) (G.ht _ w4) G.hX.2.2.1 ⟨cx, hf, hst, by rw [hcx]; exact va_nmO (G.hK.2 5 _ rfl).2 rfl⟩ (by rw [G.hR]; exact hroom.1) (by rw [G.hR, mm_dep_eq]; have := Nat.le_of_ble_eq_true e2; have := hroom.2; omega) hd h2
  · exact h.elim
theorem ok_ldcM (G : mm_G C own cc ret nL rm) {pc nx idx : Nat} (w1 : Cond.classLink own idx "[Ljava/lang/Object;" ∈ lw_all) (hd : decode cc pc = .ok (.ldc idx, 2)) (hn : pc + 2 = nx) : mm_OK C pc (o_c nx (.ref 1303)) := by
  subst hn
  intro lv st M N K hK h ad H locs ls hS
  have hk : mm_W C (pc + 2) lv (.ref 1303 :: st) M N := hK _ _ _ _ _ h
  have hne : ((c_M C).1 1303).1 ≠ 0 := by rw [G.hc 1303 (by decide) (by decide) (by decide)]; decide
  have hvk : mm_vk M (.ref 1303) := by
    intro b e
    cases e
    rw [(hS.1.1 1303 hne).2]
    exact hne
  have h2 := hk ad H locs ls (hS.st fun k => k.push hvk)
  have e3 : mm_v ad (.ref 1303) = .ref (c_ad C 1303) := by
    show Value.ref _ = Value.ref _
    rw [(hS.1.1 1303 hne).1]
  rw [List.map_cons, e3] at h2
  exact va_ldcM G.hx G.hb G.ho (G.ht _ w1) G.hX.2.2.1 hd h2
theorem mm_S.fresh2 {lv : mm_L} {st' : List Value} {M M1 : mm_M} {N N' : mm_N} {ad : Nat → Nat} {H H' : Heap} {locs : List Loc} {ls : Array Slot} {st : List Value} (hS : mm_S C lv st M N ad H locs ls) (hA : ∀ q, (c_s C).heap.size ≤ q → c_A C q) {h t n : Nat} (h0 : (M.1 h).1 = 0) (ht : t ≠ 0) (ht' : t < 16) (z : H'.size = H.size + 1) (oq : ∀ q : Nat, q < H.size → H'[q]? = H[q]?) (e1 : M1.1 = (mm_al M h t n).1) (e2 : ∀ x, x ≠ h → M1.2.1 x = M.2.1 x ∧ M1.2.2.1 x = M.2.2.1 x ∧ M1.2.2.2 x = M.2.2.2 x) (hcl : ∀ k b, M1.2.2.2 h k = some b → (M.1 b).1 ≠ 0) (hat : mm_at (c_D C) (c_aC C) (mm_aa ad h H.size) M1 h t n H') (hN : N'.1 ≤ (c_R C).cells ∧ N'.2 ≤ (c_R C).slots) (hk : ∀ v ∈ st', mm_vk M v) : mm_S C lv (.ref h :: st') M1 N' (mm_aa ad h H.size) H' locs ls := by
  obtain ⟨g1, g2, g3, g4, g5, g6, g7, g8⟩ := hS
  have hal : ∀ x, x ≠ h → M1.1 x = M.1 x := fun x hx => by rw [e1]; exact mm_al_n M t n hx
  have halh : M1.1 h = (t, n) := by rw [e1]; exact mm_al_h M h t n
  have hfr : ∀ {x : Nat}, (M.1 x).1 ≠ 0 → M1.1 x = M.1 x := fun hx => hal _ (mm_free h0 hx)
  refine ⟨⟨fun x hx => ?_, fun x hx => ?_⟩, ⟨fun x t' n' hx ht0 => ?_, fun x y hx hy hx1 hy1 e => ?_, fun x k b hx hb => ?_⟩, ⟨by have := g3.1; omega, fun q h1 h2 => (oq q (Nat.lt_of_lt_of_le h1 g3.1)).trans (g3.2.1 q h1 h2), g3.2.2⟩, g4.re g6.2 (fun b hb => mm_aa_n ad H.size (mm_free h0 hb)), g5, ⟨fun v hv => ?_, fun i v hv b eb => ?_⟩, hN.1, hN.2⟩
  · obtain ⟨e3, e4⟩ := g1.1 x hx
    have hl : (M.1 x).1 ≠ 0 := by rw [e4]; exact hx
    rw [mm_aa_n ad H.size (mm_free h0 hl), hfr hl]
    exact ⟨e3, e4⟩
  · by_cases e : x = h
    · subst e
      rw [halh] at hx
      exact absurd ht' hx
    · rw [hal x e] at hx
      exact g1.2 x hx
  · by_cases e : x = h
    · subst e
      rw [halh] at hx
      cases hx
      refine ⟨fun _ => ?_, fun q _ => absurd ht' q, fun _ => ?_⟩
      · rw [mm_aa_h]; exact hA _ g3.1
      · rw [mm_me_lo ht', mm_hn_lo ht', Nat.mod_eq_of_lt ht']; exact hat
    · rw [hal x e] at hx
      obtain ⟨q1, q2, q3⟩ := g2.1 x t' n' hx ht0
      rw [mm_aa_n ad H.size e]
      refine ⟨q1, fun q r => ⟨(q2 q r).1, by have := (q2 q r).2; omega⟩, fun q => ?_⟩
      have hl : (M.1 x).1 ≠ 0 := by rw [hx]; exact ht0
      obtain ⟨i1, i2, i3⟩ := e2 x e
      by_cases h16 : t' < 16
      · have q4 := q3 q
        rw [mm_me_lo h16] at q4 ⊢
        exact mm_at_kept q4 (mm_aa_n ad H.size e) (mm_hn_at (oq _ (g2.lt hl (by rw [hx]; show t' < 48; omega)))) i1 i2 i3 (fun k b hb => mm_aa_n ad H.size (mm_free h0 (g2.2.2 x k b hl (by rw [hx, mm_me_lo h16]; exact hb))))
      · have q4 := q3 q
        rw [mm_me_hi h16] at q4 ⊢
        exact mm_at_kept q4 (mm_aa_n ad H.size e) (mm_hn_at (oq _ (g2.lt hl (by rw [hx]; show t' < 48; omega)))) rfl rfl rfl (fun k b hb => mm_aa_n ad H.size (mm_free h0 (g2.2.2 x k b hl (by rw [hx, mm_me_hi h16]; exact hb))))
  · by_cases e3 : x = h
    · by_cases e4 : y = h
      · rw [e3, e4]
      · rw [hal y e4] at hy hy1
        have := g2.lt hy (by omega)
        rw [e3, mm_aa_h, mm_aa_n ad H.size e4] at e
        omega
    · rw [hal x e3] at hx hx1
      by_cases e4 : y = h
      · have := g2.lt hx (by omega)
        rw [e4, mm_aa_h, mm_aa_n ad H.size e3] at e
        omega
      · rw [hal y e4] at hy hy1
        rw [mm_aa_n ad H.size e3, mm_aa_n ad H.size e4] at e
        exact g2.2.1 x y hx hy hx1 hy1 e
  · by_cases e3 : x = h
    · subst e3
      rw [halh, mm_me_lo ht'] at hb
      have hl := hcl k b hb
      rw [hfr hl]
      exact hl
    · rw [hal x e3] at hx hb
      have hl : (M.1 b).1 ≠ 0 := by
        by_cases h16 : (M.1 x).1 < 16
        · rw [mm_me_lo h16, (e2 x e3).2.2] at hb
          exact g2.2.2 x k b hx (by rw [mm_me_lo h16]; exact hb)
        · rw [mm_me_hi h16] at hb
          exact g2.2.2 x k b hx (by rw [mm_me_hi h16]; exact hb)
      rw [hfr hl]
      exact hl
  · rcases List.mem_cons.mp hv with hv | hv
    · intro b hb
      rw [hv] at hb
      cases hb
      rw [halh]
      exact ht
    · intro b hb
      have hl := hk v hv b hb
      rw [hfr hl]
      exact hl
  · have hl := g6.2 i v hv b eb
    rw [hfr hl]
    exact hl
theorem mm_clo (G : mm_G C own cc ret nL rm) {pc idx : Nat} {nm : String} (w1 : Cond.methodLink own idx ⟨nm, "clone", "()Ljava/lang/Object;"⟩ ∈ lw_all) (w2 : Cond.sameMethod nm "java/lang/Object" "clone" "()Ljava/lang/Object;" ∈ lw_all) (w3 : Cond.native ⟨"java/lang/Object", "clone", "()Ljava/lang/Object;"⟩ ∈ lw_all) (w4 : Cond.instanceMethod ⟨"java/lang/Object", "clone", "()Ljava/lang/Object;"⟩ ∈ lw_all) (w5 : Cond.selects nm ⟨nm, "clone", "()Ljava/lang/Object;"⟩ ⟨"java/lang/Object", "clone", "()Ljava/lang/Object;"⟩ ∈ lw_all) (w6 : Cond.castable nm "java/lang/Cloneable" ∈ lw_tbl) (hroom : 1 ≤ rm.frames ∧ 22 ≤ rm.locals) (hd : decode cc pc = .ok (.invokevirtual idx, 3)) {H : Heap} {locs : List Loc} {N : mm_N} {ls : Array Slot} (hls : ls.size = (c_c C).maxLocals) {rest : List Value} (hrest : (rest.map fun v => v.category).sum ≤ 8) {a n : Nat} {cA : ClassId} {f : Nat → Value} {ty : FieldType} (hc : mm_lk H a (arrV cA n f)) (hA : ArrOfT (c_s C) cA ty) (hnm : (c_s C).vm.findClass nm = some cA) (hfit : ∀ i : Nat, i < n → fits ty (f i) = true) (hN : N.1 + 1 ≤ rm.cells ∧ N.2 + n ≤ rm.slots)
    (kk : ∀ H1 : Heap, H1[H.size]? = some (arrV cA n f) → H1.size = H.size + 1 → (∀ q : Nat, q < H.size → H1[q]? = H[q]?) → mm_Wc C H1 locs (N.1 + 1, N.2 + n) (F0 (c_m C) (pc + 3) ls (.ref H.size :: rest))) : mm_Wc C H locs N (F0 (c_m C) pc ls (.ref a :: rest)) := by
  obtain ⟨c0, t0', f1, f2, f3⟩ := Cond.castable_spec (va_Nw.use (A := c_a C) rfl (G.hn _ w6 rfl))
  cases hnm.symm.trans f1
  have hR := G.hR
  obtain ⟨⟨xcl, xsl, xmo, xha, xvm⟩, hc, ecl, esl, hu, hst⟩ := hc
  have ecl : xcl = cA := ecl
  have esl : xsl = (arrV cA n f).slots := esl
  have hu : xvm ≠ .unknown := hu
  have hst : xvm.isStatics = false := hst
  cases ecl
  cases esl
  intro T hT X
  obtain ⟨-, kA, hkA, comp, hkind⟩ := State.isArrayOf_alike X.warmed.alike (hA 0 (fun _ => .null))
  obtain ⟨-, kS, hkS, compS, hkindS⟩ := hA 0 (fun _ => .null)
  obtain ⟨vm', X', st⟩ := X.cloneArray G.hx G.ho (G.ht _ w1) (G.ht _ w2) (G.ht _ w3) (G.ht _ w4) (G.ht _ w5) (a := a) (cell := ⟨cA, (arrV cA n f).slots, xmo, xha, xvm⟩) (by rw [hT]; exact hc) (fun k h => by have h : xvm = _ := h; rw [h] at hst; cases hst) hu hnm f2 f3
    (fun i v hv => by
      have hk' : T.vm.classes[cA]? = some kA := hkA
      have hi : i < n := by
        have := (Array.getElem?_eq_some_iff.mp hv).1
        rwa [arrV_size] at this
      rw [arrV_read _ _ hi] at hv
      cases hv
      have := hfit i hi
      show T.fitsSlot cA .none i (f i) = true
      simpa [State.fitsSlot, State.slotType?, hk', hkind] using this)
    (g := F0 (c_m C) pc ls (.ref a :: rest)) rfl hls rfl (by rw [G.hb]; exact hd) (by rw [hR]; exact hroom.1) (by rw [hR]; show 2 * 0 + _ + 14 ≤ _; have := hroom.2; omega) (by rw [hR]; exact hN.1) (by rw [hR, arrV_size]; exact hN.2) (hloader := Vm.clonesLoader_of_array hkS hkindS)
  rw [arrV_size] at X'
  generalize hH1 : H.push (arrV cA n f) = H1
  have z1 : H1.size = H.size + 1 := by rw [← hH1, Array.size_push]
  have e1 : H1[H.size]? = some (arrV cA n f) := by rw [← hH1, Array.getElem?_push_size]
  have o1 : ∀ q : Nat, q < H.size → H1[q]? = H[q]? := fun q hq => by rw [← hH1, Array.getElem?_push, if_neg (Nat.ne_of_lt hq)]
  obtain ⟨t, b1, b2⟩ := kk H1 e1 z1 o1 _ (by rw [← hH1, ← hT]; rfl) X'
  refine ⟨t, st t ?_, b2⟩
  rw [hT]
  exact b1
theorem ok_clob (G : mm_G C own cc ret nL rm) {pc nx idx : Nat} (w1 : Cond.methodLink own idx ⟨"[B", "clone", "()Ljava/lang/Object;"⟩ ∈ lw_all) (w2 : Cond.sameMethod "[B" "java/lang/Object" "clone" "()Ljava/lang/Object;" ∈ lw_all) (w3 : Cond.native ⟨"java/lang/Object", "clone", "()Ljava/lang/Object;"⟩ ∈ lw_all) (w4 : Cond.instanceMethod ⟨"java/lang/Object", "clone", "()Ljava/lang/Object;"⟩ ∈ lw_all) (w5 : Cond.selects "[B" ⟨"[B", "clone", "()Ljava/lang/Object;"⟩ ⟨"java/lang/Object", "clone", "()Ljava/lang/Object;"⟩ ∈ lw_all) (w6 : Cond.castable "[B" "java/lang/Cloneable" ∈ lw_tbl) (hroom : 1 ≤ rm.frames ∧ 22 ≤ rm.locals) (hd : decode cc pc = .ok (.invokevirtual idx, 3)) (hn : pc + 3 = nx) : mm_OK C pc (o_clob rm nx) := by
  subst hn
  intro lv st M N K hK h ad H locs ls hS
  unfold o_clob at h
  split at h
  · next x r =>
    obtain ⟨e1, e2, y, h0, hf, hc1, hc2, h⟩ := mm_and2 h (fun q => q)
    have e1 := mm_beq e1
    have c0 := hS.2.1.cell (h := x) (by omega) (by omega)
    rw [e1] at c0
    have c0 := mm_at_arr (by decide) c0
    have hk : mm_W C (pc + 3) lv (.ref y :: r) _ _ := hK _ _ _ _ _ h
    have hvk : ∀ v ∈ r, mm_vk M v := fun v hv => hS.2.2.2.2.2.1.1 v (List.mem_cons_of_mem _ hv)
    refine mm_clo G w1 w2 w3 w4 w5 w6 hroom hd hS.2.2.2.2.1 (by rw [mm_dep_eq]; exact Nat.le_of_ble_eq_true e2) (mm_lk.of c0) (G.hK.2 2 _ rfl).1 (mm_arrname (t := 4) (nm := "[B") G rfl (fun h => h)) hf ⟨hc1, hc2⟩ (fun H1 f1 f2 f3 => ?_)
    have hS' := hS.fresh2 (M1 := mm_ac M y 4 (M.1 x).2 (M.2.1 x) (fun _ => none)) (N' := (N.1 + 1, N.2 + (M.1 x).2)) (st' := r) G.hA (t := 4) (n := (M.1 x).2) h0 (by decide) (by decide) f2 f3 rfl (fun z hz => ⟨if_neg hz, if_neg hz, if_neg hz⟩) (fun k b hb => by
      have hb : (if y = y then (fun _ => none) else M.2.2.2 y) k = some b := hb
      rw [if_pos rfl] at hb
      cases hb) (mm_at_mk (by decide) (by
        rw [mm_aa_h, f1]
        congr 2
        funext j
        show Value.int (M.2.1 x j) = Value.int ((if y = y then M.2.1 x else M.2.1 y) j)
        rw [if_pos rfl])) ⟨by rw [G.hR]; exact hc1, by rw [G.hR]; exact hc2⟩ hvk
    have h3 := hk _ _ _ _ hS'
    have e3 : (Value.ref y :: r).map (mm_v (mm_aa ad y H.size)) = .ref H.size :: r.map (mm_v ad) := by
      show Value.ref (mm_aa ad y H.size y) :: r.map (mm_v (mm_aa ad y H.size)) = _
      rw [mm_aa_h, mm_map_re (M := M) hvk (fun b hb => mm_aa_n ad H.size (mm_free h0 hb))]
    rw [e3] at h3
    exact h3
  · exact h.elim
theorem ok_clof (G : mm_G C own cc ret nL rm) {pc nx idx : Nat} (w1 : Cond.methodLink own idx ⟨"[LChaseCourt$Fact;", "clone", "()Ljava/lang/Object;"⟩ ∈ lw_all) (w2 : Cond.sameMethod "[LChaseCourt$Fact;" "java/lang/Object" "clone" "()Ljava/lang/Object;" ∈ lw_all) (w3 : Cond.native ⟨"java/lang/Object", "clone", "()Ljava/lang/Object;"⟩ ∈ lw_all) (w4 : Cond.instanceMethod ⟨"java/lang/Object", "clone", "()Ljava/lang/Object;"⟩ ∈ lw_all) (w5 : Cond.selects "[LChaseCourt$Fact;" ⟨"[LChaseCourt$Fact;", "clone", "()Ljava/lang/Object;"⟩ ⟨"java/lang/Object", "clone", "()Ljava/lang/Object;"⟩ ∈ lw_all) (w6 : Cond.castable "[LChaseCourt$Fact;" "java/lang/Cloneable" ∈ lw_tbl) (hroom : 1 ≤ rm.frames ∧ 22 ≤ rm.locals) (hd : decode cc pc = .ok (.invokevirtual idx, 3)) (hn : pc + 3 = nx) : mm_OK C pc (o_clof rm nx) := by
  subst hn
  intro lv st M N K hK h ad H locs ls hS
  unfold o_clof at h
  split at h
  · next x r =>
    obtain ⟨e1, e2, y, h0, hc1, hc2, hkk⟩ := mm_and2 h (fun q => q)
    clear h
    cases mm_beq e1
    have hne : ((c_M C).1 1301).1 ≠ 0 := by rw [G.hc 1301 (by decide) (by decide) (by decide)]; decide
    have es : M.1 1301 = (24, 5) := by
      rw [(hS.1.1 1301 hne).2, G.hc 1301 (by decide) (by decide) (by decide)]
      rfl
    have c0 := hS.2.1.cellK (h := 1301) (by rw [es]; decide) (by rw [es]; decide)
    rw [es] at c0
    have c0 := mm_at_arr (by decide) c0
    have hlive : ∀ k b, mm_kP 1301 k = some b → (M.1 b).1 ≠ 0 := fun k b hb => hS.2.1.2.2 1301 k b (by rw [es]; decide) (by rw [es, mm_me_hi (by decide)]; exact hb)
    have hk : mm_W C (pc + 3) lv (.ref y :: r) _ _ := hK _ _ _ _ _ hkk
    have hvk : ∀ v ∈ r, mm_vk M v := fun v hv => hS.2.2.2.2.2.1.1 v (List.mem_cons_of_mem _ hv)
    have er : ∀ (a : Nat → Nat) (o : Option Nat), mm_v a (va_rf o) = va_rf (o.map a) := fun a o => by cases o <;> rfl
    refine mm_clo G w1 w2 w3 w4 w5 w6 hroom hd hS.2.2.2.2.1 (by rw [mm_dep_eq]; exact Nat.le_of_ble_eq_true e2) (mm_hK_at c0 rfl) (G.hK.2 6 _ rfl).1 (mm_arrname (t := 8) (nm := "[LChaseCourt$Fact;") G rfl (fun h => va_nmO h rfl)) (fun i _ => ?_) ⟨hc1, hc2⟩ (fun H1 f1 f2 f3 => ?_)
    · show fits _ (mm_v ad (va_rf (mm_kP 1301 i))) = true
      rw [er]
      cases (mm_kP 1301 i).map ad <;> rfl
    have hS' := hS.fresh2 (M1 := mm_ac M y 8 5 (fun _ => 0) (mm_kP 1301)) (N' := (N.1 + 1, N.2 + 5)) (st' := r) G.hA (t := 8) (n := 5) h0 (by decide) (by decide) f2 f3 rfl (fun z hz => ⟨if_neg hz, if_neg hz, if_neg hz⟩) (fun k b hb => by
      have hb : (if y = y then mm_kP 1301 else M.2.2.2 y) k = some b := hb
      rw [if_pos rfl] at hb
      exact hlive k b hb) (mm_at_mk (by decide) (by
        rw [mm_aa_h, f1]
        congr 2
        funext j
        show mm_v ad (va_rf (mm_kP 1301 j)) = mm_v (mm_aa ad y H.size) (va_rf ((if y = y then mm_kP 1301 else M.2.2.2 y) j))
        rw [if_pos rfl, er, er]
        cases hj : mm_kP 1301 j with
        | none => rfl
        | some b =>
          show va_rf (some (ad b)) = va_rf (some (mm_aa ad y H.size b))
          rw [mm_aa_n ad H.size (mm_free h0 (hlive j b hj))])) ⟨by rw [G.hR]; exact hc1, by rw [G.hR]; exact hc2⟩ hvk
    have h3 := hk _ _ _ _ hS'
    have e3 : (Value.ref y :: r).map (mm_v (mm_aa ad y H.size)) = .ref H.size :: r.map (mm_v ad) := by
      show Value.ref (mm_aa ad y H.size y) :: r.map (mm_v (mm_aa ad y H.size)) = _
      rw [mm_aa_h, mm_map_re (M := M) hvk (fun b hb => mm_aa_n ad H.size (mm_free h0 hb))]
    rw [e3] at h3
    exact h3
  · exact h.elim
/-! constants' fields -/
theorem mm_cvk (G : mm_G C own cc ret nL rm) {lv : mm_L} {st : List Value} {M : mm_M} {N : mm_N} {ad : Nat → Nat} {H : Heap} {locs : List Loc} {ls : Array Slot} (hS : mm_S C lv st M N ad H locs ls) {h : Nat} (h1 : 1000 ≤ h) (h2 : h < 1400) (h3 : (mm_cS h).1 ≠ 0) : mm_vk M (.ref h) ∧ ad h = c_ad C h := by
  have hne : ((c_M C).1 h).1 ≠ 0 := by rw [G.hc h h1 h2 h3]; exact h3
  refine ⟨fun b e => ?_, (hS.1.1 h hne).1⟩
  cases e
  rw [(hS.1.1 h hne).2]
  exact hne
theorem mm_fct {h : Nat} (e : (Nat.ble 1200 h && Nat.ble h 1204) = true) : ∃ j, j < 5 ∧ h = 1200 + j ∧ (mm_cS h).1 ≠ 0 ∧ 1000 ≤ h ∧ h < 1400 ∧ 1000 ≤ mm_tf j ∧ mm_tf j < 1400 ∧ (mm_cS (mm_tf j)).1 ≠ 0 := by
  rw [Bool.and_eq_true] at e
  have h1 := Nat.le_of_ble_eq_true e.1
  have h2 := Nat.le_of_ble_eq_true e.2
  have key : ∀ j, j < 5 → (mm_cS (1200 + j)).1 ≠ 0 ∧ 1000 ≤ mm_tf j ∧ mm_tf j < 1400 ∧ (mm_cS (mm_tf j)).1 ≠ 0 := by decide
  have e3 : h = 1200 + (h - 1200) := by omega
  have k := key (h - 1200) (by omega)
  rw [← e3] at k
  exact ⟨h - 1200, by omega, e3, k.1, by omega, by omega, k.2⟩
theorem ok_toldF (G : mm_G C own cc ret nL rm) {pc nx idx : Nat} (w1 : Cond.fieldLink own idx "ChaseCourt$Fact" "told" "Ljava/lang/String;" ∈ lw_all) (hd : decode cc pc = .ok (.getfield idx, 3)) (hn : pc + 3 = nx) : mm_OK C pc (o_toldF nx) := by
  subst hn
  intro lv st M N K hK h ad H locs ls hS
  unfold o_toldF at h
  split at h
  · next x r =>
    obtain ⟨e, h⟩ := mm_bif h (fun q => q)
    obtain ⟨j, hj, e1, k1, k2, k3, k4, k5, k6⟩ := mm_fct e
    have ej : x - 1200 = j := by rw [e1]; exact Nat.add_sub_cancel_left _ _
    rw [ej] at h
    have hk : mm_W C (pc + 3) lv (.ref (mm_tf j) :: r) M N := hK _ _ _ _ _ h
    obtain ⟨v1, v2⟩ := mm_cvk G hS k4 k5 k6
    obtain ⟨-, v3⟩ := mm_cvk G hS k2 k3 k1
    have h2 := hk ad H locs ls (hS.st fun k => k.pop.push v1)
    have e3 : mm_v ad (.ref (mm_tf j)) = .ref (c_ad C (mm_tf j)) := by show Value.ref _ = Value.ref _; rw [v2]
    rw [List.map_cons, e3] at h2
    obtain ⟨cf, k, i, f, cell, q1, q2, q3, q4, q5, q6⟩ := (G.hX.2.1 j hj).2.2.kept hS.2.2.1.2.1
    show mm_Wc C H locs N (F0 (c_m C) pc ls (.ref (ad x) :: r.map (mm_v ad)))
    rw [v3, e1]
    exact W.getf G.hx G.hb G.ho (G.ht _ w1) q1 q2 q3 q4 q5 rfl rfl hd h2
  · exact h.elim
theorem ok_ordF (G : mm_G C own cc ret nL rm) {pc nx idx : Nat} (w1 : Cond.fieldLink own idx "java/lang/Enum" "ordinal" "I" ∈ lw_all) (hd : decode cc pc = .ok (.getfield idx, 3)) (hn : pc + 3 = nx) : mm_OK C pc (o_ordF nx) := by
  subst hn
  intro lv st M N K hK h ad H locs ls hS
  unfold o_ordF at h
  split at h
  · next x r =>
    obtain ⟨e, h⟩ := mm_bif h (fun q => q)
    obtain ⟨j, hj, e1, k1, k2, k3, -⟩ := mm_fct e
    have ej : x - 1200 = j := by rw [e1]; exact Nat.add_sub_cancel_left _ _
    rw [ej] at h
    have hk : mm_W C (pc + 3) lv (.int (nI j) :: r) M N := hK _ _ _ _ _ h
    obtain ⟨-, v3⟩ := mm_cvk G hS k2 k3 k1
    have h2 := hk ad H locs ls (hS.st fun k => k.pop.push (mm_vk_i _))
    obtain ⟨cf, k, i, f, cell, q1, q2, q3, q4, q5, q6⟩ := (G.hX.2.1 j hj).2.1.kept hS.2.2.1.2.1
    show mm_Wc C H locs N (F0 (c_m C) pc ls (.ref (ad x) :: r.map (mm_v ad)))
    rw [v3, e1]
    exact W.getf G.hx G.hb G.ho (G.ht _ w1) q1 q2 q3 q4 q5 rfl rfl hd h2
  · exact h.elim
/-- Throwable's statics -/
def o_gst (nx h : Nat) : mm_O := fun lv st M N K => K (nx + 2) lv (.null :: st) M N ∧ K (nx + 2) lv (.ref h :: st) M N
theorem ok_gst (G : mm_G C own cc ret nL rm) {pc nx idx hh : Nat} {n d : String} (hin : (n, d, hh) ∈ mm_tst) (hw : Cond.fieldLink own idx "java/lang/Throwable" n d ∈ lw_all) (hd : decode cc pc = .ok (.getstatic idx, 3)) (hn : pc + 3 = nx) : mm_OK C pc (o_gst nx hh) := by
  subst hn
  intro lv st M N K hK h ad H locs ls hS
  obtain ⟨ha, hb⟩ := h
  have hl : ∀ q ∈ mm_tst, 1000 ≤ q.2.2 ∧ q.2.2 < 1400 ∧ (mm_cS q.2.2).1 ≠ 0 := by decide
  obtain ⟨a1, a2, a3⟩ := hl _ hin
  rcases G.hX.2.2.2 _ hin with hZ | hZ
  · have h1 : mm_W C (pc + 3) lv (.null :: st) M N := hK _ _ _ _ _ ha
    exact va_gets G.hx G.hb hZ hS.2.2.1 G.ho (G.ht _ hw) (fun _ h => h) hd (h1 ad H locs ls (hS.st fun k => k.push mm_vk_n))
  · have h1 : mm_W C (pc + 3) lv (.ref hh :: st) M N := hK _ _ _ _ _ hb
    obtain ⟨v1, v2⟩ := mm_cvk G hS a1 a2 a3
    have h2 := h1 ad H locs ls (hS.st fun k => k.push v1)
    have e1 : mm_v ad (.ref hh) = .ref (c_ad C hh) := by show Value.ref _ = Value.ref _; rw [v2]
    rw [List.map_cons, e1] at h2
    exact va_gets G.hx G.hb hZ hS.2.2.1 G.ho (G.ht _ hw) (fun _ h => h) hd h2
theorem ok_ldsw (G : mm_G C own cc ret nL rm) {pc nx idx hh : Nat} {tx : String} (hin : (own, idx, tx, hh) ∈ mm_str) (hd : decode cc pc = .ok (.ldc_w idx, 3)) (hn : pc + 3 = nx) : mm_OK C pc (o_c nx (.ref hh)) := by
  subst hn
  intro lv st M N K hK h ad H locs ls hS
  have h1 : mm_W C (pc + 3) lv (.ref hh :: st) M N := hK _ _ _ _ _ h
  have hl : ∀ q ∈ mm_str, 1000 ≤ q.2.2.2 ∧ q.2.2.2 < 1400 ∧ (mm_cS q.2.2.2).1 ≠ 0 := by decide +kernel
  obtain ⟨q1, q2, q3⟩ := hl _ hin
  obtain ⟨v1, v2⟩ := mm_cvk G hS q1 q2 q3
  have h2 := h1 ad H locs ls (hS.st fun k => k.push v1)
  have e1 : mm_v ad (.ref hh) = .ref (c_ad C hh) := by show Value.ref _ = Value.ref _; rw [v2]
  rw [List.map_cons, e1] at h2
  have hZ := G.hX.1.1 _ hin
  intro T hT X
  obtain ⟨t, a1, b1⟩ := h2 T hT X
  exact ⟨t, X.ldcStringW G.hx G.ho (text := tx) (a := c_ad C hh) hZ.1 hZ.2 (g := F0 (c_m C) pc ls (st.map (mm_v ad))) rfl (by rw [G.hb]; exact hd) t a1, b1⟩
/-- Object.<init> -/
def o_oi (nx : Nat) : mm_O := fun lv st M N K => match st with
  | .ref _ :: r => bif Nat.ble (mm_dep r) 8 then K (nx + 2) lv r M N else False
  | _ => False
theorem ok_oi (G : mm_G C own cc ret nL rm) {pc nx idx : Nat} (w1 : Cond.methodLink own idx Lib.objectInit ∈ lw_all) (w2 : Cond.instanceMethod Lib.objectInit ∈ lw_all) (w3 : Cond.code Lib.objectInit ⟨#[0xb1]⟩ 1 none ∈ lw_all) (hroom : 1 ≤ rm.frames ∧ 20 ≤ rm.locals) (hd : decode cc pc = .ok (.invokespecial idx, 3)) (hn : pc + 3 = nx) : mm_OK C pc (o_oi nx) := by
  subst hn
  intro lv st M N K hK h ad H locs ls hS
  unfold o_oi at h
  split at h
  · next x r =>
    obtain ⟨e, h⟩ := mm_bif h (fun q => q)
    have h1 : mm_W C (pc + 3) lv r M N := hK _ _ _ _ _ h
    exact W.objInit G.hx G.hb G.ho (G.ht _ w1) (G.ht _ w2) (G.ht _ w3) rfl hS.2.2.2.2.1 rfl hd (by rw [G.hR]; exact hroom.1) (by rw [G.hR, mm_dep_eq]; show 2 * 0 + _ + 12 ≤ _; have := Nat.le_of_ble_eq_true e; have := hroom.2; omega) (h1 ad H locs ls (hS.st fun k => k.pop))
  · exact h.elim
/-! throws -/
theorem mm_R.ext {D : va_G} {aC : Nat → ClassId} {ad : Nat → Nat} {M : mm_M} {A : Nat → Prop} {H H' : Heap} (hR : mm_R D aC ad M A H) (z : H.size ≤ H'.size) (oq : ∀ q : Nat, q < H.size → H'[q]? = H[q]?) : mm_R D aC ad M A H' := by
  refine ⟨fun x t n hx ht => ?_, hR.2.1, hR.2.2⟩
  obtain ⟨q1, q2, q3⟩ := hR.1 x t n hx ht
  have hl : (M.1 x).1 ≠ 0 := by rw [hx]; exact ht
  exact ⟨q1, fun q r => ⟨(q2 q r).1, Nat.lt_of_lt_of_le (q2 q r).2 z⟩, fun q => mm_at_kept (q3 q) rfl (mm_hn_at (oq _ (hR.lt hl (by rw [hx]; show t < 48; omega)))) rfl rfl rfl (fun _ _ _ => rfl)⟩
theorem ok_thr0 (G : mm_G C own cc ret nL rm) {pc i ik ic : Nat} {cls : String} {names : List String} (hi : mm_ex[i]? = some cls) (hnq : mm_nq C (pc + 7)) (hcls : Bundle.fit cls = true) (hnames : ∀ n ∈ names, Bundle.fit n = true) (hk : Cond.classLink own ik cls ∈ lw_all) (hini : Cond.initialized cls ∈ lw_all) (hat : ∀ w ∈ vx_at0 own ic cls names, w ∈ lw_all ∨ (w ∈ lw_tbl ∧ mm_nw w = true ∧ w.onTables = true)) (hgood : ∀ w ∈ Cond.classLink own ik cls :: Cond.initialized cls :: vx_at0 own ic cls names, vx_ot w = true) (hroom : names.length + 3 < rm.frames ∧ 8 + (13 * (names.length + 1) + 42) ≤ rm.locals)
    (d0 : decode cc pc = .ok (.new ik, 3)) (d3 : decode cc (pc + 3) = .ok (.dup, 1)) (d4 : decode cc (pc + 4) = .ok (.invokespecial ic, 3)) (d7 : decode cc (pc + 7) = .ok (.athrow, 1)) : mm_OK C pc (o_thr0 rm i) := by
  intro lv st M N K hK h ad H locs ls hS
  unfold o_thr0 at h
  obtain ⟨e, ⟨hc, hs⟩, h⟩ := mm_bif h (fun q => q)
  obtain ⟨⟨E', k1, k2⟩, k3, k4⟩ : (∃ E, mm_ex[(List.replicate i (none : Option Value)).length]? = some E ∧ c_X C E M) ∧ N.1 + 1 ≤ c_mc C ∧ N.2 + 6 ≤ c_ms C := hK _ _ _ _ _ h
  rw [List.length_replicate, hi] at k1
  cases k1
  have hR := G.hR
  refine vx_throw0 G.hx G.hb G.hst G.ho hcls hnames (G.ht _ hk) (G.ht _ hini) (fun w hw => ?_) hgood G.hX.1.2.2.1 G.hX.1.2.2.2.1 hS.2.2.1 hS.2.2.2.2.1 d0 d3 d4 d7 hnq (by rw [hR]; exact hroom.1) (by rw [hR, mm_dep_eq]; have := Nat.le_of_ble_eq_true e; have := hroom.2; omega) (by rw [hR]; exact hc) (by rw [hR]; exact hs) G.hlk (fun t hal hz hq => ?_) hS.2.2.1.2.2 k3 k4
  · rcases hat w hw with q | ⟨q1, q2⟩
    · exact G.ht _ q
    · exact va_Nw.use q2.2 (G.hn w q1 q2.1)
  · refine ⟨⟨M, ad, k2, hS.1, hS.2.1.ext hz hq⟩, Nat.le_trans hS.2.2.1.1 hz, fun q g1 g2 => ?_⟩
    rw [hq q (Nat.lt_of_lt_of_le g1 hS.2.2.1.1)]
    exact hS.2.2.1.2.1 q g1 g2
theorem ok_athr (G : mm_G C own cc ret nL rm) {pc i ci : Nat} (r : vw_C) (hc : mm_cl[ci]? = some r) (hi : mm_ex[i]? = some r.1) (hnq : mm_nq C pc) (hd : decode cc pc = .ok (.athrow, 1)) : mm_OK C pc (o_athr ci i) := by
  intro lv st M N K hK h ad H locs ls hS
  unfold o_athr at h
  split at h
  · next x rest =>
    obtain ⟨e1, e2, h⟩ := mm_and2 h (fun q => q)
    have e1 := mm_beq e1
    have e2 := mm_beq e2
    obtain ⟨⟨E', k1, k2⟩, k3, k4⟩ : (∃ E, mm_ex[(List.replicate i (none : Option Value)).length]? = some E ∧ c_X C E M) ∧ N.1 ≤ c_mc C ∧ N.2 ≤ c_ms C := hK _ _ _ _ _ h
    rw [List.length_replicate, hi] at k1
    cases k1
    have hcell := hS.2.1.cell (h := x) (by rw [e1]; decide) (by rw [e1]; decide)
    rw [e1, e2] at hcell
    obtain ⟨r', hr', cell, g1, g2, g3, g4⟩ := mm_at_obj hcell
    cases hr'.symm.trans hc
    refine vx_athrow G.hx G.hb hd (mm_out (N := N) (lv := lv) (rest := rest.map (mm_v ad)) G hnq (hS.st (st' := rest) fun k => k.pop) k2 k3 k4 g1 g3 (by rw [g2]; exact (G.hK.1 ci _ hc).2.1))
  · exact h.elim
/-- a byte field that is written -/
def o_putb (nx ci k : Nat) : mm_O := fun lv st M N K => match st with
  | .int x :: .ref h :: r => bif Nat.beq (M.1 h).2 ci && Nat.beq (M.1 h).1 1 then (narrow .byte (.int x) = .int x ∧ fits .byte (.int x) = true) ∧ K (nx + 2) lv r (mm_wI M h k x) N else False
  | _ => False
theorem ok_putb (G : mm_G C own cc ret nL rm) {pc nx idx ci k : Nat} (r : vw_C) (hc : mm_cl[ci]? = some r) (hk : k < r.2.2) (hty : mm_ty ci k = .byte) (hw : mm_PW C own idx pc ci k r) (hn : pc + 3 = nx) : mm_OK C pc (o_putb nx ci k) := by
  subst hn
  intro lv st M N K hK h
  unfold o_putb at h
  split at h
  · next v x rest =>
    obtain ⟨e1, e2, ⟨h0, h9⟩, h⟩ := mm_and2 h (fun q => q)
    have h1 : mm_W C (pc + 3) lv rest (mm_wI M x k v) N := hK _ _ _ _ _ h
    have hkd : mm_kd ci k = 0 := by unfold mm_kd; rw [hty]; rfl
    exact ok_putG G hc hk (M' := mm_wI M x k v) (v := .int v) (fun hi hst g1 g3 g2 hlt kk => hw (v := .int v) (by rw [hty]; exact h0) (by rw [hty]; exact h9) hi hst g1 g3 g2 hlt kk) (mm_beq e1) (mm_beq e2) rfl (fun a ha => mm_up_n _ _ _ ha) (fun _ _ => rfl) (fun _ _ => rfl) (by rw [hkd]; exact mm_fa_wI) (fun j _ hj => mm_fa_wI_o hj) (fun j b hb => Or.inl hb) h1
  · exact h.elim
end MMG
/-! ===== a method's end may forget cells; methods with handlers ===== -/
/-- the constants' and the live cells' references are live -/
def mm_cl0 (M : mm_M) : Prop := ∀ h k b, (M.1 h).1 ≠ 0 → (mm_me M (M.1 h).1).2.2.2 h k = some b → (M.1 b).1 ≠ 0
/-- M0 is what is kept of M, behind a method that began with Mi and answers v -/
def mm_sb (Mi M M0 : mm_M) (v : Option Value) : Prop :=
  (∀ h, (Mi.1 h).1 ≠ 0 → (M0.1 h).1 ≠ 0) ∧ (∀ h, (M0.1 h).1 ≠ 0 → M.1 h = M0.1 h ∧ M.2.1 h = M0.2.1 h ∧ M.2.2.1 h = M0.2.2.1 h ∧ M.2.2.2 h = M0.2.2.2 h) ∧
  (∀ h k b, (M0.1 h).1 ≠ 0 → (M0.1 h).1 < 16 → M0.2.2.2 h k = some b → (M0.1 b).1 ≠ 0) ∧ ∀ b, v = some (.ref b) → (M0.1 b).1 ≠ 0
theorem mm_me_16 {M M' : mm_M} {t : Nat} (h : ¬ t < 16) : mm_me M t = mm_me M' t := by rw [mm_me_hi h, mm_me_hi h]
theorem mm_sb.ag {Mi M M0 : mm_M} {v : Option Value} {ad0 ad : Nat → Nat} (h : mm_sb Mi M M0 v) (hag : mm_ag Mi ad0 M ad) : mm_ag Mi ad0 M0 ad := by
  refine ⟨fun x hx => ?_, fun x hx => ?_⟩
  · obtain ⟨e1, e2⟩ := hag.1 x hx
    exact ⟨e1, (h.2.1 x (h.1 x hx)).1.symm.trans e2⟩
  · have h0 : (M0.1 x).1 ≠ 0 := fun e => hx (by rw [e]; decide)
    exact hag.2 x (by rw [(h.2.1 x h0).1]; exact hx)
theorem mm_sb.R {Mi M M0 : mm_M} {v : Option Value} {ad0 ad : Nat → Nat} {D : va_G} {aC : Nat → ClassId} {A : Nat → Prop} {H : Heap} (h : mm_sb Mi M M0 v) (hag : mm_ag Mi ad0 M ad) (hc : mm_cl0 Mi) (hR : mm_R D aC ad M A H) : mm_R D aC ad M0 A H := by
  have hl : ∀ {x : Nat}, (M0.1 x).1 ≠ 0 → (M.1 x).1 ≠ 0 := fun {x} hx => by rw [(h.2.1 x hx).1]; exact hx
  refine ⟨fun x t n hx ht => ?_, fun x y hx hy hx1 hy1 e => hR.2.1 x y (hl hx) (hl hy) (by rw [(h.2.1 x hx).1]; exact hx1) (by rw [(h.2.1 y hy).1]; exact hy1) e, fun x k b hx hb => ?_⟩
  · have h0 : (M0.1 x).1 ≠ 0 := by rw [hx]; exact ht
    obtain ⟨e1, e2, e3, e4⟩ := h.2.1 x h0
    obtain ⟨q1, q2, q3⟩ := hR.1 x t n (e1.trans hx) ht
    refine ⟨q1, q2, fun q => ?_⟩
    by_cases h16 : t < 16
    · have q4 := q3 q
      rw [mm_me_lo h16] at q4 ⊢
      exact mm_at_kept q4 rfl rfl e2.symm e3.symm e4.symm (fun _ _ _ => rfl)
    · rw [mm_me_16 (M := M0) (M' := M) h16]
      exact q3 q
  · by_cases h16 : (M0.1 x).1 < 16
    · rw [mm_me_lo h16] at hb
      exact h.2.2.1 x k b hx h16 hb
    · have e1 := (h.2.1 x hx).1
      have hi : (Mi.1 x).1 ≠ 0 := hag.2 x (by rw [e1]; exact h16)
      have e5 : Mi.1 x = M0.1 x := (hag.1 x hi).2.symm.trans e1
      exact h.1 b (hc x k b hi (by rw [e5, mm_me_16 (M := Mi) (M' := M0) h16]; exact hb))
theorem vx_Met.mono {l : Launch} {y : MethodName} {ws : List Cond} {rm : Room} {Pc : Array Value → State → Prop} {Qc Qc' : Array Value → State → Outcome → State → Prop} {XC XC' : String → State → State → Prop} {mc ms : Nat} {free : Addr → Prop} (h : vx_Met l y ws rm Pc Qc XC mc ms free) (hQ : ∀ a s o t, Pc a s → Qc a s o t → Qc' a s o t) (hX : ∀ a E s t, Pc a s → XC E s t → XC' E s t) : vx_Met l y ws rm Pc Qc' XC' mc ms free := by
  intro p e hl f1 f2 s m args below hfr happ hP hk
  obtain ⟨n, o, a1, a2, a3, a4⟩ := h p e hl f1 f2 s m args below hfr happ hP hk
  refine ⟨n, o, a1, a2, a3, ?_⟩
  rcases a4 with ⟨g1, g2⟩ | ⟨q, g1, E, ce, L, g2, g3⟩
  · exact Or.inl ⟨hQ _ _ _ _ hP g1, g2⟩
  · exact Or.inr ⟨q, g1, E, ce, L, hX _ _ _ _ hP g2, g3⟩
/-- what holds behind, of some memory that is kept -/
def mm_QD (Mi : mm_M) (Q : Option Value → mm_M → Prop) : Option Value → mm_M → Prop := fun v M => ∃ M0, mm_sb Mi M M0 v ∧ Q v M0
def mm_XD (Mi : mm_M) (X : String → mm_M → Prop) : String → mm_M → Prop := fun E M => ∃ M0, mm_sb Mi M M0 none ∧ X E M0
theorem mm_Met.ofD {l : Launch} {y : MethodName} {cc : ByteArray} {nL : Nat} {ret : Option FieldType} {rm : Room} {as : List Value} {M : mm_M} {Post : Option Value → mm_M → Prop} {PX : String → mm_M → Prop} (hl : l.stackTraces = false) (hy : plainName y.cls = true) (hn : (mm_ent as).length ≤ nL)
    (body : ∀ C : mm_C, mm_G C y.cls cc ret nL rm → mm_nh C → c_l C = l → c_Q C = mm_QD M Post → c_X C = mm_XD M PX → c_mc C = rm.cells → c_ms C = rm.slots → mm_W C 0 (mm_lv0 as nL) [] M (0, 0)) : mm_Met l y (ws_ y cc nL ret) rm as M Post PX := by
  have h := fun (D : va_G) (aC : Nat → ClassId) (ad : Nat → Nat) (sz : Nat) => (mm_Met.of (Post := mm_QD M Post) (PX := mm_XD M PX) hl hy hn (fun C G hnh e1 e2 e3 e4 e5 _ => body C G hnh e1 e2 e3 e4 e5)) D aC ad sz
  intro D aC ad sz
  have hcl : ∀ {U : State}, mm_R D aC ad M (mm_A ad M sz) U.heap → mm_cl0 M := fun hR h k b h0 hb => hR.2.2 h k b h0 hb
  refine vx_Met.mono (h D aC ad sz) (fun a s o t hP hq => ?_) (fun a E s t hP hq => ?_)
  · obtain ⟨-, -, hR, -⟩ := hP
    obtain ⟨⟨v, M1, ad1, e1, ⟨M0, hs, hp⟩, hag, hR1, hv⟩, hF⟩ := hq
    refine ⟨⟨v, M0, ad1, e1, hp, hs.ag hag, hs.R hag (hcl hR) hR1, fun w hw b hb => hs.2.2.2 b (by rw [hw, hb])⟩, hF⟩
  · obtain ⟨-, -, hR, -⟩ := hP
    obtain ⟨⟨M1, ad1, ⟨M0, hs, hp⟩, hag, hR1⟩, hF⟩ := hq
    exact ⟨⟨M0, ad1, hp, hs.ag hag, hs.R hag (hcl hR) hR1⟩, hF⟩
/-- a contract of which cells are forgotten at the end -/
theorem mm_Met.drop {l : Launch} {y : MethodName} {ws : List Cond} {rm : Room} {as : List Value} {M : mm_M} {Post : Option Value → mm_M → Prop} {PX : String → mm_M → Prop} (h : mm_Met l y ws rm as M (mm_QD M Post) (mm_XD M PX)) : mm_Met l y ws rm as M Post PX := by
  intro D aC ad sz
  have hcl : ∀ {U : State}, mm_R D aC ad M (mm_A ad M sz) U.heap → mm_cl0 M := fun hR h k b h0 hb => hR.2.2 h k b h0 hb
  refine vx_Met.mono (h D aC ad sz) (fun a s o t hP hq => ?_) (fun a E s t hP hq => ?_)
  · obtain ⟨-, -, hR, -⟩ := hP
    obtain ⟨⟨v, M1, ad1, e1, ⟨M0, hs, hp⟩, hag, hR1, hv⟩, hF⟩ := hq
    refine ⟨⟨v, M0, ad1, e1, hp, hs.ag hag, hs.R hag (hcl hR) hR1, fun w hw b hb => hs.2.2.2 b (by rw [hw, hb])⟩, hF⟩
  · obtain ⟨-, -, hR, -⟩ := hP
    obtain ⟨⟨M1, ad1, ⟨M0, hs, hp⟩, hag, hR1⟩, hF⟩ := hq
    exact ⟨⟨M0, ad1, hp, hs.ag hag, hs.R hag (hcl hR) hR1⟩, hF⟩
/-- a method with handlers, by the run of its body -/
theorem mm_Met.ofH {l : Launch} {y : MethodName} {cc : ByteArray} {nL : Nat} {ret : Option FieldType} {hh : List (Nat × Nat × Nat × Nat)} {rm : Room} {as : List Value} {M : mm_M} {Post : Option Value → mm_M → Prop} {PX : String → mm_M → Prop} (hl : l.stackTraces = false) (hy : plainName y.cls = true) (hn : (mm_ent as).length ≤ nL)
    (body : ∀ C : mm_C, mm_G C y.cls cc ret nL rm → mm_hd C hh → c_l C = l → c_Q C = Post → c_X C = PX → c_mc C = rm.cells → c_ms C = rm.slots → c_M C = M → mm_W C 0 (mm_lv0 as nL) [] M (0, 0)) : mm_Met l y (wsW_ y cc nL ret hh) rm as M Post PX := by
  intro D aC ad sz
  refine vx_ofWH (cc := cc) (maxL := nL) (ret := ret) (hh := hh) hy rfl ?_
  intro p e s m args below meth c s₁ B hml hv
  obtain ⟨rfl, hsz, hR, ⟨hK, hT, hX, hcs⟩, hvk⟩ := hv
  have hts := atoms_spec (ws := wsW_ y cc nL ret hh) B.pre
  have htab := vx_table (x := y) B (hts _ List.mem_cons_self)
  have hts : ∀ w ∈ lw_all, w.before _ s = true := fun w h => hts w (List.mem_cons_of_mem _ h)
  have hown : s.vm.findClass y.cls = some m.cls := findClass_of_methodNamed B.named
  let C : mm_C := ((p, l, e, rm, s, m), ((as.map (mm_v ad)).toArray, below, meth, c), (Post, PX, rm.cells, rm.slots), (D, aC, ad, M, mm_A ad M sz))
  have hG : mm_G C y.cls cc ret nL rm := ⟨B.exec, B.bytes, hown, hts, hT, hK, fun q h => Or.inr (by rw [← hsz]; exact h), B.notSynchronized, hX, hcs, B.returns, hl, hml, rfl⟩
  have hw := body C hG htab rfl rfl rfl rfl rfl rfl
  rw [lg_entry_eq]
  have hlen : (lg_sl (as.map (mm_v ad))).length ≤ nL := by rw [mm_ent_len]; exact hn
  have hent := lv_entry (as.map (mm_v ad)) (n := nL) hlen
  generalize (lg_sl (as.map (mm_v ad)) ++ List.replicate (nL - (lg_sl (as.map (mm_v ad))).length) Slot.unset).toArray = ls at hent ⊢
  have hl0 : (mm_lv0 as nL).length = nL := by
    unfold mm_lv0
    rw [List.length_append, List.length_replicate]
    omega
  refine hw ad s.heap [] ls ⟨mm_ag.rf, hR, va_S.rf, ⟨hent.2.1, by rw [hl0]; exact hent.1, fun i v hv => ?_⟩, by rw [hent.1]; exact hml.symm, ⟨fun v hv => absurd hv List.not_mem_nil, fun i v hv => mm_ent_vk as i v hvk (mm_lv0_at hv)⟩, Nat.zero_le _, Nat.zero_le _⟩
  have h2 := mm_ent_at ad as 0 i v (mm_lv0_at hv)
  rw [Nat.zero_add] at h2
  exact hent.2.2 _ h2
/-! ===== the frame rule: a contract over a part of the memory ===== -/
/-- the memory behind a call over the part Ms of M that came to Mt -/
def mm_mg (M Ms Mt : mm_M) : mm_M :=
  (fun h => if (Ms.1 h).1 ≠ 0 ∨ (M.1 h).1 = 0 then Mt.1 h else M.1 h, fun h => if (Ms.1 h).1 ≠ 0 ∨ (M.1 h).1 = 0 then Mt.2.1 h else M.2.1 h, fun h => if (Ms.1 h).1 ≠ 0 ∨ (M.1 h).1 = 0 then Mt.2.2.1 h else M.2.2.1 h, fun h => if (Ms.1 h).1 ≠ 0 ∨ (M.1 h).1 = 0 then Mt.2.2.2 h else M.2.2.2 h)
/-- Ms is a part of M -/
def mm_pt (M Ms : mm_M) : Prop :=
  (∀ h, (Ms.1 h).1 ≠ 0 → M.1 h = Ms.1 h ∧ M.2.1 h = Ms.2.1 h ∧ M.2.2.1 h = Ms.2.2.1 h ∧ M.2.2.2 h = Ms.2.2.2 h) ∧ mm_cl0 Ms ∧ ∀ h, ¬ (M.1 h).1 < 16 → (Ms.1 h).1 ≠ 0
/-- no new cell of the part takes a handle of the rest -/
def mm_nc (M Ms Mt : mm_M) : Prop := ∀ h, (Mt.1 h).1 ≠ 0 → (Ms.1 h).1 ≠ 0 ∨ (M.1 h).1 = 0
theorem mm_pt.R {M Ms : mm_M} {D : va_G} {aC : Nat → ClassId} {ad : Nat → Nat} {A : Nat → Prop} {H : Heap} (h : mm_pt M Ms) (hR : mm_R D aC ad M A H) : mm_R D aC ad Ms A H := by
  have hl : ∀ {x : Nat}, (Ms.1 x).1 ≠ 0 → (M.1 x).1 ≠ 0 := fun {x} hx => by rw [(h.1 x hx).1]; exact hx
  refine ⟨fun x t n hx ht => ?_, fun x y hx hy hx1 hy1 e => hR.2.1 x y (hl hx) (hl hy) (by rw [(h.1 x hx).1]; exact hx1) (by rw [(h.1 y hy).1]; exact hy1) e, h.2.1⟩
  have h0 : (Ms.1 x).1 ≠ 0 := by rw [hx]; exact ht
  obtain ⟨e1, e2, e3, e4⟩ := h.1 x h0
  obtain ⟨q1, q2, q3⟩ := hR.1 x t n (e1.trans hx) ht
  refine ⟨q1, q2, fun q => ?_⟩
  by_cases h16 : t < 16
  · have q4 := q3 q
    rw [mm_me_lo h16] at q4 ⊢
    exact mm_at_kept q4 rfl rfl e2.symm e3.symm e4.symm (fun _ _ _ => rfl)
  · rw [mm_me_16 (M := Ms) (M' := M) h16]
    exact q3 q
theorem mm_A.sub {M Ms : mm_M} {ad : Nat → Nat} {sz : Nat} (h : mm_pt M Ms) : ∀ q, mm_A ad Ms sz q → mm_A ad M sz q := by
  rintro q (⟨x, a1, a2, a3⟩ | q)
  · exact Or.inl ⟨x, by rw [(h.1 x a1).1]; exact a1, by rw [(h.1 x a1).1]; exact a2, a3⟩
  · exact Or.inr q
/-- what comes of the memory -/
theorem mm_mgR {M Ms Mt : mm_M} {D : va_G} {aC : Nat → ClassId} {ad ad' : Nat → Nat} {s t : State} (h : mm_pt M Ms) (hR : mm_R D aC ad M (mm_A ad M s.heap.size) s.heap) (hag : mm_ag Ms ad Mt ad') (hR' : mm_R D aC ad' Mt (mm_A ad Ms s.heap.size) t.heap) (hF : va_F (mm_A ad Ms s.heap.size) s t) (hn : mm_nc M Ms Mt) : ∃ ad2 : Nat → Nat, mm_ag M ad (mm_mg M Ms Mt) ad2 ∧ mm_R D aC ad2 (mm_mg M Ms Mt) (mm_A ad M s.heap.size) t.heap ∧ (∀ b, (Mt.1 b).1 ≠ 0 → ad2 b = ad' b ∧ ((mm_mg M Ms Mt).1 b).1 ≠ 0) := by
  classical
  let ad2 : Nat → Nat := fun b => if (Ms.1 b).1 ≠ 0 ∨ (M.1 b).1 = 0 then ad' b else ad b
  have hl : ∀ {x : Nat}, (Ms.1 x).1 ≠ 0 → (M.1 x).1 ≠ 0 := fun {x} hx => by rw [(h.1 x hx).1]; exact hx
  have mS : ∀ {x : Nat}, ((Ms.1 x).1 ≠ 0 ∨ (M.1 x).1 = 0) → (mm_mg M Ms Mt).1 x = Mt.1 x ∧ (mm_mg M Ms Mt).2.1 x = Mt.2.1 x ∧ (mm_mg M Ms Mt).2.2.1 x = Mt.2.2.1 x ∧ (mm_mg M Ms Mt).2.2.2 x = Mt.2.2.2 x ∧ ad2 x = ad' x := fun hx => ⟨if_pos hx, if_pos hx, if_pos hx, if_pos hx, if_pos hx⟩
  have mM : ∀ {x : Nat}, ¬ ((Ms.1 x).1 ≠ 0 ∨ (M.1 x).1 = 0) → (mm_mg M Ms Mt).1 x = M.1 x ∧ (mm_mg M Ms Mt).2.1 x = M.2.1 x ∧ (mm_mg M Ms Mt).2.2.1 x = M.2.2.1 x ∧ (mm_mg M Ms Mt).2.2.2 x = M.2.2.2 x ∧ ad2 x = ad x := fun hx => ⟨if_neg hx, if_neg hx, if_neg hx, if_neg hx, if_neg hx⟩
  have hT : ∀ {b : Nat}, (Mt.1 b).1 ≠ 0 → ad2 b = ad' b ∧ ((mm_mg M Ms Mt).1 b).1 ≠ 0 := by
    intro b hb
    have q := mS (hn b hb)
    exact ⟨q.2.2.2.2, by rw [q.1]; exact hb⟩
  have hA : ∀ {b : Nat}, (M.1 b).1 ≠ 0 → ad2 b = ad b ∧ ((mm_mg M Ms Mt).1 b).1 ≠ 0 ∧ (mm_mg M Ms Mt).1 b = M.1 b := by
    intro b hb
    by_cases hs : (Ms.1 b).1 ≠ 0 ∨ (M.1 b).1 = 0
    · have hs2 : (Ms.1 b).1 ≠ 0 := hs.resolve_right hb
      have q := mS hs
      obtain ⟨a1, a2⟩ := hag.1 b hs2
      exact ⟨q.2.2.2.2.trans a1, by rw [q.1, a2]; exact hs2, by rw [q.1, a2, (h.1 b hs2).1]⟩
    · have q := mM hs
      exact ⟨q.2.2.2.2, by rw [q.1]; exact hb, q.1⟩
  -- a cell of the rest is apart from the part's
  have apart : ∀ {x : Nat}, ¬ ((Ms.1 x).1 ≠ 0 ∨ (M.1 x).1 = 0) → ¬ mm_A ad Ms s.heap.size (ad x) := by
    intro x hx
    have hx0 : (M.1 x).1 ≠ 0 := fun q => hx (Or.inr q)
    have hx16 : (M.1 x).1 < 16 := Classical.byContradiction fun q => hx (Or.inl (h.2.2 x q))
    rintro (⟨y, a1, a2, a3⟩ | q)
    · have e := hR.2.1 y x (hl a1) hx0 (by rw [(h.1 y a1).1]; exact a2) hx16 a3
      exact hx (Or.inl (by rw [← e]; exact a1))
    · exact absurd (hR.lt hx0 (by omega)) (by omega)
  refine ⟨ad2, ⟨fun x hx => ⟨(hA hx).1, (hA hx).2.2⟩, fun x hx => ?_⟩, ⟨fun x t' n' hx ht0 => ?_, fun x y hx hy hx1 hy1 e => ?_, fun x k b hx hb => ?_⟩, fun b hb => hT hb⟩
  · by_cases hs : (Ms.1 x).1 ≠ 0 ∨ (M.1 x).1 = 0
    · rw [(mS hs).1] at hx
      exact hl (hag.2 x hx)
    · exact fun q => hs (Or.inr q)
  · by_cases hs : (Ms.1 x).1 ≠ 0 ∨ (M.1 x).1 = 0
    · obtain ⟨e1, e2, e3, e4, e5⟩ := mS hs
      rw [e1] at hx
      have hl0 : (Mt.1 x).1 ≠ 0 := by rw [hx]; exact ht0
      obtain ⟨q1, q2, q3⟩ := hR'.1 x t' n' hx ht0
      refine ⟨fun q => by rw [e5]; exact mm_A.sub h _ (q1 q), fun q r => ?_, fun q => ?_⟩
      · have hs2 := hag.2 x (by rw [hx]; exact q)
        obtain ⟨a1, a2⟩ := hag.1 x hs2
        have := (hR.1 x t' n' (by rw [(h.1 x hs2).1, ← a2]; exact hx) ht0).2.1 q r
        rw [e5, a1]
        exact ⟨this.1, Nat.lt_of_lt_of_le this.2 hF.1⟩
      · by_cases h16 : t' < 16
        · have q4 := q3 q
          rw [mm_me_lo h16] at q4 ⊢
          exact mm_at_kept q4 e5 rfl e2 e3 e4 (fun k b hb => (hT (hR'.2.2 x k b hl0 (by rw [hx, mm_me_lo h16]; exact hb))).1)
        · have q4 := q3 q
          rw [mm_me_hi h16] at q4 ⊢
          exact mm_at_kept q4 e5 rfl rfl rfl rfl (fun k b hb => (hT (hR'.2.2 x k b hl0 (by rw [hx, mm_me_hi h16]; exact hb))).1)
    · obtain ⟨e1, e2, e3, e4, e5⟩ := mM hs
      rw [e1] at hx
      have hx0 : (M.1 x).1 ≠ 0 := by rw [hx]; exact ht0
      have hx16 : (M.1 x).1 < 16 := Classical.byContradiction fun q => hs (Or.inl (h.2.2 x q))
      have h16 : t' < 16 := by rw [hx] at hx16; exact hx16
      obtain ⟨q1, q2, q3⟩ := hR.1 x t' n' hx ht0
      refine ⟨fun q => by rw [e5]; exact q1 q, fun q _ => absurd h16 q, fun q => ?_⟩
      have q4 := q3 q
      rw [mm_me_lo h16] at q4 ⊢
      exact mm_at_kept q4 e5 (mm_hn_at (hF.2 _ (hR.lt hx0 (by omega)) (apart hs))) e2 e3 e4 (fun k b hb => (hA (hR.2.2 x k b hx0 (by rw [mm_me_lo hx16]; exact hb))).1)
  · by_cases hsx : (Ms.1 x).1 ≠ 0 ∨ (M.1 x).1 = 0
    · have ex := mS hsx
      rw [ex.1] at hx hx1
      by_cases hsy : (Ms.1 y).1 ≠ 0 ∨ (M.1 y).1 = 0
      · have ey := mS hsy
        rw [ey.1] at hy hy1
        exact hR'.2.1 x y hx hy hx1 hy1 (by rw [← ex.2.2.2.2, ← ey.2.2.2.2]; exact e)
      · have ey := mM hsy
        exact absurd ((hR'.1 x _ _ rfl hx).1 hx1) (by rw [← ex.2.2.2.2, e, ey.2.2.2.2]; exact apart hsy)
    · have ex := mM hsx
      rw [ex.1] at hx hx1
      by_cases hsy : (Ms.1 y).1 ≠ 0 ∨ (M.1 y).1 = 0
      · have ey := mS hsy
        rw [ey.1] at hy hy1
        exact absurd ((hR'.1 y _ _ rfl hy).1 hy1) (by rw [← ey.2.2.2.2, ← e, ex.2.2.2.2]; exact apart hsx)
      · have ey := mM hsy
        rw [ey.1] at hy hy1
        exact hR.2.1 x y hx hy hx1 hy1 (by rw [← ex.2.2.2.2, ← ey.2.2.2.2]; exact e)
  · by_cases hs : (Ms.1 x).1 ≠ 0 ∨ (M.1 x).1 = 0
    · obtain ⟨e1, e2, e3, e4, e5⟩ := mS hs
      rw [e1] at hx hb
      refine (hT (hR'.2.2 x k b hx ?_)).2
      by_cases h16 : (Mt.1 x).1 < 16
      · rw [mm_me_lo h16, e4] at hb
        rw [mm_me_lo h16]
        exact hb
      · rw [mm_me_hi h16] at hb ⊢
        exact hb
    · obtain ⟨e1, e2, e3, e4, e5⟩ := mM hs
      rw [e1] at hx hb
      have hx16 : (M.1 x).1 < 16 := Classical.byContradiction fun q => hs (Or.inl (h.2.2 x q))
      rw [mm_me_lo hx16, e4] at hb
      exact (hA (hR.2.2 x k b hx (by rw [mm_me_lo hx16]; exact hb))).2.1
theorem vx_Met.weak {l : Launch} {y : MethodName} {ws : List Cond} {rm : Room} {Pc Pc' : Array Value → State → Prop} {Qc Qc' : Array Value → State → Outcome → State → Prop} {XC XC' : String → State → State → Prop} {mc ms : Nat} {free free' : Addr → Prop} (h : vx_Met l y ws rm Pc Qc XC mc ms free) (hP : ∀ a s, Pc' a s → Pc a s) (hf : ∀ q, free q → free' q) (hQ : ∀ a s o t, Pc' a s → Qc a s o t → Qc' a s o t) (hX : ∀ a E s t, Pc' a s → XC E s t → XC' E s t) : vx_Met l y ws rm Pc' Qc' XC' mc ms free' := by
  intro p e hl f1 f2 s m args below hfr happ hP' hk
  obtain ⟨n, o, a1, a2, a3, a4⟩ := h p e hl f1 f2 s m args below hfr happ (hP _ _ hP') hk
  refine ⟨n, o, a1, a2, a3, ?_⟩
  rcases a4 with ⟨g1, L, g2, g3⟩ | ⟨q, g1, E, ce, L, g2, g3, g4, g5, g6, g7, g8⟩
  · exact Or.inl ⟨hQ _ _ _ _ hP' g1, L, g2, fun q hq => hf _ (g3 q hq)⟩
  · exact Or.inr ⟨q, g1, E, ce, L, hX _ _ _ _ hP' g2, g3, g4, g5, g6, g7, fun z hz => hf _ (g8 z hz)⟩
theorem va_F.sub {A A' : Nat → Prop} {s t : State} (h : va_F A s t) (hA : ∀ q, A q → A' q) : va_F A' s t := ⟨h.1, fun q h1 h2 => h.2 q h1 (fun z => h2 (hA q z))⟩
theorem mm_Met.frame {l : Launch} {y : MethodName} {ws : List Cond} {rm : Room} {as : List Value} {M Ms : mm_M} {Q Q' : Option Value → mm_M → Prop} {X X' : String → mm_M → Prop} (h : mm_Met l y ws rm as Ms Q X) (hp : mm_pt M Ms) (hv : ∀ v ∈ as, mm_vk Ms v) (hc : mm_cs Ms) (hQ : ∀ v Mt, Q v Mt → mm_nc M Ms Mt ∧ Q' v (mm_mg M Ms Mt)) (hX : ∀ E Mt, X E Mt → mm_nc M Ms Mt ∧ X' E (mm_mg M Ms Mt)) : mm_Met l y ws rm as M Q' X' := by
  intro D aC ad sz
  refine vx_Met.weak (h D aC ad sz) (fun a s hP => ?_) (mm_A.sub hp) (fun a s o t hP hq => ?_) (fun a E s t hP hq => ?_)
  · obtain ⟨e1, e2, hR, ⟨k1, k2, k3, k4⟩, hvk⟩ := hP
    subst e2
    exact ⟨e1, rfl, (hp.R hR).toA, ⟨k1, k2, mm_X.warm (State.WarmedH.refl s) va_S.rf (mm_A.sub hp) k3, hc⟩, hv⟩
  · obtain ⟨-, e2, hR, -⟩ := hP
    subst e2
    obtain ⟨⟨v, M1, ad1, e1, hq, hag, hR1, hvk⟩, hF⟩ := hq
    obtain ⟨hn, hq'⟩ := hQ _ _ hq
    obtain ⟨ad2, b1, b2, b3⟩ := mm_mgR hp hR hag hR1 hF hn
    refine ⟨⟨v, _, ad2, ?_, hq', b1, b2, fun w hw b hb => (b3 b (hvk w hw b hb)).2⟩, hF.sub (mm_A.sub hp)⟩
    rw [e1]
    cases hv9 : v with
    | none => rfl
    | some w =>
      show Outcome.returned (some (mm_v ad1 w)) = Outcome.returned (some (mm_v ad2 w))
      have : mm_v ad1 w = mm_v ad2 w := by
        cases w with
        | ref b => show Value.ref _ = Value.ref _; rw [(b3 b (hvk _ hv9 b rfl)).1]
        | _ => rfl
      rw [this]
  · obtain ⟨-, e2, hR, -⟩ := hP
    subst e2
    obtain ⟨⟨M1, ad1, hq, hag, hR1⟩, hF⟩ := hq
    obtain ⟨hn, hq'⟩ := hX _ _ hq
    obtain ⟨ad2, b1, b2, b3⟩ := mm_mgR hp hR hag hR1 hF hn
    exact ⟨⟨_, ad2, hq', b1, b2⟩, hF.sub (mm_A.sub hp)⟩
