/-! ===== constants read by a handle that is no written number ===== -/
set_option maxRecDepth 100000
def zo_getk (nx ci k : Nat) : zz_O := fun lv st M N K => match st with
  | .inr (.inr (some h)) :: r => zsh M h = (17, ci) ∧ K (nx + 2) lv (vi (mm_kI h k).toInt :: r) M N
  | _ => False
theorem z_getk (nx ci k : Nat) : zz_ok (zo_getk nx ci k) (o_get nx ci 0 k) := by
  intro lv st M N K K' hK h
  unfold zo_getk at h
  split at h
  · next x r =>
    obtain ⟨e1, h⟩ := h
    have h := hK _ _ _ _ _ h
    refine o_get_k (show (eM M).1 x = (17, ci) from e1) ?_
    rw [zz_fk_e]
    exact h
  · exact h.elim
def zo_getkr (nx ci k : Nat) : zz_O := fun lv st M N K => match st with
  | .inr (.inr (some h)) :: r => ∃ b : Nat, zsh M h = (17, ci) ∧ mm_kP h k = some b ∧ K (nx + 2) lv (vr b :: r) M N
  | _ => False
theorem z_getkr (nx ci k : Nat) : zz_ok (zo_getkr nx ci k) (o_get nx ci 2 k) := by
  intro lv st M N K K' hK h
  unfold zo_getkr at h
  split at h
  · next x r =>
    obtain ⟨b, e1, e2, h⟩ := h
    have h := hK _ _ _ _ _ h
    refine o_get_k (show (eM M).1 x = (17, ci) from e1) ?_
    rw [zz_fk_e]
    show K' (nx + 2) (eL lv) (ev (.inr (.inr (mm_kP x k))) :: r.map ev) (eM M) N
    rw [e2]
    exact h
  · exact h.elim
def zo_baldk (nx : Nat) : zz_O := fun lv st M N K => match st with
  | .inl i :: .inr (.inr (some h)) :: r => ∃ n, zsh M h = (20, n) ∧ (n : Int) ≤ 2147483647 ∧ (0 ≤ i ∧ i < (n : Int)) ∧ K (nx + 2) lv (.inl (mm_kI h i.toNat).toInt :: r) M N
  | _ => False
theorem z_baldk (nx : Nat) : zz_ok (zo_baldk nx) (o_bald nx) := by
  intro lv st M N K K' hK h
  unfold zo_baldk at h
  split at h
  · next i x r =>
    obtain ⟨n, e0, e2, hi, h⟩ := h
    have h := hK _ _ _ _ _ h
    refine o_bald_w (Or.inr ⟨show (eM M).1 x = (20, n) from e0, rfl⟩) (zI_in hi.1 hi.2 (by omega)) ?_
    rw [zI_cl hi.1 (by omega), zI_of (mm_kI x i.toNat)]
    exact h
  · exact h.elim
/-- a reference that is read, and is none -/
def zo_getr (nx ci k : Nat) : zz_O := fun lv st M N K => match st with
  | .inr (.inr (some h)) :: r => ∃ b : Nat, zsh M h = (1, ci) ∧ zpt M h k = some b ∧ K (nx + 2) lv (vr b :: r) M N
  | _ => False
theorem z_getr (nx ci k : Nat) : zz_ok (zo_getr nx ci k) (o_get nx ci 2 k) := by
  intro lv st M N K K' hK h
  unfold zo_getr at h
  split at h
  · next x r =>
    obtain ⟨b, e1, e2, h⟩ := h
    refine o_get_1 (by show (zsh M x).2 = ci; rw [e1]) (by show (zsh M x).1 = 1; rw [e1]) ?_
    show K' (nx + 2) (eL lv) (va_rf (zpt M x k) :: r.map ev) (eM M) N
    rw [e2]
    exact hK _ _ _ _ _ h
  · exact h.elim
/-- a method with handlers, nothing forgotten -/
theorem zz_Met.JHN {l : Launch} {y : MethodName} {cc : ByteArray} {nL : Nat} {ret : Option FieldType} {hh : List (Nat × Nat × Nat × Nat)} {rm : Room} {sp : zz_Sp} {c : zz_P} (hl : l.stackTraces = false) (hy : plainName y.cls = true)
    (ht : ∀ C : mm_C, mm_G C y.cls cc ret nL rm → mm_hd C hh → zz_OKs C c) (h : ∀ as M Q X, sp as M Q X → Nat.ble (zz_ent as).length nL = true ∧ zz_J c (zz_ret Q X rm.cells rm.slots) 0 (zz_lv0 as nL) [] M (0, 0)) : mm_Spec l y (wsW_ y cc nL ret hh) rm (zE sp) := by
  rintro as M Q X ⟨as', M', Q', X', rfl, rfl, hs, hQ, hX⟩
  obtain ⟨h1, h2⟩ := h _ _ _ _ hs
  refine mm_Met.ofH hl hy (by rw [← zz_ent_e, eL_len]; exact Nat.le_of_ble_eq_true h1) (fun C G hhd _ eQ eX e1 e2 _ => ?_)
  have h3 := h2 C (ht C G hhd) ?_ ?_
  · rw [zz_lv0_e] at h3
    exact h3
  · intro lv st M N hq
    obtain ⟨h2, h3, h1⟩ := mm_and2 (show (bif Nat.ble N.1 rm.cells && Nat.ble N.2 rm.slots then Q' st.head? M else False) from hq) (fun q => q)
    refine ⟨?_, by rw [e1]; exact Nat.le_of_ble_eq_true h2, by rw [e2]; exact Nat.le_of_ble_eq_true h3⟩
    rw [eQ, List.head?_map]
    exact hQ _ _ h1
  · intro lv st M N hq
    obtain ⟨h2, h3, h1⟩ := mm_and2 (show (bif Nat.ble N.1 rm.cells && (Nat.ble N.2 rm.slots && Nat.ble lv.length 5) then X' lv.length M else False) from hq) (fun q => q)
    rw [Bool.and_eq_true] at h3
    have h4 := Nat.le_of_ble_eq_true h3.2
    have h5 : ∃ E, mm_ex[lv.length]? = some E := ⟨mm_ex[lv.length]'(by show lv.length < 6; omega), List.getElem?_eq_getElem _⟩
    obtain ⟨E, hE⟩ := h5
    exact ⟨⟨E, by rw [eL_len]; exact hE, by rw [eX]; exact hX _ _ _ hE h1⟩, by rw [e1]; exact Nat.le_of_ble_eq_true h2, by rw [e2]; exact Nat.le_of_ble_eq_true h3.1⟩
