/-! ===== objects by whole numbers: new cells, casts, references, switches, copies, throws, calls of every kind ===== -/
set_option maxRecDepth 100000
def zrw {α : Type} (F : Nat → α) (h : Nat) (r : α) : Nat → α := fun x => if x = h then r else F x
theorem zrw_s {α : Type} (F : Nat → α) (h : Nat) (r : α) : zrw F h r h = r := if_pos rfl
theorem zrw_n {α : Type} (F : Nat → α) (r : α) {h x : Nat} (e : x ≠ h) : zrw F h r x = F x := if_neg e
/-- the handle may be taken, or written as a whole -/
theorem zfx_of {t h : Nat} (h0 : zfs t h = false) (k : Nat) : zfx t h k = false := by
  unfold zfs at h0
  unfold zfx
  cases h1 : Nat.beq t 1 with
  | true => rw [h1] at h0; cases h0
  | false =>
    rw [h1, cond_false] at h0
    rw [cond_false]
    cases h2 : (Nat.beq t 2 || Nat.beq t 3) with
    | false => rfl
    | true =>
      rw [h2, cond_true] at h0
      rw [cond_true, h0]
      rfl
theorem zsh_f {M : zz_M} {h : Nat} (h0 : zfs M.1.1 h = false) : zsh M h = M.1.2 h := by unfold zsh; rw [h0]; rfl
theorem zpt_f {M : zz_M} {h k : Nat} (h0 : zfs M.1.1 h = false) : zpt M h k = M.2.2.2 h k := by unfold zpt; rw [zfx_of h0]; rfl
/-- a new cell, with its rows -/
def zac (M : zz_M) (h t n : Nat) (I : Nat → Int) (P : Nat → Option Nat) : zz_M := ((M.1.1, zrw M.1.2 h (t, n)), zrw M.2.1 h I, zrw M.2.2.1 h (fun _ => 0), zrw M.2.2.2 h P)
def zal (M : zz_M) (h t n : Nat) : zz_M := zac M h t n (fun _ => 0) (fun _ => none)
theorem eM_ac {M : zz_M} {h t n : Nat} {I : Nat → Int} {P : Nat → Option Nat} (h0 : zfs M.1.1 h = false) : mm_ac (eM M) h t n (fun k => zI (I k)) P = eM (zac M h t n I P) := by
  have e1 : (fun x => if x = h then (t, n) else zsh M x) = zsh (zac M h t n I P) := by
    funext x
    unfold zsh
    show _ = bif zfs M.1.1 x then zfS M.1.1 x else zrw M.1.2 h (t, n) x
    by_cases e : x = h
    · subst e; rw [if_pos rfl, h0, zrw_s]; rfl
    · rw [if_neg e, zrw_n _ _ e]
  have e2 : (fun x => if x = h then (fun k => zI (I k)) else zS M.2.1 x) = zS (zrw M.2.1 h I) := by
    funext x k
    unfold zS
    by_cases e : x = h
    · subst e; rw [if_pos rfl, zrw_s]
    · rw [if_neg e, zrw_n _ _ e]
  have e3 : (fun x => if x = h then (fun _ => 0) else zJ M.2.2.1 x) = zJ (zrw M.2.2.1 h (fun _ => 0)) := by
    funext x k
    unfold zJ
    by_cases e : x = h
    · subst e; rw [if_pos rfl, zrw_s]; rfl
    · rw [if_neg e, zrw_n _ _ e]
  have e4 : (fun x => if x = h then P else zpt M x) = zpt (zac M h t n I P) := by
    funext x k
    show _ = bif zfx M.1.1 x k then zfp M.1.1 x k else zrw M.2.2.2 h P x k
    by_cases e : x = h
    · subst e; rw [if_pos rfl, zfx_of h0, zrw_s]; rfl
    · rw [if_neg e, zrw_n _ _ e]; rfl
  show (_, _, _, _) = _
  unfold eM
  rw [← e1, ← e4]
  show _ = (_, zS (zrw M.2.1 h I), zJ (zrw M.2.2.1 h (fun _ => 0)), _)
  rw [← e2, ← e3]
theorem eM_al {M : zz_M} {h t n : Nat} (h0 : zfs M.1.1 h = false) : mm_al (eM M) h t n = eM (zal M h t n) := by
  have h := eM_ac (M := M) (h := h) (t := t) (n := n) (I := fun _ => 0) (P := fun _ => none) h0
  exact h
/-- the handle h is free -/
abbrev zfree (M : zz_M) (h : Nat) : Prop := zfs M.1.1 h = false ∧ (M.1.2 h).1 = 0
theorem zfree.e {M : zz_M} {h : Nat} (h0 : zfree M h) : ((eM M).1 h).1 = 0 := by show (zsh M h).1 = 0; rw [zsh_f h0.1]; exact h0.2
def zo_new (rm : Room) (nx ci n : Nat) : zz_O := fun lv st M N K => ∃ h, zfree M h ∧ (N.1 + 1 ≤ rm.cells ∧ N.2 + n ≤ rm.slots) ∧ K (nx + 2) lv (.inr (.inr (some h)) :: st) (zal M h 1 ci) (N.1 + 1, N.2 + n)
theorem z_new (rm : Room) (nx ci n : Nat) : zz_ok (zo_new rm nx ci n) (o_new rm nx ci n) := by
  intro lv st M N K K' hK h
  obtain ⟨x, h0, ⟨h1, h2⟩, h⟩ := h
  refine ⟨x, h0.e, h1, h2, ?_⟩
  rw [eM_al h0.1]
  exact hK _ _ _ _ _ h
def zo_newa (rm : Room) (nx t B : Nat) : zz_O := fun lv st M N K => match st with
  | .inl n :: r => ∃ h, zfree M h ∧ (0 ≤ n ∧ n < 2147483648 ∧ n.toNat * B ≤ 536870912) ∧ (N.1 + 1 ≤ rm.cells ∧ N.2 + n.toNat ≤ rm.slots) ∧ K (nx + 2) lv (.inr (.inr (some h)) :: r) (zal M h t n.toNat) (N.1 + 1, N.2 + n.toNat)
  | _ => False
theorem z_newa (rm : Room) (nx t B : Nat) : zz_ok (zo_newa rm nx t B) (o_newa rm nx t B) := by
  intro lv st M N K K' hK h
  unfold zo_newa at h
  split at h
  · next n r =>
    obtain ⟨x, h0, ⟨h1, h2, h3⟩, ⟨h4, h5⟩, h⟩ := h
    refine ⟨x, h0.e, ?_, ?_, h4, ?_, ?_⟩
    · intro q
      have := (zI_lt (a := n) (b := 0) (by omega) (by omega) (by decide) (by decide)).mp q
      omega
    · rw [zI_cl h1 h2]; exact h3
    · rw [zI_cl h1 h2]; exact h5
    · rw [zI_cl h1 h2, eM_al h0.1]
      exact hK _ _ _ _ _ h
  · exact h.elim
def zo_cast (nx : Nat) (l : List Nat) : zz_O := fun lv st M N K => match st with
  | .inr (.inr (some h)) :: r => (∃ ci, (zsh M h = (1, ci) ∨ zsh M h = (17, ci)) ∧ mm_mem l ci = true) ∧ K (nx + 2) lv (.inr (.inr (some h)) :: r) M N
  | .inr (.inr none) :: r => K (nx + 2) lv (.inr (.inr none) :: r) M N
  | _ => False
theorem z_cast (nx : Nat) (l : List Nat) : zz_ok (zo_cast nx l) (o_cast nx l) := by
  intro lv st M N K K' hK h
  unfold zo_cast at h
  split at h
  · next x r =>
    obtain ⟨⟨ci, h1, h2⟩, h⟩ := h
    show (bif (Nat.beq (zsh M x).1 1 || Nat.beq (zsh M x).1 17) && mm_mem l (zsh M x).2 then _ else False)
    rcases h1 with e | e <;> rw [e, h2] <;> exact hK _ _ _ _ _ h
  · exact hK _ _ _ _ _ h
  · exact h.elim
def zo_casta (nx t : Nat) : zz_O := fun lv st M N K => match st with
  | .inr (.inr (some h)) :: r => (∃ n, zsh M h = (t, n) ∨ zsh M h = (t + 16, n)) ∧ K (nx + 2) lv (.inr (.inr (some h)) :: r) M N
  | _ => False
theorem z_casta (nx t : Nat) : zz_ok (zo_casta nx t) (o_casta nx t) := by
  intro lv st M N K K' hK h
  unfold zo_casta at h
  split at h
  · next x r =>
    obtain ⟨⟨n, h1⟩, h⟩ := h
    show (bif Nat.beq (zsh M x).1 t || Nat.beq (zsh M x).1 (t + 16) then _ else False)
    have e9 : (Nat.beq (zsh M x).1 t || Nat.beq (zsh M x).1 (t + 16)) = true := by
      rw [Bool.or_eq_true]
      rcases h1 with e | e
      · exact Or.inl (by rw [e]; exact Nat.beq_refl t)
      · exact Or.inr (by rw [e]; exact Nat.beq_refl (t + 16))
    rw [e9]
    exact hK _ _ _ _ _ h
  · exact h.elim
def zo_inst (nx ci : Nat) : zz_O := fun lv st M N K => match st with
  | .inr (.inr (some h)) :: r => (zsh M h = (1, ci) ∨ zsh M h = (17, ci)) ∧ K (nx + 2) lv (.inl 1 :: r) M N
  | _ => False
theorem z_inst (nx ci : Nat) : zz_ok (zo_inst nx ci) (o_inst nx ci) := by
  intro lv st M N K K' hK h
  unfold zo_inst at h
  split at h
  · next x r =>
    obtain ⟨h1, h⟩ := h
    show (bif (Nat.beq (zsh M x).1 1 || Nat.beq (zsh M x).1 17) && Nat.beq (zsh M x).2 ci then _ else False)
    have e9 : ((Nat.beq (zsh M x).1 1 || Nat.beq (zsh M x).1 17) && Nat.beq (zsh M x).2 ci) = true := by
      rcases h1 with e | e <;> rw [e] <;> exact Nat.beq_refl ci
    rw [e9]
    exact hK _ _ _ _ _ h
  · exact h.elim
theorem z_same {M : zz_M} {a b : Nat} {T F T' F' : Prop} (hT : T → T') (hF : F → F') (h : (a = b → T) ∧ (a ≠ b → (((zsh M a).1 ≤ 15 ∧ (zsh M b).1 ≤ 47) ∨ ((zsh M b).1 ≤ 15 ∧ (zsh M a).1 ≤ 47)) ∧ F)) : mm_same (eM M) a b T' F' := by
  unfold mm_same
  cases hab : Nat.beq a b with
  | true => exact hT (h.1 (mm_beq hab))
  | false =>
    have hne : a ≠ b := fun q => by
      rw [q] at hab
      have : Nat.beq b b = true := Nat.beq_refl b
      rw [this] at hab
      cases hab
    obtain ⟨h1, h2⟩ := h.2 hne
    show (bif (Nat.ble (zsh M a).1 15 && Nat.ble (zsh M b).1 47) || (Nat.ble (zsh M b).1 15 && Nat.ble (zsh M a).1 47) then F' else False)
    have e9 : ((Nat.ble (zsh M a).1 15 && Nat.ble (zsh M b).1 47) || (Nat.ble (zsh M b).1 15 && Nat.ble (zsh M a).1 47)) = true := by
      rw [Bool.or_eq_true, Bool.and_eq_true, Bool.and_eq_true]
      exact h1.imp (fun z => ⟨Nat.ble_eq_true_of_le z.1, Nat.ble_eq_true_of_le z.2⟩) (fun z => ⟨Nat.ble_eq_true_of_le z.1, Nat.ble_eq_true_of_le z.2⟩)
    rw [e9]
    exact hF h2
def zo_aceq (nx tgt : Nat) : zz_O := fun lv st M N K => match st with
  | .inr (.inr (some b)) :: .inr (.inr (some a)) :: r => (a = b → K (tgt + 2) lv r M N) ∧ (a ≠ b → (((zsh M a).1 ≤ 15 ∧ (zsh M b).1 ≤ 47) ∨ ((zsh M b).1 ≤ 15 ∧ (zsh M a).1 ≤ 47)) ∧ K (nx + 2) lv r M N)
  | _ => False
theorem z_aceq (nx tgt : Nat) : zz_ok (zo_aceq nx tgt) (o_aceq nx tgt) := by
  intro lv st M N K K' hK h
  unfold zo_aceq at h
  split at h
  · next b a r => exact z_same (hK _ _ _ _ _) (hK _ _ _ _ _) h
  · exact h.elim
def zo_acne (nx tgt : Nat) : zz_O := fun lv st M N K => match st with
  | .inr (.inr (some b)) :: .inr (.inr (some a)) :: r => (a = b → K (nx + 2) lv r M N) ∧ (a ≠ b → (((zsh M a).1 ≤ 15 ∧ (zsh M b).1 ≤ 47) ∨ ((zsh M b).1 ≤ 15 ∧ (zsh M a).1 ≤ 47)) ∧ K (tgt + 2) lv r M N)
  | _ => False
theorem z_acne (nx tgt : Nat) : zz_ok (zo_acne nx tgt) (o_acne nx tgt) := by
  intro lv st M N K K' hK h
  unfold zo_acne at h
  split at h
  · next b a r => exact z_same (hK _ _ _ _ _) (hK _ _ _ _ _) h
  · exact h.elim
def zo_aast (nx : Nat) (l : List Nat) : zz_O := fun lv st M N K => match st with
  | .inr (.inr (some v)) :: .inl i :: .inr (.inr (some h)) :: r => ∃ n ci, zsh M h = (7, n) ∧ (zsh M v = (1, ci) ∧ mm_mem l ci = true) ∧ zfs M.1.1 h = false ∧ n ≤ 2147483647 ∧ (0 ≤ i ∧ i < (n : Int)) ∧ K (nx + 2) lv r (zz_wP M h i.toNat (some v)) N
  | _ => False
theorem z_aast (nx : Nat) (l : List Nat) : zz_ok (zo_aast nx l) (o_aast nx l) := by
  intro lv st M N K K' hK h
  unfold zo_aast at h
  split at h
  · next v i x r =>
    obtain ⟨n, ci, e1, ⟨e2, e3⟩, e4, hn, hi, h⟩ := h
    show (bif Nat.beq (zsh M x).1 7 && ((Nat.beq (zsh M v).1 1 || Nat.beq (zsh M v).1 17) && mm_mem l (zsh M v).2) then vp_in (zI i) (zsh M x).2 ∧ K' (nx + 2) (eL lv) (r.map ev) (mm_wP (eM M) x (zI i).toNatClampNeg (some v)) N else False)
    rw [e1, e2, e3, zI_cl hi.1 (by omega), eM_wP (zfx_of e4 _)]
    exact ⟨zI_in hi.1 hi.2 (by omega), hK _ _ _ _ _ h⟩
  · exact h.elim
/-! switches -/
def zz_sw (x : Int) (K : Nat → Prop) : List (Int × Nat) → Nat → Prop
  | [], d => K d
  | q :: r, d => (x = q.1 → K q.2) ∧ (x ≠ q.1 → zz_sw x K r d)
theorem zz_sw_e {x : Int} (hx : R32 x) {K K' : Nat → Prop} (hK : ∀ t, K t → K' t) : ∀ {l : List (Int × Nat)} {d : Nat}, zz_sw x K l d → mm_sw (zI x) K' l d
  | [], _, h => hK _ h
  | q :: r, d, h => by
    have e : (zI x).toInt = x := zI_toInt hx.1 hx.2
    exact ⟨fun e1 => hK _ (h.1 (by rw [e] at e1; exact e1)), fun e1 => zz_sw_e hx hK (h.2 (by rw [e] at e1; exact e1))⟩
def zo_sw (f : Bool) (l : List (Int × Nat)) (d : Nat) : zz_O := fun lv st M N K => match st with
  | .inl x :: r => zr f x (zz_sw x (fun t => K (t + 2) lv r M N) l d)
  | _ => False
theorem z_sw (f : Bool) (l : List (Int × Nat)) (d : Nat) : zz_ok (zo_sw f l d) (o_sw l d) := by
  intro lv st M N K K' hK h
  unfold zo_sw at h
  split at h
  · next x r =>
    obtain ⟨h1, h2⟩ := zr_ok h
    exact zz_sw_e h1 (fun t => hK _ _ _ _ _) h2
  · exact h.elim
/-! copies -/
def zcpI (M : zz_M) (x y sp dp n : Nat) : zz_M := (M.1, zrw M.2.1 y (va_cpy (M.2.1 x) (M.2.1 y) sp dp n), M.2.2.1, M.2.2.2)
def zcpJ (M : zz_M) (x y sp dp n : Nat) : zz_M := (M.1, M.2.1, zrw M.2.2.1 y (va_cpy (M.2.2.1 x) (M.2.2.1 y) sp dp n), M.2.2.2)
def zcpP (M : zz_M) (x y sp dp n : Nat) : zz_M := (M.1, M.2.1, M.2.2.1, zrw M.2.2.2 y (va_cpy (zpt M x) (M.2.2.2 y) sp dp n))
theorem eM_cpI (M : zz_M) (x y sp dp n : Nat) : mm_cpI (eM M) x y sp dp n = eM (zcpI M x y sp dp n) := by
  have e : (fun a => if a = y then va_cpy (zS M.2.1 x) (zS M.2.1 y) sp dp n else zS M.2.1 a) = zS (zrw M.2.1 y (va_cpy (M.2.1 x) (M.2.1 y) sp dp n)) := by
    funext a k
    unfold zS
    by_cases e : a = y
    · subst e; rw [if_pos rfl, zrw_s]; unfold va_cpy; split <;> rfl
    · rw [if_neg e, zrw_n _ _ e]
  show (zsh M, _, zJ M.2.2.1, zpt M) = _
  unfold eM
  show _ = (zsh M, zS (zrw M.2.1 y (va_cpy (M.2.1 x) (M.2.1 y) sp dp n)), zJ M.2.2.1, zpt M)
  rw [← e]
theorem eM_cpJ (M : zz_M) (x y sp dp n : Nat) : mm_cpJ (eM M) x y sp dp n = eM (zcpJ M x y sp dp n) := by
  have e : (fun a => if a = y then va_cpy (zJ M.2.2.1 x) (zJ M.2.2.1 y) sp dp n else zJ M.2.2.1 a) = zJ (zrw M.2.2.1 y (va_cpy (M.2.2.1 x) (M.2.2.1 y) sp dp n)) := by
    funext a k
    unfold zJ
    by_cases e : a = y
    · subst e; rw [if_pos rfl, zrw_s]; unfold va_cpy; split <;> rfl
    · rw [if_neg e, zrw_n _ _ e]
  show (zsh M, zS M.2.1, _, zpt M) = _
  unfold eM
  show _ = (zsh M, zS M.2.1, zJ (zrw M.2.2.1 y (va_cpy (M.2.2.1 x) (M.2.2.1 y) sp dp n)), zpt M)
  rw [← e]
theorem eM_cpP {M : zz_M} {x y sp dp n : Nat} (h0 : zfs M.1.1 y = false) : mm_cpP (eM M) x y sp dp n = eM (zcpP M x y sp dp n) := by
  have e : (fun a => if a = y then va_cpy (zpt M x) (zpt M y) sp dp n else zpt M a) = zpt (zcpP M x y sp dp n) := by
    funext a k
    show _ = bif zfx M.1.1 a k then zfp M.1.1 a k else zrw M.2.2.2 y (va_cpy (zpt M x) (M.2.2.2 y) sp dp n) a k
    by_cases e : a = y
    · subst e
      rw [if_pos rfl, zfx_of h0, zrw_s]
      unfold va_cpy
      rw [zpt_f h0]
      rfl
    · rw [if_neg e, zrw_n _ _ e]; rfl
  show (zsh M, zS M.2.1, zJ M.2.2.1, _) = _
  unfold eM
  rw [← e]
  rfl
def zo_acpi (nx t : Nat) : zz_O := fun lv st M N K => match st with
  | .inl n :: .inl dp :: .inr (.inr (some y)) :: .inl sp :: .inr (.inr (some x)) :: r => bif Nat.ble (zz_dep r) 8 then (∃ a b, zsh M x = (t, a) ∧ zsh M y = (t, b) ∧ (a ≤ 2147483647 ∧ b ≤ 2147483647) ∧ x ≠ y ∧ (0 ≤ sp ∧ 0 ≤ dp ∧ 0 ≤ n) ∧ sp + n ≤ a ∧ dp + n ≤ b ∧ (t = 4 → ∀ i, i < n.toNat → -128 ≤ M.2.1 x (sp.toNat + i) ∧ M.2.1 x (sp.toNat + i) ≤ 127) ∧ K (nx + 2) lv r (zcpI M x y sp.toNat dp.toNat n.toNat) N) else False
  | _ => False
theorem zn_lt {x : Int} (h : 0 ≤ x) (h2 : x < 2147483648) : ¬ zI x < 0 := by
  intro q
  have := (zI_lt (a := x) (b := 0) (by omega) (by omega) (by decide) (by decide)).mp q
  omega
theorem z_fitb {x : Int} (h1 : -128 ≤ x) (h2 : x ≤ 127) : fits .byte (.int (zI x)) = true ∧ narrow .byte (.int (zI x)) = .int (zI x) := by
  have key : ∀ v : Int, -128 ≤ v → v ≤ 127 → (zI v).toInt8.toInt32 = zI v := by
    intro v a b
    rw [← Int32.toInt_inj, zI_toInt (by omega) (by omega)]
    have e : (zI v).toInt8 = Int8.ofInt v := by
      rw [← Int8.toInt_inj]
      have := zI_toInt (z := v) (by omega) (by omega)
      rw [show (zI v).toInt8 = Int8.ofInt (zI v).toInt from (Int8.ofInt_int32ToInt _).symm, this]
    rw [e, Int8.toInt_toInt32, Int8.toInt_ofInt_of_le (by omega) (by omega)]
  have e := key x h1 h2
  refine ⟨?_, by rw [narrow_byte, e]⟩
  show (decide (-128 ≤ zI x) && decide (zI x ≤ 127)) = true
  rw [Bool.and_eq_true, decide_eq_true_eq, decide_eq_true_eq]
  exact ⟨(zI_le (a := -128) (b := x) (by decide) (by decide) (by omega) (by omega)).mpr h1, (zI_le (a := x) (b := 127) (by omega) (by omega) (by decide) (by decide)).mpr h2⟩
theorem z_acpi (nx t : Nat) : zz_ok (zo_acpi nx t) (o_acpi nx t) := by
  intro lv st M N K K' hK h
  unfold zo_acpi at h
  split at h
  · next n dp y sp x r =>
    obtain ⟨e0, a, b, e1, e2, ⟨ha, hb⟩, hxy, ⟨h1, h2, h3⟩, h4, h5, h6, h⟩ := mm_bif h (fun q => q)
    show (bif Nat.beq (zsh M x).1 t && (Nat.beq (zsh M y).1 t && Nat.ble (mm_dep (r.map ev)) 8) then _ else False)
    have b1 : (Nat.beq (zsh M x).1 t && (Nat.beq (zsh M y).1 t && Nat.ble (mm_dep (r.map ev)) 8)) = true := by
      rw [e1, e2, zz_dep_e, e0]
      show (Nat.beq t t && (Nat.beq t t && true)) = true
      rw [show Nat.beq t t = true from Nat.beq_refl t]
      rfl
    rw [b1]
    have c1 := zI_cl (z := sp) h1 (by omega)
    have c2 := zI_cl (z := dp) h2 (by omega)
    have c3 := zI_cl (z := n) h3 (by omega)
    refine ⟨⟨hxy, ⟨zn_lt h1 (by omega), zn_lt h2 (by omega), zn_lt h3 (by omega)⟩, ?_, ?_, fun ht i hi => ?_⟩, ?_⟩
    · rw [c1, c3]; show _ ≤ (zsh M x).2; rw [e1]; show _ ≤ a; omega
    · rw [c2, c3]; show _ ≤ (zsh M y).2; rw [e2]; show _ ≤ b; omega
    · rw [c3] at hi
      rw [c1]
      have := h6 ht i hi
      exact (z_fitb this.1 this.2).1
    · rw [c1, c2, c3, eM_cpI]
      exact hK _ _ _ _ _ h
  · exact h.elim
def zo_acpj (nx : Nat) : zz_O := fun lv st M N K => match st with
  | .inl n :: .inl dp :: .inr (.inr (some y)) :: .inl sp :: .inr (.inr (some x)) :: r => bif Nat.ble (zz_dep r) 8 then (∃ a b, zsh M x = (3, a) ∧ zsh M y = (3, b) ∧ (a ≤ 2147483647 ∧ b ≤ 2147483647) ∧ x ≠ y ∧ (0 ≤ sp ∧ 0 ≤ dp ∧ 0 ≤ n) ∧ sp + n ≤ a ∧ dp + n ≤ b ∧ K (nx + 2) lv r (zcpJ M x y sp.toNat dp.toNat n.toNat) N) else False
  | _ => False
theorem z_acpj (nx : Nat) : zz_ok (zo_acpj nx) (o_acpj nx) := by
  intro lv st M N K K' hK h
  unfold zo_acpj at h
  split at h
  · next n dp y sp x r =>
    obtain ⟨e0, a, b, e1, e2, ⟨ha, hb⟩, hxy, ⟨h1, h2, h3⟩, h4, h5, h⟩ := mm_bif h (fun q => q)
    show (bif Nat.beq (zsh M x).1 3 && (Nat.beq (zsh M y).1 3 && Nat.ble (mm_dep (r.map ev)) 8) then _ else False)
    have b1 : (Nat.beq (zsh M x).1 3 && (Nat.beq (zsh M y).1 3 && Nat.ble (mm_dep (r.map ev)) 8)) = true := by
      rw [e1, e2, zz_dep_e, e0]
      rfl
    rw [b1]
    have c1 := zI_cl (z := sp) h1 (by omega)
    have c2 := zI_cl (z := dp) h2 (by omega)
    have c3 := zI_cl (z := n) h3 (by omega)
    refine ⟨⟨hxy, ⟨zn_lt h1 (by omega), zn_lt h2 (by omega), zn_lt h3 (by omega)⟩, ?_, ?_⟩, ?_⟩
    · rw [c1, c3]; show _ ≤ (zsh M x).2; rw [e1]; show _ ≤ a; omega
    · rw [c2, c3]; show _ ≤ (zsh M y).2; rw [e2]; show _ ≤ b; omega
    · rw [c1, c2, c3, eM_cpJ]
      exact hK _ _ _ _ _ h
  · exact h.elim
def zo_acpq (nx : Nat) (l : List Nat) : zz_O := fun lv st M N K => match st with
  | .inl n :: .inl dp :: .inr (.inr (some y)) :: .inl sp :: .inr (.inr (some x)) :: r => bif Nat.ble (zz_dep r) 8 then (∃ a b, (zsh M x = (7, a) ∨ zsh M x = (23, a) ∧ a = 0) ∧ zsh M y = (7, b) ∧ (a ≤ 2147483647 ∧ b ≤ 2147483647) ∧ x ≠ y ∧ zfs M.1.1 y = false ∧ (0 ≤ sp ∧ 0 ≤ dp ∧ 0 ≤ n) ∧ sp + n ≤ a ∧ dp + n ≤ b ∧ (∀ i, i < n.toNat → ∀ c, zpt M x (sp.toNat + i) = some c → ∃ ci, zsh M c = (1, ci) ∧ mm_mem l ci = true) ∧ K (nx + 2) lv r (zcpP M x y sp.toNat dp.toNat n.toNat) N) else False
  | _ => False
theorem z_acpq (nx : Nat) (l : List Nat) : zz_ok (zo_acpq nx l) (o_acpq nx l) := by
  intro lv st M N K K' hK h
  unfold zo_acpq at h
  split at h
  · next n dp y sp x r =>
    obtain ⟨e0, a, b, e1, e2, ⟨ha, hb⟩, hxy, hy, ⟨h1, h2, h3⟩, h4, h5, h6, h⟩ := mm_bif h (fun q => q)
    show (bif (Nat.beq (zsh M x).1 7 || (Nat.beq (zsh M x).1 23 && Nat.beq (zsh M x).2 0)) && (Nat.beq (zsh M y).1 7 && Nat.ble (mm_dep (r.map ev)) 8) then _ else False)
    have hx2 : (zsh M x).2 = a := by rcases e1 with e | ⟨e, -⟩ <;> rw [e]
    have b1 : ((Nat.beq (zsh M x).1 7 || (Nat.beq (zsh M x).1 23 && Nat.beq (zsh M x).2 0)) && (Nat.beq (zsh M y).1 7 && Nat.ble (mm_dep (r.map ev)) 8)) = true := by
      rw [e2, zz_dep_e, e0]
      rcases e1 with e | ⟨e, e'⟩
      · rw [e]; rfl
      · rw [e, e']; rfl
    rw [b1]
    have c1 := zI_cl (z := sp) h1 (by omega)
    have c2 := zI_cl (z := dp) h2 (by omega)
    have c3 := zI_cl (z := n) h3 (by omega)
    refine ⟨⟨hxy, ⟨zn_lt h1 (by omega), zn_lt h2 (by omega), zn_lt h3 (by omega)⟩, ?_, ?_, fun i hi c hc => ?_⟩, ?_⟩
    · rw [c1, c3]; show _ ≤ (zsh M x).2; rw [hx2]; omega
    · rw [c2, c3]; show _ ≤ (zsh M y).2; rw [e2]; show _ ≤ b; omega
    · rw [c3] at hi
      rw [c1] at hc
      obtain ⟨ci, g1, g2⟩ := h6 i hi c hc
      show (zsh M c).1 = 1 ∧ (zsh M c).2 ∈ l
      rw [g1]
      exact ⟨rfl, mm_mem_ok g2⟩
    · rw [c1, c2, c3, eM_cpP hy]
      exact hK _ _ _ _ _ h
  · exact h.elim
def zo_getc (nx : Nat) : zz_O := fun lv st M N K => match st with
  | .inr (.inr (some h)) :: r => bif Nat.ble (zz_dep r) 8 then (∃ n, zsh M h = (7, n) ∨ zsh M h = (23, n)) ∧ K (nx + 2) lv (.inr (.inr (some 1303)) :: r) M N else False
  | _ => False
theorem z_getc (nx : Nat) : zz_ok (zo_getc nx) (o_getc nx) := by
  intro lv st M N K K' hK h
  unfold zo_getc at h
  split at h
  · next x r =>
    obtain ⟨e0, ⟨n, e1⟩, h⟩ := mm_bif h (fun q => q)
    show (bif (Nat.beq (zsh M x).1 7 || Nat.beq (zsh M x).1 23) && Nat.ble (mm_dep (r.map ev)) 8 then _ else False)
    rw [zz_dep_e, e0]
    rcases e1 with e | e <;> rw [e] <;> exact hK _ _ _ _ _ h
  · exact h.elim
def zo_clob (rm : Room) (nx : Nat) : zz_O := fun lv st M N K => match st with
  | .inr (.inr (some x)) :: r => bif Nat.ble (zz_dep r) 8 then (∃ n h, zsh M x = (4, n) ∧ zfree M h ∧ (∀ i, i < n → -128 ≤ M.2.1 x i ∧ M.2.1 x i ≤ 127) ∧ (N.1 + 1 ≤ rm.cells ∧ N.2 + n ≤ rm.slots) ∧ K (nx + 2) lv (.inr (.inr (some h)) :: r) (zac M h 4 n (M.2.1 x) (fun _ => none)) (N.1 + 1, N.2 + n)) else False
  | _ => False
theorem z_clob (rm : Room) (nx : Nat) : zz_ok (zo_clob rm nx) (o_clob rm nx) := by
  intro lv st M N K K' hK h
  unfold zo_clob at h
  split at h
  · next x r =>
    obtain ⟨e0, n, y, e1, h0, h1, ⟨h2, h3⟩, h⟩ := mm_bif h (fun q => q)
    show (bif Nat.beq (zsh M x).1 4 && Nat.ble (mm_dep (r.map ev)) 8 then (∃ h, ((eM M).1 h).1 = 0 ∧ (∀ i, i < (zsh M x).2 → fits .byte (.int (zI (M.2.1 x i))) = true) ∧ N.1 + 1 ≤ rm.cells ∧ N.2 + (zsh M x).2 ≤ rm.slots ∧ K' (nx + 2) (eL lv) (.ref h :: r.map ev) (mm_ac (eM M) h 4 (zsh M x).2 (zS M.2.1 x) (fun _ => none)) (N.1 + 1, N.2 + (zsh M x).2)) else False)
    rw [zz_dep_e, e0, e1]
    refine ⟨y, h0.e, fun i hi => (z_fitb (h1 i hi).1 (h1 i hi).2).1, h2, h3, ?_⟩
    have e := eM_ac (M := M) (h := y) (t := 4) (n := n) (I := M.2.1 x) (P := fun _ => none) h0.1
    show K' (nx + 2) (eL lv) (.ref y :: r.map ev) (mm_ac (eM M) y 4 n (fun k => zI (M.2.1 x k)) (fun _ => none)) (N.1 + 1, N.2 + n)
    rw [e]
    exact hK _ _ _ _ _ h
  · exact h.elim
def zo_clof (rm : Room) (nx : Nat) : zz_O := fun lv st M N K => match st with
  | .inr (.inr (some x)) :: r => bif Nat.beq x 1301 && Nat.ble (zz_dep r) 8 then (∃ h, zfree M h ∧ (N.1 + 1 ≤ rm.cells ∧ N.2 + 5 ≤ rm.slots) ∧ K (nx + 2) lv (.inr (.inr (some h)) :: r) (zac M h 8 5 (fun _ => 0) (mm_kP 1301)) (N.1 + 1, N.2 + 5)) else False
  | _ => False
theorem z_clof (rm : Room) (nx : Nat) : zz_ok (zo_clof rm nx) (o_clof rm nx) := by
  intro lv st M N K K' hK h
  unfold zo_clof at h
  split at h
  · next x r =>
    obtain ⟨e0, e1, y, h0, ⟨h2, h3⟩, h⟩ := mm_and2 h (fun q => q)
    show (bif Nat.beq x 1301 && Nat.ble (mm_dep (r.map ev)) 8 then _ else False)
    rw [zz_dep_e, e0, e1]
    refine ⟨y, h0.e, h2, h3, ?_⟩
    have e := eM_ac (M := M) (h := y) (t := 8) (n := 5) (I := fun _ => 0) (P := mm_kP 1301) h0.1
    show K' (nx + 2) (eL lv) (.ref y :: r.map ev) (mm_ac (eM M) y 8 5 (fun _ => zI 0) (mm_kP 1301)) (N.1 + 1, N.2 + 5)
    rw [e]
    exact hK _ _ _ _ _ h
  · exact h.elim
def zo_toldF (nx : Nat) : zz_O := fun lv st M N K => match st with
  | .inr (.inr (some h)) :: r => (1200 ≤ h ∧ h ≤ 1204) ∧ K (nx + 2) lv (.inr (.inr (some (mm_tf (h - 1200)))) :: r) M N
  | _ => False
theorem z_toldF (nx : Nat) : zz_ok (zo_toldF nx) (o_toldF nx) := by
  intro lv st M N K K' hK h
  unfold zo_toldF at h
  split at h
  · next x r =>
    obtain ⟨⟨h1, h2⟩, h⟩ := h
    show (bif Nat.ble 1200 x && Nat.ble x 1204 then _ else False)
    rw [Nat.ble_eq_true_of_le h1, Nat.ble_eq_true_of_le h2]
    exact hK _ _ _ _ _ h
  · exact h.elim
def zo_ordF (nx : Nat) : zz_O := fun lv st M N K => match st with
  | .inr (.inr (some h)) :: r => (1200 ≤ h ∧ h ≤ 1204) ∧ K (nx + 2) lv (.inl ((h - 1200 : Nat) : Int) :: r) M N
  | _ => False
theorem z_ordF (nx : Nat) : zz_ok (zo_ordF nx) (o_ordF nx) := by
  intro lv st M N K K' hK h
  unfold zo_ordF at h
  split at h
  · next x r =>
    obtain ⟨⟨h1, h2⟩, h⟩ := h
    show (bif Nat.ble 1200 x && Nat.ble x 1204 then K' (nx + 2) (eL lv) (.int (nI (x - 1200)) :: r.map ev) (eM M) N else False)
    rw [Nat.ble_eq_true_of_le h1, Nat.ble_eq_true_of_le h2, zI_nI]
    exact hK _ _ _ _ _ h
  · exact h.elim
def zo_gst (nx h : Nat) : zz_O := fun lv st M N K => K (nx + 2) lv (.inr (.inr none) :: st) M N ∧ K (nx + 2) lv (.inr (.inr (some h)) :: st) M N
theorem z_gst (nx h : Nat) : zz_ok (zo_gst nx h) (o_gst nx h) := fun lv st M N K K' hK h => ⟨hK _ _ _ _ _ h.1, hK _ _ _ _ _ h.2⟩
def zo_oi (nx : Nat) : zz_O := fun lv st M N K => match st with
  | .inr (.inr (some _)) :: r => bif Nat.ble (zz_dep r) 8 then K (nx + 2) lv r M N else False
  | _ => False
theorem z_oi (nx : Nat) : zz_ok (zo_oi nx) (o_oi nx) := by
  intro lv st M N K K' hK h
  unfold zo_oi at h
  split at h
  · next x r =>
    obtain ⟨e0, h⟩ := mm_bif h (fun q => q)
    show (bif Nat.ble (mm_dep (r.map ev)) 8 then _ else False)
    rw [zz_dep_e, e0]
    exact hK _ _ _ _ _ h
  · exact h.elim
theorem eL_none (i : Nat) : eL (List.replicate i none) = List.replicate i none := by simp [eL]
def zo_thr0 (rm : Room) (i : Nat) : zz_O := fun lv st M N K => bif Nat.ble (zz_dep st) 8 then (N.1 + 1 ≤ rm.cells ∧ N.2 + 6 ≤ rm.slots) ∧ K 1 (List.replicate i none) [] M (N.1 + 1, N.2 + 6) else False
theorem z_thr0 (rm : Room) (i : Nat) : zz_ok (zo_thr0 rm i) (o_thr0 rm i) := by
  intro lv st M N K K' hK h
  obtain ⟨e0, h1, h⟩ := mm_bif h (fun q => q)
  show (bif Nat.ble (mm_dep (st.map ev)) 8 then _ else False)
  rw [zz_dep_e, e0]
  refine ⟨h1, ?_⟩
  have := hK _ _ _ _ _ h
  rw [eL_none] at this
  exact this
def zo_athr (ci i : Nat) : zz_O := fun lv st M N K => match st with
  | .inr (.inr (some h)) :: r => zsh M h = (1, ci) ∧ K 1 (List.replicate i none) [] M N
  | _ => False
theorem z_athr (ci i : Nat) : zz_ok (zo_athr ci i) (o_athr ci i) := by
  intro lv st M N K K' hK h
  unfold zo_athr at h
  split at h
  · next x r =>
    obtain ⟨e1, h⟩ := h
    show (bif Nat.beq (zsh M x).1 1 && Nat.beq (zsh M x).2 ci then _ else False)
    rw [e1, show (Nat.beq ((1, ci) : Nat × Nat).1 1 && Nat.beq ((1, ci) : Nat × Nat).2 ci) = true from Nat.beq_refl ci]
    have := hK _ _ _ _ _ h
    rw [eL_none] at this
    exact this
  · exact h.elim
def zo_putb (nx ci k : Nat) : zz_O := fun lv st M N K => match st with
  | .inl x :: .inr (.inr (some h)) :: r => zsh M h = (1, ci) ∧ (-128 ≤ x ∧ x ≤ 127) ∧ K (nx + 2) lv r (zz_wI M h k x) N
  | _ => False
theorem z_putb (nx ci k : Nat) : zz_ok (zo_putb nx ci k) (o_putb nx ci k) := by
  intro lv st M N K K' hK h
  unfold zo_putb at h
  split at h
  · next v x r =>
    obtain ⟨e1, e2, h⟩ := h
    show (bif Nat.beq (zsh M x).2 ci && Nat.beq (zsh M x).1 1 then _ else False)
    rw [e1, show (Nat.beq ((1, ci) : Nat × Nat).2 ci && Nat.beq ((1, ci) : Nat × Nat).1 1) = true by rw [show Nat.beq ((1, ci) : Nat × Nat).2 ci = true from Nat.beq_refl ci]; rfl]
    have hf := z_fitb e2.1 e2.2
    refine ⟨⟨hf.2, hf.1⟩, ?_⟩
    rw [eM_wI]
    exact hK _ _ _ _ _ h
  · exact h.elim
