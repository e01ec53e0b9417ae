/-! ===== the script: read as it was at the law's begin ===== -/
set_option maxRecDepth 100000
/-- the handle 1500 stands for the script, of n numbers sc -/
def lw_scr (C : mm_C) (n : Nat) (sc : Nat → Int) : Prop := ((c_M C).1 1500).1 ≠ 0 ∧ ∃ xs : Nat → Int32, va_X (c_ad C 1500) n xs (c_s C) (c_s C).heap ∧ (∀ k, sc k = (xs k).toInt) ∧ ¬ c_A C (c_ad C 1500) ∧ c_ad C 1500 < (c_s C).heap.size ∧ n ≤ 384
def zo_sld (n : Nat) (sc : Nat → Int) (nx : Nat) : zz_O := fun lv st M N K => match st with
  | .inl i :: .inr (.inr (some h)) :: r => bif Nat.beq h 1500 then (0 ≤ i ∧ i < (n : Int)) ∧ K (nx + 2) lv (.inl (sc i.toNat) :: r) M N else False
  | _ => False
def zo_slen (n : Nat) (nx : Nat) : zz_O := fun lv st M N K => match st with
  | .inr (.inr (some h)) :: r => bif Nat.beq h 1500 then K (nx + 2) lv (.inl (n : Int) :: r) M N else False
  | _ => False
section
variable {C : mm_C} {own : String} {cc : ByteArray} {ret : Option FieldType} {nL : Nat} {rm : Room}
theorem ok_sld {n : Nat} {sc : Nat → Int} (G : mm_G C own cc ret nL rm) (hs : lw_scr C n sc) {pc nx : Nat} (hd : decode cc pc = .ok (.iaload, 1)) (hn : pc + 1 = nx) : zz_OK C pc (zo_sld n sc nx) := by
  subst hn
  intro lv st M N K hK h
  unfold zo_sld at h
  split at h
  · next i x r =>
    obtain ⟨e1, hi, h9⟩ := mm_bif h (fun q => q)
    cases mm_beq e1
    obtain ⟨hl, xs, hX, hx, hA, hb, hn⟩ := hs
    have hk : mm_W C (pc + 1) (eL lv) (Value.int (zI (sc i.toNat)) :: r.map ev) (eM M) N := hK _ _ _ _ _ h9
    intro ad H locs ls hS
    have e : ad 1500 = c_ad C 1500 := (hS.1.1 1500 hl).1
    show mm_Wc C H locs N (F0 (c_m C) pc ls (.int (zI i) :: .ref (ad 1500) :: (r.map ev).map (mm_v ad)))
    rw [e]
    have h1 := hk ad H locs ls (hS.st fun k => k.pop.pop.push (mm_vk_i _))
    have hv : zI (sc i.toNat) = xs (zI i).toNatClampNeg := by
      rw [zI_cl hi.1 (by omega), hx]
      unfold zI
      exact Int32.ofInt_toInt _
    have h1 : mm_Wc C H locs N (F0 (c_m C) (pc + 1) ls (.int (zI (sc i.toNat)) :: (r.map ev).map (mm_v ad))) := h1
    rw [hv] at h1
    exact va_sld G.hx G.hb hX hb hA hS.2.2.1 (zI_in hi.1 hi.2 (by omega)) hd h1
  · exact h.elim
theorem ok_slen {n : Nat} {sc : Nat → Int} (G : mm_G C own cc ret nL rm) (hs : lw_scr C n sc) {pc nx : Nat} (hd : decode cc pc = .ok (.arraylength, 1)) (hn : pc + 1 = nx) : zz_OK C pc (zo_slen n nx) := by
  subst hn
  intro lv st M N K hK h
  unfold zo_slen at h
  split at h
  · next x r =>
    obtain ⟨e1, h9⟩ := mm_bif h (fun q => q)
    cases mm_beq e1
    obtain ⟨hl, xs, hX, hx, hA, hb, hn⟩ := hs
    have hk : mm_W C (pc + 1) (eL lv) (Value.int (zI (n : Int)) :: r.map ev) (eM M) N := hK _ _ _ _ _ h9
    intro ad H locs ls hS
    have e : ad 1500 = c_ad C 1500 := (hS.1.1 1500 hl).1
    show mm_Wc C H locs N (F0 (c_m C) pc ls (.ref (ad 1500) :: (r.map ev).map (mm_v ad)))
    rw [e]
    have h1 := hk ad H locs ls (hS.st fun k => k.pop.push (mm_vk_i _))
    have h1 : mm_Wc C H locs N (F0 (c_m C) (pc + 1) ls (.int (zI (n : Int)) :: (r.map ev).map (mm_v ad))) := h1
    have hv : zI (n : Int) = Int32.ofNat n := rfl
    rw [hv] at h1
    exact va_slen G.hx G.hb hX hb hA hS.2.2.1 hd h1
  · exact h.elim
end
