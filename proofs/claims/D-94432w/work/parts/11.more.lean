/-! ===== more transformers: bytes, references in arrays, lengths, statics, String constants, small returns ===== -/
set_option maxRecDepth 100000
def o_gsq (nx : Nat) : mm_O := fun lv st M N K => K (nx + 2) lv (.null :: st) M N ∧ K (nx + 2) lv (.ref 1302 :: st) M N
def o_bret : mm_O := fun lv st M N K => match st with
  | [.int x] => narrow .byte (.int x) = .int x ∧ K 0 lv [.int x] M N
  | _ => False
def o_cret : mm_O := fun lv st M N K => match st with
  | [.int x] => narrow .char (.int x) = .int x ∧ K 0 lv [.int x] M N
  | _ => False
section MMB
variable {C : mm_C} {own : String} {cc : ByteArray} {ret : Option FieldType} {nL : Nat} {rm : Room}
theorem ok_gs (G : mm_G C own cc ret nL rm) {pc nx idx : Nat} {c n d : String} {v : Value} (hin : (c, n, d, v) ∈ mm_sta) (hw : Cond.fieldLink own idx c n d ∈ lw_all) (hd : decode cc pc = .ok (.getstatic idx, 3)) (hn : pc + 3 = nx) : mm_OK C pc (o_c nx v) := by
  subst hn
  intro lv st M N K hK h ad H locs ls hS
  have h1 : mm_W C (pc + 3) lv (v :: st) M N := hK _ _ _ _ _ h
  have hl : ∀ q ∈ mm_sta, ∀ b, q.2.2.2 = .ref b → 1000 ≤ b ∧ b < 1400 ∧ (mm_cS b).1 ≠ 0 := by
    intro q hq b e
    simp only [mm_sta, List.mem_cons, List.not_mem_nil, or_false] at hq
    rcases hq with r | r | r <;> rw [r] at e <;> cases e <;> decide
  have hvk : mm_vk M v := by
    intro b e
    obtain ⟨q1, q2, q3⟩ := hl _ hin b e
    have e1 := G.hc b q1 q2 q3
    have hne : ((c_M C).1 b).1 ≠ 0 := by rw [e1]; exact q3
    rw [(hS.1.1 b hne).2]
    exact hne
  have hZ := G.hX.1.2.1 _ hin
  have ev : mm_v ad v = mm_v (c_ad C) v := mm_v_eq (M := c_M C) (by
    intro b e
    obtain ⟨q1, q2, q3⟩ := hl _ hin b e
    rw [G.hc b q1 q2 q3]
    exact q3) (fun b hb => (hS.1.1 b hb).1)
  have h2 := h1 ad H locs ls (hS.st fun k => k.push hvk)
  rw [List.map_cons, ev] at h2
  exact va_gets G.hx G.hb hZ hS.2.2.1 G.ho (G.ht _ hw) (fun _ h => h) hd h2
theorem ok_gsq (G : mm_G C own cc ret nL rm) {pc nx idx : Nat} (hw : Cond.fieldLink own idx "jdk/internal/util/Preconditions" "SIOOBE_FORMATTER" "Ljava/util/function/BiFunction;" ∈ lw_all) (hd : decode cc pc = .ok (.getstatic idx, 3)) (hn : pc + 3 = nx) : mm_OK C pc (o_gsq nx) := by
  subst hn
  intro lv st M N K hK h ad H locs ls hS
  obtain ⟨ha, hb⟩ := h
  rcases G.hX.1.2.2.2.2 with hZ | hZ
  · have h1 : mm_W C (pc + 3) lv (.null :: st) M N := hK _ _ _ _ _ ha
    exact va_gets G.hx G.hb hZ hS.2.2.1 G.ho (G.ht _ hw) (fun _ h => h) hd (h1 ad H locs ls (hS.st fun k => k.push mm_vk_n))
  · have h1 : mm_W C (pc + 3) lv (.ref 1302 :: st) M N := hK _ _ _ _ _ hb
    have hne : ((c_M C).1 1302).1 ≠ 0 := by rw [G.hc 1302 (by decide) (by decide) (by decide)]; decide
    have hvk : mm_vk M (.ref 1302) := by
      intro b e
      cases e
      rw [(hS.1.1 1302 hne).2]
      exact hne
    have h2 := h1 ad H locs ls (hS.st fun k => k.push hvk)
    have e1 : mm_v ad (.ref 1302) = .ref (c_ad C 1302) := by
      show Value.ref _ = Value.ref _
      rw [(hS.1.1 1302 hne).1]
    rw [List.map_cons, e1] at h2
    exact va_gets G.hx G.hb hZ hS.2.2.1 G.ho (G.ht _ hw) (fun _ h => h) hd h2
theorem ok_lds (G : mm_G C own cc ret nL rm) {pc nx idx hh : Nat} {tx : String} (hin : (own, idx, tx, hh) ∈ mm_str) (hd : decode cc pc = .ok (.ldc idx, 2)) (hn : pc + 2 = nx) : mm_OK C pc (o_c nx (.ref hh)) := by
  subst hn
  intro lv st M N K hK h ad H locs ls hS
  have h1 : mm_W C (pc + 2) lv (.ref hh :: st) M N := hK _ _ _ _ _ h
  have hl : ∀ q ∈ mm_str, 1000 ≤ q.2.2.2 ∧ q.2.2.2 < 1400 ∧ (mm_cS q.2.2.2).1 ≠ 0 := by decide +kernel
  obtain ⟨q1, q2, q3⟩ := hl _ hin
  have hne : ((c_M C).1 hh).1 ≠ 0 := by rw [G.hc hh q1 q2 q3]; exact q3
  have hvk : mm_vk M (.ref hh) := by
    intro b e
    cases e
    rw [(hS.1.1 hh hne).2]
    exact hne
  have h2 := h1 ad H locs ls (hS.st fun k => k.push hvk)
  have e1 : mm_v ad (.ref hh) = .ref (c_ad C hh) := by
    show Value.ref _ = Value.ref _
    rw [(hS.1.1 hh hne).1]
  rw [List.map_cons, e1] at h2
  exact va_ldcS G.hx G.hb G.ho (G.hX.1.1 _ hin) hd h2
theorem ok_bret (G : mm_G C own cc (some .byte) nL rm) {pc : Nat} (hd : decode cc pc = .ok (.ireturn, 1)) : mm_OK C pc o_bret := by
  intro lv st M N K hK h ad H locs ls hS
  unfold o_bret at h
  split at h
  · next x =>
    obtain ⟨h0, h⟩ := h
    obtain ⟨h1, h2, h3⟩ := hK _ _ _ _ _ h
    refine W.widen h2 h3 (vx_ret ?_)
    exact W.zret (v := x) G.hx G.hb G.hr h0 (fun t ht _ => mm_retq (v := some (.int x)) hS (fun w e => by cases e; exact mm_vk_i _) h1 ht) hS.2.2.1.2.2 hd G.hlk
  · exact h.elim
theorem ok_cret (G : mm_G C own cc (some .char) nL rm) {pc : Nat} (hd : decode cc pc = .ok (.ireturn, 1)) : mm_OK C pc o_cret := by
  intro lv st M N K hK h ad H locs ls hS
  unfold o_cret at h
  split at h
  · next x =>
    obtain ⟨h0, h⟩ := h
    obtain ⟨h1, h2, h3⟩ := hK _ _ _ _ _ h
    refine W.widen h2 h3 (vx_ret ?_)
    exact W.zret (v := x) G.hx G.hb G.hr h0 (fun t ht _ => mm_retq (v := some (.int x)) hS (fun w e => by cases e; exact mm_vk_i _) h1 ht) hS.2.2.1.2.2 hd G.hlk
  · exact h.elim
theorem mm_ty_at (aC : Nat → ClassId) : ∀ t, 2 ≤ t → t ≤ 8 → ∃ ty, (mm_tys aC)[t - 2]? = some (aC t, ty) ∧ (6 ≤ t → ty.isReference = true)
  | 2, _, _ => ⟨_, rfl, by decide⟩
  | 3, _, _ => ⟨_, rfl, by decide⟩
  | 4, _, _ => ⟨_, rfl, by decide⟩
  | 5, _, _ => ⟨_, rfl, by decide⟩
  | 6, _, _ => ⟨_, rfl, fun _ => rfl⟩
  | 7, _, _ => ⟨_, rfl, fun _ => rfl⟩
  | 8, _, _ => ⟨_, rfl, fun _ => rfl⟩
  | 0, h, _ => absurd h (by decide)
  | 1, h, _ => absurd h (by decide)
  | n + 9, _, h => absurd h (by omega)
theorem mm_isarrK (G : mm_G C own cc ret nL rm) (k : Nat) {cA : ClassId} {ty : FieldType} (h : (mm_tys (c_aC C))[k]? = some (cA, ty)) {c : Cell} (hc : c.cls = cA) (hs : c.vm.isStatics = false) : (c_s C).isArrayOf c ty := by
  obtain ⟨-, q⟩ := mm_isarr G k h 0 (fun _ => .null)
  refine ⟨fun z hz => ?_, ?_⟩
  · rw [hz] at hs
    cases hs
  · rw [hc]
    exact q
theorem mm_lk.of {H : Heap} {a : Nat} {cA : ClassId} {n : Nat} {f : Nat → Value} (h : H[a]? = some (arrV cA n f)) : mm_lk H a (arrV cA n f) := ⟨_, h, rfl, rfl, (fun q => by cases q), rfl⟩
theorem ok_alen (G : mm_G C own cc ret nL rm) {pc nx : Nat} (hd : decode cc pc = .ok (.arraylength, 1)) (hn : pc + 1 = nx) : mm_OK C pc (o_alen nx) := by
  subst hn
  intro lv st M N K hK h ad H locs ls hS
  unfold o_alen at h
  split at h
  · next x rest =>
    obtain ⟨e1, e2, h⟩ := mm_and2 h (fun q => q)
    rw [Bool.and_eq_true] at e2
    have e1 := Nat.le_of_ble_eq_true e1
    have e3 := Nat.le_of_ble_eq_true e2.1
    have e4 := Nat.le_of_ble_eq_true e2.2
    have h1 : mm_W C (pc + 1) lv (.int (nI (M.1 x).2) :: rest) M N := hK _ _ _ _ _ h
    obtain ⟨ty, ht, -⟩ := mm_ty_at (c_aC C) ((M.1 x).1 % 16) e1 e3
    have hcell : ∃ f : Nat → Value, mm_lk H (ad x) (arrV (c_aC C ((M.1 x).1 % 16)) (M.1 x).2 f) := by
      by_cases h16 : (M.1 x).1 < 16
      · have e5 : (M.1 x).1 % 16 = (M.1 x).1 := Nat.mod_eq_of_lt h16
        have q := hS.2.1.cell (h := x) (by omega) h16
        rw [e5]
        exact ⟨_, mm_lk.of (mm_at_arr (by omega) q)⟩
      · have q := hS.2.1.cellK (h := x) h16 (by omega)
        exact ⟨_, mm_hK_at (mm_at_arr (by omega) q) rfl⟩
    obtain ⟨f, cx, hf, k2, k3, k4, k5⟩ := hcell
    exact W.alen (n := nI (M.1 x).2) G.hx G.hb hf (mm_isarrK G _ ht k2 k5) (by rw [k3, arrV_size]; rfl) rfl rfl hd (h1 ad H locs ls (hS.st fun k => k.pop.push (mm_vk_i _)))
  · exact h.elim
theorem ok_bald (G : mm_G C own cc ret nL rm) {pc nx : Nat} (hd : decode cc pc = .ok (.baload, 1)) (hn : pc + 1 = nx) : mm_OK C pc (o_bald nx) := by
  subst hn
  intro lv st M N K hK h ad H locs ls hS
  unfold o_bald at h
  split at h
  · next i x rest =>
    have key : ∀ (t : Nat) (f : Nat → Int32), (t = 4 ∨ t = 5) → mm_lk H (ad x) (arrV (c_aC C t) (M.1 x).2 (fun j => .int (f j))) → vp_in i (M.1 x).2 → K (pc + 1 + 2) lv (.int (f i.toNatClampNeg) :: rest) M N → mm_Wc C H locs N (F0 (c_m C) pc ls ((.int i :: .ref x :: rest : List Value).map (mm_v ad))) := by
      intro t f ht hcell hin hk
      obtain ⟨cx, hcell, k2, k3, k4, k5⟩ := hcell
      have h1 : mm_W C (pc + 1) lv (.int (f i.toNatClampNeg) :: rest) M N := hK _ _ _ _ _ hk
      have hlt : i.toNatClampNeg < (M.1 x).2 := Nat.not_le.mp fun q => hin (Or.inr q)
      rcases ht with rfl | rfl
      · exact W.bald (v := .int (f i.toNatClampNeg)) G.hx G.hb hcell (mm_isarrK G 2 rfl k2 k5) k4 (by rw [k3, arrV_size]; exact hin) (by rw [k3, arrV_read _ _ hlt]) rfl rfl hd (h1 ad H locs ls (hS.st fun k => k.pop.pop.push (mm_vk_i _)))
      · exact W.zald (v := .int (f i.toNatClampNeg)) G.hx G.hb hcell (mm_isarrK G 3 rfl k2 k5) k4 (by rw [k3, arrV_size]; exact hin) (by rw [k3, arrV_read _ _ hlt]) rfl rfl hd (h1 ad H locs ls (hS.st fun k => k.pop.pop.push (mm_vk_i _)))
    cases hz : (Nat.beq (M.1 x).1 4 || Nat.beq (M.1 x).1 5) with
    | true =>
      rw [hz, cond_true] at h
      rw [Bool.or_eq_true] at hz
      rcases hz with hz | hz
      · have e := mm_beq hz
        have q := hS.2.1.cell (h := x) (by rw [e]; decide) (by rw [e]; decide)
        rw [e] at q
        exact key 4 (M.2.1 x) (Or.inl rfl) (mm_lk.of (mm_at_arr (by decide) q)) h.1 h.2
      · have e := mm_beq hz
        have q := hS.2.1.cell (h := x) (by rw [e]; decide) (by rw [e]; decide)
        rw [e] at q
        exact key 5 (M.2.1 x) (Or.inr rfl) (mm_lk.of (mm_at_arr (by decide) q)) h.1 h.2
    | false =>
      rw [hz, cond_false] at h
      obtain ⟨e, h⟩ := mm_bif h (fun q => q)
      have e := mm_beq e
      have q := hS.2.1.cellK (h := x) (by rw [e]; decide) (by rw [e]; decide)
      rw [e] at q
      exact key 4 (mm_kI x) (Or.inl rfl) (mm_hK_at (mm_at_arr (by decide) q) rfl) h.1 h.2
  · exact h.elim
theorem mm_wrb (G : mm_G C own cc ret nL rm) {pc : Nat} (hd : decode cc pc = .ok (.bastore, 1)) {lv : mm_L} {rest : List Value} {M : mm_M} {N : mm_N} {i v : Int32} {x t : Nat} {ty : FieldType} (ht : (t = 4 ∧ ty = .byte) ∨ (t = 5 ∧ ty = .boolean)) (e2 : (M.1 x).1 = t) (hin : vp_in i (M.1 x).2) (h1 : mm_W C (pc + 1) lv rest (mm_wI M x i.toNatClampNeg (vp_nar ty v)) N) : mm_W C pc lv (.int v :: .int i :: .ref x :: rest) M N := by
  intro ad H locs ls hS
  have ht1 : t ≠ 0 ∧ t < 16 ∧ t ≠ 1 := by omega
  have hcell := hS.2.1.cell (h := x) (by rw [e2]; exact ht1.1) (by rw [e2]; exact ht1.2.1)
  rw [e2] at hcell
  have hcell := mm_at_arr ht1.2.2 hcell
  have hAx : c_A C (ad x) := (hS.2.1.1 x _ _ rfl (by rw [e2]; exact ht1.1)).1 (by rw [e2]; exact ht1.2.1)
  have fin : ∀ (H1 : Heap), H1[ad x]? = some ((arrV (c_aC C t) (M.1 x).2 (fun j => mm_v ad (mm_ea M x t j))).setSlot i.toNatClampNeg (narrow ty (.int v))) → H1.size = H.size → (∀ q, q ≠ ad x → H1[q]? = H[q]?) → mm_Wc C H1 (locs ++ [⟨ad x, i.toNatClampNeg⟩]) N (F0 (c_m C) (pc + 1) ls (rest.map (mm_v ad))) := by
    intro H1 e z oq
    refine h1 ad H1 _ ls (hS.mem rfl (hS.2.1.write (h := x) (by rw [e2]; exact ht1.1) (by rw [e2]; exact ht1.2.1) rfl (fun a ha => mm_up_n _ _ _ ha) (fun _ _ => rfl) (fun _ _ => rfl) ?_ z oq (fun k b hb => hS.2.1.2.2 x k b (by rw [e2]; exact ht1.1) (by rw [e2, mm_me_lo ht1.2.1]; exact hb))) (hS.2.2.1.put z oq hAx) hS.2.2.2.2.2.1.pop.pop.pop)
    rw [e2]
    refine mm_at_mk ht1.2.2 ?_
    have en : narrow ty (.int v) = .int (vp_nar ty v) := by
      rcases ht with ⟨-, rfl⟩ | ⟨-, rfl⟩ <;> rfl
    rw [e, en, arrV_store, mm_ea_wI (by omega)]
  rcases ht with ⟨rfl, rfl⟩ | ⟨rfl, rfl⟩
  · exact W.bast G.hx G.hb hcell (mm_isarr G 2 rfl _ _) (fun q => by cases q) (by rw [arrV_size]; exact hin) rfl rfl hd fin
  · exact W.zast G.hx G.hb hcell (mm_isarr G 3 rfl _ _) (fun q => by cases q) (by rw [arrV_size]; exact hin) rfl rfl hd fin
theorem ok_bast (G : mm_G C own cc ret nL rm) {pc nx : Nat} (hd : decode cc pc = .ok (.bastore, 1)) (hn : pc + 1 = nx) : mm_OK C pc (o_bast nx) := by
  subst hn
  intro lv st M N K hK h
  unfold o_bast at h
  split at h
  · next v i x rest =>
    cases hz : Nat.beq (M.1 x).1 4 with
    | true =>
      rw [hz, cond_true] at h
      exact mm_wrb G hd (Or.inl ⟨rfl, rfl⟩) (mm_beq hz) h.1 (hK _ _ _ _ _ h.2)
    | false =>
      rw [hz, cond_false] at h
      obtain ⟨e, h⟩ := mm_bif h (fun q => q)
      exact mm_wrb G hd (Or.inr ⟨rfl, rfl⟩) (mm_beq e) h.1 (hK _ _ _ _ _ h.2)
  · exact h.elim
theorem ok_aald (G : mm_G C own cc ret nL rm) {pc nx : Nat} (hd : decode cc pc = .ok (.aaload, 1)) (hn : pc + 1 = nx) : mm_OK C pc (o_aald nx) := by
  subst hn
  intro lv st M N K hK h ad H locs ls hS
  unfold o_aald at h
  split at h
  · next i x rest =>
    obtain ⟨e, hin, h⟩ := mm_bif h (fun q => q)
    rw [Bool.or_eq_true, Bool.or_eq_true] at e
    have e : (M.1 x).1 = 6 ∨ (M.1 x).1 = 7 ∨ (M.1 x).1 = 8 := by
      rcases e with (e | e) | e
      · exact Or.inl (mm_beq e)
      · exact Or.inr (Or.inl (mm_beq e))
      · exact Or.inr (Or.inr (mm_beq e))
    have h1 : mm_W C (pc + 1) lv (va_rf (M.2.2.2 x i.toNatClampNeg) :: rest) M N := hK _ _ _ _ _ h
    have hlt : i.toNatClampNeg < (M.1 x).2 := Nat.not_le.mp fun q => hin (Or.inr q)
    obtain ⟨ty, ht, hty⟩ := mm_ty_at (c_aC C) ((M.1 x).1) (by omega) (by omega)
    have q := hS.2.1.cell (h := x) (by omega) (by omega)
    have q := mm_at_arr (by omega) q
    have ee : ∀ j, mm_ea M x (M.1 x).1 j = va_rf (M.2.2.2 x j) := by
      intro j
      rcases e with e | e | e <;> rw [e] <;> rfl
    have hvk : mm_vk M (va_rf (M.2.2.2 x i.toNatClampNeg)) := by
      intro b eb
      cases hq : M.2.2.2 x i.toNatClampNeg with
      | none => rw [hq] at eb; cases eb
      | some y =>
        rw [hq] at eb
        cases eb
        exact hS.2.1.2.2 x _ b (by omega) (by rw [mm_me_lo (by omega)]; exact hq)
    exact W.aald (v := mm_v ad (va_rf (M.2.2.2 x i.toNatClampNeg))) G.hx G.hb q (mm_isarr G _ ht _ _) (hty (by omega)) (fun q => by cases q) (by rw [arrV_size]; exact hin) (by rw [arrV_read _ _ hlt, ee]) rfl rfl hd (h1 ad H locs ls (hS.st fun k => k.pop.pop.push hvk))
  · exact h.elim
end MMB
