/-! ===== the frame rule once more: what is read only may lie outside the part ===== -/
set_option maxRecDepth 100000
def mm_pt2 (M Ms : mm_M) : Prop :=
  (∀ h, (Ms.1 h).1 ≠ 0 → M.1 h = Ms.1 h ∧ M.2.1 h = Ms.2.1 h ∧ M.2.2.1 h = Ms.2.2.1 h ∧ M.2.2.2 h = Ms.2.2.2 h) ∧ mm_cl0 Ms
theorem mm_pt2.R {M Ms : mm_M} {D : va_G} {aC : Nat → ClassId} {ad : Nat → Nat} {A : Nat → Prop} {H : Heap} (h : mm_pt2 M Ms) (hR : mm_R D aC ad M A H) : mm_R D aC ad Ms A H := by
  have hl : ∀ {x : Nat}, (Ms.1 x).1 ≠ 0 → (M.1 x).1 ≠ 0 := fun {x} hx => by rw [(h.1 x hx).1]; exact hx
  refine ⟨fun x t n hx ht => ?_, fun x y hx hy hx1 hy1 e => hR.2.1 x y (hl hx) (hl hy) (by rw [(h.1 x hx).1]; exact hx1) (by rw [(h.1 y hy).1]; exact hy1) e, h.2⟩
  have h0 : (Ms.1 x).1 ≠ 0 := by rw [hx]; exact ht
  obtain ⟨e1, e2, e3, e4⟩ := h.1 x h0
  obtain ⟨q1, q2, q3⟩ := hR.1 x t n (e1.trans hx) ht
  refine ⟨q1, q2, fun q => ?_⟩
  by_cases h16 : t < 16
  · have q4 := q3 q
    rw [mm_me_lo h16] at q4 ⊢
    exact mm_at_kept q4 rfl rfl e2.symm e3.symm e4.symm (fun _ _ _ => rfl)
  · rw [mm_me_16 (M := Ms) (M' := M) h16]
    exact q3 q
theorem mm_A.sub2 {M Ms : mm_M} {ad : Nat → Nat} {sz : Nat} (h : mm_pt2 M Ms) : ∀ q, mm_A ad Ms sz q → mm_A ad M sz q := by
  rintro q (⟨x, a1, a2, a3⟩ | q)
  · exact Or.inl ⟨x, by rw [(h.1 x a1).1]; exact a1, by rw [(h.1 x a1).1]; exact a2, a3⟩
  · exact Or.inr q
/-- what comes of the memory -/
theorem mm_mgR2 {M Ms Mt : mm_M} {D : va_G} {aC : Nat → ClassId} {ad ad' : Nat → Nat} {s t : State} (h : mm_pt2 M Ms) (hR : mm_R D aC ad M (mm_A ad M s.heap.size) s.heap) (hag : mm_ag Ms ad Mt ad') (hR' : mm_R D aC ad' Mt (mm_A ad Ms s.heap.size) t.heap) (hF : va_F (mm_A ad Ms s.heap.size) s t) (hn : mm_nc M Ms Mt) : ∃ ad2 : Nat → Nat, mm_ag M ad (mm_mg M Ms Mt) ad2 ∧ mm_R D aC ad2 (mm_mg M Ms Mt) (mm_A ad M s.heap.size) t.heap ∧ (∀ b, (Mt.1 b).1 ≠ 0 → ad2 b = ad' b ∧ ((mm_mg M Ms Mt).1 b).1 ≠ 0) := by
  classical
  let ad2 : Nat → Nat := fun b => if (Ms.1 b).1 ≠ 0 ∨ (M.1 b).1 = 0 then ad' b else ad b
  have hl : ∀ {x : Nat}, (Ms.1 x).1 ≠ 0 → (M.1 x).1 ≠ 0 := fun {x} hx => by rw [(h.1 x hx).1]; exact hx
  have mS : ∀ {x : Nat}, ((Ms.1 x).1 ≠ 0 ∨ (M.1 x).1 = 0) → (mm_mg M Ms Mt).1 x = Mt.1 x ∧ (mm_mg M Ms Mt).2.1 x = Mt.2.1 x ∧ (mm_mg M Ms Mt).2.2.1 x = Mt.2.2.1 x ∧ (mm_mg M Ms Mt).2.2.2 x = Mt.2.2.2 x ∧ ad2 x = ad' x := fun hx => ⟨if_pos hx, if_pos hx, if_pos hx, if_pos hx, if_pos hx⟩
  have mM : ∀ {x : Nat}, ¬ ((Ms.1 x).1 ≠ 0 ∨ (M.1 x).1 = 0) → (mm_mg M Ms Mt).1 x = M.1 x ∧ (mm_mg M Ms Mt).2.1 x = M.2.1 x ∧ (mm_mg M Ms Mt).2.2.1 x = M.2.2.1 x ∧ (mm_mg M Ms Mt).2.2.2 x = M.2.2.2 x ∧ ad2 x = ad x := fun hx => ⟨if_neg hx, if_neg hx, if_neg hx, if_neg hx, if_neg hx⟩
  have hT : ∀ {b : Nat}, (Mt.1 b).1 ≠ 0 → ad2 b = ad' b ∧ ((mm_mg M Ms Mt).1 b).1 ≠ 0 := by
    intro b hb
    have q := mS (hn b hb)
    exact ⟨q.2.2.2.2, by rw [q.1]; exact hb⟩
  have hA : ∀ {b : Nat}, (M.1 b).1 ≠ 0 → ad2 b = ad b ∧ ((mm_mg M Ms Mt).1 b).1 ≠ 0 ∧ (mm_mg M Ms Mt).1 b = M.1 b := by
    intro b hb
    by_cases hs : (Ms.1 b).1 ≠ 0 ∨ (M.1 b).1 = 0
    · have hs2 : (Ms.1 b).1 ≠ 0 := hs.resolve_right hb
      have q := mS hs
      obtain ⟨a1, a2⟩ := hag.1 b hs2
      exact ⟨q.2.2.2.2.trans a1, by rw [q.1, a2]; exact hs2, by rw [q.1, a2, (h.1 b hs2).1]⟩
    · have q := mM hs
      exact ⟨q.2.2.2.2, by rw [q.1]; exact hb, q.1⟩
  -- a cell of the rest is apart from the part's
  have apart : ∀ {x : Nat}, ¬ ((Ms.1 x).1 ≠ 0 ∨ (M.1 x).1 = 0) → (M.1 x).1 < 48 → ¬ mm_A ad Ms s.heap.size (ad x) := by
    intro x hx h48
    have hx0 : (M.1 x).1 ≠ 0 := fun q => hx (Or.inr q)
    by_cases hx16 : (M.1 x).1 < 16
    · rintro (⟨y, a1, a2, a3⟩ | q)
      · have e := hR.2.1 y x (hl a1) hx0 (by rw [(h.1 y a1).1]; exact a2) hx16 a3
        exact hx (Or.inl (by rw [← e]; exact a1))
      · exact absurd (hR.lt hx0 h48) (by omega)
    · exact fun q => ((hR.1 x _ _ rfl hx0).2.1 hx16 h48).1 (mm_A.sub2 h _ q)
  refine ⟨ad2, ⟨fun x hx => ⟨(hA hx).1, (hA hx).2.2⟩, fun x hx => ?_⟩, ⟨fun x t' n' hx ht0 => ?_, fun x y hx hy hx1 hy1 e => ?_, fun x k b hx hb => ?_⟩, fun b hb => hT hb⟩
  · by_cases hs : (Ms.1 x).1 ≠ 0 ∨ (M.1 x).1 = 0
    · rw [(mS hs).1] at hx
      exact hl (hag.2 x hx)
    · exact fun q => hs (Or.inr q)
  · by_cases hs : (Ms.1 x).1 ≠ 0 ∨ (M.1 x).1 = 0
    · obtain ⟨e1, e2, e3, e4, e5⟩ := mS hs
      rw [e1] at hx
      have hl0 : (Mt.1 x).1 ≠ 0 := by rw [hx]; exact ht0
      obtain ⟨q1, q2, q3⟩ := hR'.1 x t' n' hx ht0
      refine ⟨fun q => by rw [e5]; exact mm_A.sub2 h _ (q1 q), fun q r => ?_, fun q => ?_⟩
      · have hs2 := hag.2 x (by rw [hx]; exact q)
        obtain ⟨a1, a2⟩ := hag.1 x hs2
        have := (hR.1 x t' n' (by rw [(h.1 x hs2).1, ← a2]; exact hx) ht0).2.1 q r
        rw [e5, a1]
        exact ⟨this.1, Nat.lt_of_lt_of_le this.2 hF.1⟩
      · by_cases h16 : t' < 16
        · have q4 := q3 q
          rw [mm_me_lo h16] at q4 ⊢
          exact mm_at_kept q4 e5 rfl e2 e3 e4 (fun k b hb => (hT (hR'.2.2 x k b hl0 (by rw [hx, mm_me_lo h16]; exact hb))).1)
        · have q4 := q3 q
          rw [mm_me_hi h16] at q4 ⊢
          exact mm_at_kept q4 e5 rfl rfl rfl rfl (fun k b hb => (hT (hR'.2.2 x k b hl0 (by rw [hx, mm_me_hi h16]; exact hb))).1)
    · obtain ⟨e1, e2, e3, e4, e5⟩ := mM hs
      rw [e1] at hx
      have hx0 : (M.1 x).1 ≠ 0 := by rw [hx]; exact ht0
      obtain ⟨q1, q2, q3⟩ := hR.1 x t' n' hx ht0
      refine ⟨fun q => by rw [e5]; exact q1 q, fun q r => by rw [e5]; exact ⟨(q2 q r).1, Nat.lt_of_lt_of_le (q2 q r).2 hF.1⟩, fun q => ?_⟩
      have q4 := q3 q
      have h48 : (M.1 x).1 < 48 := by rw [hx]; show t' < 48; omega
      by_cases h16 : t' < 16
      · rw [mm_me_lo h16] at q4 ⊢
        exact mm_at_kept q4 e5 (mm_hn_at (hF.2 _ (hR.lt hx0 h48) (apart hs h48))) e2 e3 e4 (fun k b hb => (hA (hR.2.2 x k b hx0 (by rw [hx, mm_me_lo h16]; exact hb))).1)
      · rw [mm_me_hi h16] at q4 ⊢
        exact mm_at_kept q4 e5 (mm_hn_at (hF.2 _ (hR.lt hx0 h48) (apart hs h48))) rfl rfl rfl (fun k b hb => (hA (hR.2.2 x k b hx0 (by rw [hx, mm_me_hi h16]; exact hb))).1)
  · by_cases hsx : (Ms.1 x).1 ≠ 0 ∨ (M.1 x).1 = 0
    · have ex := mS hsx
      rw [ex.1] at hx hx1
      by_cases hsy : (Ms.1 y).1 ≠ 0 ∨ (M.1 y).1 = 0
      · have ey := mS hsy
        rw [ey.1] at hy hy1
        exact hR'.2.1 x y hx hy hx1 hy1 (by rw [← ex.2.2.2.2, ← ey.2.2.2.2]; exact e)
      · have ey := mM hsy
        exact absurd ((hR'.1 x _ _ rfl hx).1 hx1) (by rw [← ex.2.2.2.2, e, ey.2.2.2.2]; exact apart hsy (by rw [ey.1] at hy1; exact Nat.lt_of_lt_of_le hy1 (by decide)))
    · have ex := mM hsx
      rw [ex.1] at hx hx1
      by_cases hsy : (Ms.1 y).1 ≠ 0 ∨ (M.1 y).1 = 0
      · have ey := mS hsy
        rw [ey.1] at hy hy1
        exact absurd ((hR'.1 y _ _ rfl hy).1 hy1) (by rw [← ey.2.2.2.2, ← e, ex.2.2.2.2]; exact apart hsx (Nat.lt_of_lt_of_le hx1 (by decide)))
      · have ey := mM hsy
        rw [ey.1] at hy hy1
        exact hR.2.1 x y hx hy hx1 hy1 (by rw [← ex.2.2.2.2, ← ey.2.2.2.2]; exact e)
  · by_cases hs : (Ms.1 x).1 ≠ 0 ∨ (M.1 x).1 = 0
    · obtain ⟨e1, e2, e3, e4, e5⟩ := mS hs
      rw [e1] at hx hb
      refine (hT (hR'.2.2 x k b hx ?_)).2
      by_cases h16 : (Mt.1 x).1 < 16
      · rw [mm_me_lo h16, e4] at hb
        rw [mm_me_lo h16]
        exact hb
      · rw [mm_me_hi h16] at hb ⊢
        exact hb
    · obtain ⟨e1, e2, e3, e4, e5⟩ := mM hs
      rw [e1] at hx hb
      refine (hA (hR.2.2 x k b hx ?_)).2.1
      by_cases hx16 : (M.1 x).1 < 16
      · rw [mm_me_lo hx16, e4] at hb
        rw [mm_me_lo hx16]
        exact hb
      · rw [mm_me_hi hx16] at hb ⊢
        exact hb
