/-! ===== memory seen anew: handles by other names, some forgotten ===== -/
set_option maxRecDepth 100000
/-- a place whose reference counts -/
def mm_rel (r : Nat × Nat) (k : Nat) : Prop := (r.1 = 1 ∧ ∃ c : vw_C, mm_cl[r.2]? = some c ∧ k < c.2.2 ∧ mm_kd r.2 k = 2) ∨ ((r.1 = 6 ∨ r.1 = 7 ∨ r.1 = 8) ∧ k < r.2)
theorem arrV_c {c : ClassId} {n : Nat} {f g : Nat → Value} (h : ∀ j, j < n → f j = g j) : arrV c n f = arrV c n g := by
  unfold arrV
  have : (fun j : Fin n => f j.val) = fun j => g j.val := funext fun j => h j.val j.isLt
  rw [this]
theorem mm_kind_2 (ty : FieldType) : mm_kind ty = 0 ∨ mm_kind ty = 1 ∨ mm_kind ty = 2 := by
  unfold mm_kind
  split
  · exact Or.inr (Or.inl rfl)
  · exact Or.inr (Or.inr rfl)
  · exact Or.inr (Or.inr rfl)
  · exact Or.inl rfl
theorem mm_at_view {D : va_G} {aC : Nat → ClassId} {ad : Nat → Nat} {M M' : mm_M} {π : Nat → Nat} {h t n : Nat} {H : Heap} (q : mm_at D aC ad M (π h) t n H) (hI : M'.2.1 h = M.2.1 (π h)) (hJ : M'.2.2.1 h = M.2.2.1 (π h)) (hP : ∀ k, mm_rel (t, n) k → (M'.2.2.2 h k).map π = M.2.2.2 (π h) k) : mm_at D aC (fun x => ad (π x)) M' h t n H := by
  have hr : ∀ k, mm_rel (t, n) k → mm_v (fun x => ad (π x)) (va_rf (M'.2.2.2 h k)) = mm_v ad (va_rf (M.2.2.2 (π h) k)) := by
    intro k hk
    rw [← hP k hk]
    cases M'.2.2.2 h k <;> rfl
  by_cases ht : t = 1
  · subst ht
    obtain ⟨r, a1, a2⟩ := mm_at_obj q
    refine mm_at_mko ⟨r, a1, ?_⟩
    refine t_OB.to a2 (fun k hk => ?_)
    have h3 := mm_kind_2 (mm_ty n k)
    unfold mm_fa
    rw [hI, hJ]
    rcases h3 with e | e | e
    · rw [show mm_kd n k = 0 from e]
      rfl
    · rw [show mm_kd n k = 1 from e]
      rfl
    · rw [show mm_kd n k = 2 from e]
      exact (hr k (Or.inl ⟨rfl, r, a1, hk, e⟩)).symm
  · refine mm_at_mk ht ?_
    refine (mm_at_arr ht q).trans (congrArg some (arrV_c fun j hj => ?_))
    unfold mm_ea
    rw [hI, hJ]
    split
    · rfl
    · exact (hr j (Or.inr ⟨Or.inl rfl, hj⟩)).symm
    · exact (hr j (Or.inr ⟨Or.inr (Or.inl rfl), hj⟩)).symm
    · exact (hr j (Or.inr ⟨Or.inr (Or.inr rfl), hj⟩)).symm
    · rfl
theorem mm_v_pi {ad : Nat → Nat} {π : Nat → Nat} {v : Value} (h : mm_v π v = v) : mm_v (fun x => ad (π x)) v = mm_v ad v := by
  cases v with
  | ref b =>
    have e : π b = b := by
      have : Value.ref (π b) = Value.ref b := h
      exact Value.ref.inj this
    show Value.ref (ad (π b)) = Value.ref (ad b)
    rw [e]
  | _ => rfl
/-- the run goes on, its memory seen anew: h stands for what π h stood for -/
theorem mm_W.view {C : mm_C} {pc : Nat} {lv : mm_L} {st : List Value} {M M' : mm_M} {N : mm_N} (π : Nat → Nat) (h1 : ∀ h, (M'.1 h).1 ≠ 0 → M'.1 h = M.1 (π h)) (h16 : ∀ h, ¬ (M'.1 h).1 < 16 → π h = h) (h2 : ∀ h, (M'.1 h).1 ≠ 0 → (M'.1 h).1 < 16 → M'.2.1 h = M.2.1 (π h) ∧ M'.2.2.1 h = M.2.2.1 (π h) ∧ ∀ k, mm_rel (M'.1 h) k → (M'.2.2.2 h k).map π = M.2.2.2 (π h) k) (h3 : mm_cl0 M → mm_cl0 M') (hk : ∀ h k b, ¬ (M'.1 h).1 < 16 → mm_kP h k = some b → π b = b) (h5 : ∀ h h', (M'.1 h).1 ≠ 0 → (M'.1 h').1 ≠ 0 → (M'.1 h).1 < 16 → (M'.1 h').1 < 16 → π h = π h' → h = h') (h6 : ∀ h, ((c_M C).1 h).1 ≠ 0 → M'.1 h = M.1 h ∧ π h = h) (h7 : ∀ v ∈ st, mm_vk M' v ∧ mm_v π v = v) (h8 : ∀ (i : Nat) (v : Value), lv[i]? = some (some v) → mm_vk M' v ∧ mm_v π v = v) (h : mm_W C pc lv st M' N) : mm_W C pc lv st M N := by
  intro ad H locs ls hS
  obtain ⟨hag, hR, hV, hlv, hsz, -, hN1, hN2⟩ := hS
  have est : st.map (mm_v fun x => ad (π x)) = st.map (mm_v ad) := List.map_congr_left fun v hv => mm_v_pi (h7 v hv).2
  have := h (fun x => ad (π x)) H locs ls ⟨⟨fun x hx => ?_, fun x hx => ?_⟩, ⟨fun x t n hx ht => ?_, fun x y hx hy hx1 hy1 e => ?_, h3 hR.2.2⟩, hV, ⟨hlv.1, hlv.2.1, fun i v hv => ?_⟩, hsz, ⟨fun v hv => (h7 v hv).1, fun i v hv => (h8 i v hv).1⟩, hN1, hN2⟩
  · rw [est] at this
    exact this
  · obtain ⟨e1, e2⟩ := h6 x hx
    exact ⟨by show ad (π x) = _; rw [e2]; exact (hag.1 x hx).1, e1.trans (hag.1 x hx).2⟩
  · have e1 := h1 x (fun e => hx (by rw [e]; decide))
    rw [h16 x hx] at e1
    exact hag.2 x (by rw [← e1]; exact hx)
  · have h0 : (M'.1 x).1 ≠ 0 := by rw [hx]; exact ht
    have e1 := h1 x h0
    obtain ⟨q1, q2, q3⟩ := hR.1 (π x) t n (by rw [← e1]; exact hx) ht
    refine ⟨q1, q2, fun q => ?_⟩
    by_cases h9 : t < 16
    · obtain ⟨e2, e3, e4⟩ := h2 x h0 (by rw [hx]; exact h9)
      have q4 := q3 q
      rw [mm_me_lo h9] at q4 ⊢
      have et : t % 16 = t := Nat.mod_eq_of_lt h9
      rw [et] at q4 ⊢
      exact mm_at_view q4 e2 e3 (fun k hk => e4 k (by rw [hx]; exact hk))
    · have ex : π x = x := h16 x (by rw [hx]; exact h9)
      have q4 := q3 q
      rw [mm_me_hi h9] at q4 ⊢
      refine mm_at_view (M := mm_kM) (π := π) q4 (by rw [ex]) (by rw [ex]) (fun k _ => ?_)
      rw [ex]
      cases hb : mm_kM.2.2.2 x k with
      | none => rfl
      | some b => show some (π b) = some b; rw [hk x k b (by rw [hx]; exact h9) hb]
  · rw [h1 x hx] at hx1
    rw [h1 y hy] at hy1
    exact h5 x y hx hy (by rw [h1 x hx]; exact hx1) (by rw [h1 y hy]; exact hy1) (hR.2.1 (π x) (π y) (by rw [← h1 x hx]; exact hx) (by rw [← h1 y hy]; exact hy) hx1 hy1 e)
  · rw [mm_v_pi (h8 i v hv).2]
    exact hlv.2.2 i v hv
