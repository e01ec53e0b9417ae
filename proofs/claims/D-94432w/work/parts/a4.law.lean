/-! ===== the law's memory: a contract over a part of it ===== -/
set_option maxRecDepth 100000
/-- what is dead doesn't count -/
theorem mm_R.agl {D : va_G} {aC : Nat → ClassId} {ad : Nat → Nat} {M M' : mm_M} {A : Nat → Prop} {H : Heap} (e : ∀ h, ((M'.1 h).1 ≠ 0 ∨ (M.1 h).1 ≠ 0) → M'.1 h = M.1 h ∧ M'.2.1 h = M.2.1 h ∧ M'.2.2.1 h = M.2.2.1 h ∧ M'.2.2.2 h = M.2.2.2 h) (hR : mm_R D aC ad M A H) : mm_R D aC ad M' A H := by
  have lv : ∀ {x : Nat}, (M'.1 x).1 ≠ 0 → (M.1 x).1 ≠ 0 := fun {x} hx => by rw [← (e x (Or.inl hx)).1]; exact hx
  refine ⟨fun x t n hx ht => ?_, fun x y hx hy hx1 hy1 q => hR.2.1 x y (lv hx) (lv hy) (by rw [← (e x (Or.inl hx)).1]; exact hx1) (by rw [← (e y (Or.inl hy)).1]; exact hy1) q, fun x k b hx hb => ?_⟩
  · have h0 : (M'.1 x).1 ≠ 0 := by rw [hx]; exact ht
    obtain ⟨e1, e2, e3, e4⟩ := e x (Or.inl h0)
    obtain ⟨q1, q2, q3⟩ := hR.1 x t n (e1.symm.trans hx) ht
    refine ⟨q1, q2, fun q => ?_⟩
    by_cases h16 : t < 16
    · have q4 := q3 q
      rw [mm_me_lo h16] at q4 ⊢
      exact mm_at_kept q4 rfl rfl e2 e3 e4 (fun _ _ _ => rfl)
    · have q4 := q3 q
      rw [mm_me_hi h16] at q4 ⊢
      exact q4
  · obtain ⟨e1, e2, e3, e4⟩ := e x (Or.inl hx)
    have h2 : (M.1 b).1 ≠ 0 := by
      refine hR.2.2 x k b (lv hx) ?_
      rw [← e1]
      by_cases h16 : (M'.1 x).1 < 16
      · rw [mm_me_lo h16] at hb ⊢
        rw [← e4]
        exact hb
      · rw [mm_me_hi h16] at hb ⊢
        exact hb
    rw [(e b (Or.inr h2)).1]
    exact h2
/-- the memory behind a call over the part Ms of M that came to Mt -/
def mm_mg2 (M Ms Mt : mm_M) : mm_M :=
  (fun h => if (Ms.1 h).1 ≠ 0 ∨ ((M.1 h).1 = 0 ∧ (Mt.1 h).1 ≠ 0) then Mt.1 h else M.1 h, fun h => if (Ms.1 h).1 ≠ 0 ∨ ((M.1 h).1 = 0 ∧ (Mt.1 h).1 ≠ 0) then Mt.2.1 h else M.2.1 h, fun h => if (Ms.1 h).1 ≠ 0 ∨ ((M.1 h).1 = 0 ∧ (Mt.1 h).1 ≠ 0) then Mt.2.2.1 h else M.2.2.1 h, fun h => if (Ms.1 h).1 ≠ 0 ∨ ((M.1 h).1 = 0 ∧ (Mt.1 h).1 ≠ 0) then Mt.2.2.2 h else M.2.2.2 h)
theorem mm_mg2_e {M Ms Mt : mm_M} (h : Nat) (hl : ((mm_mg2 M Ms Mt).1 h).1 ≠ 0 ∨ ((mm_mg M Ms Mt).1 h).1 ≠ 0) : (mm_mg2 M Ms Mt).1 h = (mm_mg M Ms Mt).1 h ∧ (mm_mg2 M Ms Mt).2.1 h = (mm_mg M Ms Mt).2.1 h ∧ (mm_mg2 M Ms Mt).2.2.1 h = (mm_mg M Ms Mt).2.2.1 h ∧ (mm_mg2 M Ms Mt).2.2.2 h = (mm_mg M Ms Mt).2.2.2 h := by
  unfold mm_mg2 mm_mg at hl ⊢
  dsimp only at hl ⊢
  by_cases c : (Ms.1 h).1 ≠ 0 ∨ ((M.1 h).1 = 0 ∧ (Mt.1 h).1 ≠ 0)
  · have c2 : (Ms.1 h).1 ≠ 0 ∨ (M.1 h).1 = 0 := c.imp id (fun q => q.1)
    simp only [if_pos c, if_pos c2, and_self]
  · by_cases c2 : (Ms.1 h).1 ≠ 0 ∨ (M.1 h).1 = 0
    · rw [if_neg c, if_pos c2] at hl
      have c3 : (M.1 h).1 = 0 := c2.resolve_left (fun q => c (Or.inl q))
      rcases hl with q | q
      · exact absurd c3 q
      · exact absurd (Or.inr ⟨c3, q⟩) c
    · simp only [if_neg c, if_neg c2, and_self]
/-- what is behind is closed; what lived lives as it was; what is read only was there -/
def mm_gd (Ms Mt : mm_M) : Prop := mm_cl0 Mt ∧ (∀ h, (Ms.1 h).1 ≠ 0 → Mt.1 h = Ms.1 h) ∧ ∀ h, ¬ (Mt.1 h).1 < 16 → (Ms.1 h).1 ≠ 0
/-- the frame rule; what is dead stays as it was -/
theorem mm_Met.frameC {l : Launch} {y : MethodName} {ws : List Cond} {rm : Room} {as : List Value} {M Ms : mm_M} {Q Q' : Option Value → mm_M → Prop} {X X' : String → mm_M → Prop} (h : mm_Met l y ws rm as Ms Q X) (hp : mm_pt2 M Ms) (hv : ∀ v ∈ as, mm_vk Ms v) (hc : mm_cs Ms) (hQ : ∀ v Mt, mm_gd Ms Mt → Q v Mt → mm_nc M Ms Mt ∧ Q' v (mm_mg2 M Ms Mt)) (hX : ∀ E Mt, mm_gd Ms Mt → X E Mt → mm_nc M Ms Mt ∧ X' E (mm_mg2 M Ms Mt)) : mm_Met l y ws rm as M Q' X' := by
  have agl : ∀ {ad ad2 : Nat → Nat} {Mt : mm_M}, mm_ag M ad (mm_mg M Ms Mt) ad2 → mm_ag M ad (mm_mg2 M Ms Mt) ad2 := fun {ad ad2 Mt} q => by
    refine ⟨fun x hx => ?_, fun x hx => ?_⟩
    · obtain ⟨e1, e2⟩ := q.1 x hx
      exact ⟨e1, (mm_mg2_e x (Or.inr (by rw [e2]; exact hx))).1.trans e2⟩
    · refine q.2 x ?_
      rw [← (mm_mg2_e x (Or.inl (fun e => hx (by rw [e]; decide)))).1]
      exact hx
  intro D aC ad sz
  refine vx_Met.weak (h D aC ad sz) (fun a s hP => ?_) (mm_A.sub2 hp) (fun a s o t hP hq => ?_) (fun a E s t hP hq => ?_)
  · obtain ⟨e1, e2, hR, ⟨k1, k2, k3, k4⟩, hvk⟩ := hP
    subst e2
    exact ⟨e1, rfl, (hp.R hR).toA, ⟨k1, k2, mm_X.warm (State.WarmedH.refl s) va_S.rf (mm_A.sub2 hp) k3, hc⟩, hv⟩
  · obtain ⟨-, e2, hR, -⟩ := hP
    subst e2
    obtain ⟨⟨v, M1, ad1, e1, hq, hag, hR1, hvk⟩, hF⟩ := hq
    obtain ⟨hn, hq'⟩ := hQ _ _ ⟨hR1.2.2, fun x hx => (hag.1 x hx).2, hag.2⟩ hq
    obtain ⟨ad2, b1, b2, b3⟩ := mm_mgR2 hp hR hag hR1 hF hn
    refine ⟨⟨v, _, ad2, ?_, hq', agl b1, b2.agl mm_mg2_e, fun w hw b hb => ?_⟩, hF.sub (mm_A.sub2 hp)⟩
    · rw [e1]
      cases hv9 : v with
      | none => rfl
      | some w =>
        show Outcome.returned (some (mm_v ad1 w)) = Outcome.returned (some (mm_v ad2 w))
        have : mm_v ad1 w = mm_v ad2 w := by
          cases w with
          | ref b => show Value.ref _ = Value.ref _; rw [(b3 b (hvk _ hv9 b rfl)).1]
          | _ => rfl
        rw [this]
    · have q := (b3 b (hvk w hw b hb)).2
      rw [(mm_mg2_e b (Or.inr q)).1]
      exact q
  · obtain ⟨-, e2, hR, -⟩ := hP
    subst e2
    obtain ⟨⟨M1, ad1, hq, hag, hR1⟩, hF⟩ := hq
    obtain ⟨hn, hq'⟩ := hX _ _ ⟨hR1.2.2, fun x hx => (hag.1 x hx).2, hag.2⟩ hq
    obtain ⟨ad2, b1, b2, b3⟩ := mm_mgR2 hp hR hag hR1 hF hn
    exact ⟨⟨_, ad2, hq', agl b1, b2.agl mm_mg2_e⟩, hF.sub (mm_A.sub2 hp)⟩
/-- the memory behind a call over a part, by whole numbers -/
def mgZ (M Ms Mt : zz_M) : zz_M :=
  ((0, fun h => if (zsh Ms h).1 ≠ 0 ∨ ((zsh M h).1 = 0 ∧ (zsh Mt h).1 ≠ 0) then zsh Mt h else zsh M h), fun h => if (zsh Ms h).1 ≠ 0 ∨ ((zsh M h).1 = 0 ∧ (zsh Mt h).1 ≠ 0) then Mt.2.1 h else M.2.1 h, fun h => if (zsh Ms h).1 ≠ 0 ∨ ((zsh M h).1 = 0 ∧ (zsh Mt h).1 ≠ 0) then Mt.2.2.1 h else M.2.2.1 h, fun h => if (zsh Ms h).1 ≠ 0 ∨ ((zsh M h).1 = 0 ∧ (zsh Mt h).1 ≠ 0) then zpt Mt h else zpt M h)
theorem eM_mg (M Ms Mt : zz_M) : eM (mgZ M Ms Mt) = mm_mg2 (eM M) (eM Ms) (eM Mt) := by
  have e1 : zS (mgZ M Ms Mt).2.1 = fun h => if (zsh Ms h).1 ≠ 0 ∨ ((zsh M h).1 = 0 ∧ (zsh Mt h).1 ≠ 0) then zS Mt.2.1 h else zS M.2.1 h := by
    funext h k
    show zI ((if (zsh Ms h).1 ≠ 0 ∨ ((zsh M h).1 = 0 ∧ (zsh Mt h).1 ≠ 0) then Mt.2.1 h else M.2.1 h) k) = _
    split <;> rfl
  have e2 : zJ (mgZ M Ms Mt).2.2.1 = fun h => if (zsh Ms h).1 ≠ 0 ∨ ((zsh M h).1 = 0 ∧ (zsh Mt h).1 ≠ 0) then zJ Mt.2.2.1 h else zJ M.2.2.1 h := by
    funext h k
    show zL ((if (zsh Ms h).1 ≠ 0 ∨ ((zsh M h).1 = 0 ∧ (zsh Mt h).1 ≠ 0) then Mt.2.2.1 h else M.2.2.1 h) k) = _
    split <;> rfl
  show (zsh (mgZ M Ms Mt), zS (mgZ M Ms Mt).2.1, zJ (mgZ M Ms Mt).2.2.1, zpt (mgZ M Ms Mt)) = _
  rw [e1, e2]
  rfl
/-- a contract over a part of the memory, as one over the memory -/
def zwV (v : zz_M → zz_M) (sp : zz_Sp) : zz_Sp := fun as M Q X => mm_pt2 (eM M) (eM (v M)) ∧ (∀ a ∈ as, mm_vk (eM (v M)) (ev a)) ∧ mm_cs (eM (v M)) ∧ sp as (v M) (fun r M2 => mm_gd (eM (v M)) (eM M2) → mm_nc (eM M) (eM (v M)) (eM M2) ∧ Q r (mgZ M (v M) M2)) (fun i M2 => mm_gd (eM (v M)) (eM M2) → mm_nc (eM M) (eM (v M)) (eM M2) ∧ X i (mgZ M (v M) M2))
theorem zwV_ok {l : Launch} {y : MethodName} {ws : List Cond} {rm : Room} {sp : zz_Sp} (v : zz_M → zz_M) (h : mm_Spec l y ws rm (zE sp)) : mm_Spec l y ws rm (zE (zwV v sp)) := by
  rintro as M Q X ⟨as', M', Q', X', rfl, rfl, ⟨hp, hv, hc, hs⟩, hQ, hX⟩
  refine mm_Met.frameC (h _ _ (fun r Mt => ∃ (r' : Option zv) (M2 : zz_M), r = r'.map ev ∧ Mt = eM M2 ∧ (mm_gd (eM (v M')) (eM M2) → mm_nc (eM M') (eM (v M')) (eM M2) ∧ Q' r' (mgZ M' (v M') M2))) (fun E Mt => ∃ (i : Nat) (M2 : zz_M), mm_ex[i]? = some E ∧ Mt = eM M2 ∧ (mm_gd (eM (v M')) (eM M2) → mm_nc (eM M') (eM (v M')) (eM M2) ∧ X' i (mgZ M' (v M') M2))) ⟨as', v M', _, _, rfl, rfl, hs, fun r m q => ⟨r, m, rfl, rfl, q⟩, fun i m E hE q => ⟨i, m, hE, rfl, q⟩⟩) hp ?_ hc ?_ ?_
  · intro a ha
    obtain ⟨b, hb, rfl⟩ := List.mem_map.mp ha
    exact hv b hb
  · rintro r Mt hcl ⟨r', M2, rfl, rfl, q⟩
    obtain ⟨q1, q2⟩ := q hcl
    refine ⟨q1, ?_⟩
    rw [← eM_mg]
    exact hQ _ _ q2
  · rintro E Mt hcl ⟨i, M2, hE, rfl, q⟩
    obtain ⟨q1, q2⟩ := q hcl
    refine ⟨q1, ?_⟩
    rw [← eM_mg]
    exact hX _ _ _ hE q2
/-! the law's memory: 0 to 17 the model's, 1500 the script, 51 the answer's place, from 100 on the component's -/
def vM (M : zz_M) : zz_M := zm M.2.1 M.2.2.1
def vC (M : zz_M) : zz_M := ((2, fun h => if h < 51 then (0, 0) else M.1.2 h), M.2.1, M.2.2.1, M.2.2.2)
/-- the component's references are its own, and live -/
def clC (f : Nat → Nat × Nat) (P : Nat → Nat → Option Nat) : Prop := ∀ h k b, 51 ≤ h → (f h).1 ≠ 0 → (f h).1 < 16 → P h k = some b → 51 ≤ b ∧ (f b).1 ≠ 0
def lwK (d n : Nat) (f : Nat → Nat × Nat) (P : Nat → Nat → Option Nat) : Prop :=
  (∀ h, h < 18 → f h = mS h ∧ P h = mP h) ∧ (f 1500 = (32, n) ∧ f 51 = (3, 1)) ∧ (∀ h, 18 ≤ h → h < 100 → h ≠ 51 → (f h).1 = 0) ∧ (∀ h, zfs 2 h = true → f h = cS h) ∧ (∀ h k, zfx d h k = true → P h k = cP h k) ∧ (∀ h, ¬ (f h).1 < 16 → h = 1500 ∨ (1000 ≤ h ∧ h < 1400)) ∧ clC f P
theorem zsh_0 {f : Nat → Nat × Nat} {S L : Nat → Nat → Int} {P : Nat → Nat → Option Nat} {h : Nat} : zsh ((0, f), S, L, P) h = f h := rfl
theorem zpt_0 {f : Nat → Nat × Nat} {S L : Nat → Nat → Int} {P : Nat → Nat → Option Nat} : zpt ((0, f), S, L, P) = P := rfl
theorem zsh_d {d : Nat} (hd : d = 2 ∨ d = 3) (f : Nat → Nat × Nat) (S L : Nat → Nat → Int) (P : Nat → Nat → Option Nat) (h : Nat) : zsh ((d, f), S, L, P) h = bif zfs 2 h then cS h else f h := by rcases hd with rfl | rfl <;> rfl
theorem zpt_d {d : Nat} (hd : d = 2 ∨ d = 3) (f : Nat → Nat × Nat) (S L : Nat → Nat → Int) (P : Nat → Nat → Option Nat) (h k : Nat) : zpt ((d, f), S, L, P) h k = bif zfx d h k then cP h k else P h k := by rcases hd with rfl | rfl <;> rfl
theorem zfs_lo {h : Nat} (hh : h < 100) : zfs 2 h = false := by
  have := (by decide +kernel : ∀ i : Fin 100, zfs 2 i.val = false) ⟨h, hh⟩
  exact this
theorem zfx_s {d h k : Nat} (hd : d = 2 ∨ d = 3) (e : zfx d h k = true) : zfs 2 h = true := by
  cases q : zfs 2 h with
  | true => rfl
  | false =>
    have z : zfs d h = false := by rcases hd with rfl | rfl <;> exact q
    rw [zfx_of z] at e
    cases e
theorem zfx_32 {h k : Nat} (e : zfx 3 h k = true) : zfx 2 h k = true := by
  have e : (((Nat.ble 100 h && Nat.ble h 140) || (Nat.ble 200 h && Nat.ble h 207) || (Nat.ble 210 h && Nat.ble h 225) || (Nat.ble 1000 h && Nat.ble h 1399)) && !((Nat.beq h 100 && (Nat.beq k 1 || (true && Nat.beq k 0))) || (Nat.beq h 103 && Nat.beq k 0) || ((Nat.beq h 116 || Nat.beq h 120 || Nat.beq h 124) && Nat.ble k 1) || (Nat.beq h 202 && Nat.beq k 1))) = true := e
  show (((Nat.ble 100 h && Nat.ble h 140) || (Nat.ble 200 h && Nat.ble h 207) || (Nat.ble 210 h && Nat.ble h 225) || (Nat.ble 1000 h && Nat.ble h 1399)) && !((Nat.beq h 100 && (Nat.beq k 1 || (false && Nat.beq k 0))) || (Nat.beq h 103 && Nat.beq k 0) || ((Nat.beq h 116 || Nat.beq h 120 || Nat.beq h 124) && Nat.ble k 1) || (Nat.beq h 202 && Nat.beq k 1))) = true
  revert e
  cases Nat.beq h 100 <;> cases Nat.beq k 1 <;> cases Nat.beq k 0 <;> simp
theorem lwK.sC {n : Nat} {f : Nat → Nat × Nat} {P : Nat → Nat → Option Nat} (k : lwK 2 n f P) (S L : Nat → Nat → Int) (h : Nat) : zsh (vC ((0, f), S, L, P)) h = if h < 51 then (0, 0) else f h := by
  show (bif zfs 2 h then cS h else if h < 51 then (0, 0) else f h) = _
  cases e : zfs 2 h with
  | false => rfl
  | true =>
    by_cases c : h < 51
    · rw [zfs_lo (by omega)] at e
      cases e
    · rw [if_neg c, k.2.2.2.1 h e]
      rfl
theorem lwK.pC {n : Nat} {f : Nat → Nat × Nat} {P : Nat → Nat → Option Nat} (k : lwK 2 n f P) (S L : Nat → Nat → Int) : zpt (vC ((0, f), S, L, P)) = P := by
  funext h j
  show (bif zfx 2 h j then cP h j else P h j) = P h j
  cases e : zfx 2 h j with
  | false => rfl
  | true => exact (k.2.2.2.2.1 h j e).symm
theorem mS_c : (∀ h, h < 18 → (mS h).1 ≠ 0 ∧ (mS h).1 < 16) ∧ (∀ h, 18 ≤ h → h < 1000 → mS h = (0, 0)) ∧ ∀ h, 1000 ≤ h → mS h = mm_cS h := by
  refine ⟨fun h hh => ?_, fun h h1 h2 => ?_, fun h h1 => ?_⟩
  · exact (by decide +kernel : ∀ i : Fin 18, (mS i.val).1 ≠ 0 ∧ (mS i.val).1 < 16) ⟨h, hh⟩
  · have := (by decide +kernel : ∀ i : Fin 1000, 18 ≤ i.val → mS i.val = (0, 0)) ⟨h, h2⟩ h1
    exact this
  · unfold mS
    rw [Nat.ble_eq_true_of_le h1]
    rfl
theorem cS_c {h : Nat} (h1 : 1000 ≤ h) : cS h = mm_cS h := by
  unfold cS
  rw [Nat.ble_eq_true_of_le h1]
  rfl
theorem cS_l {h : Nat} (h1 : (mm_cS h).1 ≠ 0) : h < 1400 := by
  apply Decidable.byContradiction
  intro c
  unfold mm_cS at h1
  rw [Nat.ble_eq_true_of_le (by omega : 1400 ≤ h)] at h1
  exact h1 rfl
theorem zfs_c {h : Nat} (h1 : 1000 ≤ h) (h2 : h < 1400) : zfs 2 h = true ∧ ∀ k, zfx 2 h k = true ∧ cP h k = none := by
  have b1 : Nat.ble 1000 h = true := Nat.ble_eq_true_of_le h1
  have b2 : Nat.ble h 1399 = true := Nat.ble_eq_true_of_le (by omega)
  have nb : ∀ c : Nat, c < 1000 → Nat.beq h c = false := fun c hc => by
    cases e : Nat.beq h c with
    | false => rfl
    | true => have := Nat.eq_of_beq_eq_true e; omega
  refine ⟨?_, fun k => ⟨?_, ?_⟩⟩
  · unfold zfs
    rw [b1, b2]
    cases Nat.ble 100 h <;> cases Nat.ble h 140 <;> cases Nat.ble 200 h <;> cases Nat.ble h 207 <;> cases Nat.ble 210 h <;> cases Nat.ble h 225 <;> rfl
  · unfold zfx
    rw [b1, b2, nb 100 (by decide), nb 103 (by decide), nb 116 (by decide), nb 120 (by decide), nb 124 (by decide), nb 202 (by decide)]
    cases Nat.ble 100 h <;> cases Nat.ble h 140 <;> cases Nat.ble 200 h <;> cases Nat.ble h 207 <;> cases Nat.ble 210 h <;> cases Nat.ble h 225 <;> rfl
  · unfold cP
    rw [nb 100 (by decide), nb 101 (by decide), nb 103 (by decide), nb 108 (by decide), nb 112 (by decide), nb 116 (by decide), nb 120 (by decide), nb 124 (by decide), nb 127 (by decide), nb 134 (by decide), nb 200 (by decide), nb 201 (by decide), nb 204 (by decide)]
    rfl
theorem kP_b {h k b : Nat} (hl : (mm_cS h).1 ≠ 0) (h1 : 1000 ≤ h) (e : mm_kP h k = some b) : 1000 ≤ b ∧ b < 1400 ∧ (mm_cS b).1 ≠ 0 := by
  have h2 := cS_l hl
  unfold mm_kP at e
  by_cases c : h = 1301
  · subst c
    rw [show Nat.beq 1301 1301 = true from rfl] at e
    have e : (bif Nat.ble 5 k then none else some (1200 + k)) = some b := e
    cases hk : Nat.ble 5 k with
    | true => rw [hk] at e; cases e
    | false =>
      rw [hk] at e
      cases e
      have k5 : k < 5 := by
        apply Decidable.byContradiction
        intro q
        rw [Nat.ble_eq_true_of_le (by omega : 5 ≤ k)] at hk
        cases hk
      have := (by decide +kernel : ∀ i : Fin 5, 1000 ≤ 1200 + i.val ∧ 1200 + i.val < 1400 ∧ (mm_cS (1200 + i.val)).1 ≠ 0) ⟨k, k5⟩
      exact this
  · have c1 : Nat.beq h 1301 = false := by
      cases q : Nat.beq h 1301 with
      | false => rfl
      | true => exact absurd (Nat.eq_of_beq_eq_true q) c
    rw [c1] at e
    have e : (bif Nat.ble 1100 h then none else bif Nat.beq k 0 then some (h + 100) else none) = some b := e
    cases hb : Nat.ble 1100 h with
    | true => rw [hb] at e; cases e
    | false =>
      rw [hb] at e
      have e : (bif Nat.beq k 0 then some (h + 100) else none) = some b := e
      cases hk : Nat.beq k 0 with
      | false => rw [hk] at e; cases e
      | true =>
        rw [hk] at e
        cases e
        have h11 : h < 1100 := by
          apply Decidable.byContradiction
          intro q
          rw [Nat.ble_eq_true_of_le (by omega : 1100 ≤ h)] at hb
          cases hb
        have := (by decide +kernel : ∀ i : Fin 100, (mm_cS (1000 + i.val)).1 ≠ 0 → 1000 ≤ 1000 + i.val + 100 ∧ 1000 + i.val + 100 < 1400 ∧ (mm_cS (1000 + i.val + 100)).1 ≠ 0) ⟨h - 1000, by omega⟩
        rw [show 1000 + (h - 1000) = h by omega] at this
        exact this hl
theorem cS_16 {h : Nat} (h1 : (mm_cS h).1 ≠ 0) (h0 : 1000 ≤ h) : ¬ (mm_cS h).1 < 16 := by
  have h2 := cS_l h1
  have := (by decide +kernel : ∀ i : Fin 400, (mm_cS (1000 + i.val)).1 ≠ 0 → ¬ (mm_cS (1000 + i.val)).1 < 16) ⟨h - 1000, by omega⟩
  rw [show 1000 + (h - 1000) = h by omega] at this
  exact this h1
/-- the model's part is closed -/
theorem cl_zm (S L : Nat → Nat → Int) : mm_cl0 (eM (zm S L)) := by
  intro h k b hl hb
  have hl : (mS h).1 ≠ 0 := hl
  have hb : (mm_me (eM (zm S L)) (mS h).1).2.2.2 h k = some b := hb
  show (mS b).1 ≠ 0
  by_cases c : h < 18
  · rw [mm_me_lo (mS_c.1 h c).2] at hb
    have hb : mP h k = some b := hb
    unfold mP at hb
    by_cases h0 : h = 0
    · subst h0
      have hb : ([none, some 1, some 2, none, some 3, some 4, none, none, none, none, none, none, some 5, none, none, none, some 6, none, none, some 7, some 8, some 9, some 10, some 11, some 12, some 13, some 14, some 15, some 16, some 17, none, none] : List (Option Nat)).getD k none = some b := hb
      have b18 : b < 18 := by
        by_cases kk : k < 32
        · have := (by decide +kernel : ∀ i : Fin 32, (([none, some 1, some 2, none, some 3, some 4, none, none, none, none, none, none, some 5, none, none, none, some 6, none, none, some 7, some 8, some 9, some 10, some 11, some 12, some 13, some 14, some 15, some 16, some 17, none, none] : List (Option Nat)).getD i.val none).getD 0 < 18) ⟨k, kk⟩
          rw [show ((⟨k, kk⟩ : Fin 32).val) = k from rfl, hb] at this
          exact this
        · rw [List.getD_eq_getElem?_getD, List.getElem?_eq_none (by show 32 ≤ k; omega)] at hb
          cases hb
      exact (mS_c.1 b b18).1
    · have : Nat.beq h 0 = false := by
        cases q : Nat.beq h 0 with
        | false => rfl
        | true => exact absurd (Nat.eq_of_beq_eq_true q) h0
      rw [this] at hb
      cases hb
  · have h1 : 1000 ≤ h := by
      apply Decidable.byContradiction
      intro q
      rw [mS_c.2.1 h (by omega) (by omega)] at hl
      exact hl rfl
    rw [mS_c.2.2 h h1] at hl hb
    rw [mm_me_hi (cS_16 hl h1)] at hb
    obtain ⟨b1, -, b2⟩ := kP_b hl h1 hb
    rw [mS_c.2.2 b b1]
    exact b2
/-- the model's part of the law's memory -/
theorem lwK.M {n : Nat} {f : Nat → Nat × Nat} {P : Nat → Nat → Option Nat} (k : lwK 2 n f P) (S L : Nat → Nat → Int) : mm_pt2 (eM ((0, f), S, L, P)) (eM (vM ((0, f), S, L, P))) ∧ mm_cs (eM (vM ((0, f), S, L, P))) := by
  obtain ⟨k1, k2, k3, k4, k5, k6, k7⟩ := k
  refine ⟨⟨fun h hl => ?_, cl_zm S L⟩, fun h h1 h2 h3 => mS_c.2.2 h h1⟩
  · have hl : (mS h).1 ≠ 0 := hl
    show f h = mS h ∧ zS S h = zS S h ∧ zJ L h = zJ L h ∧ P h = mP h
    by_cases c : h < 18
    · exact ⟨(k1 h c).1, rfl, rfl, (k1 h c).2⟩
    · have h1 : 1000 ≤ h := by
        apply Decidable.byContradiction
        intro q
        rw [mS_c.2.1 h (by omega) (by omega)] at hl
        exact hl rfl
      have e := mS_c.2.2 h h1
      rw [e] at hl ⊢
      have h2 := cS_l hl
      obtain ⟨z1, z2⟩ := zfs_c h1 h2
      refine ⟨(k4 h z1).trans (cS_c h1), rfl, rfl, ?_⟩
      funext j
      rw [k5 h j (z2 j).1, (z2 j).2]
      unfold mP
      have : Nat.beq h 0 = false := by
        cases q : Nat.beq h 0 with
        | false => rfl
        | true => have := Nat.eq_of_beq_eq_true q; omega
      rw [this]
      rfl
/-- the component's part -/
theorem lwK.C {n : Nat} {f : Nat → Nat × Nat} {P : Nat → Nat → Option Nat} (k : lwK 2 n f P) (S L : Nat → Nat → Int) : mm_pt2 (eM ((0, f), S, L, P)) (eM (vC ((0, f), S, L, P))) ∧ mm_cs (eM (vC ((0, f), S, L, P))) := by
  have sC := k.sC S L
  have pC := k.pC S L
  obtain ⟨k1, k2, k3, k4, k5, k6, k7⟩ := k
  refine ⟨⟨fun h hl => ?_, fun h j b hl hb => ?_⟩, fun h h1 h2 h3 => ?_⟩
  · have hl : (zsh (vC ((0, f), S, L, P)) h).1 ≠ 0 := hl
    show f h = zsh (vC ((0, f), S, L, P)) h ∧ zS S h = zS S h ∧ zJ L h = zJ L h ∧ P h = zpt (vC ((0, f), S, L, P)) h
    rw [sC h] at hl ⊢
    rw [pC]
    by_cases c : h < 51
    · rw [if_pos c] at hl
      exact absurd rfl hl
    · rw [if_neg c]
      exact ⟨rfl, rfl, rfl, rfl⟩
  · have hl : (zsh (vC ((0, f), S, L, P)) h).1 ≠ 0 := hl
    have hb : (mm_me (eM (vC ((0, f), S, L, P))) (zsh (vC ((0, f), S, L, P)) h).1).2.2.2 h j = some b := hb
    show (zsh (vC ((0, f), S, L, P)) b).1 ≠ 0
    rw [sC h] at hl hb
    rw [sC b]
    by_cases c : h < 51
    · rw [if_pos c] at hl
      exact absurd rfl hl
    · rw [if_neg c] at hl hb
      by_cases h16 : (f h).1 < 16
      · rw [mm_me_lo h16] at hb
        have hb : zpt (vC ((0, f), S, L, P)) h j = some b := hb
        rw [pC] at hb
        obtain ⟨b1, b2⟩ := k7 h j b (by omega) hl h16 hb
        rw [if_neg (by omega)]
        exact b2
      · rw [mm_me_hi h16] at hb
        by_cases c15 : h = 1500
        · subst c15
          have hb : (none : Option Nat) = some b := hb
          cases hb
        obtain ⟨h1, h2⟩ := (k6 h h16).resolve_left c15
        have e := (k4 h (zfs_c h1 h2).1).trans (cS_c h1)
        rw [e] at hl
        obtain ⟨b1, b2, b3⟩ := kP_b hl h1 hb
        rw [if_neg (by omega), k4 b (zfs_c b1 b2).1, cS_c b1]
        exact b3
  · show zsh (vC ((0, f), S, L, P)) h = mm_cS h
    rw [sC h, if_neg (by omega), k4 h (zfs_c h1 h2).1, cS_c h1]
/-- behind a call of the model's -/
theorem lwK.bM {n : Nat} {f : Nat → Nat × Nat} {P : Nat → Nat → Option Nat} (k : lwK 2 n f P) (S L S2 L2 : Nat → Nat → Int) : mm_nc (eM ((0, f), S, L, P)) (eM (vM ((0, f), S, L, P))) (eM (zm S2 L2)) ∧ ∃ (S' L' : Nat → Nat → Int), mgZ ((0, f), S, L, P) (vM ((0, f), S, L, P)) (zm S2 L2) = ((0, f), S', L', P) ∧ (∀ h, h < 18 → S' h = S2 h ∧ L' h = L2 h) ∧ ∀ h, 18 ≤ h → (h < 1000 ∨ 1400 ≤ h) → S' h = S h ∧ L' h = L h := by
  have hM := k.M S L
  refine ⟨fun h hl => Or.inl hl, ?_⟩
  have c : ∀ h, ((mS h).1 ≠ 0 ∨ ((f h).1 = 0 ∧ (mS h).1 ≠ 0)) ↔ (mS h).1 ≠ 0 := fun h => ⟨fun q => q.elim id (fun z => z.2), Or.inl⟩
  have ef : (fun h => if (zsh (vM ((0, f), S, L, P)) h).1 ≠ 0 ∨ ((zsh ((0, f), S, L, P) h).1 = 0 ∧ (zsh (zm S2 L2) h).1 ≠ 0) then zsh (zm S2 L2) h else zsh ((0, f), S, L, P) h) = f := by
    funext h
    show (if (mS h).1 ≠ 0 ∨ ((f h).1 = 0 ∧ (mS h).1 ≠ 0) then mS h else f h) = f h
    by_cases q : (mS h).1 ≠ 0
    · rw [if_pos (Or.inl q)]
      exact (hM.1.1 h q).1.symm
    · rw [if_neg (fun z => q ((c h).mp z))]
  have eP : (fun h => if (zsh (vM ((0, f), S, L, P)) h).1 ≠ 0 ∨ ((zsh ((0, f), S, L, P) h).1 = 0 ∧ (zsh (zm S2 L2) h).1 ≠ 0) then zpt (zm S2 L2) h else zpt ((0, f), S, L, P) h) = P := by
    funext h
    show (if (mS h).1 ≠ 0 ∨ ((f h).1 = 0 ∧ (mS h).1 ≠ 0) then mP h else P h) = P h
    by_cases q : (mS h).1 ≠ 0
    · rw [if_pos (Or.inl q)]
      exact (hM.1.1 h q).2.2.2.symm
    · rw [if_neg (fun z => q ((c h).mp z))]
  have hd : ∀ h, 18 ≤ h → (h < 1000 ∨ 1400 ≤ h) → ¬ ((mS h).1 ≠ 0 ∨ ((f h).1 = 0 ∧ (mS h).1 ≠ 0)) := fun h h1 h2 q => by
    have q := (c h).mp q
    rcases h2 with z | z
    · rw [mS_c.2.1 h h1 z] at q
      exact q rfl
    · rw [mS_c.2.2 h (by omega)] at q
      have := cS_l q
      omega
  refine ⟨fun h => if (zsh (vM ((0, f), S, L, P)) h).1 ≠ 0 ∨ ((zsh ((0, f), S, L, P) h).1 = 0 ∧ (zsh (zm S2 L2) h).1 ≠ 0) then S2 h else S h, fun h => if (zsh (vM ((0, f), S, L, P)) h).1 ≠ 0 ∨ ((zsh ((0, f), S, L, P) h).1 = 0 ∧ (zsh (zm S2 L2) h).1 ≠ 0) then L2 h else L h, ?_, fun h hh => ⟨if_pos (Or.inl (mS_c.1 h hh).1), if_pos (Or.inl (mS_c.1 h hh).1)⟩, fun h h1 h2 => ⟨if_neg (hd h h1 h2), if_neg (hd h h1 h2)⟩⟩
  unfold mgZ
  rw [ef, eP]
/-- behind a call of the component's: its memory of kind d -/
theorem lwK.bC {d n : Nat} (hd : d = 2 ∨ d = 3) {f f2 : Nat → Nat × Nat} {S L S2 L2 : Nat → Nat → Int} {P P2 : Nat → Nat → Option Nat} (k : lwK 2 n f P) (g : mm_gd (eM (vC ((0, f), S, L, P))) (eM ((d, f2), S2, L2, P2))) (h2 : ∀ h, h < 100 → h ≠ 51 → (f2 h).1 = 0) : mm_nc (eM ((0, f), S, L, P)) (eM (vC ((0, f), S, L, P))) (eM ((d, f2), S2, L2, P2)) ∧ ∃ (f' : Nat → Nat × Nat) (S' L' : Nat → Nat → Int) (P' : Nat → Nat → Option Nat), mgZ ((0, f), S, L, P) (vC ((0, f), S, L, P)) ((d, f2), S2, L2, P2) = ((0, f'), S', L', P') ∧ lwK d n f' P' ∧ (∀ h, h < 51 → f' h = f h ∧ S' h = S h ∧ L' h = L h ∧ P' h = P h) ∧ ∀ h, 51 ≤ h → (f' h).1 = (zsh ((d, f2), S2, L2, P2) h).1 ∧ ((f' h).1 ≠ 0 → f' h = zsh ((d, f2), S2, L2, P2) h ∧ S' h = S2 h ∧ L' h = L2 h ∧ P' h = zpt ((d, f2), S2, L2, P2) h) := by
  have zsd := zsh_d hd f2 S2 L2 P2
  have zpd := zpt_d hd f2 S2 L2 P2
  obtain ⟨Mt, hMt⟩ : ∃ Mt : zz_M, ((d, f2), S2, L2, P2) = Mt := ⟨_, rfl⟩
  have m1 : ∀ h, S2 h = Mt.2.1 h ∧ L2 h = Mt.2.2.1 h := fun h => by rw [← hMt]; exact ⟨rfl, rfl⟩
  rw [hMt] at g zsd zpd ⊢
  have sC := k.sC S L
  have z2 : ∀ h, h < 100 → h ≠ 51 → (zsh Mt h).1 = 0 := fun h hh hn => by
    rw [zsd, zfs_lo hh]
    exact h2 h hh hn
  have zf : ∀ h, zfs 2 h = true → zsh Mt h = cS h := fun h hh => by
    rw [zsd, hh]
    rfl
  have zp : ∀ h j, zfx d h j = true → zpt Mt h j = cP h j := fun h j hh => by
    rw [zpd, hh]
    rfl
  have g2 : ∀ h, 51 ≤ h → (f h).1 ≠ 0 → zsh Mt h = f h := fun h h1 h3 => by
    have := g.2.1 h (show (zsh (vC ((0, f), S, L, P)) h).1 ≠ 0 by rw [sC h, if_neg (by omega)]; exact h3)
    have this : zsh Mt h = zsh (vC ((0, f), S, L, P)) h := this
    rw [this, sC h, if_neg (by omega)]
  have co : ∀ h, 51 ≤ h → (((zsh (vC ((0, f), S, L, P)) h).1 ≠ 0 ∨ ((f h).1 = 0 ∧ (zsh Mt h).1 ≠ 0)) ↔ (zsh Mt h).1 ≠ 0) := fun h h1 => by
    rw [sC h, if_neg (by omega)]
    refine ⟨fun q => q.elim (fun z => by rw [g2 h h1 z]; exact z) (fun z => z.2), fun q => ?_⟩
    by_cases z : (f h).1 = 0
    · exact Or.inr ⟨z, q⟩
    · exact Or.inl z
  have cl : ∀ h, h < 51 → ¬ ((zsh (vC ((0, f), S, L, P)) h).1 ≠ 0 ∨ ((f h).1 = 0 ∧ (zsh Mt h).1 ≠ 0)) := fun h h1 q => by
    rw [sC h, if_pos h1] at q
    rcases q with z | z
    · exact z rfl
    · exact z.2 (z2 h (by omega) (by omega))
  refine ⟨fun h hl => ?_, ?_⟩
  · have hl : (zsh Mt h).1 ≠ 0 := hl
    show (zsh (vC ((0, f), S, L, P)) h).1 ≠ 0 ∨ (f h).1 = 0
    by_cases c : h < 51
    · exact absurd (z2 h (by omega) (by omega)) hl
    · rw [sC h, if_neg c]
      by_cases z : (f h).1 = 0
      · exact Or.inr z
      · exact Or.inl z
  · obtain ⟨f', hf'⟩ : ∃ f' : Nat → Nat × Nat, (fun h => if (zsh (vC ((0, f), S, L, P)) h).1 ≠ 0 ∨ ((f h).1 = 0 ∧ (zsh Mt h).1 ≠ 0) then zsh Mt h else f h) = f' := ⟨_, rfl⟩
    obtain ⟨S', hS'⟩ : ∃ S' : Nat → Nat → Int, (fun h => if (zsh (vC ((0, f), S, L, P)) h).1 ≠ 0 ∨ ((f h).1 = 0 ∧ (zsh Mt h).1 ≠ 0) then Mt.2.1 h else S h) = S' := ⟨_, rfl⟩
    obtain ⟨L', hL'⟩ : ∃ L' : Nat → Nat → Int, (fun h => if (zsh (vC ((0, f), S, L, P)) h).1 ≠ 0 ∨ ((f h).1 = 0 ∧ (zsh Mt h).1 ≠ 0) then Mt.2.2.1 h else L h) = L' := ⟨_, rfl⟩
    obtain ⟨P', hP'⟩ : ∃ P' : Nat → Nat → Option Nat, (fun h => if (zsh (vC ((0, f), S, L, P)) h).1 ≠ 0 ∨ ((f h).1 = 0 ∧ (zsh Mt h).1 ≠ 0) then zpt Mt h else P h) = P' := ⟨_, rfl⟩
    have lo : ∀ h, h < 51 → f' h = f h ∧ S' h = S h ∧ L' h = L h ∧ P' h = P h := fun h hh => by
      rw [← hf', ← hS', ← hL', ← hP']
      exact ⟨if_neg (cl h hh), if_neg (cl h hh), if_neg (cl h hh), if_neg (cl h hh)⟩
    have hi : ∀ h, 51 ≤ h → (zsh Mt h).1 ≠ 0 → f' h = zsh Mt h ∧ S' h = Mt.2.1 h ∧ L' h = Mt.2.2.1 h ∧ P' h = zpt Mt h := fun h hh q => by
      rw [← hf', ← hS', ← hL', ← hP']
      exact ⟨if_pos ((co h hh).mpr q), if_pos ((co h hh).mpr q), if_pos ((co h hh).mpr q), if_pos ((co h hh).mpr q)⟩
    have hdd : ∀ h, 51 ≤ h → (zsh Mt h).1 = 0 → f' h = f h ∧ (f h).1 = 0 ∧ P' h = P h := fun h hh q => by
      refine ⟨?_, ?_, ?_⟩
      · rw [← hf']
        exact if_neg (fun z => (co h hh).mp z q)
      · apply Decidable.byContradiction
        intro z
        rw [g2 h hh z] at q
        exact z q
      · rw [← hP']
        exact if_neg (fun z => (co h hh).mp z q)
    have k1 : ∀ h, 51 ≤ h → (f' h).1 = (zsh Mt h).1 := fun h hh => by
      by_cases q : (zsh Mt h).1 = 0
      · rw [(hdd h hh q).1, (hdd h hh q).2.1, q]
      · rw [(hi h hh q).1]
    refine ⟨f', S', L', P', ?_, ⟨fun h hh => ?_, ?_, fun h a b d => ?_, fun h hh => ?_, fun h j hh => ?_, fun h hl => ?_, fun h j b h1 hl h16 hb => ?_⟩, lo, fun h hh => ⟨k1 h hh, fun q => ?_⟩⟩
    · rw [← hf', ← hS', ← hL', ← hP']
      rfl
    · rw [(lo h (by omega)).1, (lo h (by omega)).2.2.2]
      exact k.1 h hh
    · have e51 : zsh Mt 51 = (3, 1) := (g2 51 (by decide) (by rw [k.2.1.2]; decide)).trans k.2.1.2
      have e15 : zsh Mt 1500 = (32, n) := (g2 1500 (by decide) (by rw [k.2.1.1]; exact Nat.succ_ne_zero 31)).trans k.2.1.1
      exact ⟨(hi 1500 (by decide) (by rw [e15]; exact Nat.succ_ne_zero 31)).1.trans e15, (hi 51 (by decide) (by rw [e51]; decide)).1.trans e51⟩
    · by_cases h5 : h < 51
      · rw [(lo h h5).1]
        exact k.2.2.1 h a b d
      · exact (k1 h (by omega)).trans (z2 h b d)
    · have h1 : 51 ≤ h := by
        apply Decidable.byContradiction
        intro q
        rw [zfs_lo (by omega)] at hh
        cases hh
      by_cases q : (zsh Mt h).1 = 0
      · rw [(hdd h h1 q).1]
        exact k.2.2.2.1 h hh
      · rw [(hi h h1 q).1]
        exact zf h hh
    · have h0 := zfx_s hd hh
      have h1 : 51 ≤ h := by
        apply Decidable.byContradiction
        intro q
        rw [zfs_lo (by omega)] at h0
        cases h0
      by_cases q : (zsh Mt h).1 = 0
      · rw [(hdd h h1 q).2.2]
        refine k.2.2.2.2.1 h j ?_
        rcases hd with rfl | rfl
        · exact hh
        · exact zfx_32 hh
      · rw [(hi h h1 q).2.2.2]
        exact zp h j hh
    · by_cases c : h < 51
      · rw [(lo h c).1] at hl
        exact k.2.2.2.2.2.1 h hl
      · rw [k1 h (by omega)] at hl
        have := g.2.2 h hl
        have this : (zsh (vC ((0, f), S, L, P)) h).1 ≠ 0 := this
        rw [sC h, if_neg c] at this
        refine k.2.2.2.2.2.1 h ?_
        rw [← g2 h (by omega) this]
        exact hl
    · -- closed
      rw [k1 h h1] at hl h16
      have hlive := g.1 h j b (show (zsh Mt h).1 ≠ 0 from hl)
      have key : (zsh Mt b).1 ≠ 0 := by
        refine hlive ?_
        show (mm_me (eM Mt) (zsh Mt h).1).2.2.2 h j = some b
        rw [mm_me_lo h16]
        show zpt Mt h j = some b
        rw [← (hi h h1 hl).2.2.2]
        exact hb
      have b1 : 51 ≤ b := by
        apply Decidable.byContradiction
        intro q
        exact key (z2 b (by omega) (by omega))
      rw [k1 b b1]
      exact ⟨b1, key⟩
    · rw [k1 h hh] at q
      have := hi h hh q
      rw [(m1 h).1, (m1 h).2]
      exact this
