/-! ===== the law's run: its memory seen anew ===== -/
set_option maxRecDepth 100000
/-- from the point pc the run of the code comes to K, in a method whose memory was Mi at its begin -/
def zz_Jv (Mi : mm_M) (c : zz_P) (K : zz_K) (pc : Nat) (lv : zz_L) (st : List zv) (M : zz_M) (N : mm_N) : Prop := ∀ C : mm_C, c_M C = Mi → zz_OKs C c → (∀ lv st M N, K 0 lv st M N → mm_Z C 0 (eL lv) (st.map ev) (eM M) N) → (∀ lv st M N, K 1 lv st M N → mm_Z C 1 (eL lv) (st.map ev) (eM M) N) → mm_W C pc (eL lv) (st.map ev) (eM M) N
def zz_JvK (Mi : mm_M) (c : zz_P) (K : zz_K) : zz_K := fun q lv st M N => match q with
  | 0 => K 0 lv st M N
  | 1 => K 1 lv st M N
  | pc + 2 => zz_Jv Mi c K pc lv st M N
theorem zz_Jv.go {Mi : mm_M} {c : zz_P} {K : zz_K} (stops : List (Nat × List Nat)) (n : Nat) {pc : Nat} {lv : zz_L} {st : List zv} {M : zz_M} {N : mm_N} (h : zz_run c stops (zz_JvK Mi c K) n pc lv st M N) : zz_Jv Mi c K pc lv st M N := by
  intro C hM hc h0 h1
  refine zz_go2 hc ?_ stops n pc lv st M N h
  intro q lv st M N hq
  match q, hq with
  | 0, hq => exact h0 _ _ _ _ hq
  | 1, hq => exact h1 _ _ _ _ hq
  | p + 2, hq => exact hq C hM hc h0 h1
/-- the run goes on, its memory seen anew: h stands for what π h stood for -/
theorem zz_Jv.view {Mi : mm_M} {c : zz_P} {K : zz_K} {pc : Nat} {lv : zz_L} {st : List zv} {M M' : zz_M} {N : mm_N} (π : Nat → Nat) (h1 : ∀ h, (zsh M' h).1 ≠ 0 → zsh M' h = zsh M (π h)) (h16 : ∀ h, ¬ (zsh M' h).1 < 16 → π h = h) (h2 : ∀ h, (zsh M' h).1 ≠ 0 → (zsh M' h).1 < 16 → M'.2.1 h = M.2.1 (π h) ∧ M'.2.2.1 h = M.2.2.1 (π h) ∧ ∀ k, mm_rel (zsh M' h) k → (zpt M' h k).map π = zpt M (π h) k) (h3 : mm_cl0 (eM M) → mm_cl0 (eM M')) (hk : ∀ h k b, ¬ (zsh M' h).1 < 16 → mm_kP h k = some b → π b = b) (h5 : ∀ h h', π h = π h' → h = h') (h6 : ∀ h, (Mi.1 h).1 ≠ 0 → zsh M' h = zsh M h ∧ π h = h) (h7 : ∀ v ∈ st, mm_vk (eM M') (ev v) ∧ mm_v π (ev v) = ev v) (h8 : ∀ v, some v ∈ lv → mm_vk (eM M') (ev v) ∧ mm_v π (ev v) = ev v) (h : zz_Jv Mi c K pc lv st M' N) : zz_Jv Mi c K pc lv st M N := by
  intro C hM hc h0 h9
  have hW := h C hM hc h0 h9
  intro ad H locs ls hS
  refine mm_W.view (M := eM M) (M' := eM M') π h1 h16 (fun x hx hx2 => ?_) h3 hk (fun a b _ _ _ _ e => h5 a b e) (fun x hx => ?_) (fun v hv => ?_) (fun i v hv => ?_) hW ad H locs ls hS
  · obtain ⟨e1, e2, e3⟩ := h2 x hx hx2
    refine ⟨?_, ?_, e3⟩
    · funext k
      show zI (M'.2.1 x k) = zI (M.2.1 (π x) k)
      rw [e1]
    · funext k
      show zL (M'.2.2.1 x k) = zL (M.2.2.1 (π x) k)
      rw [e2]
  · rw [hM] at hx
    exact h6 x hx
  · obtain ⟨v0, hv0, rfl⟩ := List.mem_map.mp hv
    exact h7 v0 hv0
  · have hm : some v ∈ eL lv := List.mem_of_getElem? hv
    unfold eL at hm
    obtain ⟨o, ho, e⟩ := List.mem_map.mp hm
    cases o with
    | none => cases e
    | some v0 =>
      have e : some (ev v0) = some v := e
      cases e
      exact h8 v0 ho
theorem cP_r {h k b : Nat} (e : cP h k = some b) : (100 ≤ b ∧ b ≤ 140) ∨ (200 ≤ b ∧ b ≤ 207) ∨ (210 ≤ b ∧ b ≤ 225) := by
  have gd : ∀ (l : List (Option Nat)), l.getD k none = some b → some b ∈ l := fun l hl => by
    rw [List.getD_eq_getElem?_getD] at hl
    cases q : l[k]? with
    | none => rw [q] at hl; cases hl
    | some o =>
      rw [q] at hl
      have hl : o = some b := hl
      rw [← hl]
      exact List.mem_of_getElem? q
  have bi : ∀ {c : Bool} {x y : Option Nat}, (bif c then x else y) = some b → (c = true ∧ x = some b) ∨ y = some b := fun {c x y} hc => by
    cases c
    · exact Or.inr hc
    · exact Or.inl ⟨rfl, hc⟩
  unfold cP at e
  rcases bi e with ⟨-, e⟩ | e
  · have := gd _ e
    simp only [List.mem_cons, List.not_mem_nil, or_false, Option.some.injEq, reduceCtorEq, false_or] at this
    omega
  rcases bi e with ⟨-, e⟩ | e
  · have := gd _ e
    simp only [List.mem_cons, List.not_mem_nil, or_false, Option.some.injEq, reduceCtorEq, false_or] at this
    omega
  rcases bi e with ⟨-, e⟩ | e
  · have := gd _ e
    simp only [List.mem_cons, List.not_mem_nil, or_false, Option.some.injEq, reduceCtorEq, false_or] at this
    omega
  rcases bi e with ⟨-, e⟩ | e
  · have := gd _ e
    simp only [List.mem_cons, List.not_mem_nil, or_false, Option.some.injEq, reduceCtorEq, false_or] at this
    omega
  rcases bi e with ⟨-, e⟩ | e
  · have := gd _ e
    simp only [List.mem_cons, List.not_mem_nil, or_false, Option.some.injEq, reduceCtorEq, false_or] at this
    omega
  rcases bi e with ⟨-, e⟩ | e
  · have := gd _ e
    simp only [List.mem_cons, List.not_mem_nil, or_false, Option.some.injEq, reduceCtorEq, false_or] at this
    omega
  rcases bi e with ⟨-, e⟩ | e
  · have := gd _ e
    simp only [List.mem_cons, List.not_mem_nil, or_false, Option.some.injEq, reduceCtorEq, false_or] at this
    omega
  rcases bi e with ⟨-, e⟩ | e
  · have := gd _ e
    simp only [List.mem_cons, List.not_mem_nil, or_false, Option.some.injEq, reduceCtorEq, false_or] at this
    omega
  rcases bi e with ⟨-, e⟩ | e
  · rcases bi e with ⟨c, e⟩ | e
    · have := Nat.le_of_ble_eq_true c
      cases e
      omega
    · cases e
  rcases bi e with ⟨-, e⟩ | e
  · have := gd _ e
    simp only [List.mem_cons, List.not_mem_nil, or_false, Option.some.injEq, reduceCtorEq, false_or] at this
    omega
  rcases bi e with ⟨-, e⟩ | e
  · have := gd _ e
    simp only [List.mem_cons, List.not_mem_nil, or_false, Option.some.injEq, reduceCtorEq, false_or] at this
    omega
  rcases bi e with ⟨-, e⟩ | e
  · rcases bi e with ⟨c, e⟩ | e
    · have := Nat.le_of_ble_eq_true c
      cases e
      omega
    · cases e
  rcases bi e with ⟨-, e⟩ | e
  · have := gd _ e
    simp only [List.mem_cons, List.not_mem_nil, or_false, Option.some.injEq, reduceCtorEq, false_or] at this
    omega
  · cases e
theorem cP_k {h k b : Nat} (e : cP h k = some b) : k < 19 := by
  have gk : ∀ (l : List (Option Nat)), l.length ≤ 19 → l.getD k none = some b → k < 19 := fun l hl e => by
    rw [List.getD_eq_getElem?_getD] at e
    apply Decidable.byContradiction
    intro c
    rw [List.getElem?_eq_none (by omega)] at e
    cases e
  have bi : ∀ {c : Bool} {x y : Option Nat}, (bif c then x else y) = some b → (c = true ∧ x = some b) ∨ y = some b := fun {c x y} hc => by
    cases c
    · exact Or.inr hc
    · exact Or.inl ⟨rfl, hc⟩
  unfold cP at e
  rcases bi e with ⟨-, e⟩ | e
  · exact gk _ (by decide) e
  rcases bi e with ⟨-, e⟩ | e
  · exact gk _ (by decide) e
  rcases bi e with ⟨-, e⟩ | e
  · exact gk _ (by decide) e
  rcases bi e with ⟨-, e⟩ | e
  · exact gk _ (by decide) e
  rcases bi e with ⟨-, e⟩ | e
  · exact gk _ (by decide) e
  rcases bi e with ⟨-, e⟩ | e
  · exact gk _ (by decide) e
  rcases bi e with ⟨-, e⟩ | e
  · exact gk _ (by decide) e
  rcases bi e with ⟨-, e⟩ | e
  · exact gk _ (by decide) e
  rcases bi e with ⟨-, e⟩ | e
  · rcases bi e with ⟨c, e⟩ | e
    · have := Nat.le_of_ble_eq_true c
      omega
    · cases e
  rcases bi e with ⟨-, e⟩ | e
  · exact gk _ (by decide) e
  rcases bi e with ⟨-, e⟩ | e
  · exact gk _ (by decide) e
  rcases bi e with ⟨-, e⟩ | e
  · rcases bi e with ⟨c, e⟩ | e
    · have := Nat.le_of_ble_eq_true c
      omega
    · cases e
  rcases bi e with ⟨-, e⟩ | e
  · exact gk _ (by decide) e
  · cases e
theorem cP_out {h k b : Nat} (h1 : h < 200) (e : cP h k = some b) (h2 : 200 ≤ b) : h = 100 ∧ k = 0 := by
  have := (by decide +kernel : ∀ i : Fin 200, ∀ j : Fin 19, 200 ≤ (cP i.val j.val).getD 0 → i.val = 100 ∧ j.val = 0) ⟨h, h1⟩ ⟨k, cP_k e⟩
  refine this ?_
  show 200 ≤ (cP h k).getD 0
  rw [e]
  exact h2
theorem mP_r {h k b : Nat} (e : mP h k = some b) : b < 18 := by
  unfold mP at e
  cases c : Nat.beq h 0 with
  | false => rw [c] at e; cases e
  | true =>
    rw [c] at e
    have e : ([none, some 1, some 2, none, some 3, some 4, none, none, none, none, none, none, some 5, none, none, none, some 6, none, none, some 7, some 8, some 9, some 10, some 11, some 12, some 13, some 14, some 15, some 16, some 17, none, none] : List (Option Nat)).getD k none = some b := e
    by_cases kk : k < 32
    · have := (by decide +kernel : ∀ i : Fin 32, (([none, some 1, some 2, none, some 3, some 4, none, none, none, none, none, none, some 5, none, none, none, some 6, none, none, some 7, some 8, some 9, some 10, some 11, some 12, some 13, some 14, some 15, some 16, some 17, none, none] : List (Option Nat)).getD i.val none).getD 0 < 18) ⟨k, kk⟩
      rw [show ((⟨k, kk⟩ : Fin 32).val) = k from rfl, e] at this
      exact this
    · rw [List.getD_eq_getElem?_getD, List.getElem?_eq_none (by show 32 ≤ k; omega)] at e
      cases e
theorem kP_r {h k b : Nat} (h1 : 1000 ≤ h) (h2 : h < 1400) (e : mm_kP h k = some b) : 1000 ≤ b ∧ b < 1400 := by
  unfold mm_kP at e
  cases c1 : Nat.beq h 1301 with
  | true =>
    rw [c1] at e
    have e : (bif Nat.ble 5 k then none else some (1200 + k)) = some b := e
    cases hk : Nat.ble 5 k with
    | true => rw [hk] at e; cases e
    | false =>
      rw [hk] at e
      cases e
      have : k < 5 := by
        apply Decidable.byContradiction
        intro q
        rw [Nat.ble_eq_true_of_le (by omega : 5 ≤ k)] at hk
        cases hk
      omega
  | false =>
    rw [c1] at e
    have e : (bif Nat.ble 1100 h then none else bif Nat.beq k 0 then some (h + 100) else none) = some b := e
    cases hb : Nat.ble 1100 h with
    | true => rw [hb] at e; cases e
    | false =>
      rw [hb] at e
      have e : (bif Nat.beq k 0 then some (h + 100) else none) = some b := e
      have : h < 1100 := by
        apply Decidable.byContradiction
        intro q
        rw [Nat.ble_eq_true_of_le (by omega : 1100 ≤ h)] at hb
        cases hb
      cases hk : Nat.beq k 0 with
      | false => rw [hk] at e; cases e
      | true =>
        rw [hk] at e
        cases e
        omega
/-- fixed references that count -/
theorem rel_w : (∀ k, mm_rel (1, 1) k → k = 6 ∨ k = 7 ∨ k = 8 ∨ k = 9 ∨ k = 10) ∧ (∀ k, mm_rel (1, 2) k → k = 0 ∨ k = 1 ∨ k = 2 ∨ k = 6) ∧ (∀ k, mm_rel (1, 17) k → k = 1) ∧ (∀ k, mm_rel (6, 16) k → k < 16) ∧ (∀ n k, ¬ mm_rel (2, n) k) := by
  refine ⟨fun k hk => ?_, fun k hk => ?_, fun k hk => ?_, fun k hk => ?_, fun n k hk => ?_⟩
  · rcases hk with ⟨-, c, hc, h1, h2⟩ | ⟨h, -⟩
    · cases hc
      have := (by decide +kernel : ∀ i : Fin 11, mm_kd 1 i.val = 2 → i.val = 6 ∨ i.val = 7 ∨ i.val = 8 ∨ i.val = 9 ∨ i.val = 10) ⟨k, h1⟩ h2
      exact this
    · exact absurd h (by decide)
  · rcases hk with ⟨-, c, hc, h1, h2⟩ | ⟨h, -⟩
    · cases hc
      have := (by decide +kernel : ∀ i : Fin 7, mm_kd 2 i.val = 2 → i.val = 0 ∨ i.val = 1 ∨ i.val = 2 ∨ i.val = 6) ⟨k, h1⟩ h2
      exact this
    · exact absurd h (by decide)
  · rcases hk with ⟨-, c, hc, h1, h2⟩ | ⟨h, -⟩
    · cases hc
      have := (by decide +kernel : ∀ i : Fin 3, mm_kd 17 i.val = 2 → i.val = 1) ⟨k, h1⟩ h2
      exact this
    · exact absurd h (by decide)
  · rcases hk with ⟨h, -⟩ | ⟨-, h⟩
    · exact absurd h (by decide)
    · exact h
  · rcases hk with ⟨h, -⟩ | ⟨h, -⟩
    · exact absurd (show (2 : Nat) = 1 from h) (by decide)
    · exact absurd (show (2 : Nat) = 6 ∨ (2 : Nat) = 7 ∨ (2 : Nat) = 8 from h) (by decide)
/-- the world at t becomes the world at its old place -/
theorem LI3.view {n : Nat} {x m : aS} {M : zz_M} {Mi : mm_M} {c : zz_P} {K : zz_K} {pc : Nat} {a : Int} {st : List zv} {N : mm_N} (hMi : ∀ h, (Mi.1 h).1 ≠ 0 → h = 1500 ∨ (1000 ≤ h ∧ h < 1400)) (h3 : LI3 n x m M) (hst : ∀ v ∈ st, ∃ i, v = vi i) (h : ∀ M', LI n x m M' → M'.2.2.1 51 = M.2.2.1 51 → zz_Jv Mi c K pc [some (vr 1500), some (vr 100), some (vr 0), some (vr 51), some (vi a), none, none, none] st M' N) : zz_Jv Mi c K pc [some (vr 1500), some (vr 100), some (vr 0), some (vr 51), some (vi a), none, none, none] st M N := by
  obtain ⟨t, f, S, L, P, top, rfl, ⟨k1, k2, k3, k4, k5, k6, k7⟩, ⟨t2, h0, hw, hp⟩, hC, hM⟩ := h3
  have so : ∀ h, h < 200 → sw t h = h := fun h hh => sw_b t2 (Or.inl hh)
  have sc1 : ∀ h, 1000 ≤ h → h < 1400 → sw t h = h := fun h a b => sw_o (by omega) (by omega)
  have G : ∀ h, zfs 2 h = true → f (sw t h) = cS h := fun h e => sw_fix t2 (fun h e _ => k4 h e) h0 hw e
  have nfx : ∀ h k, zfs 2 h = false → zfx 2 h k = false := fun h k e => zfx_of e k
  -- what lives lives under its new name
  have lv : ∀ b, (f b).1 ≠ 0 → (f (sw t b)).1 ≠ 0 := fun b hb => by
    by_cases c1 : (200 ≤ b ∧ b ≤ 207) ∨ (210 ≤ b ∧ b ≤ 225)
    · obtain ⟨z1, z2⟩ := cs_f (Or.inr c1)
      rw [G b z1]
      exact z2
    · by_cases c2 : t ≤ b ∧ b < t + 26 ∧ b ≠ t + 8 ∧ b ≠ t + 9
      · have e := sw_t (t := t) (i := b - t) t2 (by omega) (by omega) (by omega)
        rw [show t + (b - t) = b by omega] at e
        obtain ⟨z1, z2⟩ := cs_f (h := 200 + (b - t)) (by omega)
        rw [e, k4 _ z1]
        exact z2
      · rw [sw_o (by omega) c2]
        exact hb
  have s15 : sw t 1500 = 1500 := sw_o (by decide) (by omega)
  have mid : ∀ h, (sw t h = 1500 ∨ (1000 ≤ sw t h ∧ sw t h < 1400)) → sw t h = h := fun h a => by
    have e := sw_sw t2 h
    rcases a with a | ⟨a, b⟩
    · rw [a, s15] at e
      rw [a]
      exact e
    · rw [sc1 _ a b] at e
      exact e
  have K16 : ∀ h, ¬ (f (sw t h)).1 < 16 → (h = 1500 ∨ (1000 ≤ h ∧ h < 1400)) ∧ sw t h = h := fun h hh => by
    have a := k6 _ hh
    have e := mid h a
    rw [e] at a
    exact ⟨a, e⟩
  have cPl : ∀ h k b, cP h k = some b → (f (sw t b)).1 ≠ 0 := fun h k b e => by
    obtain ⟨z1, z2⟩ := cs_f (cP_r e)
    rw [G b z1]
    exact z2
  have kk : lwK 2 n (fun h => f (sw t h)) (pw t P) := by
    refine ⟨fun h hh => ⟨by show f (sw t h) = _; rw [so h (by omega)]; exact (k1 h hh).1, ?_⟩, ⟨by show f (sw t 1500) = _; rw [s15]; exact k2.1, by show f (sw t 51) = _; rw [so 51 (by decide)]; exact k2.2⟩, fun h a1 a2 a3 => by show (f (sw t h)).1 = 0; rw [so h (by omega)]; exact k3 h a1 a2 a3, G, fun h k e => if_pos e, fun h hh => (K16 h hh).1, fun h k b a1 a2 a3 a4 => ?_⟩
    · funext k
      rw [pw_f (nfx h k (zfs_lo (by omega))), so h (by omega), (k1 h hh).2]
      cases e : mP h k with
      | none => rfl
      | some b =>
        have := mP_r e
        show some (sw t b) = some b
        rw [so b (by omega)]
    · have a2 : (f (sw t h)).1 ≠ 0 := a2
      have a3 : (f (sw t h)).1 < 16 := a3
      show 51 ≤ b ∧ (f (sw t b)).1 ≠ 0
      unfold pw at a4
      by_cases e : zfx 2 h k = true
      · rw [if_pos e] at a4
        exact ⟨by have := cP_r a4; omega, cPl h k b a4⟩
      · rw [if_neg e] at a4
        cases q : P (sw t h) k with
        | none => rw [q] at a4; cases a4
        | some b0 =>
          rw [q] at a4
          have a4 : some (sw t b0) = some b := a4
          cases a4
          obtain ⟨z1, z2⟩ := k7 _ k b0 (sw_51 t2 a1) a2 a3 q
          exact ⟨sw_51 t2 z1, by rw [sw_sw t2]; exact z2⟩
  have hL : LI n x m ((0, fun h => f (sw t h)), (fun h => S (sw t h)), (fun h => L (sw t h)), pw t P) := ⟨_, _, _, _, top, rfl, kk, hC, hM.lo (fun h hh => by show S (sw t h) = _; rw [so h (by omega)])⟩
  have ex : ∀ v : Nat, (v = 1500 ∨ v = 100 ∨ v = 0 ∨ v = 51) → mm_vk (eM ((0, fun h => f (sw t h)), (fun h => S (sw t h)), (fun h => L (sw t h)), pw t P)) (ev (vr v)) ∧ mm_v (sw t) (ev (vr v)) = ev (vr v) := fun v hv => by
    have sv : sw t v = v := by
      rcases hv with z | z | z | z <;> subst z
      · exact s15
      · exact so 100 (by decide)
      · exact so 0 (by decide)
      · exact so 51 (by decide)
    refine ⟨fun b e => ?_, ?_⟩
    · have e : Value.ref v = Value.ref b := e
      cases e
      show (f (sw t v)).1 ≠ 0
      rw [sv]
      rcases hv with z | z | z | z <;> subst z
      · rw [k2.1]; exact Nat.succ_ne_zero 31
      · rw [k4 100 rfl]; decide
      · rw [(k1 0 (by decide)).1]; decide
      · rw [k2.2]; decide
    · show Value.ref (sw t v) = Value.ref v
      rw [sv]
  refine zz_Jv.view (M' := ((0, fun h => f (sw t h)), (fun h => S (sw t h)), (fun h => L (sw t h)), pw t P)) (sw t) (fun _ _ => rfl) (fun h hh => (K16 h hh).2) (fun h hl hl2 => ⟨rfl, rfl, fun k hk => ?_⟩) (fun hcl => ?_) (fun h k b hh e => ?_) (fun p q e => by rw [← sw_sw t2 p, e, sw_sw t2]) (fun h hh => ?_) (fun v hv => ?_) (fun v hv => ?_) (h _ hL (by show L (sw t 51) = L 51; rw [so 51 (by decide)]))
  · -- a reference that counts
    have hk : mm_rel (f (sw t h)) k := hk
    show (pw t P h k).map (sw t) = P (sw t h) k
    by_cases e : zfx 2 h k = true
    · have hz : zfs 2 h = true := zfx_s (Or.inl rfl) e
      rw [show pw t P h k = cP h k from if_pos e]
      rw [G h hz] at hk
      by_cases cw : 200 ≤ h ∧ h < 226
      · have hn : h ≠ 208 ∧ h ≠ 209 := ⟨fun z => by subst z; exact absurd hz (by decide), fun z => by subst z; exact absurd hz (by decide)⟩
        have e2 := sw_i (t := t) (i := h - 200) (by omega) (by omega) (by omega)
        rw [show 200 + (h - 200) = h by omega] at e2
        obtain ⟨w1, ⟨w2, w3, w4, w5, w6⟩, w7, w8, w9, w10, w11⟩ := hw
        have i2 : ∀ i, i < 26 → i ≠ 8 → i ≠ 9 → sw t (200 + i) = t + i := fun i a b c => sw_i a b c
        obtain ⟨r1, r2, r3, r4, r5⟩ := rel_w
        by_cases c10 : 210 ≤ h
        · have : cS h = (2, 12) := by
            have := (by decide +kernel : ∀ j : Fin 226, 210 ≤ j.val → cS j.val = (2, 12)) ⟨h, by omega⟩ c10
            exact this
          rw [this] at hk
          exact absurd hk (r5 12 k)
        · rw [e2]
          rcases (show h = 200 ∨ h = 201 ∨ h = 202 ∨ h = 203 ∨ h = 204 ∨ h = 205 ∨ h = 206 ∨ h = 207 by omega) with z | z | z | z | z | z | z | z <;> subst z
          · rcases r1 k hk with z | z | z | z | z <;> subst z
            · exact (congrArg some (i2 1 (by decide) (by decide) (by decide))).trans w2.symm
            · exact (congrArg some (i2 2 (by decide) (by decide) (by decide))).trans w3.symm
            · exact (congrArg some (i2 3 (by decide) (by decide) (by decide))).trans w4.symm
            · exact (congrArg some (i2 4 (by decide) (by decide) (by decide))).trans w5.symm
            · exact (congrArg some (so 100 (by decide))).trans w6.symm
          · have k16 := r4 k hk
            have ec : cP 201 k = some (210 + k) := (by decide +kernel : ∀ j : Fin 16, cP 201 j.val = some (210 + j.val)) ⟨k, k16⟩
            rw [ec]
            have := i2 (10 + k) (by omega) (by omega) (by omega)
            rw [show 200 + (10 + k) = 210 + k by omega, show t + (10 + k) = t + 10 + k by omega] at this
            exact (congrArg some this).trans (w7 k k16).symm
          · have := r3 k hk
            subst this
            exact absurd e (by decide)
          · exact absurd hk (r5 2 k)
          · rcases r2 k hk with z | z | z | z <;> subst z
            · exact (congrArg some (i2 5 (by decide) (by decide) (by decide))).trans w8.symm
            · exact (congrArg some (i2 6 (by decide) (by decide) (by decide))).trans w9.symm
            · exact (congrArg some (i2 7 (by decide) (by decide) (by decide))).trans w10.symm
            · exact (congrArg some (so 100 (by decide))).trans w11.symm
          · exact absurd hk (r5 2 k)
          · exact absurd hk (r5 2 k)
          · exact absurd hk (r5 2 k)
      · have hh2 : ¬ 2000 ≤ h := fun z => by rw [zfs_hi z] at hz; cases hz
        have eh : sw t h = h := sw_o (by omega) (by omega)
        rw [eh]
        by_cases c100 : h = 100 ∧ k = 0
        · obtain ⟨z1, z2⟩ := c100
          subst z1 z2
          rw [hp]
          exact congrArg some (sw_i (t := t) (i := 0) (by decide) (by decide) (by decide))
        · have e3 : zfx 3 h k = true := by
            have : (Nat.beq h 100 && Nat.beq k 0) = false := by
              cases q1 : Nat.beq h 100 with
              | false => rfl
              | true =>
                cases q2 : Nat.beq k 0 with
                | false => rfl
                | true => exact absurd ⟨Nat.eq_of_beq_eq_true q1, Nat.eq_of_beq_eq_true q2⟩ c100
            have e : (((Nat.ble 100 h && Nat.ble h 140) || (Nat.ble 200 h && Nat.ble h 207) || (Nat.ble 210 h && Nat.ble h 225) || (Nat.ble 1000 h && Nat.ble h 1399)) && !((Nat.beq h 100 && (Nat.beq k 1 || (false && Nat.beq k 0))) || (Nat.beq h 103 && Nat.beq k 0) || ((Nat.beq h 116 || Nat.beq h 120 || Nat.beq h 124) && Nat.ble k 1) || (Nat.beq h 202 && Nat.beq k 1))) = true := e
            show (((Nat.ble 100 h && Nat.ble h 140) || (Nat.ble 200 h && Nat.ble h 207) || (Nat.ble 210 h && Nat.ble h 225) || (Nat.ble 1000 h && Nat.ble h 1399)) && !((Nat.beq h 100 && (Nat.beq k 1 || (true && Nat.beq k 0))) || (Nat.beq h 103 && Nat.beq k 0) || ((Nat.beq h 116 || Nat.beq h 120 || Nat.beq h 124) && Nat.ble k 1) || (Nat.beq h 202 && Nat.beq k 1))) = true
            revert e this
            cases Nat.beq h 100 <;> cases Nat.beq k 0 <;> cases Nat.beq k 1 <;> simp
          rw [k5 h k e3]
          cases q : cP h k with
          | none => rfl
          | some b =>
            show some (sw t b) = some b
            -- a reference from outside the world to its inside is the one at 100
            have hb := cP_r q
            have hl : h < 200 := by
              apply Decidable.byContradiction
              intro z
              have h1 : 1000 ≤ h := by
                apply Decidable.byContradiction
                intro z2
                have := (by decide +kernel : ∀ j : Fin 1000, 226 ≤ j.val → zfs 2 j.val = false) ⟨h, by omega⟩ (by show 226 ≤ h; omega)
                rw [this] at hz
                cases hz
              have h2 : h < 1400 := by
                apply Decidable.byContradiction
                intro z2
                unfold zfs at hz
                have b1 : ∀ a c : Nat, c < h → (Nat.ble a h && Nat.ble h c) = false := fun a c hc => by
                  have : Nat.ble h c = false := by
                    cases q : Nat.ble h c
                    · rfl
                    · exact absurd (Nat.le_of_ble_eq_true q) (by omega)
                  rw [this, Bool.and_false]
                rw [b1 100 140 (by omega), b1 200 207 (by omega), b1 210 225 (by omega), b1 1000 1399 (by omega)] at hz
                cases hz
              rw [((zfs_c h1 h2).2 k).2] at q
              cases q
            have hb2 : b < 200 := by
              apply Decidable.byContradiction
              intro z
              have hk19 : k < 19 ∨ 19 ≤ k := by omega
              have := cP_out hl q (by omega)
              exact c100 this
            rw [so b hb2]
    · rw [show pw t P h k = (P (sw t h) k).map (sw t) from if_neg e]
      cases q : P (sw t h) k with
      | none => rfl
      | some b =>
        show some (sw t (sw t b)) = some b
        rw [sw_sw t2]
  · -- closed
    intro h k b hl hb
    have hl : (f (sw t h)).1 ≠ 0 := hl
    have hb : (mm_me (eM ((0, fun h => f (sw t h)), (fun h => S (sw t h)), (fun h => L (sw t h)), pw t P)) (f (sw t h)).1).2.2.2 h k = some b := hb
    show (f (sw t b)).1 ≠ 0
    by_cases c16 : (f (sw t h)).1 < 16
    · rw [mm_me_lo c16] at hb
      have hb : pw t P h k = some b := hb
      unfold pw at hb
      by_cases e : zfx 2 h k = true
      · rw [if_pos e] at hb
        exact cPl h k b hb
      · rw [if_neg e] at hb
        cases q : P (sw t h) k with
        | none => rw [q] at hb; cases hb
        | some b0 =>
          rw [q] at hb
          have hb : some (sw t b0) = some b := hb
          cases hb
          rw [sw_sw t2]
          refine hcl (sw t h) k b0 hl ?_
          show (mm_me (eM ((0, f), S, L, P)) (f (sw t h)).1).2.2.2 (sw t h) k = some b0
          rw [mm_me_lo c16]
          exact q
    · obtain ⟨z0, z3⟩ := K16 h c16
      rw [mm_me_hi c16] at hb
      have hb : mm_kP h k = some b := hb
      by_cases c15 : h = 1500
      · subst c15
        have hb : (none : Option Nat) = some b := hb
        cases hb
      obtain ⟨z1, z2⟩ := z0.resolve_left c15
      obtain ⟨y1, y2⟩ := kP_r z1 z2 hb
      rw [sc1 b y1 y2]
      rw [z3] at hl c16
      refine hcl h k b hl ?_
      show (mm_me (eM ((0, f), S, L, P)) (f h).1).2.2.2 h k = some b
      rw [mm_me_hi c16]
      exact hb
  · obtain ⟨z0, z3⟩ := K16 h hh
    by_cases c15 : h = 1500
    · subst c15
      have e : (none : Option Nat) = some b := e
      cases e
    obtain ⟨z1, z2⟩ := z0.resolve_left c15
    obtain ⟨y1, y2⟩ := kP_r z1 z2 e
    exact sc1 b y1 y2
  · have e : sw t h = h := by
      rcases hMi h hh with z | ⟨z1, z2⟩
      · rw [z]; exact s15
      · exact sc1 h z1 z2
    exact ⟨by show f (sw t h) = f h; rw [e], e⟩
  · obtain ⟨i, rfl⟩ := hst v hv
    exact ⟨vk_i _ i, rfl⟩
  · simp only [List.mem_cons, List.not_mem_nil, or_false, Option.some.injEq, reduceCtorEq] at hv
    rcases hv with z | z | z | z | z <;> subst z
    · exact ex 1500 (by omega)
    · exact ex 100 (by omega)
    · exact ex 0 (by omega)
    · exact ex 51 (by omega)
    · exact ⟨vk_i _ a, rfl⟩
