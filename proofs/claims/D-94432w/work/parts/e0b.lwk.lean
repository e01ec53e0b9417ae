/-! ===== the law's calls, as the plain words tell ===== -/
set_option maxRecDepth 100000
theorem nz_id {v : Int} (h : R32 v) : nz v = v := zI_toInt h.1 h.2
theorem nl_id {v : Int} (h : R64 v) : nl v = v := zL_toInt h.1 h.2
theorem nl_nz (v : Int) : nl (nz v) = nz v := nl_id ⟨by have := (nz_R v).1; omega, by have := (nz_R v).2; omega⟩
def cK (y : Int × Int × aS) (K : (Nat → Nat → Int) → Prop) : Option zv → zz_M → Prop := fun r M' => r = some (vi y.1) ∧ R32 y.1 ∧ ∃ f' S' L' P' top', M' = ((2, f'), S', L', P') ∧ CI y.2.2 f' S' P' top' ∧ K L'
def cK3 (y : Int × Int × aS) (K : (Nat → Nat → Int) → Prop) : Option zv → zz_M → Prop := fun r M' => r = some (vi y.1) ∧ R32 y.1 ∧ ((∃ f' S' L' P' top', M' = ((2, f'), S', L', P') ∧ CI y.2.2 f' S' P' top' ∧ K L') ∨ ∃ t f' S' L' P' top', M' = ((3, f'), S', L', P') ∧ C3 y.2.2 t f' S' P' top' ∧ K L')
theorem eM_nl (f : Nat → Nat × Nat) (S L : Nat → Nat → Int) (P : Nat → Nat → Option Nat) : eM ((0, f), S, (fun h k => nl (L h k)), P) = eM ((0, f), S, L, P) := by
  have e : zJ (fun h k => nl (L h k)) = zJ L := by
    funext h k
    show zL (nl (L h k)) = zL (L h k)
    unfold nl zL
    rw [Int64.ofInt_toInt]
  show (zsh ((0, f), S, (fun h k => nl (L h k)), P), zS S, zJ (fun h k => nl (L h k)), zpt ((0, f), S, (fun h k => nl (L h k)), P)) = (zsh ((0, f), S, L, P), zS S, zJ L, zpt ((0, f), S, L, P))
  rw [e]
  rfl
section
variable {n : Nat} {x m : aS} {M : zz_M} {sp : zz_Sp} {as : List zv} {y : Int × Int × aS} {K : (Nat → Nat → Int) → Prop} {Q : Option zv → zz_M → Prop} {X : Nat → zz_M → Prop}
theorem LI.L {f : Nat → Nat × Nat} {S L L2 : Nat → Nat → Int} {P : Nat → Nat → Option Nat} (h : LI n x m ((0, f), S, L, P)) : LI n x m ((0, f), S, L2, P) := by
  obtain ⟨f0, S0, L0, P0, top, e, k, c⟩ := h
  cases e
  exact ⟨f, S, L2, P, top, rfl, k, c⟩
theorem LI3.L {f : Nat → Nat × Nat} {S L L2 : Nat → Nat → Int} {P : Nat → Nat → Option Nat} (h : LI3 n x m ((0, f), S, L, P)) : LI3 n x m ((0, f), S, L2, P) := by
  obtain ⟨t, f0, S0, L0, P0, top, e, k, c⟩ := h
  cases e
  exact ⟨t, f, S, L2, P, top, rfl, k, c⟩
theorem LI.t0 (h : LI n x m M) : M.1.1 = 0 := by
  obtain ⟨f, S, L, P, top, e, -⟩ := h
  rw [e]
/-- a call that may throw, by the law's own method -/
theorem LI.cW (hL : LI n x m M) (has : ∀ a ∈ as, mm_vk (eM (vC M)) (ev a)) (hs : ∀ (f : Nat → Nat × Nat) (S L : Nat → Nat → Int) (P : Nat → Nat → Option Nat) (top : Nat), CI x f S P top → sp as ((2, f), S, L, P) (cK y K) (fun _ _ => False)) (hq : ∀ (S_ L_ : Nat → Nat → Int) (P_ : Nat → Nat → Option Nat) (f_ : Nat → Nat × Nat) (L' : Nat → Nat → Int), LI n y.2.2 m ((M.1.1, f_), S_, L_, P_) → R32 y.1 → K L' → L_ 51 = (fun k => nl (L' 51 k)) → Q (some (vi y.1)) ((M.1.1, f_), S_, L_, P_)) : zA vC sp as M Q X := by
  have e0 := hL.t0
  have hp := hL.pC
  refine ⟨⟨hp.1, has, hp.2⟩, cK y K, fun _ _ => False, ?_, ?_, fun _ _ q => q⟩
  · obtain ⟨f, S, L, P, top, e, k, hC, -⟩ := id hL
    rw [e]
    exact hs (fC f) S L P top hC
  · rintro r M2 ⟨rfl, hr, f2, S2, L2, P2, top2, rfl, C2, hK⟩ g
    obtain ⟨b1, f', S', L', P', b2, b3, b4⟩ := hL.bC C2 g
    refine ⟨b1, ((0, f'), S', (fun h k => nl (L' h k)), P'), by rw [b2, eM_nl], ?_⟩
    rw [e0] at hq
    have := hq S' (fun h k => nl (L' h k)) P' f' L2 b3.L hr hK (by show (fun k => nl (L' 51 k)) = _; rw [b4])
    rw [show nzr (some (vi y.1)) = some (vi (nz y.1)) from rfl, nz_id hr]
    exact this
/-- the same, when another world may be made -/
theorem LI.cW3 (hL : LI n x m M) (has : ∀ a ∈ as, mm_vk (eM (vC M)) (ev a)) (hs : ∀ (f : Nat → Nat × Nat) (S L : Nat → Nat → Int) (P : Nat → Nat → Option Nat) (top : Nat), CI x f S P top → sp as ((2, f), S, L, P) (cK3 y K) (fun _ _ => False)) (hq : ∀ (S_ L_ : Nat → Nat → Int) (P_ : Nat → Nat → Option Nat) (f_ : Nat → Nat × Nat) (L' : Nat → Nat → Int), (LI n y.2.2 m ((M.1.1, f_), S_, L_, P_) ∨ LI3 n y.2.2 m ((M.1.1, f_), S_, L_, P_)) → R32 y.1 → K L' → L_ 51 = (fun k => nl (L' 51 k)) → Q (some (vi y.1)) ((M.1.1, f_), S_, L_, P_)) : zA vC sp as M Q X := by
  have e0 := hL.t0
  have hp := hL.pC
  rw [e0] at hq
  refine ⟨⟨hp.1, has, hp.2⟩, cK3 y K, fun _ _ => False, ?_, ?_, fun _ _ q => q⟩
  · obtain ⟨f, S, L, P, top, e, k, hC, -⟩ := id hL
    rw [e]
    exact hs (fC f) S L P top hC
  · rintro r M2 ⟨rfl, hr, ⟨f2, S2, L2, P2, top2, rfl, C2, hK⟩ | ⟨t, f2, S2, L2, P2, top2, rfl, C2, hK⟩⟩ g
    · obtain ⟨b1, f', S', L', P', b2, b3, b4⟩ := hL.bC C2 g
      refine ⟨b1, ((0, f'), S', (fun h k => nl (L' h k)), P'), by rw [b2, eM_nl], ?_⟩
      have := hq S' (fun h k => nl (L' h k)) P' f' L2 (Or.inl b3.L) hr hK (by show (fun k => nl (L' 51 k)) = _; rw [b4])
      rw [show nzr (some (vi y.1)) = some (vi (nz y.1)) from rfl, nz_id hr]
      exact this
    · obtain ⟨b1, f', S', L', P', b2, b3, b4⟩ := hL.bC3 C2 g
      refine ⟨b1, ((0, f'), S', (fun h k => nl (L' h k)), P'), by rw [b2, eM_nl], ?_⟩
      have := hq S' (fun h k => nl (L' h k)) P' f' L2 (Or.inr b3.L) hr hK (by show (fun k => nl (L' 51 k)) = _; rw [b4])
      rw [show nzr (some (vi y.1)) = some (vi (nz y.1)) from rfl, nz_id hr]
      exact this
/-- a call that throws nothing -/
theorem LI.cD (hL : LI n x m M) (has : ∀ a ∈ as, mm_vk (eM (vC M)) (ev a)) (hs : ∀ (f : Nat → Nat × Nat) (S L : Nat → Nat → Int) (P : Nat → Nat → Option Nat) (top : Nat), CI x f S P top → sp as ((2, f), S, L, P) (fun r M' => eQ y r M' ∨ eQ3 y r M') (eX [] y)) (hq : ∀ (S_ L_ : Nat → Nat → Int) (P_ : Nat → Nat → Option Nat) (f_ : Nat → Nat × Nat), (LI n y.2.2 m ((M.1.1, f_), S_, L_, P_) ∨ LI3 n y.2.2 m ((M.1.1, f_), S_, L_, P_)) → y.1 = 0 → Q (some (vi (nz y.2.1))) ((M.1.1, f_), S_, L_, P_)) : zA vC sp as M Q X := by
  have e0 := hL.t0
  have hp := hL.pC
  rw [e0] at hq
  refine ⟨⟨hp.1, has, hp.2⟩, (fun r M' => eQ y r M' ∨ eQ3 y r M'), eX [] y, ?_, ?_, fun _ _ q => absurd q.1 List.not_mem_nil⟩
  · obtain ⟨f, S, L, P, top, e, k, hC, -⟩ := id hL
    rw [e]
    exact hs (fC f) S L P top hC
  · rintro r M2 (⟨hy, rfl, f2, S2, L2, P2, top2, rfl, C2⟩ | ⟨hy, rfl, t, f2, S2, L2, P2, top2, rfl, C2⟩) g
    · obtain ⟨b1, f', S', L', P', b2, b3, -⟩ := hL.bC C2 g
      exact ⟨b1, ((0, f'), S', L', P'), by rw [b2], hq S' L' P' f' (Or.inl b3) hy⟩
    · obtain ⟨b1, f', S', L', P', b2, b3, -⟩ := hL.bC3 C2 g
      exact ⟨b1, ((0, f'), S', L', P'), by rw [b2], hq S' L' P' f' (Or.inr b3) hy⟩
theorem LI.cE (hL : LI n x m M) (has : ∀ a ∈ as, mm_vk (eM (vC M)) (ev a)) (hs : ∀ (f : Nat → Nat × Nat) (S L : Nat → Nat → Int) (P : Nat → Nat → Option Nat) (top : Nat), CI x f S P top → sp as ((2, f), S, L, P) (eQ y) (eX [] y)) (hq : ∀ (S_ L_ : Nat → Nat → Int) (P_ : Nat → Nat → Option Nat) (f_ : Nat → Nat × Nat), LI n y.2.2 m ((M.1.1, f_), S_, L_, P_) → y.1 = 0 → Q (some (vi (nz y.2.1))) ((M.1.1, f_), S_, L_, P_)) : zA vC sp as M Q X := by
  have e0 := hL.t0
  have hp := hL.pC
  rw [e0] at hq
  refine ⟨⟨hp.1, has, hp.2⟩, eQ y, eX [] y, ?_, ?_, fun _ _ q => absurd q.1 List.not_mem_nil⟩
  · obtain ⟨f, S, L, P, top, e, k, hC, -⟩ := id hL
    rw [e]
    exact hs (fC f) S L P top hC
  · rintro r M2 ⟨hy, rfl, f2, S2, L2, P2, top2, rfl, C2⟩ g
    obtain ⟨b1, f', S', L', P', b2, b3, -⟩ := hL.bC C2 g
    exact ⟨b1, ((0, f'), S', L', P'), by rw [b2], hq S' L' P' f' b3 hy⟩
theorem LI.cV (hL : LI n x m M) (has : ∀ a ∈ as, mm_vk (eM (vC M)) (ev a)) (hs : ∀ (f : Nat → Nat × Nat) (S L : Nat → Nat → Int) (P : Nat → Nat → Option Nat) (top : Nat), CI x f S P top → sp as ((2, f), S, L, P) (eQv y) (eX [] y)) (hq : ∀ (S_ L_ : Nat → Nat → Int) (P_ : Nat → Nat → Option Nat) (f_ : Nat → Nat × Nat), LI n y.2.2 m ((M.1.1, f_), S_, L_, P_) → Q none ((M.1.1, f_), S_, L_, P_)) : zA vC sp as M Q X := by
  have e0 := hL.t0
  have hp := hL.pC
  rw [e0] at hq
  refine ⟨⟨hp.1, has, hp.2⟩, eQv y, eX [] y, ?_, ?_, fun _ _ q => absurd q.1 List.not_mem_nil⟩
  · obtain ⟨f, S, L, P, top, e, k, hC, -⟩ := id hL
    rw [e]
    exact hs (fC f) S L P top hC
  · rintro r M2 ⟨hy, rfl, f2, S2, L2, P2, top2, rfl, C2⟩ g
    obtain ⟨b1, f', S', L', P', b2, b3, -⟩ := hL.bC C2 g
    exact ⟨b1, ((0, f'), S', L', P'), by rw [b2], hq S' L' P' f' b3⟩
/-- a call of the model's -/
theorem LI.cM (hL : LI n x m M) (has : ∀ a ∈ as, mm_vk (eM (vM M)) (ev a)) (hs : ∀ S L : Nat → Nat → Int, MI m S → sp as (zm S L) (mQi y) (fun _ _ => False)) (hq : ∀ (S_ L_ : Nat → Nat → Int) (P_ : Nat → Nat → Option Nat) (f_ : Nat → Nat × Nat) (v : Int), LI n x y.2.2 ((M.1.1, f_), S_, L_, P_) → S_ 0 0 = y.1 → L_ 51 = M.2.2.1 51 → (y.1 = 0 → nz v = nz y.2.1) → Q (some (vi (nz v))) ((M.1.1, f_), S_, L_, P_)) : zA vM sp as M Q X := by
  have e0 := hL.t0
  have hp := hL.pM
  rw [e0] at hq
  refine ⟨⟨hp.1, has, hp.2⟩, mQi y, fun _ _ => False, ?_, ?_, fun _ _ q => q⟩
  · obtain ⟨f, S, L, P, top, e, k, -, hM⟩ := id hL
    rw [e]
    exact hs S L hM
  · rintro r M2 ⟨⟨b, rfl, hb⟩, S2, L2, rfl, hM2, h00⟩ g
    obtain ⟨b1, f', S', L', P', b2, b3, b4, b5⟩ := hL.bM (L2 := L2) hM2
    exact ⟨b1, ((0, f'), S', L', P'), by rw [b2], hq S' L' P' f' b b3 (b4.trans h00) b5 (fun z => by rw [hb z])⟩
theorem LI.cMl (hL : LI n x m M) (has : ∀ a ∈ as, mm_vk (eM (vM M)) (ev a)) (hs : ∀ S L : Nat → Nat → Int, MI m S → sp as (zm S L) (mQl y) (fun _ _ => False)) (hq : ∀ (S_ L_ : Nat → Nat → Int) (P_ : Nat → Nat → Option Nat) (f_ : Nat → Nat × Nat) (v : Int), LI n x y.2.2 ((M.1.1, f_), S_, L_, P_) → S_ 0 0 = y.1 → L_ 51 = M.2.2.1 51 → (y.1 = 0 → nl v = nl y.2.1) → Q (some (vl (nl v))) ((M.1.1, f_), S_, L_, P_)) : zA vM sp as M Q X := by
  have e0 := hL.t0
  have hp := hL.pM
  rw [e0] at hq
  refine ⟨⟨hp.1, has, hp.2⟩, mQl y, fun _ _ => False, ?_, ?_, fun _ _ q => q⟩
  · obtain ⟨f, S, L, P, top, e, k, -, hM⟩ := id hL
    rw [e]
    exact hs S L hM
  · rintro r M2 ⟨⟨b, rfl, hb⟩, S2, L2, rfl, hM2, h00⟩ g
    obtain ⟨b1, f', S', L', P', b2, b3, b4, b5⟩ := hL.bM (L2 := L2) hM2
    exact ⟨b1, ((0, f'), S', L', P'), by rw [b2], hq S' L' P' f' b b3 (b4.trans h00) b5 (fun z => by rw [hb z])⟩
theorem LI.cMv (hL : LI n x m M) (has : ∀ a ∈ as, mm_vk (eM (vM M)) (ev a)) (hs : ∀ S L : Nat → Nat → Int, MI m S → sp as (zm S L) (mQv y) (fun _ _ => False)) (hq : ∀ (S_ L_ : Nat → Nat → Int) (P_ : Nat → Nat → Option Nat) (f_ : Nat → Nat × Nat), LI n x y.2.2 ((M.1.1, f_), S_, L_, P_) → S_ 0 0 = y.1 → L_ 51 = M.2.2.1 51 → Q none ((M.1.1, f_), S_, L_, P_)) : zA vM sp as M Q X := by
  have e0 := hL.t0
  have hp := hL.pM
  rw [e0] at hq
  refine ⟨⟨hp.1, has, hp.2⟩, mQv y, fun _ _ => False, ?_, ?_, fun _ _ q => q⟩
  · obtain ⟨f, S, L, P, top, e, k, -, hM⟩ := id hL
    rw [e]
    exact hs S L hM
  · rintro r M2 ⟨rfl, S2, L2, rfl, hM2, h00⟩ g
    obtain ⟨b1, f', S', L', P', b2, b3, b4, b5⟩ := hL.bM (L2 := L2) hM2
    exact ⟨b1, ((0, f'), S', L', P'), by rw [b2], hq S' L' P' f' b3 (b4.trans h00) b5⟩
/-- what the model has thrown -/
theorem LI.cT (hL : LI n x m M) (has : ∀ a ∈ as, mm_vk (eM (vM M)) (ev a)) (h32 : R32 (M.2.1 0 0)) (hs : ∀ S L : Nat → Nat → Int, sp as (zm S L) (fun r M' => r = some (vi (S 0 0)) ∧ M' = zm S L) (fun _ _ => False)) (hq : ∀ (S_ L_ : Nat → Nat → Int) (P_ : Nat → Nat → Option Nat) (f_ : Nat → Nat × Nat), LI n x m ((M.1.1, f_), S_, L_, P_) → S_ 0 0 = M.2.1 0 0 → L_ 51 = M.2.2.1 51 → Q (some (vi (M.2.1 0 0))) ((M.1.1, f_), S_, L_, P_)) : zA vM sp as M Q X := by
  have e0 := hL.t0
  have hp := hL.pM
  rw [e0] at hq
  refine ⟨⟨hp.1, has, hp.2⟩, (fun r M' => r = some (vi (M.2.1 0 0)) ∧ M' = zm M.2.1 M.2.2.1), fun _ _ => False, hs M.2.1 M.2.2.1, ?_, fun _ _ q => q⟩
  rintro r M2 ⟨rfl, rfl⟩ g
  have hM : MI m M.2.1 := by
    obtain ⟨f, S, L, P, top, e, k, -, hM⟩ := id hL
    rw [e]
    exact hM
  obtain ⟨b1, f', S', L', P', b2, b3, b4, b5⟩ := hL.bM (L2 := M.2.2.1) hM
  refine ⟨b1, ((0, f'), S', L', P'), by rw [b2], ?_⟩
  rw [show nzr (some (vi (M.2.1 0 0))) = some (vi (nz (M.2.1 0 0))) from rfl, nz_id h32]
  exact hq S' L' P' f' b3 b4 b5
end
/-! ends of the component's calls -/
section
variable {y : Int × Int × aS} {l : List (Nat × Int)} {K : (Nat → Nat → Int) → Prop} {f : Nat → Nat × Nat} {S L : Nat → Nat → Int} {P : Nat → Nat → Option Nat}
theorem eQ.fo {r : Option zv} {M : zz_M} (q : eQ y r M) : (∃ v : Int, r = some (vi v)) ∧ ∃ f' S' L' P', M = ((2, f'), S', L', P') ∧ f' 51 = (3, 1) := by
  obtain ⟨-, e, f', S', L', P', top', e2, C⟩ := q
  exact ⟨⟨_, e⟩, f', S', L', P', e2, C.f51⟩
theorem eQl.fo {r : Option zv} {M : zz_M} (q : eQl y r M) : (∃ v : Int, r = some (vl v)) ∧ ∃ f' S' L' P', M = ((2, f'), S', L', P') ∧ f' 51 = (3, 1) := by
  obtain ⟨-, e, f', S', L', P', top', e2, C⟩ := q
  exact ⟨⟨_, e⟩, f', S', L', P', e2, C.f51⟩
theorem eQv.fo {r : Option zv} {M : zz_M} (q : eQv y r M) : (r = none) ∧ ∃ f' S' L' P', M = ((2, f'), S', L', P') := by
  obtain ⟨-, e, f', S', L', P', top', e2, C⟩ := q
  exact ⟨e, f', S', L', P', e2⟩
theorem C3.f51 {x : aS} {t top : Nat} (C : C3 x t f S P top) : f 51 = (3, 1) := by
  obtain ⟨⟨t2, -⟩, -, I⟩ := C
  have := I.f51
  rw [sw_b t2 (Or.inl (by decide)), zs3_f (zfs_lo (by decide))] at this
  exact this
theorem eQ3.fo {r : Option zv} {M : zz_M} (q : eQ3 y r M) : (∃ v : Int, r = some (vi v)) ∧ ∃ f' S' L' P', M = ((3, f'), S', L', P') ∧ f' 51 = (3, 1) := by
  obtain ⟨-, e, t, f', S', L', P', top', e2, C⟩ := q
  exact ⟨⟨_, e⟩, f', S', L', P', e2, C.f51⟩
theorem eX.fo {i : Nat} {M : zz_M} (q : eX l y i M) : (∃ c, (i, c) ∈ l) ∧ ∃ f' S' L' P', M = ((2, f'), S', L', P') := by
  obtain ⟨e, f', S', L', P', top', e2, C⟩ := q
  exact ⟨⟨_, e⟩, f', S', L', P', e2⟩
abbrev Ki (y : Int × Int × aS) : (Nat → Nat → Int) → Prop := fun L' => y.1 = 0 → L' 51 0 = nz y.2.1
abbrev Kl (y : Int × Int × aS) : (Nat → Nat → Int) → Prop := fun L' => y.1 = 0 → L' 51 0 = y.2.1
abbrev Kv : (Nat → Nat → Int) → Prop := fun _ => True
theorem eQ.cK {v : Int} (q : eQ y (some (vi v)) ((2, f), S, L, P)) : Jvm.Pilot.CChaseCourtLaw_law_r1587_f51dab.cK y (Ki y) (some (vi 0)) ((2, f), S, mm_up L 51 0 (nz v), P) := by
  obtain ⟨hy, e, f', S', L', P', top', e2, C⟩ := q
  cases e
  cases e2
  exact ⟨by rw [hy], by rw [hy]; decide, _, _, _, _, _, rfl, C, fun _ => by rw [up_eq, if_pos ⟨rfl, rfl⟩]⟩
theorem eQl.cK {v : Int} (q : eQl y (some (vl v)) ((2, f), S, L, P)) : Jvm.Pilot.CChaseCourtLaw_law_r1587_f51dab.cK y (Kl y) (some (vi 0)) ((2, f), S, mm_up L 51 0 v, P) := by
  obtain ⟨hy, e, f', S', L', P', top', e2, C⟩ := q
  cases e
  cases e2
  exact ⟨by rw [hy], by rw [hy]; decide, _, _, _, _, _, rfl, C, fun _ => by rw [up_eq, if_pos ⟨rfl, rfl⟩]⟩
theorem eQv.cK (q : eQv y none ((2, f), S, L, P)) : Jvm.Pilot.CChaseCourtLaw_law_r1587_f51dab.cK y Kv (some (vi 0)) ((2, f), S, L, P) := by
  obtain ⟨hy, e, f', S', L', P', top', e2, C⟩ := q
  cases e2
  exact ⟨by rw [hy], by rw [hy]; decide, _, _, _, _, _, rfl, C, trivial⟩
theorem eQ3.cK {v : Int} (q : eQ3 y (some (vi v)) ((3, f), S, L, P)) : cK3 y (Ki y) (some (vi 0)) ((3, f), S, mm_up L 51 0 (nz v), P) := by
  obtain ⟨hy, e, t, f', S', L', P', top', e2, C⟩ := q
  cases e
  cases e2
  exact ⟨by rw [hy], by rw [hy]; decide, Or.inr ⟨_, _, _, _, _, _, rfl, C, fun _ => by rw [up_eq, if_pos ⟨rfl, rfl⟩]⟩⟩
/-- behind a throw -/
theorem eX.cK {i : Nat} {c : Int} (hc : ∀ c', (i, c') ∈ l → c' = c) (c0 : c ≠ 0) (hr : R32 c) (hK : ∀ L', y.1 ≠ 0 → K L') (q : eX l y i ((2, f), S, L, P)) : Jvm.Pilot.CChaseCourtLaw_law_r1587_f51dab.cK y K (some (vi c)) ((2, f), S, L, P) := by
  obtain ⟨e, f', S', L', P', top', e2, C⟩ := q
  cases e2
  have ey := hc _ e
  exact ⟨by rw [ey], by rw [ey]; exact hr, _, _, _, _, _, rfl, C, hK _ (by rw [ey]; exact c0)⟩
theorem cK.c3 {r : Option zv} {M : zz_M} (q : Jvm.Pilot.CChaseCourtLaw_law_r1587_f51dab.cK y K r M) : cK3 y K r M := ⟨q.1, q.2.1, Or.inl q.2.2⟩
end
