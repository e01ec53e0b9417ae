/-! ===== the law's calls over its memory ===== -/
set_option maxRecDepth 100000
theorem b1 {g : Int} (h : g = 0 ∨ g = 1) : R32 g := by omega
def zX1_feed_w : zz_Sp := fun as M Q X => match as with
  | [.inr (.inr (some h_)), .inl a, .inl b, .inl d, .inl e, .inl g] => bif Nat.beq h_ 100 then (∃ (n_ : Nat) (x_ m_ : aS), LI n_ x_ m_ M ∧ AI x_ ∧ R32 a ∧ R32 b ∧ R32 d ∧ R32 e ∧ R32 g ∧ (∀ (S_ L_ : Nat → Nat → Int) (P_ : Nat → Nat → Option Nat) (f_ : Nat → Nat × Nat), LI n_ (sm0 x_ a b d e g).2.2 m_ ((M.1.1, f_), S_, L_, P_) → (sm0 x_ a b d e g).1 = 0 → Q (some (vi (nz (sm0 x_ a b d e g).2.1))) ((M.1.1, f_), S_, L_, P_))) else False
  | _ => False

theorem zmX1_feed_w (l : Launch) (hl : l.stackTraces = false) : mm_Spec l yX1_feed (ws_ yX1_feed cX1_feed 6 (some .int)) (mm_rm 3 1 5) (zE zX1_feed_w) := by
  refine zE_sub (zA_ok vC (zmX1_feed l hl)) ?_
  rintro as M Q X h
  unfold zX1_feed_w at h
  split at h
  rotate_left
  · exact h.elim
  rename_i h_ a b d e g
  obtain ⟨e1_, h⟩ := mm_bif h (fun q => q)
  cases mm_beq e1_
  try dsimp only at h
  obtain ⟨n, x, m, hL, hA, ra, rb, rd, re, rg, hq⟩ := h
  exact LI.cE (y := (sm0 x a b d e g)) hL (fun a_ ha_ => by
    simp only [List.mem_cons, List.not_mem_nil, or_false] at ha_
    rcases ha_ with rfl | rfl | rfl | rfl | rfl | rfl
    · exact hL.v100
    · exact vk_i _ _
    · exact vk_i _ _
    · exact vk_i _ _
    · exact vk_i _ _
    · exact vk_i _ _) (fun f S L P top C => le00 C hA ⟨ra, rb, rd, re, rg⟩) (fun S' L' P' f' a1 a0 => hq S' L' P' f' a1 a0)
def zX9_feed_w : zz_Sp := fun as M Q X => match as with
  | [.inr (.inr (some h_)), .inl a, .inl b, .inl d, .inl e, .inl g] => bif Nat.beq h_ 0 then (∃ (n_ : Nat) (k_ x_ : aS), LI n_ k_ x_ M ∧ AI x_ ∧ R32 a ∧ R32 b ∧ R32 d ∧ R32 e ∧ R32 g ∧ (∀ (S_ L_ : Nat → Nat → Int) (P_ : Nat → Nat → Option Nat) (f_ : Nat → Nat × Nat) (v_ : Int), LI n_ k_ (sm0 x_ a b d e g).2.2 ((M.1.1, f_), S_, L_, P_) → S_ 0 0 = (sm0 x_ a b d e g).1 → L_ 51 = M.2.2.1 51 → ((sm0 x_ a b d e g).1 = 0 → nz v_ = nz (sm0 x_ a b d e g).2.1) → Q (some (vi (nz v_))) ((M.1.1, f_), S_, L_, P_))) else False
  | _ => False

theorem zmX9_feed_w (l : Launch) (hl : l.stackTraces = false) : mm_Spec l yX9_feed (ws_ yX9_feed cX9_feed 8 (some .int)) (mm_rm 1 0 0) (zE zX9_feed_w) := by
  refine zE_sub (zA_ok vM (zmX9_feed l hl)) ?_
  rintro as M Q X h
  unfold zX9_feed_w at h
  split at h
  rotate_left
  · exact h.elim
  rename_i h_ a b d e g
  obtain ⟨e1_, h⟩ := mm_bif h (fun q => q)
  cases mm_beq e1_
  try dsimp only at h
  obtain ⟨n, k, x, hL, hA, ra, rb, rd, re, rg, hq⟩ := h
  exact LI.cM (y := (sm0 x a b d e g)) hL (fun a_ ha_ => by
    simp only [List.mem_cons, List.not_mem_nil, or_false] at ha_
    rcases ha_ with rfl | rfl | rfl | rfl | rfl | rfl
    · exact hL.v0
    · exact vk_i _ _
    · exact vk_i _ _
    · exact vk_i _ _
    · exact vk_i _ _
    · exact vk_i _ _) (fun S L h => lm00 h hA) hq
def zX1_end_w : zz_Sp := fun as M Q X => match as with
  | [.inr (.inr (some h_)), .inl a] => bif Nat.beq h_ 100 then (∃ (n_ : Nat) (x_ m_ : aS), LI n_ x_ m_ M ∧ AI x_ ∧ R32 a ∧ (∀ (S_ L_ : Nat → Nat → Int) (P_ : Nat → Nat → Option Nat) (f_ : Nat → Nat × Nat), LI n_ (sm1 x_ a).2.2 m_ ((M.1.1, f_), S_, L_, P_) → (sm1 x_ a).1 = 0 → Q (some (vi (nz (sm1 x_ a).2.1))) ((M.1.1, f_), S_, L_, P_))) else False
  | _ => False

theorem zmX1_end_w (l : Launch) (hl : l.stackTraces = false) : mm_Spec l yX1_end (ws_ yX1_end cX1_end 2 (some .boolean)) (mm_rm 2 0 0) (zE zX1_end_w) := by
  refine zE_sub (zA_ok vC (zmX1_end l hl)) ?_
  rintro as M Q X h
  unfold zX1_end_w at h
  split at h
  rotate_left
  · exact h.elim
  rename_i h_ a
  obtain ⟨e1_, h⟩ := mm_bif h (fun q => q)
  cases mm_beq e1_
  try dsimp only at h
  obtain ⟨n, x, m, hL, hA, ra, hq⟩ := h
  exact LI.cE (y := (sm1 x a)) hL (fun a_ ha_ => by
    simp only [List.mem_cons, List.not_mem_nil, or_false] at ha_
    rcases ha_ with rfl | rfl
    · exact hL.v100
    · exact vk_i _ _) (fun f S L P top C => le01 C ra hA) (fun S' L' P' f' a1 a0 => hq S' L' P' f' a1 a0)
def zX9_end_w : zz_Sp := fun as M Q X => match as with
  | [.inr (.inr (some h_)), .inl a] => bif Nat.beq h_ 0 then (∃ (n_ : Nat) (k_ x_ : aS), LI n_ k_ x_ M ∧ AI x_ ∧ R32 a ∧ (∀ (S_ L_ : Nat → Nat → Int) (P_ : Nat → Nat → Option Nat) (f_ : Nat → Nat × Nat) (v_ : Int), LI n_ k_ (sm1 x_ a).2.2 ((M.1.1, f_), S_, L_, P_) → S_ 0 0 = (sm1 x_ a).1 → L_ 51 = M.2.2.1 51 → ((sm1 x_ a).1 = 0 → nz v_ = nz (sm1 x_ a).2.1) → Q (some (vi (nz v_))) ((M.1.1, f_), S_, L_, P_))) else False
  | _ => False

theorem zmX9_end_w (l : Launch) (hl : l.stackTraces = false) : mm_Spec l yX9_end (ws_ yX9_end cX9_end 2 (some .boolean)) (mm_rm 2 0 0) (zE zX9_end_w) := by
  refine zE_sub (zA_ok vM (zmX9_end l hl)) ?_
  rintro as M Q X h
  unfold zX9_end_w at h
  split at h
  rotate_left
  · exact h.elim
  rename_i h_ a
  obtain ⟨e1_, h⟩ := mm_bif h (fun q => q)
  cases mm_beq e1_
  try dsimp only at h
  obtain ⟨n, k, x, hL, hA, ra, hq⟩ := h
  exact LI.cM (y := (sm1 x a)) hL (fun a_ ha_ => by
    simp only [List.mem_cons, List.not_mem_nil, or_false] at ha_
    rcases ha_ with rfl | rfl
    · exact hL.v0
    · exact vk_i _ _) (fun S L h => lm01 h hA ra) hq
theorem lx02 {x : aS} {f : Nat → Nat × Nat} {S L : Nat → Nat → Int} {P : Nat → Nat → Option Nat} {top : Nat} {X : Nat → zz_M → Prop} (C : CI x f S P top) (hA : AI x) : zX0_court [vr 100, vr 51] ((2, f), S, L, P) (cK3 (sm2 x) (Ki (sm2 x))) X := by
  apply oX0_court
  exact ⟨C.f51, eQ3 (sm2 x), eX [(1, 1), (2, 2)] (sm2 x), le02 C hA, fun r m q => q.fo, fun i m q => ⟨by obtain ⟨c, hc⟩ := q.fo.1; simp at hc; omega, q.fo.2⟩, fun v S' L' P' f' q => q.cK, fun S' L' P' f' q => (q.cK (c := 1) (fun c' hc => by simpa using hc) (by decide) (by decide) (fun L' h0 z => absurd z h0)).c3, fun S' L' P' f' q => (q.cK (c := 2) (fun c' hc => by simpa using hc) (by decide) (by decide) (fun L' h0 z => absurd z h0)).c3⟩
def zX0_court_w : zz_Sp := fun as M Q X => match as with
  | [.inr (.inr (some x)), .inr (.inr (some out))] => bif Nat.beq x 100 && Nat.beq out 51 then (∃ (n_ : Nat) (x_ m_ : aS), LI n_ x_ m_ M ∧ AI x_ ∧ (∀ (S_ L_ : Nat → Nat → Int) (P_ : Nat → Nat → Option Nat) (f_ : Nat → Nat × Nat), (LI n_ (sm2 x_).2.2 m_ ((M.1.1, f_), S_, L_, P_) ∨ LI3 n_ (sm2 x_).2.2 m_ ((M.1.1, f_), S_, L_, P_)) → R32 (sm2 x_).1 → ((sm2 x_).1 = 0 → L_ 51 0 = nz (sm2 x_).2.1) → Q (some (vi ((sm2 x_).1))) ((M.1.1, f_), S_, L_, P_))) else False
  | _ => False

theorem zmX0_court_w (l : Launch) (hl : l.stackTraces = false) : mm_Spec l yX0_court (wsW_ yX0_court cX0_court 3 (some .int) [((0), (8), (11), (13)), ((0), (8), (14), (15))]) (mm_rm 13 342 28900) (zE zX0_court_w) := by
  refine zE_sub (zA_ok vC (zmX0_court l hl)) ?_
  rintro as M Q X h
  unfold zX0_court_w at h
  split at h
  rotate_left
  · exact h.elim
  rename_i h100 h51
  obtain ⟨e1_, e2_, h⟩ := mm_and2 h (fun q => q)
  cases mm_beq e1_
  cases mm_beq e2_
  try dsimp only at h
  obtain ⟨n, x, m, hL, hA, hq⟩ := h
  exact LI.cW3 (y := (sm2 x)) (K := (Ki (sm2 x))) hL (fun a_ ha_ => by
    simp only [List.mem_cons, List.not_mem_nil, or_false] at ha_
    rcases ha_ with rfl | rfl
    · exact hL.v100
    · exact hL.v51) (fun f S L P top C => lx02 C hA) (fun S' L' P' f' L0 a1 a2 hK e51 => hq S' L' P' f' a1 a2 (fun z => by rw [e51]; show nl (L0 51 0) = _; rw [hK z]; exact nl_nz _))
def zX9_court_w : zz_Sp := fun as M Q X => match as with
  | [.inr (.inr (some h_))] => bif Nat.beq h_ 0 then (∃ (n_ : Nat) (k_ x_ : aS), LI n_ k_ x_ M ∧ AI x_ ∧ (∀ (S_ L_ : Nat → Nat → Int) (P_ : Nat → Nat → Option Nat) (f_ : Nat → Nat × Nat) (v_ : Int), LI n_ k_ (sm2 x_).2.2 ((M.1.1, f_), S_, L_, P_) → S_ 0 0 = (sm2 x_).1 → L_ 51 = M.2.2.1 51 → ((sm2 x_).1 = 0 → nz v_ = nz (sm2 x_).2.1) → Q (some (vi (nz v_))) ((M.1.1, f_), S_, L_, P_))) else False
  | _ => False

theorem zmX9_court_w (l : Launch) (hl : l.stackTraces = false) : mm_Spec l yX9_court (ws_ yX9_court cX9_court 4 (some .int)) (mm_rm 33 0 0) (zE zX9_court_w) := by
  refine zE_sub (zA_ok vM (zmX9_court l hl)) ?_
  rintro as M Q X h
  unfold zX9_court_w at h
  split at h
  rotate_left
  · exact h.elim
  rename_i h_
  obtain ⟨e1_, h⟩ := mm_bif h (fun q => q)
  cases mm_beq e1_
  try dsimp only at h
  obtain ⟨n, k, x, hL, hA, hq⟩ := h
  exact LI.cM (y := (sm2 x)) hL (fun a_ ha_ => by
    simp only [List.mem_cons, List.not_mem_nil, or_false] at ha_
    rcases ha_ with rfl
    · exact hL.v0) (fun S L h => lm02 h hA) hq
theorem lx03 {x : aS} {f : Nat → Nat × Nat} {S L : Nat → Nat → Int} {P : Nat → Nat → Option Nat} {top : Nat} {X : Nat → zz_M → Prop} (C : CI x f S P top) (hA : AI x) : zX0_rule [vr 100, vr 51] ((2, f), S, L, P) (cK (sm3 x) (Ki (sm3 x))) X := by
  apply oX0_rule
  exact ⟨C.f51, eQ (sm3 x), eX [(1, 1), (2, 2)] (sm3 x), le03 C hA, fun r m q => q.fo, fun i m q => ⟨by obtain ⟨c, hc⟩ := q.fo.1; simp at hc; omega, q.fo.2⟩, fun v S' L' P' f' q => q.cK, fun S' L' P' f' q => (q.cK (c := 1) (fun c' hc => by simpa using hc) (by decide) (by decide) (fun L' h0 z => absurd z h0)), fun S' L' P' f' q => (q.cK (c := 2) (fun c' hc => by simpa using hc) (by decide) (by decide) (fun L' h0 z => absurd z h0))⟩
def zX0_rule_w : zz_Sp := fun as M Q X => match as with
  | [.inr (.inr (some x)), .inr (.inr (some out))] => bif Nat.beq x 100 && Nat.beq out 51 then (∃ (n_ : Nat) (x_ m_ : aS), LI n_ x_ m_ M ∧ AI x_ ∧ (∀ (S_ L_ : Nat → Nat → Int) (P_ : Nat → Nat → Option Nat) (f_ : Nat → Nat × Nat), LI n_ (sm3 x_).2.2 m_ ((M.1.1, f_), S_, L_, P_) → R32 (sm3 x_).1 → ((sm3 x_).1 = 0 → L_ 51 0 = nz (sm3 x_).2.1) → Q (some (vi ((sm3 x_).1))) ((M.1.1, f_), S_, L_, P_))) else False
  | _ => False

theorem zmX0_rule_w (l : Launch) (hl : l.stackTraces = false) : mm_Spec l yX0_rule (wsW_ yX0_rule cX0_rule 3 (some .int) [((0), (8), (11), (13)), ((0), (8), (14), (15))]) (mm_rm 37 10110 57020) (zE zX0_rule_w) := by
  refine zE_sub (zA_ok vC (zmX0_rule l hl)) ?_
  rintro as M Q X h
  unfold zX0_rule_w at h
  split at h
  rotate_left
  · exact h.elim
  rename_i h100 h51
  obtain ⟨e1_, e2_, h⟩ := mm_and2 h (fun q => q)
  cases mm_beq e1_
  cases mm_beq e2_
  try dsimp only at h
  obtain ⟨n, x, m, hL, hA, hq⟩ := h
  exact LI.cW (y := (sm3 x)) (K := (Ki (sm3 x))) hL (fun a_ ha_ => by
    simp only [List.mem_cons, List.not_mem_nil, or_false] at ha_
    rcases ha_ with rfl | rfl
    · exact hL.v100
    · exact hL.v51) (fun f S L P top C => lx03 C hA) (fun S' L' P' f' L0 a1 a2 hK e51 => hq S' L' P' f' a1 a2 (fun z => by rw [e51]; show nl (L0 51 0) = _; rw [hK z]; exact nl_nz _))
def zX9_rule_w : zz_Sp := fun as M Q X => match as with
  | [.inr (.inr (some h_))] => bif Nat.beq h_ 0 then (∃ (n_ : Nat) (k_ x_ : aS), LI n_ k_ x_ M ∧ AI x_ ∧ (∀ (S_ L_ : Nat → Nat → Int) (P_ : Nat → Nat → Option Nat) (f_ : Nat → Nat × Nat) (v_ : Int), LI n_ k_ (sm3 x_).2.2 ((M.1.1, f_), S_, L_, P_) → S_ 0 0 = (sm3 x_).1 → L_ 51 = M.2.2.1 51 → ((sm3 x_).1 = 0 → nz v_ = nz (sm3 x_).2.1) → Q (some (vi (nz v_))) ((M.1.1, f_), S_, L_, P_))) else False
  | _ => False

theorem zmX9_rule_w (l : Launch) (hl : l.stackTraces = false) : mm_Spec l yX9_rule (ws_ yX9_rule cX9_rule 4 (some .int)) (mm_rm 33 0 0) (zE zX9_rule_w) := by
  refine zE_sub (zA_ok vM (zmX9_rule l hl)) ?_
  rintro as M Q X h
  unfold zX9_rule_w at h
  split at h
  rotate_left
  · exact h.elim
  rename_i h_
  obtain ⟨e1_, h⟩ := mm_bif h (fun q => q)
  cases mm_beq e1_
  try dsimp only at h
  obtain ⟨n, k, x, hL, hA, hq⟩ := h
  exact LI.cM (y := (sm3 x)) hL (fun a_ ha_ => by
    simp only [List.mem_cons, List.not_mem_nil, or_false] at ha_
    rcases ha_ with rfl
    · exact hL.v0) (fun S L h => lm03 h hA) hq
def zX1_fault_w : zz_Sp := fun as M Q X => match as with
  | [.inr (.inr (some h_))] => bif Nat.beq h_ 100 then (∃ (n_ : Nat) (x_ m_ : aS), LI n_ x_ m_ M ∧ AI x_ ∧ (∀ (S_ L_ : Nat → Nat → Int) (P_ : Nat → Nat → Option Nat) (f_ : Nat → Nat × Nat), LI n_ (sm4 x_).2.2 m_ ((M.1.1, f_), S_, L_, P_) → (sm4 x_).1 = 0 → Q (some (vi (nz (sm4 x_).2.1))) ((M.1.1, f_), S_, L_, P_))) else False
  | _ => False

theorem zmX1_fault_w (l : Launch) (hl : l.stackTraces = false) : mm_Spec l yX1_fault (ws_ yX1_fault cX1_fault 1 (some .int)) (mm_rm 1 0 0) (zE zX1_fault_w) := by
  refine zE_sub (zA_ok vC (zmX1_fault l hl)) ?_
  rintro as M Q X h
  unfold zX1_fault_w at h
  split at h
  rotate_left
  · exact h.elim
  rename_i h_
  obtain ⟨e1_, h⟩ := mm_bif h (fun q => q)
  cases mm_beq e1_
  try dsimp only at h
  obtain ⟨n, x, m, hL, hA, hq⟩ := h
  exact LI.cE (y := (sm4 x)) hL (fun a_ ha_ => by
    simp only [List.mem_cons, List.not_mem_nil, or_false] at ha_
    rcases ha_ with rfl
    · exact hL.v100) (fun f S L P top C => le04 C) (fun S' L' P' f' a1 a0 => hq S' L' P' f' a1 a0)
def zX9_fault_w : zz_Sp := fun as M Q X => match as with
  | [.inr (.inr (some h_))] => bif Nat.beq h_ 0 then (∃ (n_ : Nat) (k_ x_ : aS), LI n_ k_ x_ M ∧ AI x_ ∧ (∀ (S_ L_ : Nat → Nat → Int) (P_ : Nat → Nat → Option Nat) (f_ : Nat → Nat × Nat) (v_ : Int), LI n_ k_ (sm4 x_).2.2 ((M.1.1, f_), S_, L_, P_) → S_ 0 0 = (sm4 x_).1 → L_ 51 = M.2.2.1 51 → ((sm4 x_).1 = 0 → nz v_ = nz (sm4 x_).2.1) → Q (some (vi (nz v_))) ((M.1.1, f_), S_, L_, P_))) else False
  | _ => False

theorem zmX9_fault_w (l : Launch) (hl : l.stackTraces = false) : mm_Spec l yX9_fault (ws_ yX9_fault cX9_fault 1 (some .int)) (mm_rm 1 0 0) (zE zX9_fault_w) := by
  refine zE_sub (zA_ok vM (zmX9_fault l hl)) ?_
  rintro as M Q X h
  unfold zX9_fault_w at h
  split at h
  rotate_left
  · exact h.elim
  rename_i h_
  obtain ⟨e1_, h⟩ := mm_bif h (fun q => q)
  cases mm_beq e1_
  try dsimp only at h
  obtain ⟨n, k, x, hL, hA, hq⟩ := h
  exact LI.cM (y := (sm4 x)) hL (fun a_ ha_ => by
    simp only [List.mem_cons, List.not_mem_nil, or_false] at ha_
    rcases ha_ with rfl
    · exact hL.v0) (fun S L h => lm04 h) hq
theorem lx05 {x : aS} {f : Nat → Nat × Nat} {S L : Nat → Nat → Int} {P : Nat → Nat → Option Nat} {top : Nat} {a b d : Int} {X : Nat → zz_M → Prop} (C : CI x f S P top) (hA : AI x) (ra : R32 a) (rb : R32 b) (rd : R32 d) : zX0_look [vr 100, vi a, vi b, vi d, vr 51] ((2, f), S, L, P) (cK (sm5 x a b d) (Ki (sm5 x a b d))) X := by
  apply oX0_look
  exact ⟨C.f51, eQ (sm5 x a b d), eX [(3, 1), (4, 2)] (sm5 x a b d), le05 C ra rb rd, fun r m q => q.fo, fun i m q => ⟨by obtain ⟨c, hc⟩ := q.fo.1; simp at hc; omega, q.fo.2⟩, fun v S' L' P' f' q => q.cK, fun S' L' P' f' q => (q.cK (c := 1) (fun c' hc => by simpa using hc) (by decide) (by decide) (fun L' h0 z => absurd z h0)), fun S' L' P' f' q => (q.cK (c := 2) (fun c' hc => by simpa using hc) (by decide) (by decide) (fun L' h0 z => absurd z h0))⟩
def zX0_look_w : zz_Sp := fun as M Q X => match as with
  | [.inr (.inr (some x)), .inl a, .inl b, .inl d, .inr (.inr (some out))] => bif Nat.beq x 100 && Nat.beq out 51 then (∃ (n_ : Nat) (x_ m_ : aS), LI n_ x_ m_ M ∧ AI x_ ∧ R32 a ∧ R32 b ∧ R32 d ∧ (∀ (S_ L_ : Nat → Nat → Int) (P_ : Nat → Nat → Option Nat) (f_ : Nat → Nat × Nat), LI n_ (sm5 x_ a b d).2.2 m_ ((M.1.1, f_), S_, L_, P_) → R32 (sm5 x_ a b d).1 → ((sm5 x_ a b d).1 = 0 → L_ 51 0 = nz (sm5 x_ a b d).2.1) → Q (some (vi ((sm5 x_ a b d).1))) ((M.1.1, f_), S_, L_, P_))) else False
  | _ => False

theorem zmX0_look_w (l : Launch) (hl : l.stackTraces = false) : mm_Spec l yX0_look (wsW_ yX0_look cX0_look 6 (some .int) [((0), (12), (15), (24)), ((0), (12), (19), (26))]) (mm_rm 9 3 18) (zE zX0_look_w) := by
  refine zE_sub (zA_ok vC (zmX0_look l hl)) ?_
  rintro as M Q X h
  unfold zX0_look_w at h
  split at h
  rotate_left
  · exact h.elim
  rename_i h100 a b d h51
  obtain ⟨e1_, e2_, h⟩ := mm_and2 h (fun q => q)
  cases mm_beq e1_
  cases mm_beq e2_
  try dsimp only at h
  obtain ⟨n, x, m, hL, hA, ra, rb, rd, hq⟩ := h
  exact LI.cW (y := (sm5 x a b d)) (K := (Ki (sm5 x a b d))) hL (fun a_ ha_ => by
    simp only [List.mem_cons, List.not_mem_nil, or_false] at ha_
    rcases ha_ with rfl | rfl | rfl | rfl | rfl
    · exact hL.v100
    · exact vk_i _ _
    · exact vk_i _ _
    · exact vk_i _ _
    · exact hL.v51) (fun f S L P top C => lx05 C hA ra rb rd) (fun S' L' P' f' L0 a1 a2 hK e51 => hq S' L' P' f' a1 a2 (fun z => by rw [e51]; show nl (L0 51 0) = _; rw [hK z]; exact nl_nz _))
def zX9_look_w : zz_Sp := fun as M Q X => match as with
  | [.inr (.inr (some h_)), .inl a, .inl b, .inl d] => bif Nat.beq h_ 0 then (∃ (n_ : Nat) (k_ x_ : aS), LI n_ k_ x_ M ∧ AI x_ ∧ R32 a ∧ R32 b ∧ R32 d ∧ (∀ (S_ L_ : Nat → Nat → Int) (P_ : Nat → Nat → Option Nat) (f_ : Nat → Nat × Nat) (v_ : Int), LI n_ k_ (sm5 x_ a b d).2.2 ((M.1.1, f_), S_, L_, P_) → S_ 0 0 = (sm5 x_ a b d).1 → L_ 51 = M.2.2.1 51 → ((sm5 x_ a b d).1 = 0 → nz v_ = nz (sm5 x_ a b d).2.1) → Q (some (vi (nz v_))) ((M.1.1, f_), S_, L_, P_))) else False
  | _ => False

theorem zmX9_look_w (l : Launch) (hl : l.stackTraces = false) : mm_Spec l yX9_look (ws_ yX9_look cX9_look 4 (some .int)) (mm_rm 2 0 0) (zE zX9_look_w) := by
  refine zE_sub (zA_ok vM (zmX9_look l hl)) ?_
  rintro as M Q X h
  unfold zX9_look_w at h
  split at h
  rotate_left
  · exact h.elim
  rename_i h_ a b d
  obtain ⟨e1_, h⟩ := mm_bif h (fun q => q)
  cases mm_beq e1_
  try dsimp only at h
  obtain ⟨n, k, x, hL, hA, ra, rb, rd, hq⟩ := h
  exact LI.cM (y := (sm5 x a b d)) hL (fun a_ ha_ => by
    simp only [List.mem_cons, List.not_mem_nil, or_false] at ha_
    rcases ha_ with rfl | rfl | rfl | rfl
    · exact hL.v0
    · exact vk_i _ _
    · exact vk_i _ _
    · exact vk_i _ _) (fun S L h => lm05 h ra rb rd) hq
theorem lx06 {x : aS} {f : Nat → Nat × Nat} {S L : Nat → Nat → Int} {P : Nat → Nat → Option Nat} {top : Nat} {a b : Int} {X : Nat → zz_M → Prop} (C : CI x f S P top) (hA : AI x) (ra : R32 a) (rb : R32 b) : zX0_plays [vr 100, vi a, vi b, vr 51] ((2, f), S, L, P) (cK (sm6 x a b) (Ki (sm6 x a b))) X := by
  apply oX0_plays
  exact ⟨C.f51, eQ (sm6 x a b), eX [(3, 1)] (sm6 x a b), le06 C hA ra rb, fun r m q => q.fo, fun i m q => ⟨by obtain ⟨c, hc⟩ := q.fo.1; simp at hc; omega, q.fo.2⟩, fun v S' L' P' f' q => q.cK, fun S' L' P' f' q => (q.cK (c := 1) (fun c' hc => by simpa using hc) (by decide) (by decide) (fun L' h0 z => absurd z h0))⟩
def zX0_plays_w : zz_Sp := fun as M Q X => match as with
  | [.inr (.inr (some x)), .inl a, .inl b, .inr (.inr (some out))] => bif Nat.beq x 100 && Nat.beq out 51 then (∃ (n_ : Nat) (x_ m_ : aS), LI n_ x_ m_ M ∧ AI x_ ∧ R32 a ∧ R32 b ∧ (∀ (S_ L_ : Nat → Nat → Int) (P_ : Nat → Nat → Option Nat) (f_ : Nat → Nat × Nat), LI n_ (sm6 x_ a b).2.2 m_ ((M.1.1, f_), S_, L_, P_) → R32 (sm6 x_ a b).1 → ((sm6 x_ a b).1 = 0 → L_ 51 0 = nz (sm6 x_ a b).2.1) → Q (some (vi ((sm6 x_ a b).1))) ((M.1.1, f_), S_, L_, P_))) else False
  | _ => False

theorem zmX0_plays_w (l : Launch) (hl : l.stackTraces = false) : mm_Spec l yX0_plays (wsW_ yX0_plays cX0_plays 5 (some .int) [((0), (10), (13), (24))]) (mm_rm 9 2 12) (zE zX0_plays_w) := by
  refine zE_sub (zA_ok vC (zmX0_plays l hl)) ?_
  rintro as M Q X h
  unfold zX0_plays_w at h
  split at h
  rotate_left
  · exact h.elim
  rename_i h100 a b h51
  obtain ⟨e1_, e2_, h⟩ := mm_and2 h (fun q => q)
  cases mm_beq e1_
  cases mm_beq e2_
  try dsimp only at h
  obtain ⟨n, x, m, hL, hA, ra, rb, hq⟩ := h
  exact LI.cW (y := (sm6 x a b)) (K := (Ki (sm6 x a b))) hL (fun a_ ha_ => by
    simp only [List.mem_cons, List.not_mem_nil, or_false] at ha_
    rcases ha_ with rfl | rfl | rfl | rfl
    · exact hL.v100
    · exact vk_i _ _
    · exact vk_i _ _
    · exact hL.v51) (fun f S L P top C => lx06 C hA ra rb) (fun S' L' P' f' L0 a1 a2 hK e51 => hq S' L' P' f' a1 a2 (fun z => by rw [e51]; show nl (L0 51 0) = _; rw [hK z]; exact nl_nz _))
def zX9_plays_w : zz_Sp := fun as M Q X => match as with
  | [.inr (.inr (some h_)), .inl a, .inl b] => bif Nat.beq h_ 0 then (∃ (n_ : Nat) (k_ x_ : aS), LI n_ k_ x_ M ∧ AI x_ ∧ R32 a ∧ R32 b ∧ (∀ (S_ L_ : Nat → Nat → Int) (P_ : Nat → Nat → Option Nat) (f_ : Nat → Nat × Nat) (v_ : Int), LI n_ k_ (sm6 x_ a b).2.2 ((M.1.1, f_), S_, L_, P_) → S_ 0 0 = (sm6 x_ a b).1 → L_ 51 = M.2.2.1 51 → ((sm6 x_ a b).1 = 0 → nz v_ = nz (sm6 x_ a b).2.1) → Q (some (vi (nz v_))) ((M.1.1, f_), S_, L_, P_))) else False
  | _ => False

theorem zmX9_plays_w (l : Launch) (hl : l.stackTraces = false) : mm_Spec l yX9_plays (ws_ yX9_plays cX9_plays 4 (some .int)) (mm_rm 3 0 0) (zE zX9_plays_w) := by
  refine zE_sub (zA_ok vM (zmX9_plays l hl)) ?_
  rintro as M Q X h
  unfold zX9_plays_w at h
  split at h
  rotate_left
  · exact h.elim
  rename_i h_ a b
  obtain ⟨e1_, h⟩ := mm_bif h (fun q => q)
  cases mm_beq e1_
  try dsimp only at h
  obtain ⟨n, k, x, hL, hA, ra, rb, hq⟩ := h
  exact LI.cM (y := (sm6 x a b)) hL (fun a_ ha_ => by
    simp only [List.mem_cons, List.not_mem_nil, or_false] at ha_
    rcases ha_ with rfl | rfl | rfl
    · exact hL.v0
    · exact vk_i _ _
    · exact vk_i _ _) (fun S L h => lm06 h hA ra rb) hq
theorem lx07 {x : aS} {f : Nat → Nat × Nat} {S L : Nat → Nat → Int} {P : Nat → Nat → Option Nat} {top : Nat} {a : Int} {X : Nat → zz_M → Prop} (C : CI x f S P top) (hA : AI x) (ra : R32 a) : zX0_style [vr 100, vi a, vr 51] ((2, f), S, L, P) (cK (sm7 x a) (Ki (sm7 x a))) X := by
  apply oX0_style
  exact ⟨C.f51, eQ (sm7 x a), eX [(3, 1)] (sm7 x a), le07 C ra, fun r m q => q.fo, fun i m q => ⟨by obtain ⟨c, hc⟩ := q.fo.1; simp at hc; omega, q.fo.2⟩, fun v S' L' P' f' q => q.cK, fun S' L' P' f' q => (q.cK (c := 1) (fun c' hc => by simpa using hc) (by decide) (by decide) (fun L' h0 z => absurd z h0))⟩
def zX0_style_w : zz_Sp := fun as M Q X => match as with
  | [.inr (.inr (some x)), .inl a, .inr (.inr (some out))] => bif Nat.beq x 100 && Nat.beq out 51 then (∃ (n_ : Nat) (x_ m_ : aS), LI n_ x_ m_ M ∧ AI x_ ∧ R32 a ∧ (∀ (S_ L_ : Nat → Nat → Int) (P_ : Nat → Nat → Option Nat) (f_ : Nat → Nat × Nat), LI n_ (sm7 x_ a).2.2 m_ ((M.1.1, f_), S_, L_, P_) → R32 (sm7 x_ a).1 → ((sm7 x_ a).1 = 0 → L_ 51 0 = nz (sm7 x_ a).2.1) → Q (some (vi ((sm7 x_ a).1))) ((M.1.1, f_), S_, L_, P_))) else False
  | _ => False

theorem zmX0_style_w (l : Launch) (hl : l.stackTraces = false) : mm_Spec l yX0_style (wsW_ yX0_style cX0_style 4 (some .int) [((0), (9), (12), (24))]) (mm_rm 23 1 6) (zE zX0_style_w) := by
  refine zE_sub (zA_ok vC (zmX0_style l hl)) ?_
  rintro as M Q X h
  unfold zX0_style_w at h
  split at h
  rotate_left
  · exact h.elim
  rename_i h100 a h51
  obtain ⟨e1_, e2_, h⟩ := mm_and2 h (fun q => q)
  cases mm_beq e1_
  cases mm_beq e2_
  try dsimp only at h
  obtain ⟨n, x, m, hL, hA, ra, hq⟩ := h
  exact LI.cW (y := (sm7 x a)) (K := (Ki (sm7 x a))) hL (fun a_ ha_ => by
    simp only [List.mem_cons, List.not_mem_nil, or_false] at ha_
    rcases ha_ with rfl | rfl | rfl
    · exact hL.v100
    · exact vk_i _ _
    · exact hL.v51) (fun f S L P top C => lx07 C hA ra) (fun S' L' P' f' L0 a1 a2 hK e51 => hq S' L' P' f' a1 a2 (fun z => by rw [e51]; show nl (L0 51 0) = _; rw [hK z]; exact nl_nz _))
def zX9_style_w : zz_Sp := fun as M Q X => match as with
  | [.inr (.inr (some h_)), .inl a] => bif Nat.beq h_ 0 then (∃ (n_ : Nat) (k_ x_ : aS), LI n_ k_ x_ M ∧ AI x_ ∧ R32 a ∧ (∀ (S_ L_ : Nat → Nat → Int) (P_ : Nat → Nat → Option Nat) (f_ : Nat → Nat × Nat) (v_ : Int), LI n_ k_ (sm7 x_ a).2.2 ((M.1.1, f_), S_, L_, P_) → S_ 0 0 = (sm7 x_ a).1 → L_ 51 = M.2.2.1 51 → ((sm7 x_ a).1 = 0 → nz v_ = nz (sm7 x_ a).2.1) → Q (some (vi (nz v_))) ((M.1.1, f_), S_, L_, P_))) else False
  | _ => False

theorem zmX9_style_w (l : Launch) (hl : l.stackTraces = false) : mm_Spec l yX9_style (ws_ yX9_style cX9_style 2 (some .int)) (mm_rm 34 0 0) (zE zX9_style_w) := by
  refine zE_sub (zA_ok vM (zmX9_style l hl)) ?_
  rintro as M Q X h
  unfold zX9_style_w at h
  split at h
  rotate_left
  · exact h.elim
  rename_i h_ a
  obtain ⟨e1_, h⟩ := mm_bif h (fun q => q)
  cases mm_beq e1_
  try dsimp only at h
  obtain ⟨n, k, x, hL, hA, ra, hq⟩ := h
  exact LI.cM (y := (sm7 x a)) hL (fun a_ ha_ => by
    simp only [List.mem_cons, List.not_mem_nil, or_false] at ha_
    rcases ha_ with rfl | rfl
    · exact hL.v0
    · exact vk_i _ _) (fun S L h => lm07 h hA ra) hq
theorem lx08 {x : aS} {f : Nat → Nat × Nat} {S L : Nat → Nat → Int} {P : Nat → Nat → Option Nat} {top : Nat} {a b d : Int} {X : Nat → zz_M → Prop} (C : CI x f S P top) (hA : AI x) (ra : R32 a) (rb : R32 b) (rd : R32 d) : zX0_score [vr 100, vi a, vi b, vi d] ((2, f), S, L, P) (cK (sm8 x a b d) Kv) X := by
  apply oX0_score
  exact ⟨eQv (sm8 x a b d), eX [(3, 1), (1, 2)] (sm8 x a b d), le08 C hA ra rb rd, fun r m q => q.fo, fun i m q => ⟨by obtain ⟨c, hc⟩ := q.fo.1; simp at hc; omega, q.fo.2⟩, fun S' L' P' f' q => q.cK, fun S' L' P' f' q => (q.cK (c := 1) (fun c' hc => by simpa using hc) (by decide) (by decide) (fun _ _ => trivial)), fun S' L' P' f' q => (q.cK (c := 2) (fun c' hc => by simpa using hc) (by decide) (by decide) (fun _ _ => trivial))⟩
def zX0_score_w : zz_Sp := fun as M Q X => match as with
  | [.inr (.inr (some x)), .inl a, .inl b, .inl d] => bif Nat.beq x 100 then (∃ (n_ : Nat) (x_ m_ : aS), LI n_ x_ m_ M ∧ AI x_ ∧ R32 a ∧ R32 b ∧ R32 d ∧ (∀ (S_ L_ : Nat → Nat → Int) (P_ : Nat → Nat → Option Nat) (f_ : Nat → Nat × Nat), LI n_ (sm8 x_ a b d).2.2 m_ ((M.1.1, f_), S_, L_, P_) → R32 (sm8 x_ a b d).1 → Q (some (vi ((sm8 x_ a b d).1))) ((M.1.1, f_), S_, L_, P_))) else False
  | _ => False

theorem zmX0_score_w (l : Launch) (hl : l.stackTraces = false) : mm_Spec l yX0_score (wsW_ yX0_score cX0_score 5 (some .int) [((0), (7), (10), (24)), ((0), (7), (14), (13))]) (mm_rm 9 2 12) (zE zX0_score_w) := by
  refine zE_sub (zA_ok vC (zmX0_score l hl)) ?_
  rintro as M Q X h
  unfold zX0_score_w at h
  split at h
  rotate_left
  · exact h.elim
  rename_i h100 a b d
  obtain ⟨e1_, h⟩ := mm_bif h (fun q => q)
  cases mm_beq e1_
  try dsimp only at h
  obtain ⟨n, x, m, hL, hA, ra, rb, rd, hq⟩ := h
  exact LI.cW (y := (sm8 x a b d)) (K := Kv) hL (fun a_ ha_ => by
    simp only [List.mem_cons, List.not_mem_nil, or_false] at ha_
    rcases ha_ with rfl | rfl | rfl | rfl
    · exact hL.v100
    · exact vk_i _ _
    · exact vk_i _ _
    · exact vk_i _ _) (fun f S L P top C => lx08 C hA ra rb rd) (fun S' L' P' f' L0 a1 a2 hK e51 => hq S' L' P' f' a1 a2)
def zX9_score_w : zz_Sp := fun as M Q X => match as with
  | [.inr (.inr (some h_)), .inl a, .inl b, .inl d] => bif Nat.beq h_ 0 then (∃ (n_ : Nat) (k_ x_ : aS), LI n_ k_ x_ M ∧ AI x_ ∧ R32 a ∧ R32 b ∧ R32 d ∧ (∀ (S_ L_ : Nat → Nat → Int) (P_ : Nat → Nat → Option Nat) (f_ : Nat → Nat × Nat), LI n_ k_ (sm8 x_ a b d).2.2 ((M.1.1, f_), S_, L_, P_) → S_ 0 0 = (sm8 x_ a b d).1 → L_ 51 = M.2.2.1 51 → Q none ((M.1.1, f_), S_, L_, P_))) else False
  | _ => False

theorem zmX9_score_w (l : Launch) (hl : l.stackTraces = false) : mm_Spec l yX9_score (ws_ yX9_score cX9_score 5 none) (mm_rm 3 0 0) (zE zX9_score_w) := by
  refine zE_sub (zA_ok vM (zmX9_score l hl)) ?_
  rintro as M Q X h
  unfold zX9_score_w at h
  split at h
  rotate_left
  · exact h.elim
  rename_i h_ a b d
  obtain ⟨e1_, h⟩ := mm_bif h (fun q => q)
  cases mm_beq e1_
  try dsimp only at h
  obtain ⟨n, k, x, hL, hA, ra, rb, rd, hq⟩ := h
  exact LI.cMv (y := (sm8 x a b d)) hL (fun a_ ha_ => by
    simp only [List.mem_cons, List.not_mem_nil, or_false] at ha_
    rcases ha_ with rfl | rfl | rfl | rfl
    · exact hL.v0
    · exact vk_i _ _
    · exact vk_i _ _
    · exact vk_i _ _) (fun S L h => lm08 h ra rb rd) hq
theorem lx09 {x : aS} {f : Nat → Nat × Nat} {S L : Nat → Nat → Int} {P : Nat → Nat → Option Nat} {top : Nat} {a b : Int} {X : Nat → zz_M → Prop} (C : CI x f S P top) (hA : AI x) (ra : R32 a) (rb : R32 b) : zX0_games [vr 100, vi a, vi b] ((2, f), S, L, P) (cK (sm9 x a b) Kv) X := by
  apply oX0_games
  exact ⟨eQv (sm9 x a b), eX [(1, 1)] (sm9 x a b), le09 C hA ra rb, fun r m q => q.fo, fun i m q => ⟨by obtain ⟨c, hc⟩ := q.fo.1; simp at hc; omega, q.fo.2⟩, fun S' L' P' f' q => q.cK, fun S' L' P' f' q => (q.cK (c := 1) (fun c' hc => by simpa using hc) (by decide) (by decide) (fun _ _ => trivial))⟩
def zX0_games_w : zz_Sp := fun as M Q X => match as with
  | [.inr (.inr (some x)), .inl a, .inl b] => bif Nat.beq x 100 then (∃ (n_ : Nat) (x_ m_ : aS), LI n_ x_ m_ M ∧ AI x_ ∧ R32 a ∧ R32 b ∧ (∀ (S_ L_ : Nat → Nat → Int) (P_ : Nat → Nat → Option Nat) (f_ : Nat → Nat × Nat), LI n_ (sm9 x_ a b).2.2 m_ ((M.1.1, f_), S_, L_, P_) → R32 (sm9 x_ a b).1 → Q (some (vi ((sm9 x_ a b).1))) ((M.1.1, f_), S_, L_, P_))) else False
  | _ => False

theorem zmX0_games_w (l : Launch) (hl : l.stackTraces = false) : mm_Spec l yX0_games (wsW_ yX0_games cX0_games 4 (some .int) [((0), (6), (9), (13))]) (mm_rm 8 1 6) (zE zX0_games_w) := by
  refine zE_sub (zA_ok vC (zmX0_games l hl)) ?_
  rintro as M Q X h
  unfold zX0_games_w at h
  split at h
  rotate_left
  · exact h.elim
  rename_i h100 a b
  obtain ⟨e1_, h⟩ := mm_bif h (fun q => q)
  cases mm_beq e1_
  try dsimp only at h
  obtain ⟨n, x, m, hL, hA, ra, rb, hq⟩ := h
  exact LI.cW (y := (sm9 x a b)) (K := Kv) hL (fun a_ ha_ => by
    simp only [List.mem_cons, List.not_mem_nil, or_false] at ha_
    rcases ha_ with rfl | rfl | rfl
    · exact hL.v100
    · exact vk_i _ _
    · exact vk_i _ _) (fun f S L P top C => lx09 C hA ra rb) (fun S' L' P' f' L0 a1 a2 hK e51 => hq S' L' P' f' a1 a2)
def zX9_games_w : zz_Sp := fun as M Q X => match as with
  | [.inr (.inr (some h_)), .inl a, .inl b] => bif Nat.beq h_ 0 then (∃ (n_ : Nat) (k_ x_ : aS), LI n_ k_ x_ M ∧ AI x_ ∧ R32 a ∧ R32 b ∧ (∀ (S_ L_ : Nat → Nat → Int) (P_ : Nat → Nat → Option Nat) (f_ : Nat → Nat × Nat), LI n_ k_ (sm9 x_ a b).2.2 ((M.1.1, f_), S_, L_, P_) → S_ 0 0 = (sm9 x_ a b).1 → L_ 51 = M.2.2.1 51 → Q none ((M.1.1, f_), S_, L_, P_))) else False
  | _ => False

theorem zmX9_games_w (l : Launch) (hl : l.stackTraces = false) : mm_Spec l yX9_games (ws_ yX9_games cX9_games 3 none) (mm_rm 2 0 0) (zE zX9_games_w) := by
  refine zE_sub (zA_ok vM (zmX9_games l hl)) ?_
  rintro as M Q X h
  unfold zX9_games_w at h
  split at h
  rotate_left
  · exact h.elim
  rename_i h_ a b
  obtain ⟨e1_, h⟩ := mm_bif h (fun q => q)
  cases mm_beq e1_
  try dsimp only at h
  obtain ⟨n, k, x, hL, hA, ra, rb, hq⟩ := h
  exact LI.cMv (y := (sm9 x a b)) hL (fun a_ ha_ => by
    simp only [List.mem_cons, List.not_mem_nil, or_false] at ha_
    rcases ha_ with rfl | rfl | rfl
    · exact hL.v0
    · exact vk_i _ _
    · exact vk_i _ _) (fun S L h => lm09 h ra rb) hq
theorem lx10 {x : aS} {f : Nat → Nat × Nat} {S L : Nat → Nat → Int} {P : Nat → Nat → Option Nat} {top : Nat} {a b : Int} {X : Nat → zz_M → Prop} (C : CI x f S P top) (hA : AI x) (ra : R32 a) (rb : R32 b) : zX0_begin [vr 100, vi a, vi b] ((2, f), S, L, P) (cK (sm10 x a b) Kv) X := by
  apply oX0_begin
  exact ⟨eQv (sm10 x a b), eX [(1, 1)] (sm10 x a b), le10 C hA ra rb, fun r m q => q.fo, fun i m q => ⟨by obtain ⟨c, hc⟩ := q.fo.1; simp at hc; omega, q.fo.2⟩, fun S' L' P' f' q => q.cK, fun S' L' P' f' q => (q.cK (c := 1) (fun c' hc => by simpa using hc) (by decide) (by decide) (fun _ _ => trivial))⟩
def zX0_begin_w : zz_Sp := fun as M Q X => match as with
  | [.inr (.inr (some x)), .inl a, .inl b] => bif Nat.beq x 100 then (∃ (n_ : Nat) (x_ m_ : aS), LI n_ x_ m_ M ∧ AI x_ ∧ R32 a ∧ R32 b ∧ (∀ (S_ L_ : Nat → Nat → Int) (P_ : Nat → Nat → Option Nat) (f_ : Nat → Nat × Nat), LI n_ (sm10 x_ a b).2.2 m_ ((M.1.1, f_), S_, L_, P_) → R32 (sm10 x_ a b).1 → Q (some (vi ((sm10 x_ a b).1))) ((M.1.1, f_), S_, L_, P_))) else False
  | _ => False

theorem zmX0_begin_w (l : Launch) (hl : l.stackTraces = false) : mm_Spec l yX0_begin (wsW_ yX0_begin cX0_begin 4 (some .int) [((0), (6), (9), (13))]) (mm_rm 8 1 6) (zE zX0_begin_w) := by
  refine zE_sub (zA_ok vC (zmX0_begin l hl)) ?_
  rintro as M Q X h
  unfold zX0_begin_w at h
  split at h
  rotate_left
  · exact h.elim
  rename_i h100 a b
  obtain ⟨e1_, h⟩ := mm_bif h (fun q => q)
  cases mm_beq e1_
  try dsimp only at h
  obtain ⟨n, x, m, hL, hA, ra, rb, hq⟩ := h
  exact LI.cW (y := (sm10 x a b)) (K := Kv) hL (fun a_ ha_ => by
    simp only [List.mem_cons, List.not_mem_nil, or_false] at ha_
    rcases ha_ with rfl | rfl | rfl
    · exact hL.v100
    · exact vk_i _ _
    · exact vk_i _ _) (fun f S L P top C => lx10 C hA ra rb) (fun S' L' P' f' L0 a1 a2 hK e51 => hq S' L' P' f' a1 a2)
def zX9_begin_w : zz_Sp := fun as M Q X => match as with
  | [.inr (.inr (some h_)), .inl a, .inl b] => bif Nat.beq h_ 0 then (∃ (n_ : Nat) (k_ x_ : aS), LI n_ k_ x_ M ∧ AI x_ ∧ R32 a ∧ R32 b ∧ (∀ (S_ L_ : Nat → Nat → Int) (P_ : Nat → Nat → Option Nat) (f_ : Nat → Nat × Nat), LI n_ k_ (sm10 x_ a b).2.2 ((M.1.1, f_), S_, L_, P_) → S_ 0 0 = (sm10 x_ a b).1 → L_ 51 = M.2.2.1 51 → Q none ((M.1.1, f_), S_, L_, P_))) else False
  | _ => False

theorem zmX9_begin_w (l : Launch) (hl : l.stackTraces = false) : mm_Spec l yX9_begin (ws_ yX9_begin cX9_begin 3 none) (mm_rm 2 0 0) (zE zX9_begin_w) := by
  refine zE_sub (zA_ok vM (zmX9_begin l hl)) ?_
  rintro as M Q X h
  unfold zX9_begin_w at h
  split at h
  rotate_left
  · exact h.elim
  rename_i h_ a b
  obtain ⟨e1_, h⟩ := mm_bif h (fun q => q)
  cases mm_beq e1_
  try dsimp only at h
  obtain ⟨n, k, x, hL, hA, ra, rb, hq⟩ := h
  exact LI.cMv (y := (sm10 x a b)) hL (fun a_ ha_ => by
    simp only [List.mem_cons, List.not_mem_nil, or_false] at ha_
    rcases ha_ with rfl | rfl | rfl
    · exact hL.v0
    · exact vk_i _ _
    · exact vk_i _ _) (fun S L h => lm10 h ra rb) hq
theorem lx11 {x : aS} {f : Nat → Nat × Nat} {S L : Nat → Nat → Int} {P : Nat → Nat → Option Nat} {top : Nat} {a : Int} {X : Nat → zz_M → Prop} (C : CI x f S P top) (hA : AI x) (ra : R32 a) : zX0_stands [vr 100, vi a, vr 51] ((2, f), S, L, P) (cK (sm11 x a) (Ki (sm11 x a))) X := by
  apply oX0_stands
  exact ⟨C.f51, eQ (sm11 x a), eX [(4, 1)] (sm11 x a), le11 C ra, fun r m q => q.fo, fun i m q => ⟨by obtain ⟨c, hc⟩ := q.fo.1; simp at hc; omega, q.fo.2⟩, fun v S' L' P' f' q => q.cK, fun S' L' P' f' q => (q.cK (c := 1) (fun c' hc => by simpa using hc) (by decide) (by decide) (fun L' h0 z => absurd z h0))⟩
def zX0_stands_w : zz_Sp := fun as M Q X => match as with
  | [.inr (.inr (some x)), .inl a, .inr (.inr (some out))] => bif Nat.beq x 100 && Nat.beq out 51 then (∃ (n_ : Nat) (x_ m_ : aS), LI n_ x_ m_ M ∧ AI x_ ∧ R32 a ∧ (∀ (S_ L_ : Nat → Nat → Int) (P_ : Nat → Nat → Option Nat) (f_ : Nat → Nat × Nat), LI n_ (sm11 x_ a).2.2 m_ ((M.1.1, f_), S_, L_, P_) → R32 (sm11 x_ a).1 → ((sm11 x_ a).1 = 0 → L_ 51 0 = nz (sm11 x_ a).2.1) → Q (some (vi ((sm11 x_ a).1))) ((M.1.1, f_), S_, L_, P_))) else False
  | _ => False

theorem zmX0_stands_w (l : Launch) (hl : l.stackTraces = false) : mm_Spec l yX0_stands (wsW_ yX0_stands cX0_stands 4 (some .int) [((0), (9), (12), (26))]) (mm_rm 8 1 6) (zE zX0_stands_w) := by
  refine zE_sub (zA_ok vC (zmX0_stands l hl)) ?_
  rintro as M Q X h
  unfold zX0_stands_w at h
  split at h
  rotate_left
  · exact h.elim
  rename_i h100 a h51
  obtain ⟨e1_, e2_, h⟩ := mm_and2 h (fun q => q)
  cases mm_beq e1_
  cases mm_beq e2_
  try dsimp only at h
  obtain ⟨n, x, m, hL, hA, ra, hq⟩ := h
  exact LI.cW (y := (sm11 x a)) (K := (Ki (sm11 x a))) hL (fun a_ ha_ => by
    simp only [List.mem_cons, List.not_mem_nil, or_false] at ha_
    rcases ha_ with rfl | rfl | rfl
    · exact hL.v100
    · exact vk_i _ _
    · exact hL.v51) (fun f S L P top C => lx11 C hA ra) (fun S' L' P' f' L0 a1 a2 hK e51 => hq S' L' P' f' a1 a2 (fun z => by rw [e51]; show nl (L0 51 0) = _; rw [hK z]; exact nl_nz _))
def zX9_stands_w : zz_Sp := fun as M Q X => match as with
  | [.inr (.inr (some h_)), .inl a] => bif Nat.beq h_ 0 then (∃ (n_ : Nat) (k_ x_ : aS), LI n_ k_ x_ M ∧ AI x_ ∧ R32 a ∧ (∀ (S_ L_ : Nat → Nat → Int) (P_ : Nat → Nat → Option Nat) (f_ : Nat → Nat × Nat) (v_ : Int), LI n_ k_ (sm11 x_ a).2.2 ((M.1.1, f_), S_, L_, P_) → S_ 0 0 = (sm11 x_ a).1 → L_ 51 = M.2.2.1 51 → ((sm11 x_ a).1 = 0 → nz v_ = nz (sm11 x_ a).2.1) → Q (some (vi (nz v_))) ((M.1.1, f_), S_, L_, P_))) else False
  | _ => False

theorem zmX9_stands_w (l : Launch) (hl : l.stackTraces = false) : mm_Spec l yX9_stands (ws_ yX9_stands cX9_stands 2 (some .int)) (mm_rm 3 0 0) (zE zX9_stands_w) := by
  refine zE_sub (zA_ok vM (zmX9_stands l hl)) ?_
  rintro as M Q X h
  unfold zX9_stands_w at h
  split at h
  rotate_left
  · exact h.elim
  rename_i h_ a
  obtain ⟨e1_, h⟩ := mm_bif h (fun q => q)
  cases mm_beq e1_
  try dsimp only at h
  obtain ⟨n, k, x, hL, hA, ra, hq⟩ := h
  exact LI.cM (y := (sm11 x a)) hL (fun a_ ha_ => by
    simp only [List.mem_cons, List.not_mem_nil, or_false] at ha_
    rcases ha_ with rfl | rfl
    · exact hL.v0
    · exact vk_i _ _) (fun S L h => lm11 h hA ra) hq
theorem lx12 {x : aS} {f : Nat → Nat × Nat} {S L : Nat → Nat → Int} {P : Nat → Nat → Option Nat} {top : Nat} {a b : Int} {X : Nat → zz_M → Prop} (C : CI x f S P top) (hA : AI x) (ra : R32 a) (rb : R32 b) : zX0_rally [vr 100, vi a, vi b, vr 51] ((2, f), S, L, P) (cK (sm12 x a b) (Ki (sm12 x a b))) X := by
  apply oX0_rally
  exact ⟨C.f51, eQ (sm12 x a b), eX [(3, 1), (1, 2), (5, 3)] (sm12 x a b), le12 C hA ra rb, fun r m q => q.fo, fun i m q => ⟨by obtain ⟨c, hc⟩ := q.fo.1; simp at hc; omega, q.fo.2⟩, fun v S' L' P' f' q => q.cK, fun S' L' P' f' q => (q.cK (c := 1) (fun c' hc => by simpa using hc) (by decide) (by decide) (fun L' h0 z => absurd z h0)), fun S' L' P' f' q => (q.cK (c := 2) (fun c' hc => by simpa using hc) (by decide) (by decide) (fun L' h0 z => absurd z h0)), fun S' L' P' f' q => (q.cK (c := 3) (fun c' hc => by simpa using hc) (by decide) (by decide) (fun L' h0 z => absurd z h0))⟩
def zX0_rally_w : zz_Sp := fun as M Q X => match as with
  | [.inr (.inr (some x)), .inl a, .inl b, .inr (.inr (some out))] => bif Nat.beq x 100 && Nat.beq out 51 then (∃ (n_ : Nat) (x_ m_ : aS), LI n_ x_ m_ M ∧ AI x_ ∧ R32 a ∧ R32 b ∧ (∀ (S_ L_ : Nat → Nat → Int) (P_ : Nat → Nat → Option Nat) (f_ : Nat → Nat × Nat), LI n_ (sm12 x_ a b).2.2 m_ ((M.1.1, f_), S_, L_, P_) → R32 (sm12 x_ a b).1 → ((sm12 x_ a b).1 = 0 → L_ 51 0 = nz (sm12 x_ a b).2.1) → Q (some (vi ((sm12 x_ a b).1))) ((M.1.1, f_), S_, L_, P_))) else False
  | _ => False

theorem zmX0_rally_w (l : Launch) (hl : l.stackTraces = false) : mm_Spec l yX0_rally (wsW_ yX0_rally cX0_rally 5 (some .int) [((0), (10), (13), (24)), ((0), (10), (17), (13)), ((0), (10), (21), (53))]) (mm_rm 9 3 18) (zE zX0_rally_w) := by
  refine zE_sub (zA_ok vC (zmX0_rally l hl)) ?_
  rintro as M Q X h
  unfold zX0_rally_w at h
  split at h
  rotate_left
  · exact h.elim
  rename_i h100 a b h51
  obtain ⟨e1_, e2_, h⟩ := mm_and2 h (fun q => q)
  cases mm_beq e1_
  cases mm_beq e2_
  try dsimp only at h
  obtain ⟨n, x, m, hL, hA, ra, rb, hq⟩ := h
  exact LI.cW (y := (sm12 x a b)) (K := (Ki (sm12 x a b))) hL (fun a_ ha_ => by
    simp only [List.mem_cons, List.not_mem_nil, or_false] at ha_
    rcases ha_ with rfl | rfl | rfl | rfl
    · exact hL.v100
    · exact vk_i _ _
    · exact vk_i _ _
    · exact hL.v51) (fun f S L P top C => lx12 C hA ra rb) (fun S' L' P' f' L0 a1 a2 hK e51 => hq S' L' P' f' a1 a2 (fun z => by rw [e51]; show nl (L0 51 0) = _; rw [hK z]; exact nl_nz _))
def zX9_rally_w : zz_Sp := fun as M Q X => match as with
  | [.inr (.inr (some h_)), .inl a, .inl b] => bif Nat.beq h_ 0 then (∃ (n_ : Nat) (k_ x_ : aS), LI n_ k_ x_ M ∧ AI x_ ∧ R32 a ∧ R32 b ∧ (∀ (S_ L_ : Nat → Nat → Int) (P_ : Nat → Nat → Option Nat) (f_ : Nat → Nat × Nat) (v_ : Int), LI n_ k_ (sm12 x_ a b).2.2 ((M.1.1, f_), S_, L_, P_) → S_ 0 0 = (sm12 x_ a b).1 → L_ 51 = M.2.2.1 51 → ((sm12 x_ a b).1 = 0 → nz v_ = nz (sm12 x_ a b).2.1) → Q (some (vi (nz v_))) ((M.1.1, f_), S_, L_, P_))) else False
  | _ => False

theorem zmX9_rally_w (l : Launch) (hl : l.stackTraces = false) : mm_Spec l yX9_rally (ws_ yX9_rally cX9_rally 4 (some .int)) (mm_rm 4 0 0) (zE zX9_rally_w) := by
  refine zE_sub (zA_ok vM (zmX9_rally l hl)) ?_
  rintro as M Q X h
  unfold zX9_rally_w at h
  split at h
  rotate_left
  · exact h.elim
  rename_i h_ a b
  obtain ⟨e1_, h⟩ := mm_bif h (fun q => q)
  cases mm_beq e1_
  try dsimp only at h
  obtain ⟨n, k, x, hL, hA, ra, rb, hq⟩ := h
  exact LI.cM (y := (sm12 x a b)) hL (fun a_ ha_ => by
    simp only [List.mem_cons, List.not_mem_nil, or_false] at ha_
    rcases ha_ with rfl | rfl | rfl
    · exact hL.v0
    · exact vk_i _ _
    · exact vk_i _ _) (fun S L h => lm12 h hA ra rb) hq
theorem lx13 {x : aS} {f : Nat → Nat × Nat} {S L : Nat → Nat → Int} {P : Nat → Nat → Option Nat} {top : Nat} {a : Int} {X : Nat → zz_M → Prop} (C : CI x f S P top) (hA : AI x) (ra : R32 a) : zX0_bisque [vr 100, vi a, vr 51] ((2, f), S, L, P) (cK (sm13 x a) (Ki (sm13 x a))) X := by
  apply oX0_bisque
  have hz : (sm13 x a).2.1 = 1 ∨ (sm13 x a).2.1 = 0 := by
    unfold sm13
    split
    · show (if _ then (1 : Int) else 0) = 1 ∨ (if _ then (1 : Int) else 0) = 0
      split
      · exact Or.inl rfl
      · exact Or.inr rfl
    · exact Or.inr rfl
  exact ⟨C.f51, eQ (sm13 x a), eX [(3, 1), (5, 2)] (sm13 x a), le13 C hA ra, fun r m q => ⟨by rw [q.2.1]; exact hz.imp (fun z => by rw [z]) (fun z => by rw [z]), q.fo.2⟩, fun i m q => ⟨by obtain ⟨c, hc⟩ := q.fo.1; simp at hc; omega, q.fo.2⟩, fun S' L' P' f' => ⟨fun q => by have q2 := q.cK; rw [nz_id (by decide)] at q2; exact q2, fun q => by have q2 := q.cK; rw [nz_id (by decide)] at q2; exact q2⟩, fun S' L' P' f' q => (q.cK (c := 1) (fun c' hc => by simpa using hc) (by decide) (by decide) (fun L' h0 z => absurd z h0)), fun S' L' P' f' q => (q.cK (c := 2) (fun c' hc => by simpa using hc) (by decide) (by decide) (fun L' h0 z => absurd z h0))⟩
def zX0_bisque_w : zz_Sp := fun as M Q X => match as with
  | [.inr (.inr (some x)), .inl a, .inr (.inr (some out))] => bif Nat.beq x 100 && Nat.beq out 51 then (∃ (n_ : Nat) (x_ m_ : aS), LI n_ x_ m_ M ∧ AI x_ ∧ R32 a ∧ (∀ (S_ L_ : Nat → Nat → Int) (P_ : Nat → Nat → Option Nat) (f_ : Nat → Nat × Nat), LI n_ (sm13 x_ a).2.2 m_ ((M.1.1, f_), S_, L_, P_) → R32 (sm13 x_ a).1 → ((sm13 x_ a).1 = 0 → L_ 51 0 = nz (sm13 x_ a).2.1) → Q (some (vi ((sm13 x_ a).1))) ((M.1.1, f_), S_, L_, P_))) else False
  | _ => False

theorem zmX0_bisque_w (l : Launch) (hl : l.stackTraces = false) : mm_Spec l yX0_bisque (wsW_ yX0_bisque cX0_bisque 4 (some .int) [((0), (16), (19), (24)), ((0), (16), (22), (53))]) (mm_rm 9 2 12) (zE zX0_bisque_w) := by
  refine zE_sub (zA_ok vC (zmX0_bisque l hl)) ?_
  rintro as M Q X h
  unfold zX0_bisque_w at h
  split at h
  rotate_left
  · exact h.elim
  rename_i h100 a h51
  obtain ⟨e1_, e2_, h⟩ := mm_and2 h (fun q => q)
  cases mm_beq e1_
  cases mm_beq e2_
  try dsimp only at h
  obtain ⟨n, x, m, hL, hA, ra, hq⟩ := h
  exact LI.cW (y := (sm13 x a)) (K := (Ki (sm13 x a))) hL (fun a_ ha_ => by
    simp only [List.mem_cons, List.not_mem_nil, or_false] at ha_
    rcases ha_ with rfl | rfl | rfl
    · exact hL.v100
    · exact vk_i _ _
    · exact hL.v51) (fun f S L P top C => lx13 C hA ra) (fun S' L' P' f' L0 a1 a2 hK e51 => hq S' L' P' f' a1 a2 (fun z => by rw [e51]; show nl (L0 51 0) = _; rw [hK z]; exact nl_nz _))
def zX9_bisque_w : zz_Sp := fun as M Q X => match as with
  | [.inr (.inr (some h_)), .inl a] => bif Nat.beq h_ 0 then (∃ (n_ : Nat) (k_ x_ : aS), LI n_ k_ x_ M ∧ AI x_ ∧ R32 a ∧ (∀ (S_ L_ : Nat → Nat → Int) (P_ : Nat → Nat → Option Nat) (f_ : Nat → Nat × Nat) (v_ : Int), LI n_ k_ (sm13 x_ a).2.2 ((M.1.1, f_), S_, L_, P_) → S_ 0 0 = (sm13 x_ a).1 → L_ 51 = M.2.2.1 51 → ((sm13 x_ a).1 = 0 → nz v_ = nz (sm13 x_ a).2.1) → Q (some (vi (nz v_))) ((M.1.1, f_), S_, L_, P_))) else False
  | _ => False

theorem zmX9_bisque_w (l : Launch) (hl : l.stackTraces = false) : mm_Spec l yX9_bisque (ws_ yX9_bisque cX9_bisque 2 (some .boolean)) (mm_rm 4 0 0) (zE zX9_bisque_w) := by
  refine zE_sub (zA_ok vM (zmX9_bisque l hl)) ?_
  rintro as M Q X h
  unfold zX9_bisque_w at h
  split at h
  rotate_left
  · exact h.elim
  rename_i h_ a
  obtain ⟨e1_, h⟩ := mm_bif h (fun q => q)
  cases mm_beq e1_
  try dsimp only at h
  obtain ⟨n, k, x, hL, hA, ra, hq⟩ := h
  exact LI.cM (y := (sm13 x a)) hL (fun a_ ha_ => by
    simp only [List.mem_cons, List.not_mem_nil, or_false] at ha_
    rcases ha_ with rfl | rfl
    · exact hL.v0
    · exact vk_i _ _) (fun S L h => lm13 h hA ra) hq
theorem lx14 {x : aS} {f : Nat → Nat × Nat} {S L : Nat → Nat → Int} {P : Nat → Nat → Option Nat} {top : Nat} {a b : Int} {X : Nat → zz_M → Prop} (C : CI x f S P top) (hA : AI x) (ra : R32 a) (rb : R32 b) : zX0_chance [vr 100, vi a, vi b, vr 51] ((2, f), S, L, P) (cK (sm14 x a b) (Ki (sm14 x a b))) X := by
  apply oX0_chance
  exact ⟨C.f51, eQ (sm14 x a b), eX [(3, 1), (1, 2), (5, 3)] (sm14 x a b), le14 C ra rb, fun r m q => q.fo, fun i m q => ⟨by obtain ⟨c, hc⟩ := q.fo.1; simp at hc; omega, q.fo.2⟩, fun v S' L' P' f' q => q.cK, fun S' L' P' f' q => (q.cK (c := 1) (fun c' hc => by simpa using hc) (by decide) (by decide) (fun L' h0 z => absurd z h0)), fun S' L' P' f' q => (q.cK (c := 2) (fun c' hc => by simpa using hc) (by decide) (by decide) (fun L' h0 z => absurd z h0)), fun S' L' P' f' q => (q.cK (c := 3) (fun c' hc => by simpa using hc) (by decide) (by decide) (fun L' h0 z => absurd z h0))⟩
def zX0_chance_w : zz_Sp := fun as M Q X => match as with
  | [.inr (.inr (some x)), .inl a, .inl b, .inr (.inr (some out))] => bif Nat.beq x 100 && Nat.beq out 51 then (∃ (n_ : Nat) (x_ m_ : aS), LI n_ x_ m_ M ∧ AI x_ ∧ R32 a ∧ R32 b ∧ (∀ (S_ L_ : Nat → Nat → Int) (P_ : Nat → Nat → Option Nat) (f_ : Nat → Nat × Nat), LI n_ (sm14 x_ a b).2.2 m_ ((M.1.1, f_), S_, L_, P_) → R32 (sm14 x_ a b).1 → ((sm14 x_ a b).1 = 0 → L_ 51 0 = nz (sm14 x_ a b).2.1) → Q (some (vi ((sm14 x_ a b).1))) ((M.1.1, f_), S_, L_, P_))) else False
  | _ => False

theorem zmX0_chance_w (l : Launch) (hl : l.stackTraces = false) : mm_Spec l yX0_chance (wsW_ yX0_chance cX0_chance 5 (some .int) [((0), (10), (13), (24)), ((0), (10), (17), (13)), ((0), (10), (21), (53))]) (mm_rm 25 3 18) (zE zX0_chance_w) := by
  refine zE_sub (zA_ok vC (zmX0_chance l hl)) ?_
  rintro as M Q X h
  unfold zX0_chance_w at h
  split at h
  rotate_left
  · exact h.elim
  rename_i h100 a b h51
  obtain ⟨e1_, e2_, h⟩ := mm_and2 h (fun q => q)
  cases mm_beq e1_
  cases mm_beq e2_
  try dsimp only at h
  obtain ⟨n, x, m, hL, hA, ra, rb, hq⟩ := h
  exact LI.cW (y := (sm14 x a b)) (K := (Ki (sm14 x a b))) hL (fun a_ ha_ => by
    simp only [List.mem_cons, List.not_mem_nil, or_false] at ha_
    rcases ha_ with rfl | rfl | rfl | rfl
    · exact hL.v100
    · exact vk_i _ _
    · exact vk_i _ _
    · exact hL.v51) (fun f S L P top C => lx14 C hA ra rb) (fun S' L' P' f' L0 a1 a2 hK e51 => hq S' L' P' f' a1 a2 (fun z => by rw [e51]; show nl (L0 51 0) = _; rw [hK z]; exact nl_nz _))
def zX9_chance_w : zz_Sp := fun as M Q X => match as with
  | [.inr (.inr (some h_)), .inl a, .inl b] => bif Nat.beq h_ 0 then (∃ (n_ : Nat) (k_ x_ : aS), LI n_ k_ x_ M ∧ AI x_ ∧ R32 a ∧ R32 b ∧ (∀ (S_ L_ : Nat → Nat → Int) (P_ : Nat → Nat → Option Nat) (f_ : Nat → Nat × Nat) (v_ : Int), LI n_ k_ (sm14 x_ a b).2.2 ((M.1.1, f_), S_, L_, P_) → S_ 0 0 = (sm14 x_ a b).1 → L_ 51 = M.2.2.1 51 → ((sm14 x_ a b).1 = 0 → nz v_ = nz (sm14 x_ a b).2.1) → Q (some (vi (nz v_))) ((M.1.1, f_), S_, L_, P_))) else False
  | _ => False

theorem zmX9_chance_w (l : Launch) (hl : l.stackTraces = false) : mm_Spec l yX9_chance (ws_ yX9_chance cX9_chance 3 (some .int)) (mm_rm 36 0 0) (zE zX9_chance_w) := by
  refine zE_sub (zA_ok vM (zmX9_chance l hl)) ?_
  rintro as M Q X h
  unfold zX9_chance_w at h
  split at h
  rotate_left
  · exact h.elim
  rename_i h_ a b
  obtain ⟨e1_, h⟩ := mm_bif h (fun q => q)
  cases mm_beq e1_
  try dsimp only at h
  obtain ⟨n, k, x, hL, hA, ra, rb, hq⟩ := h
  exact LI.cM (y := (sm14 x a b)) hL (fun a_ ha_ => by
    simp only [List.mem_cons, List.not_mem_nil, or_false] at ha_
    rcases ha_ with rfl | rfl | rfl
    · exact hL.v0
    · exact vk_i _ _
    · exact vk_i _ _) (fun S L h => lm14 h hA ra rb) hq
theorem lx15 {x : aS} {f : Nat → Nat × Nat} {S L : Nat → Nat → Int} {P : Nat → Nat → Option Nat} {top : Nat} {a b d : Int} {X : Nat → zz_M → Prop} (C : CI x f S P top) (hA : AI x) (ra : R32 a) (rb : R32 b) (rd : (d = 0 ∨ d = 1)) : zX0_best [vr 100, vi a, vi b, vi d, vr 51] ((2, f), S, L, P) (cK (sm15 x a b d) (Ki (sm15 x a b d))) X := by
  apply oX0_best
  exact ⟨C.f51, eQ (sm15 x a b d), eX [(3, 1), (1, 2), (5, 3)] (sm15 x a b d), le15 C ra rb rd, fun r m q => q.fo, fun i m q => ⟨by obtain ⟨c, hc⟩ := q.fo.1; simp at hc; omega, q.fo.2⟩, fun v S' L' P' f' q => q.cK, fun S' L' P' f' q => (q.cK (c := 1) (fun c' hc => by simpa using hc) (by decide) (by decide) (fun L' h0 z => absurd z h0)), fun S' L' P' f' q => (q.cK (c := 2) (fun c' hc => by simpa using hc) (by decide) (by decide) (fun L' h0 z => absurd z h0)), fun S' L' P' f' q => (q.cK (c := 3) (fun c' hc => by simpa using hc) (by decide) (by decide) (fun L' h0 z => absurd z h0))⟩
def zX0_best_w : zz_Sp := fun as M Q X => match as with
  | [.inr (.inr (some x)), .inl a, .inl b, .inl d, .inr (.inr (some out))] => bif Nat.beq x 100 && Nat.beq out 51 then (∃ (n_ : Nat) (x_ m_ : aS), LI n_ x_ m_ M ∧ AI x_ ∧ R32 a ∧ R32 b ∧ (d = 0 ∨ d = 1) ∧ (∀ (S_ L_ : Nat → Nat → Int) (P_ : Nat → Nat → Option Nat) (f_ : Nat → Nat × Nat), LI n_ (sm15 x_ a b d).2.2 m_ ((M.1.1, f_), S_, L_, P_) → R32 (sm15 x_ a b d).1 → ((sm15 x_ a b d).1 = 0 → L_ 51 0 = nz (sm15 x_ a b d).2.1) → Q (some (vi ((sm15 x_ a b d).1))) ((M.1.1, f_), S_, L_, P_))) else False
  | _ => False

theorem zmX0_best_w (l : Launch) (hl : l.stackTraces = false) : mm_Spec l yX0_best (wsW_ yX0_best cX0_best 6 (some .int) [((0), (12), (15), (24)), ((0), (12), (19), (13)), ((0), (12), (23), (53))]) (mm_rm 25 3 18) (zE zX0_best_w) := by
  refine zE_sub (zA_ok vC (zmX0_best l hl)) ?_
  rintro as M Q X h
  unfold zX0_best_w at h
  split at h
  rotate_left
  · exact h.elim
  rename_i h100 a b d h51
  obtain ⟨e1_, e2_, h⟩ := mm_and2 h (fun q => q)
  cases mm_beq e1_
  cases mm_beq e2_
  try dsimp only at h
  obtain ⟨n, x, m, hL, hA, ra, rb, rd, hq⟩ := h
  exact LI.cW (y := (sm15 x a b d)) (K := (Ki (sm15 x a b d))) hL (fun a_ ha_ => by
    simp only [List.mem_cons, List.not_mem_nil, or_false] at ha_
    rcases ha_ with rfl | rfl | rfl | rfl | rfl
    · exact hL.v100
    · exact vk_i _ _
    · exact vk_i _ _
    · exact vk_i _ _
    · exact hL.v51) (fun f S L P top C => lx15 C hA ra rb rd) (fun S' L' P' f' L0 a1 a2 hK e51 => hq S' L' P' f' a1 a2 (fun z => by rw [e51]; show nl (L0 51 0) = _; rw [hK z]; exact nl_nz _))
def zX9_best_w : zz_Sp := fun as M Q X => match as with
  | [.inr (.inr (some h_)), .inl a, .inl b, .inl d] => bif Nat.beq h_ 0 then (∃ (n_ : Nat) (k_ x_ : aS), LI n_ k_ x_ M ∧ AI x_ ∧ R32 a ∧ R32 b ∧ (d = 0 ∨ d = 1) ∧ (∀ (S_ L_ : Nat → Nat → Int) (P_ : Nat → Nat → Option Nat) (f_ : Nat → Nat × Nat) (v_ : Int), LI n_ k_ (sm15 x_ a b d).2.2 ((M.1.1, f_), S_, L_, P_) → S_ 0 0 = (sm15 x_ a b d).1 → L_ 51 = M.2.2.1 51 → ((sm15 x_ a b d).1 = 0 → nz v_ = nz (sm15 x_ a b d).2.1) → Q (some (vi (nz v_))) ((M.1.1, f_), S_, L_, P_))) else False
  | _ => False

theorem zmX9_best_w (l : Launch) (hl : l.stackTraces = false) : mm_Spec l yX9_best (ws_ yX9_best cX9_best 12 (some .int)) (mm_rm 36 0 0) (zE zX9_best_w) := by
  refine zE_sub (zA_ok vM (zmX9_best l hl)) ?_
  rintro as M Q X h
  unfold zX9_best_w at h
  split at h
  rotate_left
  · exact h.elim
  rename_i h_ a b d
  obtain ⟨e1_, h⟩ := mm_bif h (fun q => q)
  cases mm_beq e1_
  try dsimp only at h
  obtain ⟨n, k, x, hL, hA, ra, rb, rd, hq⟩ := h
  exact LI.cM (y := (sm15 x a b d)) hL (fun a_ ha_ => by
    simp only [List.mem_cons, List.not_mem_nil, or_false] at ha_
    rcases ha_ with rfl | rfl | rfl | rfl
    · exact hL.v0
    · exact vk_i _ _
    · exact vk_i _ _
    · exact vk_i _ _) (fun S L h => lm15 h hA ra rb rd) hq
theorem lx16 {x : aS} {f : Nat → Nat × Nat} {S L : Nat → Nat → Int} {P : Nat → Nat → Option Nat} {top : Nat} {a b d : Int} {X : Nat → zz_M → Prop} (C : CI x f S P top) (hA : AI x) (ra : R32 a) (rb : R32 b) (rd : R32 d) : zX0_saves [vr 100, vi a, vi b, vi d, vr 51] ((2, f), S, L, P) (cK (sm16 x a b d) (Ki (sm16 x a b d))) X := by
  apply oX0_saves
  exact ⟨C.f51, eQ (sm16 x a b d), eX [(3, 1), (1, 2), (5, 3), (4, 4)] (sm16 x a b d), le16 C ra rb rd, fun r m q => q.fo, fun i m q => ⟨by obtain ⟨c, hc⟩ := q.fo.1; simp at hc; omega, q.fo.2⟩, fun v S' L' P' f' q => q.cK, fun S' L' P' f' q => (q.cK (c := 1) (fun c' hc => by simpa using hc) (by decide) (by decide) (fun L' h0 z => absurd z h0)), fun S' L' P' f' q => (q.cK (c := 2) (fun c' hc => by simpa using hc) (by decide) (by decide) (fun L' h0 z => absurd z h0)), fun S' L' P' f' q => (q.cK (c := 3) (fun c' hc => by simpa using hc) (by decide) (by decide) (fun L' h0 z => absurd z h0)), fun S' L' P' f' q => (q.cK (c := 4) (fun c' hc => by simpa using hc) (by decide) (by decide) (fun L' h0 z => absurd z h0))⟩
def zX0_saves_w : zz_Sp := fun as M Q X => match as with
  | [.inr (.inr (some x)), .inl a, .inl b, .inl d, .inr (.inr (some out))] => bif Nat.beq x 100 && Nat.beq out 51 then (∃ (n_ : Nat) (x_ m_ : aS), LI n_ x_ m_ M ∧ AI x_ ∧ R32 a ∧ R32 b ∧ R32 d ∧ (∀ (S_ L_ : Nat → Nat → Int) (P_ : Nat → Nat → Option Nat) (f_ : Nat → Nat × Nat), LI n_ (sm16 x_ a b d).2.2 m_ ((M.1.1, f_), S_, L_, P_) → R32 (sm16 x_ a b d).1 → ((sm16 x_ a b d).1 = 0 → L_ 51 0 = nz (sm16 x_ a b d).2.1) → Q (some (vi ((sm16 x_ a b d).1))) ((M.1.1, f_), S_, L_, P_))) else False
  | _ => False

theorem zmX0_saves_w (l : Launch) (hl : l.stackTraces = false) : mm_Spec l yX0_saves (wsW_ yX0_saves cX0_saves 6 (some .int) [((0), (12), (15), (24)), ((0), (12), (19), (13)), ((0), (12), (23), (53)), ((0), (12), (27), (26))]) (mm_rm 25 4 24) (zE zX0_saves_w) := by
  refine zE_sub (zA_ok vC (zmX0_saves l hl)) ?_
  rintro as M Q X h
  unfold zX0_saves_w at h
  split at h
  rotate_left
  · exact h.elim
  rename_i h100 a b d h51
  obtain ⟨e1_, e2_, h⟩ := mm_and2 h (fun q => q)
  cases mm_beq e1_
  cases mm_beq e2_
  try dsimp only at h
  obtain ⟨n, x, m, hL, hA, ra, rb, rd, hq⟩ := h
  exact LI.cW (y := (sm16 x a b d)) (K := (Ki (sm16 x a b d))) hL (fun a_ ha_ => by
    simp only [List.mem_cons, List.not_mem_nil, or_false] at ha_
    rcases ha_ with rfl | rfl | rfl | rfl | rfl
    · exact hL.v100
    · exact vk_i _ _
    · exact vk_i _ _
    · exact vk_i _ _
    · exact hL.v51) (fun f S L P top C => lx16 C hA ra rb rd) (fun S' L' P' f' L0 a1 a2 hK e51 => hq S' L' P' f' a1 a2 (fun z => by rw [e51]; show nl (L0 51 0) = _; rw [hK z]; exact nl_nz _))
def zX9_saves_w : zz_Sp := fun as M Q X => match as with
  | [.inr (.inr (some h_)), .inl a, .inl b, .inl d] => bif Nat.beq h_ 0 then (∃ (n_ : Nat) (k_ x_ : aS), LI n_ k_ x_ M ∧ AI x_ ∧ R32 a ∧ R32 b ∧ R32 d ∧ (∀ (S_ L_ : Nat → Nat → Int) (P_ : Nat → Nat → Option Nat) (f_ : Nat → Nat × Nat) (v_ : Int), LI n_ k_ (sm16 x_ a b d).2.2 ((M.1.1, f_), S_, L_, P_) → S_ 0 0 = (sm16 x_ a b d).1 → L_ 51 = M.2.2.1 51 → ((sm16 x_ a b d).1 = 0 → nz v_ = nz (sm16 x_ a b d).2.1) → Q (some (vi (nz v_))) ((M.1.1, f_), S_, L_, P_))) else False
  | _ => False

theorem zmX9_saves_w (l : Launch) (hl : l.stackTraces = false) : mm_Spec l yX9_saves (ws_ yX9_saves cX9_saves 10 (some .int)) (mm_rm 36 0 0) (zE zX9_saves_w) := by
  refine zE_sub (zA_ok vM (zmX9_saves l hl)) ?_
  rintro as M Q X h
  unfold zX9_saves_w at h
  split at h
  rotate_left
  · exact h.elim
  rename_i h_ a b d
  obtain ⟨e1_, h⟩ := mm_bif h (fun q => q)
  cases mm_beq e1_
  try dsimp only at h
  obtain ⟨n, k, x, hL, hA, ra, rb, rd, hq⟩ := h
  exact LI.cM (y := (sm16 x a b d)) hL (fun a_ ha_ => by
    simp only [List.mem_cons, List.not_mem_nil, or_false] at ha_
    rcases ha_ with rfl | rfl | rfl | rfl
    · exact hL.v0
    · exact vk_i _ _
    · exact vk_i _ _
    · exact vk_i _ _) (fun S L h => lm16 h hA ra rb rd) hq
theorem lx17 {x : aS} {f : Nat → Nat × Nat} {S L : Nat → Nat → Int} {P : Nat → Nat → Option Nat} {top : Nat} {a b d : Int} {X : Nat → zz_M → Prop} (C : CI x f S P top) (hA : AI x) (ra : R32 a) (rb : R32 b) (rd : R32 d) : zX0_worth [vr 100, vi a, vi b, vi d, vr 51] ((2, f), S, L, P) (cK (sm17 x a b d) (Ki (sm17 x a b d))) X := by
  apply oX0_worth
  exact ⟨C.f51, eQ (sm17 x a b d), eX [(3, 1), (1, 2), (5, 3)] (sm17 x a b d), le17 C ra rb rd, fun r m q => q.fo, fun i m q => ⟨by obtain ⟨c, hc⟩ := q.fo.1; simp at hc; omega, q.fo.2⟩, fun v S' L' P' f' q => q.cK, fun S' L' P' f' q => (q.cK (c := 1) (fun c' hc => by simpa using hc) (by decide) (by decide) (fun L' h0 z => absurd z h0)), fun S' L' P' f' q => (q.cK (c := 2) (fun c' hc => by simpa using hc) (by decide) (by decide) (fun L' h0 z => absurd z h0)), fun S' L' P' f' q => (q.cK (c := 3) (fun c' hc => by simpa using hc) (by decide) (by decide) (fun L' h0 z => absurd z h0))⟩
def zX0_worth_w : zz_Sp := fun as M Q X => match as with
  | [.inr (.inr (some x)), .inl a, .inl b, .inl d, .inr (.inr (some out))] => bif Nat.beq x 100 && Nat.beq out 51 then (∃ (n_ : Nat) (x_ m_ : aS), LI n_ x_ m_ M ∧ AI x_ ∧ R32 a ∧ R32 b ∧ R32 d ∧ (∀ (S_ L_ : Nat → Nat → Int) (P_ : Nat → Nat → Option Nat) (f_ : Nat → Nat × Nat), LI n_ (sm17 x_ a b d).2.2 m_ ((M.1.1, f_), S_, L_, P_) → R32 (sm17 x_ a b d).1 → ((sm17 x_ a b d).1 = 0 → L_ 51 0 = nz (sm17 x_ a b d).2.1) → Q (some (vi ((sm17 x_ a b d).1))) ((M.1.1, f_), S_, L_, P_))) else False
  | _ => False

theorem zmX0_worth_w (l : Launch) (hl : l.stackTraces = false) : mm_Spec l yX0_worth (wsW_ yX0_worth cX0_worth 6 (some .int) [((0), (12), (15), (24)), ((0), (12), (19), (13)), ((0), (12), (23), (53))]) (mm_rm 25 4 24) (zE zX0_worth_w) := by
  refine zE_sub (zA_ok vC (zmX0_worth l hl)) ?_
  rintro as M Q X h
  unfold zX0_worth_w at h
  split at h
  rotate_left
  · exact h.elim
  rename_i h100 a b d h51
  obtain ⟨e1_, e2_, h⟩ := mm_and2 h (fun q => q)
  cases mm_beq e1_
  cases mm_beq e2_
  try dsimp only at h
  obtain ⟨n, x, m, hL, hA, ra, rb, rd, hq⟩ := h
  exact LI.cW (y := (sm17 x a b d)) (K := (Ki (sm17 x a b d))) hL (fun a_ ha_ => by
    simp only [List.mem_cons, List.not_mem_nil, or_false] at ha_
    rcases ha_ with rfl | rfl | rfl | rfl | rfl
    · exact hL.v100
    · exact vk_i _ _
    · exact vk_i _ _
    · exact vk_i _ _
    · exact hL.v51) (fun f S L P top C => lx17 C hA ra rb rd) (fun S' L' P' f' L0 a1 a2 hK e51 => hq S' L' P' f' a1 a2 (fun z => by rw [e51]; show nl (L0 51 0) = _; rw [hK z]; exact nl_nz _))
def zX9_worth_w : zz_Sp := fun as M Q X => match as with
  | [.inr (.inr (some h_)), .inl a, .inl b, .inl d] => bif Nat.beq h_ 0 then (∃ (n_ : Nat) (k_ x_ : aS), LI n_ k_ x_ M ∧ AI x_ ∧ R32 a ∧ R32 b ∧ R32 d ∧ (∀ (S_ L_ : Nat → Nat → Int) (P_ : Nat → Nat → Option Nat) (f_ : Nat → Nat × Nat) (v_ : Int), LI n_ k_ (sm17 x_ a b d).2.2 ((M.1.1, f_), S_, L_, P_) → S_ 0 0 = (sm17 x_ a b d).1 → L_ 51 = M.2.2.1 51 → ((sm17 x_ a b d).1 = 0 → nz v_ = nz (sm17 x_ a b d).2.1) → Q (some (vi (nz v_))) ((M.1.1, f_), S_, L_, P_))) else False
  | _ => False

theorem zmX9_worth_w (l : Launch) (hl : l.stackTraces = false) : mm_Spec l yX9_worth (ws_ yX9_worth cX9_worth 5 (some .int)) (mm_rm 36 0 0) (zE zX9_worth_w) := by
  refine zE_sub (zA_ok vM (zmX9_worth l hl)) ?_
  rintro as M Q X h
  unfold zX9_worth_w at h
  split at h
  rotate_left
  · exact h.elim
  rename_i h_ a b d
  obtain ⟨e1_, h⟩ := mm_bif h (fun q => q)
  cases mm_beq e1_
  try dsimp only at h
  obtain ⟨n, k, x, hL, hA, ra, rb, rd, hq⟩ := h
  exact LI.cM (y := (sm17 x a b d)) hL (fun a_ ha_ => by
    simp only [List.mem_cons, List.not_mem_nil, or_false] at ha_
    rcases ha_ with rfl | rfl | rfl | rfl
    · exact hL.v0
    · exact vk_i _ _
    · exact vk_i _ _
    · exact vk_i _ _) (fun S L h => lm17 h hA ra rb rd) hq
theorem lx18 {x : aS} {f : Nat → Nat × Nat} {S L : Nat → Nat → Int} {P : Nat → Nat → Option Nat} {top : Nat} {a b : Int} {X : Nat → zz_M → Prop} (C : CI x f S P top) (hA : AI x) (ra : R32 a) (rb : R32 b) : zX0_set [vr 100, vi a, vi b, vr 51] ((2, f), S, L, P) (cK (sm18 x a b) (Ki (sm18 x a b))) X := by
  apply oX0_set
  exact ⟨C.f51, eQ (sm18 x a b), eX [(3, 1), (1, 2), (5, 3)] (sm18 x a b), le18 C ra rb, fun r m q => q.fo, fun i m q => ⟨by obtain ⟨c, hc⟩ := q.fo.1; simp at hc; omega, q.fo.2⟩, fun v S' L' P' f' q => q.cK, fun S' L' P' f' q => (q.cK (c := 1) (fun c' hc => by simpa using hc) (by decide) (by decide) (fun L' h0 z => absurd z h0)), fun S' L' P' f' q => (q.cK (c := 2) (fun c' hc => by simpa using hc) (by decide) (by decide) (fun L' h0 z => absurd z h0)), fun S' L' P' f' q => (q.cK (c := 3) (fun c' hc => by simpa using hc) (by decide) (by decide) (fun L' h0 z => absurd z h0))⟩
def zX0_set_w : zz_Sp := fun as M Q X => match as with
  | [.inr (.inr (some x)), .inl a, .inl b, .inr (.inr (some out))] => bif Nat.beq x 100 && Nat.beq out 51 then (∃ (n_ : Nat) (x_ m_ : aS), LI n_ x_ m_ M ∧ AI x_ ∧ R32 a ∧ R32 b ∧ (∀ (S_ L_ : Nat → Nat → Int) (P_ : Nat → Nat → Option Nat) (f_ : Nat → Nat × Nat), LI n_ (sm18 x_ a b).2.2 m_ ((M.1.1, f_), S_, L_, P_) → R32 (sm18 x_ a b).1 → ((sm18 x_ a b).1 = 0 → L_ 51 0 = nz (sm18 x_ a b).2.1) → Q (some (vi ((sm18 x_ a b).1))) ((M.1.1, f_), S_, L_, P_))) else False
  | _ => False

theorem zmX0_set_w (l : Launch) (hl : l.stackTraces = false) : mm_Spec l yX0_set (wsW_ yX0_set cX0_set 5 (some .int) [((0), (10), (13), (24)), ((0), (10), (17), (13)), ((0), (10), (21), (53))]) (mm_rm 25 3 18) (zE zX0_set_w) := by
  refine zE_sub (zA_ok vC (zmX0_set l hl)) ?_
  rintro as M Q X h
  unfold zX0_set_w at h
  split at h
  rotate_left
  · exact h.elim
  rename_i h100 a b h51
  obtain ⟨e1_, e2_, h⟩ := mm_and2 h (fun q => q)
  cases mm_beq e1_
  cases mm_beq e2_
  try dsimp only at h
  obtain ⟨n, x, m, hL, hA, ra, rb, hq⟩ := h
  exact LI.cW (y := (sm18 x a b)) (K := (Ki (sm18 x a b))) hL (fun a_ ha_ => by
    simp only [List.mem_cons, List.not_mem_nil, or_false] at ha_
    rcases ha_ with rfl | rfl | rfl | rfl
    · exact hL.v100
    · exact vk_i _ _
    · exact vk_i _ _
    · exact hL.v51) (fun f S L P top C => lx18 C hA ra rb) (fun S' L' P' f' L0 a1 a2 hK e51 => hq S' L' P' f' a1 a2 (fun z => by rw [e51]; show nl (L0 51 0) = _; rw [hK z]; exact nl_nz _))
def zX9_set_w : zz_Sp := fun as M Q X => match as with
  | [.inr (.inr (some h_)), .inl a, .inl b] => bif Nat.beq h_ 0 then (∃ (n_ : Nat) (k_ x_ : aS), LI n_ k_ x_ M ∧ AI x_ ∧ R32 a ∧ R32 b ∧ (∀ (S_ L_ : Nat → Nat → Int) (P_ : Nat → Nat → Option Nat) (f_ : Nat → Nat × Nat) (v_ : Int), LI n_ k_ (sm18 x_ a b).2.2 ((M.1.1, f_), S_, L_, P_) → S_ 0 0 = (sm18 x_ a b).1 → L_ 51 = M.2.2.1 51 → ((sm18 x_ a b).1 = 0 → nz v_ = nz (sm18 x_ a b).2.1) → Q (some (vi (nz v_))) ((M.1.1, f_), S_, L_, P_))) else False
  | _ => False

theorem zmX9_set_w (l : Launch) (hl : l.stackTraces = false) : mm_Spec l yX9_set (ws_ yX9_set cX9_set 9 (some .int)) (mm_rm 37 0 0) (zE zX9_set_w) := by
  refine zE_sub (zA_ok vM (zmX9_set l hl)) ?_
  rintro as M Q X h
  unfold zX9_set_w at h
  split at h
  rotate_left
  · exact h.elim
  rename_i h_ a b
  obtain ⟨e1_, h⟩ := mm_bif h (fun q => q)
  cases mm_beq e1_
  try dsimp only at h
  obtain ⟨n, k, x, hL, hA, ra, rb, hq⟩ := h
  exact LI.cM (y := (sm18 x a b)) hL (fun a_ ha_ => by
    simp only [List.mem_cons, List.not_mem_nil, or_false] at ha_
    rcases ha_ with rfl | rfl | rfl
    · exact hL.v0
    · exact vk_i _ _
    · exact vk_i _ _) (fun S L h => lm18 h hA ra rb) hq
theorem lx19 {x : aS} {f : Nat → Nat × Nat} {S L : Nat → Nat → Int} {P : Nat → Nat → Option Nat} {top : Nat} {a b d e : Int} {X : Nat → zz_M → Prop} (C : CI x f S P top) (hA : AI x) (ra : R32 a) (rb : R32 b) (rd : R32 d) (re : R32 e) : zX0_ways [vr 100, vi a, vi b, vi d, vi e, vr 51] ((2, f), S, L, P) (cK (sm19 x a b d e) (Ki (sm19 x a b d e))) X := by
  apply oX0_ways
  exact ⟨C.f51, eQ (sm19 x a b d e), eX [(3, 1), (1, 2)] (sm19 x a b d e), le19 C ra rb rd re, fun r m q => q.fo, fun i m q => ⟨by obtain ⟨c, hc⟩ := q.fo.1; simp at hc; omega, q.fo.2⟩, fun v S' L' P' f' q => q.cK, fun S' L' P' f' q => (q.cK (c := 1) (fun c' hc => by simpa using hc) (by decide) (by decide) (fun L' h0 z => absurd z h0)), fun S' L' P' f' q => (q.cK (c := 2) (fun c' hc => by simpa using hc) (by decide) (by decide) (fun L' h0 z => absurd z h0))⟩
def zX0_ways_w : zz_Sp := fun as M Q X => match as with
  | [.inr (.inr (some x)), .inl a, .inl b, .inl d, .inl e, .inr (.inr (some out))] => bif Nat.beq x 100 && Nat.beq out 51 then (∃ (n_ : Nat) (x_ m_ : aS), LI n_ x_ m_ M ∧ AI x_ ∧ R32 a ∧ R32 b ∧ R32 d ∧ R32 e ∧ (∀ (S_ L_ : Nat → Nat → Int) (P_ : Nat → Nat → Option Nat) (f_ : Nat → Nat × Nat), LI n_ (sm19 x_ a b d e).2.2 m_ ((M.1.1, f_), S_, L_, P_) → R32 (sm19 x_ a b d e).1 → ((sm19 x_ a b d e).1 = 0 → L_ 51 0 = nz (sm19 x_ a b d e).2.1) → Q (some (vi ((sm19 x_ a b d e).1))) ((M.1.1, f_), S_, L_, P_))) else False
  | _ => False

theorem zmX0_ways_w (l : Launch) (hl : l.stackTraces = false) : mm_Spec l yX0_ways (wsW_ yX0_ways cX0_ways 7 (some .int) [((0), (14), (17), (24)), ((0), (14), (21), (13))]) (mm_rm 25 4 24) (zE zX0_ways_w) := by
  refine zE_sub (zA_ok vC (zmX0_ways l hl)) ?_
  rintro as M Q X h
  unfold zX0_ways_w at h
  split at h
  rotate_left
  · exact h.elim
  rename_i h100 a b d e h51
  obtain ⟨e1_, e2_, h⟩ := mm_and2 h (fun q => q)
  cases mm_beq e1_
  cases mm_beq e2_
  try dsimp only at h
  obtain ⟨n, x, m, hL, hA, ra, rb, rd, re, hq⟩ := h
  exact LI.cW (y := (sm19 x a b d e)) (K := (Ki (sm19 x a b d e))) hL (fun a_ ha_ => by
    simp only [List.mem_cons, List.not_mem_nil, or_false] at ha_
    rcases ha_ with rfl | rfl | rfl | rfl | rfl | rfl
    · exact hL.v100
    · exact vk_i _ _
    · exact vk_i _ _
    · exact vk_i _ _
    · exact vk_i _ _
    · exact hL.v51) (fun f S L P top C => lx19 C hA ra rb rd re) (fun S' L' P' f' L0 a1 a2 hK e51 => hq S' L' P' f' a1 a2 (fun z => by rw [e51]; show nl (L0 51 0) = _; rw [hK z]; exact nl_nz _))
def zX9_ways_w : zz_Sp := fun as M Q X => match as with
  | [.inr (.inr (some h_)), .inl a, .inl b, .inl d, .inl e] => bif Nat.beq h_ 0 then (∃ (n_ : Nat) (k_ x_ : aS), LI n_ k_ x_ M ∧ AI x_ ∧ R32 a ∧ R32 b ∧ R32 d ∧ R32 e ∧ (∀ (S_ L_ : Nat → Nat → Int) (P_ : Nat → Nat → Option Nat) (f_ : Nat → Nat × Nat) (v_ : Int), LI n_ k_ (sm19 x_ a b d e).2.2 ((M.1.1, f_), S_, L_, P_) → S_ 0 0 = (sm19 x_ a b d e).1 → L_ 51 = M.2.2.1 51 → ((sm19 x_ a b d e).1 = 0 → nz v_ = nz (sm19 x_ a b d e).2.1) → Q (some (vi (nz v_))) ((M.1.1, f_), S_, L_, P_))) else False
  | _ => False

theorem zmX9_ways_w (l : Launch) (hl : l.stackTraces = false) : mm_Spec l yX9_ways (ws_ yX9_ways cX9_ways 5 (some .int)) (mm_rm 36 0 0) (zE zX9_ways_w) := by
  refine zE_sub (zA_ok vM (zmX9_ways l hl)) ?_
  rintro as M Q X h
  unfold zX9_ways_w at h
  split at h
  rotate_left
  · exact h.elim
  rename_i h_ a b d e
  obtain ⟨e1_, h⟩ := mm_bif h (fun q => q)
  cases mm_beq e1_
  try dsimp only at h
  obtain ⟨n, k, x, hL, hA, ra, rb, rd, re, hq⟩ := h
  exact LI.cM (y := (sm19 x a b d e)) hL (fun a_ ha_ => by
    simp only [List.mem_cons, List.not_mem_nil, or_false] at ha_
    rcases ha_ with rfl | rfl | rfl | rfl | rfl
    · exact hL.v0
    · exact vk_i _ _
    · exact vk_i _ _
    · exact vk_i _ _
    · exact vk_i _ _) (fun S L h => lm19 h hA ra rb rd re) hq
theorem lx20 {x : aS} {f : Nat → Nat × Nat} {S L : Nat → Nat → Int} {P : Nat → Nat → Option Nat} {top : Nat} {a b : Int} {X : Nat → zz_M → Prop} (C : CI x f S P top) (hA : AI x) (ra : R32 a) (rb : R32 b) : zX0_even [vr 100, vi a, vi b, vr 51] ((2, f), S, L, P) (cK (sm20 x a b) (Ki (sm20 x a b))) X := by
  apply oX0_even
  exact ⟨C.f51, eQ (sm20 x a b), eX [(1, 1)] (sm20 x a b), le20 C ra rb, fun r m q => q.fo, fun i m q => ⟨by obtain ⟨c, hc⟩ := q.fo.1; simp at hc; omega, q.fo.2⟩, fun v S' L' P' f' q => q.cK, fun S' L' P' f' q => (q.cK (c := 1) (fun c' hc => by simpa using hc) (by decide) (by decide) (fun L' h0 z => absurd z h0))⟩
def zX0_even_w : zz_Sp := fun as M Q X => match as with
  | [.inr (.inr (some x)), .inl a, .inl b, .inr (.inr (some out))] => bif Nat.beq x 100 && Nat.beq out 51 then (∃ (n_ : Nat) (x_ m_ : aS), LI n_ x_ m_ M ∧ AI x_ ∧ R32 a ∧ R32 b ∧ (∀ (S_ L_ : Nat → Nat → Int) (P_ : Nat → Nat → Option Nat) (f_ : Nat → Nat × Nat), LI n_ (sm20 x_ a b).2.2 m_ ((M.1.1, f_), S_, L_, P_) → R32 (sm20 x_ a b).1 → ((sm20 x_ a b).1 = 0 → L_ 51 0 = nz (sm20 x_ a b).2.1) → Q (some (vi ((sm20 x_ a b).1))) ((M.1.1, f_), S_, L_, P_))) else False
  | _ => False

theorem zmX0_even_w (l : Launch) (hl : l.stackTraces = false) : mm_Spec l yX0_even (wsW_ yX0_even cX0_even 5 (some .int) [((0), (10), (13), (13))]) (mm_rm 25 2 12) (zE zX0_even_w) := by
  refine zE_sub (zA_ok vC (zmX0_even l hl)) ?_
  rintro as M Q X h
  unfold zX0_even_w at h
  split at h
  rotate_left
  · exact h.elim
  rename_i h100 a b h51
  obtain ⟨e1_, e2_, h⟩ := mm_and2 h (fun q => q)
  cases mm_beq e1_
  cases mm_beq e2_
  try dsimp only at h
  obtain ⟨n, x, m, hL, hA, ra, rb, hq⟩ := h
  exact LI.cW (y := (sm20 x a b)) (K := (Ki (sm20 x a b))) hL (fun a_ ha_ => by
    simp only [List.mem_cons, List.not_mem_nil, or_false] at ha_
    rcases ha_ with rfl | rfl | rfl | rfl
    · exact hL.v100
    · exact vk_i _ _
    · exact vk_i _ _
    · exact hL.v51) (fun f S L P top C => lx20 C hA ra rb) (fun S' L' P' f' L0 a1 a2 hK e51 => hq S' L' P' f' a1 a2 (fun z => by rw [e51]; show nl (L0 51 0) = _; rw [hK z]; exact nl_nz _))
def zX9_even_w : zz_Sp := fun as M Q X => match as with
  | [.inr (.inr (some h_)), .inl a, .inl b] => bif Nat.beq h_ 0 then (∃ (n_ : Nat) (k_ x_ : aS), LI n_ k_ x_ M ∧ AI x_ ∧ R32 a ∧ R32 b ∧ (∀ (S_ L_ : Nat → Nat → Int) (P_ : Nat → Nat → Option Nat) (f_ : Nat → Nat × Nat) (v_ : Int), LI n_ k_ (sm20 x_ a b).2.2 ((M.1.1, f_), S_, L_, P_) → S_ 0 0 = (sm20 x_ a b).1 → L_ 51 = M.2.2.1 51 → ((sm20 x_ a b).1 = 0 → nz v_ = nz (sm20 x_ a b).2.1) → Q (some (vi (nz v_))) ((M.1.1, f_), S_, L_, P_))) else False
  | _ => False

theorem zmX9_even_w (l : Launch) (hl : l.stackTraces = false) : mm_Spec l yX9_even (ws_ yX9_even cX9_even 7 (some .int)) (mm_rm 36 0 0) (zE zX9_even_w) := by
  refine zE_sub (zA_ok vM (zmX9_even l hl)) ?_
  rintro as M Q X h
  unfold zX9_even_w at h
  split at h
  rotate_left
  · exact h.elim
  rename_i h_ a b
  obtain ⟨e1_, h⟩ := mm_bif h (fun q => q)
  cases mm_beq e1_
  try dsimp only at h
  obtain ⟨n, k, x, hL, hA, ra, rb, hq⟩ := h
  exact LI.cM (y := (sm20 x a b)) hL (fun a_ ha_ => by
    simp only [List.mem_cons, List.not_mem_nil, or_false] at ha_
    rcases ha_ with rfl | rfl | rfl
    · exact hL.v0
    · exact vk_i _ _
    · exact vk_i _ _) (fun S L h => lm20 h hA ra rb) hq
theorem lx21 {x : aS} {f : Nat → Nat × Nat} {S L : Nat → Nat → Int} {P : Nat → Nat → Option Nat} {top : Nat} {a : Int} {X : Nat → zz_M → Prop} (C : CI x f S P top) (hA : AI x) (ra : R32 a) : zX0_log [vr 100, vi a, vr 51] ((2, f), S, L, P) (cK (sm21 x a) (Ki (sm21 x a))) X := by
  apply oX0_log
  exact ⟨C.f51, eQ (sm21 x a), eX [(1, 1), (5, 2), (4, 3)] (sm21 x a), le21 C hA ra, fun r m q => q.fo, fun i m q => ⟨by obtain ⟨c, hc⟩ := q.fo.1; simp at hc; omega, q.fo.2⟩, fun v S' L' P' f' q => q.cK, fun S' L' P' f' q => (q.cK (c := 1) (fun c' hc => by simpa using hc) (by decide) (by decide) (fun L' h0 z => absurd z h0)), fun S' L' P' f' q => (q.cK (c := 2) (fun c' hc => by simpa using hc) (by decide) (by decide) (fun L' h0 z => absurd z h0)), fun S' L' P' f' q => (q.cK (c := 3) (fun c' hc => by simpa using hc) (by decide) (by decide) (fun L' h0 z => absurd z h0))⟩
def zX0_log_w : zz_Sp := fun as M Q X => match as with
  | [.inr (.inr (some x)), .inl a, .inr (.inr (some out))] => bif Nat.beq x 100 && Nat.beq out 51 then (∃ (n_ : Nat) (x_ m_ : aS), LI n_ x_ m_ M ∧ AI x_ ∧ R32 a ∧ (∀ (S_ L_ : Nat → Nat → Int) (P_ : Nat → Nat → Option Nat) (f_ : Nat → Nat × Nat), LI n_ (sm21 x_ a).2.2 m_ ((M.1.1, f_), S_, L_, P_) → R32 (sm21 x_ a).1 → ((sm21 x_ a).1 = 0 → L_ 51 0 = nz (sm21 x_ a).2.1) → Q (some (vi ((sm21 x_ a).1))) ((M.1.1, f_), S_, L_, P_))) else False
  | _ => False

theorem zmX0_log_w (l : Launch) (hl : l.stackTraces = false) : mm_Spec l yX0_log (wsW_ yX0_log cX0_log 4 (some .int) [((0), (9), (12), (13)), ((0), (9), (15), (53)), ((0), (9), (18), (26))]) (mm_rm 9 2 12) (zE zX0_log_w) := by
  refine zE_sub (zA_ok vC (zmX0_log l hl)) ?_
  rintro as M Q X h
  unfold zX0_log_w at h
  split at h
  rotate_left
  · exact h.elim
  rename_i h100 a h51
  obtain ⟨e1_, e2_, h⟩ := mm_and2 h (fun q => q)
  cases mm_beq e1_
  cases mm_beq e2_
  try dsimp only at h
  obtain ⟨n, x, m, hL, hA, ra, hq⟩ := h
  exact LI.cW (y := (sm21 x a)) (K := (Ki (sm21 x a))) hL (fun a_ ha_ => by
    simp only [List.mem_cons, List.not_mem_nil, or_false] at ha_
    rcases ha_ with rfl | rfl | rfl
    · exact hL.v100
    · exact vk_i _ _
    · exact hL.v51) (fun f S L P top C => lx21 C hA ra) (fun S' L' P' f' L0 a1 a2 hK e51 => hq S' L' P' f' a1 a2 (fun z => by rw [e51]; show nl (L0 51 0) = _; rw [hK z]; exact nl_nz _))
def zX9_log_w : zz_Sp := fun as M Q X => match as with
  | [.inr (.inr (some h_)), .inl a] => bif Nat.beq h_ 0 then (∃ (n_ : Nat) (k_ x_ : aS), LI n_ k_ x_ M ∧ AI x_ ∧ R32 a ∧ (∀ (S_ L_ : Nat → Nat → Int) (P_ : Nat → Nat → Option Nat) (f_ : Nat → Nat × Nat) (v_ : Int), LI n_ k_ (sm21 x_ a).2.2 ((M.1.1, f_), S_, L_, P_) → S_ 0 0 = (sm21 x_ a).1 → L_ 51 = M.2.2.1 51 → ((sm21 x_ a).1 = 0 → nz v_ = nz (sm21 x_ a).2.1) → Q (some (vi (nz v_))) ((M.1.1, f_), S_, L_, P_))) else False
  | _ => False

theorem zmX9_log_w (l : Launch) (hl : l.stackTraces = false) : mm_Spec l yX9_log (ws_ yX9_log cX9_log 4 (some .int)) (mm_rm 4 0 0) (zE zX9_log_w) := by
  refine zE_sub (zA_ok vM (zmX9_log l hl)) ?_
  rintro as M Q X h
  unfold zX9_log_w at h
  split at h
  rotate_left
  · exact h.elim
  rename_i h_ a
  obtain ⟨e1_, h⟩ := mm_bif h (fun q => q)
  cases mm_beq e1_
  try dsimp only at h
  obtain ⟨n, k, x, hL, hA, ra, hq⟩ := h
  exact LI.cM (y := (sm21 x a)) hL (fun a_ ha_ => by
    simp only [List.mem_cons, List.not_mem_nil, or_false] at ha_
    rcases ha_ with rfl | rfl
    · exact hL.v0
    · exact vk_i _ _) (fun S L h => lm21 h hA ra) hq
theorem lx22 {x : aS} {f : Nat → Nat × Nat} {S L : Nat → Nat → Int} {P : Nat → Nat → Option Nat} {top : Nat} {a b d e g : Int} {X : Nat → zz_M → Prop} (C : CI x f S P top) (hA : AI x) (ra : R32 a) (rb : R32 b) (rd : R32 d) (re : R32 e) (rg : (g = 0 ∨ g = 1)) : zX0_mends [vr 100, vi a, vi b, vi d, vi e, vi g, vr 51] ((2, f), S, L, P) (cK (sm22 x a b d e g) (Kl (sm22 x a b d e g))) X := by
  apply oX0_mends
  exact ⟨C.f51, eQl (sm22 x a b d e g), eX [(1, 1)] (sm22 x a b d e g), le22 C hA ra rb rd re rg, fun r m q => q.fo, fun i m q => ⟨by obtain ⟨c, hc⟩ := q.fo.1; simp at hc; omega, q.fo.2⟩, fun v S' L' P' f' q => q.cK, fun S' L' P' f' q => (q.cK (c := 1) (fun c' hc => by simpa using hc) (by decide) (by decide) (fun L' h0 z => absurd z h0))⟩
def zX0_mends_w : zz_Sp := fun as M Q X => match as with
  | [.inr (.inr (some x)), .inl a, .inl b, .inl d, .inl e, .inl g, .inr (.inr (some out))] => bif Nat.beq x 100 && Nat.beq out 51 then (∃ (n_ : Nat) (x_ m_ : aS), LI n_ x_ m_ M ∧ AI x_ ∧ R32 a ∧ R32 b ∧ R32 d ∧ R32 e ∧ (g = 0 ∨ g = 1) ∧ (∀ (S_ L_ : Nat → Nat → Int) (P_ : Nat → Nat → Option Nat) (f_ : Nat → Nat × Nat), LI n_ (sm22 x_ a b d e g).2.2 m_ ((M.1.1, f_), S_, L_, P_) → R32 (sm22 x_ a b d e g).1 → ((sm22 x_ a b d e g).1 = 0 → L_ 51 0 = nl (sm22 x_ a b d e g).2.1) → Q (some (vi ((sm22 x_ a b d e g).1))) ((M.1.1, f_), S_, L_, P_))) else False
  | _ => False

theorem zmX0_mends_w (l : Launch) (hl : l.stackTraces = false) : mm_Spec l yX0_mends (wsW_ yX0_mends cX0_mends 8 (some .int) [((0), (15), (18), (13))]) (mm_rm 9 1 6) (zE zX0_mends_w) := by
  refine zE_sub (zA_ok vC (zmX0_mends l hl)) ?_
  rintro as M Q X h
  unfold zX0_mends_w at h
  split at h
  rotate_left
  · exact h.elim
  rename_i h100 a b d e g h51
  obtain ⟨e1_, e2_, h⟩ := mm_and2 h (fun q => q)
  cases mm_beq e1_
  cases mm_beq e2_
  try dsimp only at h
  obtain ⟨n, x, m, hL, hA, ra, rb, rd, re, rg, hq⟩ := h
  exact LI.cW (y := (sm22 x a b d e g)) (K := (Kl (sm22 x a b d e g))) hL (fun a_ ha_ => by
    simp only [List.mem_cons, List.not_mem_nil, or_false] at ha_
    rcases ha_ with rfl | rfl | rfl | rfl | rfl | rfl | rfl
    · exact hL.v100
    · exact vk_i _ _
    · exact vk_i _ _
    · exact vk_i _ _
    · exact vk_i _ _
    · exact vk_i _ _
    · exact hL.v51) (fun f S L P top C => lx22 C hA ra rb rd re rg) (fun S' L' P' f' L0 a1 a2 hK e51 => hq S' L' P' f' a1 a2 (fun z => by rw [e51]; show nl (L0 51 0) = _; rw [hK z]))
def zX9_mends_w : zz_Sp := fun as M Q X => match as with
  | [.inr (.inr (some h_)), .inl a, .inl b, .inl d, .inl e, .inl g] => bif Nat.beq h_ 0 then (∃ (n_ : Nat) (k_ x_ : aS), LI n_ k_ x_ M ∧ AI x_ ∧ R32 a ∧ R32 b ∧ R32 d ∧ R32 e ∧ (g = 0 ∨ g = 1) ∧ (∀ (S_ L_ : Nat → Nat → Int) (P_ : Nat → Nat → Option Nat) (f_ : Nat → Nat × Nat) (v_ : Int), LI n_ k_ (sm22 x_ a b d e g).2.2 ((M.1.1, f_), S_, L_, P_) → S_ 0 0 = (sm22 x_ a b d e g).1 → L_ 51 = M.2.2.1 51 → ((sm22 x_ a b d e g).1 = 0 → nl v_ = nl (sm22 x_ a b d e g).2.1) → Q (some (vl (nl v_))) ((M.1.1, f_), S_, L_, P_))) else False
  | _ => False

theorem zmX9_mends_w (l : Launch) (hl : l.stackTraces = false) : mm_Spec l yX9_mends (ws_ yX9_mends cX9_mends 13 (some .long)) (mm_rm 4 0 0) (zE zX9_mends_w) := by
  refine zE_sub (zA_ok vM (zmX9_mends l hl)) ?_
  rintro as M Q X h
  unfold zX9_mends_w at h
  split at h
  rotate_left
  · exact h.elim
  rename_i h_ a b d e g
  obtain ⟨e1_, h⟩ := mm_bif h (fun q => q)
  cases mm_beq e1_
  try dsimp only at h
  obtain ⟨n, k, x, hL, hA, ra, rb, rd, re, rg, hq⟩ := h
  exact LI.cMl (y := (sm22 x a b d e g)) hL (fun a_ ha_ => by
    simp only [List.mem_cons, List.not_mem_nil, or_false] at ha_
    rcases ha_ with rfl | rfl | rfl | rfl | rfl | rfl
    · exact hL.v0
    · exact vk_i _ _
    · exact vk_i _ _
    · exact vk_i _ _
    · exact vk_i _ _
    · exact vk_i _ _) (fun S L h => lm22 h hA ra rb rd re (b1 rg)) hq
theorem lx23 {x : aS} {f : Nat → Nat × Nat} {S L : Nat → Nat → Int} {P : Nat → Nat → Option Nat} {top : Nat} {a b d : Int} {X : Nat → zz_M → Prop} (C : CI x f S P top) (hA : AI x) (ra : R32 a) (rb : R32 b) (rd : R32 d) : zX0_play [vr 100, vi a, vi b, vi d, vr 51] ((2, f), S, L, P) (cK (sm23 x a b d) (Ki (sm23 x a b d))) X := by
  apply oX0_play
  exact ⟨C.f51, eQ (sm23 x a b d), eX [(1, 1), (4, 2)] (sm23 x a b d), le23 C hA rb rd, fun r m q => q.fo, fun i m q => ⟨by obtain ⟨c, hc⟩ := q.fo.1; simp at hc; omega, q.fo.2⟩, fun v S' L' P' f' q => q.cK, fun S' L' P' f' q => (q.cK (c := 1) (fun c' hc => by simpa using hc) (by decide) (by decide) (fun L' h0 z => absurd z h0)), fun S' L' P' f' q => (q.cK (c := 2) (fun c' hc => by simpa using hc) (by decide) (by decide) (fun L' h0 z => absurd z h0))⟩
def zX0_play_w : zz_Sp := fun as M Q X => match as with
  | [.inr (.inr (some x)), .inl a, .inl b, .inl d, .inr (.inr (some out))] => bif Nat.beq x 100 && Nat.beq out 51 then (∃ (n_ : Nat) (x_ m_ : aS), LI n_ x_ m_ M ∧ AI x_ ∧ R32 a ∧ R32 b ∧ R32 d ∧ (∀ (S_ L_ : Nat → Nat → Int) (P_ : Nat → Nat → Option Nat) (f_ : Nat → Nat × Nat), LI n_ (sm23 x_ a b d).2.2 m_ ((M.1.1, f_), S_, L_, P_) → R32 (sm23 x_ a b d).1 → ((sm23 x_ a b d).1 = 0 → L_ 51 0 = nz (sm23 x_ a b d).2.1) → Q (some (vi ((sm23 x_ a b d).1))) ((M.1.1, f_), S_, L_, P_))) else False
  | _ => False

theorem zmX0_play_w (l : Launch) (hl : l.stackTraces = false) : mm_Spec l yX0_play (wsW_ yX0_play cX0_play 6 (some .int) [((0), (12), (15), (13)), ((0), (12), (19), (26))]) (mm_rm 24 2 12) (zE zX0_play_w) := by
  refine zE_sub (zA_ok vC (zmX0_play l hl)) ?_
  rintro as M Q X h
  unfold zX0_play_w at h
  split at h
  rotate_left
  · exact h.elim
  rename_i h100 a b d h51
  obtain ⟨e1_, e2_, h⟩ := mm_and2 h (fun q => q)
  cases mm_beq e1_
  cases mm_beq e2_
  try dsimp only at h
  obtain ⟨n, x, m, hL, hA, ra, rb, rd, hq⟩ := h
  exact LI.cW (y := (sm23 x a b d)) (K := (Ki (sm23 x a b d))) hL (fun a_ ha_ => by
    simp only [List.mem_cons, List.not_mem_nil, or_false] at ha_
    rcases ha_ with rfl | rfl | rfl | rfl | rfl
    · exact hL.v100
    · exact vk_i _ _
    · exact vk_i _ _
    · exact vk_i _ _
    · exact hL.v51) (fun f S L P top C => lx23 C hA ra rb rd) (fun S' L' P' f' L0 a1 a2 hK e51 => hq S' L' P' f' a1 a2 (fun z => by rw [e51]; show nl (L0 51 0) = _; rw [hK z]; exact nl_nz _))
def zX9_play_w : zz_Sp := fun as M Q X => match as with
  | [.inr (.inr (some h_)), .inl a, .inl b, .inl d] => bif Nat.beq h_ 0 then (∃ (n_ : Nat) (k_ x_ : aS), LI n_ k_ x_ M ∧ AI x_ ∧ R32 a ∧ R32 b ∧ R32 d ∧ (∀ (S_ L_ : Nat → Nat → Int) (P_ : Nat → Nat → Option Nat) (f_ : Nat → Nat × Nat) (v_ : Int), LI n_ k_ (sm23 x_ a b d).2.2 ((M.1.1, f_), S_, L_, P_) → S_ 0 0 = (sm23 x_ a b d).1 → L_ 51 = M.2.2.1 51 → ((sm23 x_ a b d).1 = 0 → nz v_ = nz (sm23 x_ a b d).2.1) → Q (some (vi (nz v_))) ((M.1.1, f_), S_, L_, P_))) else False
  | _ => False

theorem zmX9_play_w (l : Launch) (hl : l.stackTraces = false) : mm_Spec l yX9_play (ws_ yX9_play cX9_play 11 (some .int)) (mm_rm 36 0 0) (zE zX9_play_w) := by
  refine zE_sub (zA_ok vM (zmX9_play l hl)) ?_
  rintro as M Q X h
  unfold zX9_play_w at h
  split at h
  rotate_left
  · exact h.elim
  rename_i h_ a b d
  obtain ⟨e1_, h⟩ := mm_bif h (fun q => q)
  cases mm_beq e1_
  try dsimp only at h
  obtain ⟨n, k, x, hL, hA, ra, rb, rd, hq⟩ := h
  exact LI.cM (y := (sm23 x a b d)) hL (fun a_ ha_ => by
    simp only [List.mem_cons, List.not_mem_nil, or_false] at ha_
    rcases ha_ with rfl | rfl | rfl | rfl
    · exact hL.v0
    · exact vk_i _ _
    · exact vk_i _ _
    · exact vk_i _ _) (fun S L h => lm23 h hA rb rd) hq
def zX1_image_w : zz_Sp := fun as M Q X => match as with
  | [.inr (.inr (some h_))] => bif Nat.beq h_ 100 then (∃ (n_ : Nat) (x_ m_ : aS), LI n_ x_ m_ M ∧ AI x_ ∧ (∀ (S_ L_ : Nat → Nat → Int) (P_ : Nat → Nat → Option Nat) (f_ : Nat → Nat × Nat), LI n_ (sm24 x_).2.2 m_ ((M.1.1, f_), S_, L_, P_) → Q none ((M.1.1, f_), S_, L_, P_))) else False
  | _ => False

theorem zmX1_image_w (l : Launch) (hl : l.stackTraces = false) : mm_Spec l yX1_image (ws_ yX1_image cX1_image 1 none) (mm_rm 12 26 260) (zE zX1_image_w) := by
  refine zE_sub (zA_ok vC (zmX1_image l hl)) ?_
  rintro as M Q X h
  unfold zX1_image_w at h
  split at h
  rotate_left
  · exact h.elim
  rename_i h_
  obtain ⟨e1_, h⟩ := mm_bif h (fun q => q)
  cases mm_beq e1_
  try dsimp only at h
  obtain ⟨n, x, m, hL, hA, hq⟩ := h
  exact LI.cV (y := (sm24 x)) hL (fun a_ ha_ => by
    simp only [List.mem_cons, List.not_mem_nil, or_false] at ha_
    rcases ha_ with rfl
    · exact hL.v100) (fun f S L P top C => le24 C) (fun S' L' P' f' a1 => hq S' L' P' f' a1)
def zX9_image_w : zz_Sp := fun as M Q X => match as with
  | [.inr (.inr (some h_))] => bif Nat.beq h_ 0 then (∃ (n_ : Nat) (k_ x_ : aS), LI n_ k_ x_ M ∧ AI x_ ∧ (∀ (S_ L_ : Nat → Nat → Int) (P_ : Nat → Nat → Option Nat) (f_ : Nat → Nat × Nat), LI n_ k_ (sm24 x_).2.2 ((M.1.1, f_), S_, L_, P_) → S_ 0 0 = (sm24 x_).1 → L_ 51 = M.2.2.1 51 → Q none ((M.1.1, f_), S_, L_, P_))) else False
  | _ => False

theorem zmX9_image_w (l : Launch) (hl : l.stackTraces = false) : mm_Spec l yX9_image (ws_ yX9_image cX9_image 2 none) (mm_rm 1 0 0) (zE zX9_image_w) := by
  refine zE_sub (zA_ok vM (zmX9_image l hl)) ?_
  rintro as M Q X h
  unfold zX9_image_w at h
  split at h
  rotate_left
  · exact h.elim
  rename_i h_
  obtain ⟨e1_, h⟩ := mm_bif h (fun q => q)
  cases mm_beq e1_
  try dsimp only at h
  obtain ⟨n, k, x, hL, hA, hq⟩ := h
  exact LI.cMv (y := (sm24 x)) hL (fun a_ ha_ => by
    simp only [List.mem_cons, List.not_mem_nil, or_false] at ha_
    rcases ha_ with rfl
    · exact hL.v0) (fun S L h => lm24 h hA) hq
def zX1_back_w : zz_Sp := fun as M Q X => match as with
  | [.inr (.inr (some h_))] => bif Nat.beq h_ 100 then (∃ (n_ : Nat) (x_ m_ : aS), LI n_ x_ m_ M ∧ AI x_ ∧ (∀ (S_ L_ : Nat → Nat → Int) (P_ : Nat → Nat → Option Nat) (f_ : Nat → Nat × Nat), (LI n_ (sm25 x_).2.2 m_ ((M.1.1, f_), S_, L_, P_) ∨ LI3 n_ (sm25 x_).2.2 m_ ((M.1.1, f_), S_, L_, P_)) → (sm25 x_).1 = 0 → Q (some (vi (nz (sm25 x_).2.1))) ((M.1.1, f_), S_, L_, P_))) else False
  | _ => False

theorem zmX1_back_w (l : Launch) (hl : l.stackTraces = false) : mm_Spec l yX1_back (ws_ yX1_back cX1_back 1 (some .boolean)) (mm_rm 12 26 260) (zE zX1_back_w) := by
  refine zE_sub (zA_ok vC (zmX1_back l hl)) ?_
  rintro as M Q X h
  unfold zX1_back_w at h
  split at h
  rotate_left
  · exact h.elim
  rename_i h_
  obtain ⟨e1_, h⟩ := mm_bif h (fun q => q)
  cases mm_beq e1_
  try dsimp only at h
  obtain ⟨n, x, m, hL, hA, hq⟩ := h
  exact LI.cD (y := (sm25 x)) hL (fun a_ ha_ => by
    simp only [List.mem_cons, List.not_mem_nil, or_false] at ha_
    rcases ha_ with rfl
    · exact hL.v100) (fun f S L P top C => le25 C hA) (fun S' L' P' f' a1 a0 => hq S' L' P' f' a1 a0)
def zX9_back_w : zz_Sp := fun as M Q X => match as with
  | [.inr (.inr (some h_))] => bif Nat.beq h_ 0 then (∃ (n_ : Nat) (k_ x_ : aS), LI n_ k_ x_ M ∧ AI x_ ∧ (∀ (S_ L_ : Nat → Nat → Int) (P_ : Nat → Nat → Option Nat) (f_ : Nat → Nat × Nat) (v_ : Int), LI n_ k_ (sm25 x_).2.2 ((M.1.1, f_), S_, L_, P_) → S_ 0 0 = (sm25 x_).1 → L_ 51 = M.2.2.1 51 → ((sm25 x_).1 = 0 → nz v_ = nz (sm25 x_).2.1) → Q (some (vi (nz v_))) ((M.1.1, f_), S_, L_, P_))) else False
  | _ => False

theorem zmX9_back_w (l : Launch) (hl : l.stackTraces = false) : mm_Spec l yX9_back (ws_ yX9_back cX9_back 2 (some .boolean)) (mm_rm 1 0 0) (zE zX9_back_w) := by
  refine zE_sub (zA_ok vM (zmX9_back l hl)) ?_
  rintro as M Q X h
  unfold zX9_back_w at h
  split at h
  rotate_left
  · exact h.elim
  rename_i h_
  obtain ⟨e1_, h⟩ := mm_bif h (fun q => q)
  cases mm_beq e1_
  try dsimp only at h
  obtain ⟨n, k, x, hL, hA, hq⟩ := h
  exact LI.cM (y := (sm25 x)) hL (fun a_ ha_ => by
    simp only [List.mem_cons, List.not_mem_nil, or_false] at ha_
    rcases ha_ with rfl
    · exact hL.v0) (fun S L h => lm25 h hA) hq
def zX1_count_w : zz_Sp := fun as M Q X => match as with
  | [.inr (.inr (some h_)), .inl a] => bif Nat.beq h_ 100 then (∃ (n_ : Nat) (x_ m_ : aS), LI n_ x_ m_ M ∧ AI x_ ∧ R32 a ∧ (∀ (S_ L_ : Nat → Nat → Int) (P_ : Nat → Nat → Option Nat) (f_ : Nat → Nat × Nat), LI n_ (sm26 x_ a).2.2 m_ ((M.1.1, f_), S_, L_, P_) → (sm26 x_ a).1 = 0 → Q (some (vi (nz (sm26 x_ a).2.1))) ((M.1.1, f_), S_, L_, P_))) else False
  | _ => False

theorem zmX1_count_w (l : Launch) (hl : l.stackTraces = false) : mm_Spec l yX1_count (ws_ yX1_count cX1_count 2 (some .int)) (mm_rm 2 0 0) (zE zX1_count_w) := by
  refine zE_sub (zA_ok vC (zmX1_count l hl)) ?_
  rintro as M Q X h
  unfold zX1_count_w at h
  split at h
  rotate_left
  · exact h.elim
  rename_i h_ a
  obtain ⟨e1_, h⟩ := mm_bif h (fun q => q)
  cases mm_beq e1_
  try dsimp only at h
  obtain ⟨n, x, m, hL, hA, ra, hq⟩ := h
  exact LI.cE (y := (sm26 x a)) hL (fun a_ ha_ => by
    simp only [List.mem_cons, List.not_mem_nil, or_false] at ha_
    rcases ha_ with rfl | rfl
    · exact hL.v100
    · exact vk_i _ _) (fun f S L P top C => le26 C ra) (fun S' L' P' f' a1 a0 => hq S' L' P' f' a1 a0)
def zX9_count_w : zz_Sp := fun as M Q X => match as with
  | [.inr (.inr (some h_)), .inl a] => bif Nat.beq h_ 0 then (∃ (n_ : Nat) (k_ x_ : aS), LI n_ k_ x_ M ∧ AI x_ ∧ R32 a ∧ (∀ (S_ L_ : Nat → Nat → Int) (P_ : Nat → Nat → Option Nat) (f_ : Nat → Nat × Nat) (v_ : Int), LI n_ k_ (sm26 x_ a).2.2 ((M.1.1, f_), S_, L_, P_) → S_ 0 0 = (sm26 x_ a).1 → L_ 51 = M.2.2.1 51 → ((sm26 x_ a).1 = 0 → nz v_ = nz (sm26 x_ a).2.1) → Q (some (vi (nz v_))) ((M.1.1, f_), S_, L_, P_))) else False
  | _ => False

theorem zmX9_count_w (l : Launch) (hl : l.stackTraces = false) : mm_Spec l yX9_count (ws_ yX9_count cX9_count 2 (some .int)) (mm_rm 1 0 0) (zE zX9_count_w) := by
  refine zE_sub (zA_ok vM (zmX9_count l hl)) ?_
  rintro as M Q X h
  unfold zX9_count_w at h
  split at h
  rotate_left
  · exact h.elim
  rename_i h_ a
  obtain ⟨e1_, h⟩ := mm_bif h (fun q => q)
  cases mm_beq e1_
  try dsimp only at h
  obtain ⟨n, k, x, hL, hA, ra, hq⟩ := h
  exact LI.cM (y := (sm26 x a)) hL (fun a_ ha_ => by
    simp only [List.mem_cons, List.not_mem_nil, or_false] at ha_
    rcases ha_ with rfl | rfl
    · exact hL.v0
    · exact vk_i _ _) (fun S L h => lm26 h ra) hq
def zX9_thrown_w : zz_Sp := fun as M Q X => match as with
  | [.inr (.inr (some h_))] => bif Nat.beq h_ 0 then (∃ (n_ : Nat) (k_ x_ : aS), LI n_ k_ x_ M ∧ R32 (M.2.1 0 0) ∧ (∀ (S_ L_ : Nat → Nat → Int) (P_ : Nat → Nat → Option Nat) (f_ : Nat → Nat × Nat), LI n_ k_ x_ ((M.1.1, f_), S_, L_, P_) → S_ 0 0 = M.2.1 0 0 → L_ 51 = M.2.2.1 51 → Q (some (vi (M.2.1 0 0))) ((M.1.1, f_), S_, L_, P_))) else False
  | _ => False

theorem zmX9_thrown_w (l : Launch) (hl : l.stackTraces = false) : mm_Spec l yX9_thrown (ws_ yX9_thrown cX9_thrown 1 (some .int)) (mm_rm 1 0 0) (zE zX9_thrown_w) := by
  refine zE_sub (zA_ok vM (zmX9_thrown l hl)) ?_
  rintro as M Q X h
  unfold zX9_thrown_w at h
  split at h
  rotate_left
  · exact h.elim
  rename_i h_
  obtain ⟨e1_, h⟩ := mm_bif h (fun q => q)
  cases mm_beq e1_
  try dsimp only at h
  obtain ⟨n, k, x, hL, h32, hq⟩ := h
  exact LI.cT hL (fun a_ ha_ => by
    simp only [List.mem_cons, List.not_mem_nil, or_false] at ha_
    rcases ha_ with rfl
    · exact hL.v0) h32 (fun S L => oX9_thrown ⟨rfl, rfl⟩) hq
