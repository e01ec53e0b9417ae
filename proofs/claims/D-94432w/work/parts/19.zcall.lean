/-! ===== calls with their costs; ends of methods that forget cells; methods with handlers: by whole numbers ===== -/
set_option maxRecDepth 100000
abbrev zz_Sf : Type := Nat → Nat → zz_Sp
def zz_rci (as : List zv) : Bool := match as with
  | .inr (.inr (some _)) :: _ => true
  | _ => false
theorem zz_rci_e {as : List zv} (h : zz_rci as = true) : mm_rci (as.map ev) = true := by
  unfold zz_rci at h
  split at h
  · rfl
  · cases h
def zz_thrH (hs : mm_H) (K : zz_K) (lv : zz_L) (N : mm_N) (i : Nat) (M : zz_M) : Prop := match mm_hf hs i with
  | some z => zz_setK lv z.2 (.inr (.inr none)) (fun lv' => zz_clrK lv' z.2 (fun lv'' => K (z.1 + 2) lv'' [] M N))
  | none => False
theorem zz_thrH_e {hs : mm_H} {K : zz_K} {K' : mm_K} {lv : zz_L} (hK : ∀ q lv st M N, K q lv st M N → K' q (eL lv) (st.map ev) (eM M) N) {N : mm_N} {i : Nat} {E : String} {M : zz_M} (hE : mm_ex[i]? = some E) (h : zz_thrH hs K lv N i M) : mm_thrH hs K' (eL lv) N E (eM M) := by
  refine ⟨i, hE, ?_⟩
  unfold zz_thrH at h
  cases hz : mm_hf hs i with
  | none => rw [hz] at h; exact h.elim
  | some z =>
    rw [hz] at h
    exact zz_setK_e lv z.2 (.inr (.inr none)) _ _ (fun l hl => zz_clrK_e l z.2 _ _ (fun l2 hl2 => hK _ _ _ _ _ hl2) hl) h
theorem zE_callH {hs : mm_H} {sp : zz_Sp} {as : List zv} {M : zz_M} {K : zz_K} {K' : mm_K} {N : mm_N} {nx : Nat} {lv : zz_L} {r : List zv} (hK : ∀ q lv st M N, K q lv st M N → K' q (eL lv) (st.map ev) (eM M) N) (h : sp as M (fun v M' => K (nx + 2) lv (v.toList ++ r) M' N) (zz_thrH hs K lv N)) : zE sp (as.map ev) (eM M) (fun v M' => K' (nx + 2) (eL lv) (v.toList ++ r.map ev) M' N) (mm_thrH hs K' (eL lv) N) := by
  refine ⟨as, M, _, _, rfl, rfl, h, fun v m hm => ?_, fun i m E hE hm => zz_thrH_e hK hE hm⟩
  have h := hK _ _ _ _ _ hm
  cases v with
  | none => exact h
  | some w => exact h
def zo_cvF (rm : Room) (nx n ci c s : Nat) (sp : zz_Sp) : zz_O := fun lv st M N K => zz_pop n st [] (fun as r => bif zz_rcv ci as M && Nat.ble (zz_dep r) 8 then (N.1 + c ≤ rm.cells ∧ N.2 + s ≤ rm.slots) ∧ sp as M (fun v M' => K (nx + 2) lv (v.toList ++ r) M' (N.1 + c, N.2 + s)) (zz_thr K (N.1 + c, N.2 + s)) else False)
theorem z_cvF (rm : Room) (nx n ci c s : Nat) (sp : zz_Sp) : zz_ok (zo_cvF rm nx n ci c s sp) (o_calvF rm nx n ci c s (zE sp)) := by
  intro lv st M N K K' hK h
  refine zz_pop_e n st [] _ _ (fun as r h => ?_) h
  obtain ⟨e1, e2, h⟩ := mm_and2 h (fun q => q)
  obtain ⟨h1, h⟩ := h
  show (bif mm_rcv ci (as.map ev) (eM M) && Nat.ble (mm_dep (r.map ev)) 8 then _ else False)
  rw [zz_rcv_e e1, zz_dep_e, e2]
  exact ⟨h1, zE_call hK h⟩
def zo_cvFH (rm : Room) (nx n ci c s : Nat) (hs : mm_H) (sp : zz_Sp) : zz_O := fun lv st M N K => zz_pop n st [] (fun as r => bif zz_rcv ci as M && Nat.ble (zz_dep r) 8 then (N.1 + c ≤ rm.cells ∧ N.2 + s ≤ rm.slots) ∧ sp as M (fun v M' => K (nx + 2) lv (v.toList ++ r) M' (N.1 + c, N.2 + s)) (zz_thrH hs K lv (N.1 + c, N.2 + s)) else False)
theorem z_cvFH (rm : Room) (nx n ci c s : Nat) (hs : mm_H) (sp : zz_Sp) : zz_ok (zo_cvFH rm nx n ci c s hs sp) (o_calvFH rm nx n ci c s hs (zE sp)) := by
  intro lv st M N K K' hK h
  refine zz_pop_e n st [] _ _ (fun as r h => ?_) h
  obtain ⟨e1, e2, h⟩ := mm_and2 h (fun q => q)
  obtain ⟨h1, h⟩ := h
  show (bif mm_rcv ci (as.map ev) (eM M) && Nat.ble (mm_dep (r.map ev)) 8 then _ else False)
  rw [zz_rcv_e e1, zz_dep_e, e2]
  exact ⟨h1, zE_callH hK h⟩
def zo_cvG (rm : Room) (nx n ci : Nat) (sp : zz_Sf) : zz_O := fun lv st M N K => zz_pop n st [] (fun as r => bif zz_rcv ci as M && Nat.ble (zz_dep r) 8 then ∃ c s, (N.1 + c ≤ rm.cells ∧ N.2 + s ≤ rm.slots) ∧ sp c s as M (fun v M' => K (nx + 2) lv (v.toList ++ r) M' (N.1 + c, N.2 + s)) (zz_thr K (N.1 + c, N.2 + s)) else False)
theorem z_cvG (rm : Room) (nx n ci : Nat) (sp : zz_Sf) : zz_ok (zo_cvG rm nx n ci sp) (o_calv rm nx n ci (fun c s => zE (sp c s))) := by
  intro lv st M N K K' hK h
  refine zz_pop_e n st [] _ _ (fun as r h => ?_) h
  obtain ⟨e1, e2, h⟩ := mm_and2 h (fun q => q)
  obtain ⟨c, s, h1, h⟩ := h
  show (bif mm_rcv ci (as.map ev) (eM M) && Nat.ble (mm_dep (r.map ev)) 8 then _ else False)
  rw [zz_rcv_e e1, zz_dep_e, e2]
  exact ⟨c, s, h1.1, h1.2, zE_call hK h⟩
def zo_cvFp (rm : Room) (nx n ci c s : Nat) (sp : zz_Sp) : zz_O := fun lv st M N K => zz_pop n st [] (fun as r => bif Nat.ble (zz_dep r) 8 then zz_rcvp ci as M ∧ (N.1 + c ≤ rm.cells ∧ N.2 + s ≤ rm.slots) ∧ sp as M (fun v M' => K (nx + 2) lv (v.toList ++ r) M' (N.1 + c, N.2 + s)) (zz_thr K (N.1 + c, N.2 + s)) else False)
theorem z_cvFp (rm : Room) (nx n ci c s : Nat) (sp : zz_Sp) : zz_ok (zo_cvFp rm nx n ci c s sp) (o_calvF rm nx n ci c s (zE sp)) := by
  intro lv st M N K K' hK h
  refine zz_pop_e n st [] _ _ (fun as r h => ?_) h
  obtain ⟨e2, e1, h⟩ := mm_bif h (fun q => q)
  obtain ⟨h1, h⟩ := h
  show (bif mm_rcv ci (as.map ev) (eM M) && Nat.ble (mm_dep (r.map ev)) 8 then _ else False)
  rw [zz_rcvp_e e1, zz_dep_e, e2]
  exact ⟨h1, zE_call hK h⟩
def zo_cvFpH (rm : Room) (nx n ci c s : Nat) (hs : mm_H) (sp : zz_Sp) : zz_O := fun lv st M N K => zz_pop n st [] (fun as r => bif Nat.ble (zz_dep r) 8 then zz_rcvp ci as M ∧ (N.1 + c ≤ rm.cells ∧ N.2 + s ≤ rm.slots) ∧ sp as M (fun v M' => K (nx + 2) lv (v.toList ++ r) M' (N.1 + c, N.2 + s)) (zz_thrH hs K lv (N.1 + c, N.2 + s)) else False)
theorem z_cvFpH (rm : Room) (nx n ci c s : Nat) (hs : mm_H) (sp : zz_Sp) : zz_ok (zo_cvFpH rm nx n ci c s hs sp) (o_calvFH rm nx n ci c s hs (zE sp)) := by
  intro lv st M N K K' hK h
  refine zz_pop_e n st [] _ _ (fun as r h => ?_) h
  obtain ⟨e2, e1, h⟩ := mm_bif h (fun q => q)
  obtain ⟨h1, h⟩ := h
  show (bif mm_rcv ci (as.map ev) (eM M) && Nat.ble (mm_dep (r.map ev)) 8 then _ else False)
  rw [zz_rcvp_e e1, zz_dep_e, e2]
  exact ⟨h1, zE_callH hK h⟩
def zo_cvGp (rm : Room) (nx n ci : Nat) (sp : zz_Sf) : zz_O := fun lv st M N K => zz_pop n st [] (fun as r => bif Nat.ble (zz_dep r) 8 then zz_rcvp ci as M ∧ ∃ c s, (N.1 + c ≤ rm.cells ∧ N.2 + s ≤ rm.slots) ∧ sp c s as M (fun v M' => K (nx + 2) lv (v.toList ++ r) M' (N.1 + c, N.2 + s)) (zz_thr K (N.1 + c, N.2 + s)) else False)
theorem z_cvGp (rm : Room) (nx n ci : Nat) (sp : zz_Sf) : zz_ok (zo_cvGp rm nx n ci sp) (o_calv rm nx n ci (fun c s => zE (sp c s))) := by
  intro lv st M N K K' hK h
  refine zz_pop_e n st [] _ _ (fun as r h => ?_) h
  obtain ⟨e2, e1, h⟩ := mm_bif h (fun q => q)
  obtain ⟨c, s, h1, h⟩ := h
  show (bif mm_rcv ci (as.map ev) (eM M) && Nat.ble (mm_dep (r.map ev)) 8 then _ else False)
  rw [zz_rcvp_e e1, zz_dep_e, e2]
  exact ⟨c, s, h1.1, h1.2, zE_call hK h⟩
def zo_csF (rm : Room) (nx n c s : Nat) (sp : zz_Sp) : zz_O := fun lv st M N K => zz_pop n st [] (fun as r => bif Nat.ble (zz_dep r) 8 then (N.1 + c ≤ rm.cells ∧ N.2 + s ≤ rm.slots) ∧ sp as M (fun v M' => K (nx + 2) lv (v.toList ++ r) M' (N.1 + c, N.2 + s)) (zz_thr K (N.1 + c, N.2 + s)) else False)
theorem z_csF (rm : Room) (nx n c s : Nat) (sp : zz_Sp) : zz_ok (zo_csF rm nx n c s sp) (o_calsF rm nx n c s (zE sp)) := by
  intro lv st M N K K' hK h
  refine zz_pop_e n st [] _ _ (fun as r h => ?_) h
  obtain ⟨e2, h⟩ := mm_bif h (fun q => q)
  obtain ⟨h1, h⟩ := h
  show (bif Nat.ble (mm_dep (r.map ev)) 8 then _ else False)
  rw [zz_dep_e, e2]
  exact ⟨h1, zE_call hK h⟩
def zo_csG (rm : Room) (nx n : Nat) (sp : zz_Sf) : zz_O := fun lv st M N K => zz_pop n st [] (fun as r => bif Nat.ble (zz_dep r) 8 then ∃ c s, (N.1 + c ≤ rm.cells ∧ N.2 + s ≤ rm.slots) ∧ sp c s as M (fun v M' => K (nx + 2) lv (v.toList ++ r) M' (N.1 + c, N.2 + s)) (zz_thr K (N.1 + c, N.2 + s)) else False)
theorem z_csG (rm : Room) (nx n : Nat) (sp : zz_Sf) : zz_ok (zo_csG rm nx n sp) (o_cals rm nx n (fun c s => zE (sp c s))) := by
  intro lv st M N K K' hK h
  refine zz_pop_e n st [] _ _ (fun as r h => ?_) h
  obtain ⟨e2, h⟩ := mm_bif h (fun q => q)
  obtain ⟨c, s, h1, h⟩ := h
  show (bif Nat.ble (mm_dep (r.map ev)) 8 then _ else False)
  rw [zz_dep_e, e2]
  exact ⟨c, s, h1.1, h1.2, zE_call hK h⟩
def zo_ciF (rm : Room) (nx n c s : Nat) (sp : zz_Sp) : zz_O := fun lv st M N K => zz_pop n st [] (fun as r => bif zz_rci as && Nat.ble (zz_dep r) 8 then (N.1 + c ≤ rm.cells ∧ N.2 + s ≤ rm.slots) ∧ sp as M (fun v M' => K (nx + 2) lv (v.toList ++ r) M' (N.1 + c, N.2 + s)) (zz_thr K (N.1 + c, N.2 + s)) else False)
theorem z_ciF (rm : Room) (nx n c s : Nat) (sp : zz_Sp) : zz_ok (zo_ciF rm nx n c s sp) (o_caliF rm nx n c s (zE sp)) := by
  intro lv st M N K K' hK h
  refine zz_pop_e n st [] _ _ (fun as r h => ?_) h
  obtain ⟨e1, e2, h⟩ := mm_and2 h (fun q => q)
  obtain ⟨h1, h⟩ := h
  show (bif mm_rci (as.map ev) && Nat.ble (mm_dep (r.map ev)) 8 then _ else False)
  rw [zz_rci_e e1, zz_dep_e, e2]
  exact ⟨h1, zE_call hK h⟩
def zo_ciG (rm : Room) (nx n : Nat) (sp : zz_Sf) : zz_O := fun lv st M N K => zz_pop n st [] (fun as r => bif zz_rci as && Nat.ble (zz_dep r) 8 then ∃ c s, (N.1 + c ≤ rm.cells ∧ N.2 + s ≤ rm.slots) ∧ sp c s as M (fun v M' => K (nx + 2) lv (v.toList ++ r) M' (N.1 + c, N.2 + s)) (zz_thr K (N.1 + c, N.2 + s)) else False)
theorem z_ciG (rm : Room) (nx n : Nat) (sp : zz_Sf) : zz_ok (zo_ciG rm nx n sp) (o_cali rm nx n (fun c s => zE (sp c s))) := by
  intro lv st M N K K' hK h
  refine zz_pop_e n st [] _ _ (fun as r h => ?_) h
  obtain ⟨e1, e2, h⟩ := mm_and2 h (fun q => q)
  obtain ⟨c, s, h1, h⟩ := h
  show (bif mm_rci (as.map ev) && Nat.ble (mm_dep (r.map ev)) 8 then _ else False)
  rw [zz_rci_e e1, zz_dep_e, e2]
  exact ⟨c, s, h1.1, h1.2, zE_call hK h⟩
def zo_cfF (rm : Room) (nx n ci c s : Nat) (sp : zz_Sp) : zz_O := fun lv st M N K => zz_pop n st [] (fun as r => bif Nat.ble (zz_dep r) 8 then zz_rcvp ci as M ∧ (N.1 + c ≤ rm.cells ∧ N.2 + s ≤ rm.slots) ∧ sp as M (fun v M' => K (nx + 2) lv (v.toList ++ r) M' (N.1 + c, N.2 + s)) (zz_thr K (N.1 + c, N.2 + s)) else False)
theorem z_cfF (rm : Room) (nx n ci c s : Nat) (sp : zz_Sp) : zz_ok (zo_cfF rm nx n ci c s sp) (o_calfF rm nx n ci c s (zE sp)) := by
  intro lv st M N K K' hK h
  refine zz_pop_e n st [] _ _ (fun as r h => ?_) h
  obtain ⟨e2, e1, h⟩ := mm_bif h (fun q => q)
  obtain ⟨h1, h⟩ := h
  show (bif mm_rcv ci (as.map ev) (eM M) && Nat.ble (mm_dep (r.map ev)) 8 then _ else False)
  rw [zz_rcvp_e e1, zz_dep_e, e2]
  exact ⟨h1, zE_call hK h⟩
def zo_cfG (rm : Room) (nx n ci : Nat) (sp : zz_Sf) : zz_O := fun lv st M N K => zz_pop n st [] (fun as r => bif Nat.ble (zz_dep r) 8 then zz_rcvp ci as M ∧ ∃ c s, (N.1 + c ≤ rm.cells ∧ N.2 + s ≤ rm.slots) ∧ sp c s as M (fun v M' => K (nx + 2) lv (v.toList ++ r) M' (N.1 + c, N.2 + s)) (zz_thr K (N.1 + c, N.2 + s)) else False)
theorem z_cfG (rm : Room) (nx n ci : Nat) (sp : zz_Sf) : zz_ok (zo_cfG rm nx n ci sp) (o_calf rm nx n ci (fun c s => zE (sp c s))) := by
  intro lv st M N K K' hK h
  refine zz_pop_e n st [] _ _ (fun as r h => ?_) h
  obtain ⟨e2, e1, h⟩ := mm_bif h (fun q => q)
  obtain ⟨c, s, h1, h⟩ := h
  show (bif mm_rcv ci (as.map ev) (eM M) && Nat.ble (mm_dep (r.map ev)) 8 then _ else False)
  rw [zz_rcvp_e e1, zz_dep_e, e2]
  exact ⟨c, s, h1.1, h1.2, zE_call hK h⟩
/-! the end of a method may forget cells -/
def zz_sb (Mi M M0 : zz_M) (v : Option zv) : Prop :=
  (∀ h, (zsh Mi h).1 ≠ 0 → (zsh M0 h).1 ≠ 0) ∧ (∀ h, (zsh M0 h).1 ≠ 0 → zsh M h = zsh M0 h ∧ M.2.1 h = M0.2.1 h ∧ M.2.2.1 h = M0.2.2.1 h ∧ zpt M h = zpt M0 h) ∧
  (∀ h k b, (zsh M0 h).1 ≠ 0 → (zsh M0 h).1 < 16 → zpt M0 h k = some b → (zsh M0 b).1 ≠ 0) ∧ ∀ b, v = some (.inr (.inr (some b))) → (zsh M0 b).1 ≠ 0
theorem ev_ref {w : zv} {b : Nat} (h : ev w = .ref b) : w = .inr (.inr (some b)) := by
  match w, h with
  | .inr (.inr (some x)), h => cases h; rfl
theorem zz_sb.e {Mi M M0 : zz_M} {v : Option zv} (h : zz_sb Mi M M0 v) : mm_sb (eM Mi) (eM M) (eM M0) (v.map ev) := by
  refine ⟨h.1, fun x hx => ?_, h.2.2.1, fun b hb => ?_⟩
  · obtain ⟨e1, e2, e3, e4⟩ := h.2.1 x hx
    refine ⟨e1, ?_, ?_, e4⟩
    · funext k; show zI (M.2.1 x k) = zI (M0.2.1 x k); rw [e2]
    · funext k; show zL (M.2.2.1 x k) = zL (M0.2.2.1 x k); rw [e3]
  · cases v with
    | none => cases hb
    | some w => exact h.2.2.2 b (by rw [ev_ref (Option.some.inj hb)])
def zz_JD (Mi : zz_M) (c : zz_P) (K : zz_K) (pc : Nat) (lv : zz_L) (st : List zv) (M : zz_M) (N : mm_N) : Prop := ∀ C : mm_C, c_M C = eM Mi → mm_cl0 (eM Mi) → zz_OKs C c → (∀ lv st M N, K 0 lv st M N → mm_Z C 0 (eL lv) (st.map ev) (eM M) N) → (∀ lv st M N, K 1 lv st M N → mm_Z C 1 (eL lv) (st.map ev) (eM M) N) → mm_W C pc (eL lv) (st.map ev) (eM M) N
def zz_JDK (Mi : zz_M) (c : zz_P) (K : zz_K) : zz_K := fun q lv st M N => match q with
  | 0 => K 0 lv st M N
  | 1 => K 1 lv st M N
  | pc + 2 => zz_JD Mi c K pc lv st M N
theorem zz_JD.go {Mi : zz_M} {c : zz_P} {K : zz_K} (stops : List (Nat × List Nat)) (n : Nat) {pc : Nat} {lv : zz_L} {st : List zv} {M : zz_M} {N : mm_N} (h : zz_run c stops (zz_JDK Mi c K) n pc lv st M N) : zz_JD Mi c K pc lv st M N := by
  intro C hi hcl hc h0 h1
  refine zz_go2 hc ?_ stops n pc lv st M N h
  intro q lv st M N hq
  match q, hq with
  | 0, hq => exact h0 _ _ _ _ hq
  | 1, hq => exact h1 _ _ _ _ hq
  | p + 2, hq => exact hq C hi hcl hc h0 h1
theorem zz_JDm {Mi : zz_M} {c : zz_P} {K : zz_K} {pc : Nat} {lv : zz_L} {st : List zv} {M M' : zz_M} {N : mm_N} (e : M = M') (h : zz_JD Mi c K pc lv st M' N) : zz_JD Mi c K pc lv st M N := e ▸ h
theorem zz_JDev {Mi : zz_M} {c : zz_P} {K : zz_K} {pc : Nat} {lv lv' : zz_L} {st st' : List zv} {M M' : zz_M} {N : mm_N} (e1 : eL lv = eL lv') (e2 : st.map ev = st'.map ev) (e3 : eM M = eM M') (h : zz_JD Mi c K pc lv' st' M' N) : zz_JD Mi c K pc lv st M N := by
  intro C hi hcl hc h0 h1
  rw [e1, e2, e3]
  exact h C hi hcl hc h0 h1
/-- cells that nothing refers to are forgotten in the middle of a run -/
theorem zz_JD.drop {Mi : zz_M} {c : zz_P} {K : zz_K} {pc : Nat} {lv : zz_L} {st : List zv} {M M0 : zz_M} {N : mm_N} (hs : zz_sb Mi M M0 none) (hl : ∀ (i b : Nat), lv[i]? = some (some (.inr (.inr (some b)))) → (zsh M0 b).1 ≠ 0) (hst : ∀ b : Nat, .inr (.inr (some b)) ∈ st → (zsh M0 b).1 ≠ 0) (h : zz_JD Mi c K pc lv st M0 N) : zz_JD Mi c K pc lv st M N := by
  intro C hi hcl hc h0 h1 ad H locs ls hS
  have hs' := hs.e
  rw [← hi] at hs' hcl
  refine h C hi (by rw [← hi]; exact hcl) hc h0 h1 ad H locs ls ⟨hs'.ag hS.1, hs'.R hS.1 hcl hS.2.1, hS.2.2.1, hS.2.2.2.1, hS.2.2.2.2.1, ⟨fun v hv b e => ?_, fun i v hv b e => ?_⟩, hS.2.2.2.2.2.2⟩
  · obtain ⟨w, hw, ew⟩ := List.mem_map.mp hv
    rw [e] at ew
    exact hst b (by rw [← ev_ref ew]; exact hw)
  · unfold eL at hv
    rw [List.getElem?_map] at hv
    cases hq : lv[i]? with
    | none => rw [hq] at hv; cases hv
    | some o =>
      rw [hq] at hv
      cases o with
      | none => cases hv
      | some w =>
        have ew : ev w = v := Option.some.inj (Option.some.inj hv)
        rw [e] at ew
        exact hl i b (by rw [hq, ev_ref ew])
/-- the end of such a contract -/
def zz_retD (Mi : zz_M) (Q : Option zv → zz_M → Prop) (X : Nat → zz_M → Prop) (mc ms : Nat) : zz_K := fun q lv st M N => match q with
  | 0 => (N.1 ≤ mc ∧ N.2 ≤ ms) ∧ ∃ M0, zz_sb Mi M M0 st.head? ∧ Q st.head? M0
  | 1 => (N.1 ≤ mc ∧ N.2 ≤ ms) ∧ lv.length ≤ 5 ∧ ∃ M0, zz_sb Mi M M0 none ∧ X lv.length M0
  | _ => False
theorem zz_retD_0 {Mi : zz_M} {Q : Option zv → zz_M → Prop} {X : Nat → zz_M → Prop} {mc ms : Nat} {Q' : Option Value → mm_M → Prop} (hQ : ∀ v m, Q v m → Q' (v.map ev) (eM m)) {lv : zz_L} {st : List zv} {M : zz_M} {N : mm_N} (h : zz_retD Mi Q X mc ms 0 lv st M N) : mm_QD (eM Mi) Q' (st.map ev).head? (eM M) ∧ N.1 ≤ mc ∧ N.2 ≤ ms := by
  obtain ⟨h1, M0, h2, h3⟩ := h
  refine ⟨⟨eM M0, ?_, ?_⟩, h1.1, h1.2⟩
  · have := h2.e
    rwa [List.head?_map]
  · rw [List.head?_map]
    exact hQ _ _ h3
theorem zz_retD_1 {Mi : zz_M} {Q : Option zv → zz_M → Prop} {X : Nat → zz_M → Prop} {mc ms : Nat} {X' : String → mm_M → Prop} (hX : ∀ i m E, mm_ex[i]? = some E → X i m → X' E (eM m)) {lv : zz_L} {st : List zv} {M : zz_M} {N : mm_N} (h : zz_retD Mi Q X mc ms 1 lv st M N) : (∃ E, mm_ex[(eL lv).length]? = some E ∧ mm_XD (eM Mi) X' E (eM M)) ∧ N.1 ≤ mc ∧ N.2 ≤ ms := by
  obtain ⟨h1, h4, M0, h2, h3⟩ := h
  have h5 : ∃ E, mm_ex[lv.length]? = some E := ⟨mm_ex[lv.length]'(by show lv.length < 6; omega), List.getElem?_eq_getElem _⟩
  obtain ⟨E, hE⟩ := h5
  exact ⟨⟨E, by rw [eL_len]; exact hE, eM M0, h2.e, hX _ _ _ hE h3⟩, h1.1, h1.2⟩
theorem zz_Met.JD {l : Launch} {y : MethodName} {cc : ByteArray} {nL : Nat} {ret : Option FieldType} {rm : Room} {sp : zz_Sp} {c : zz_P} (hl : l.stackTraces = false) (hy : plainName y.cls = true)
    (ht : ∀ C : mm_C, mm_G C y.cls cc ret nL rm → mm_nh C → zz_OKs C c) (h : ∀ as M Q X, sp as M Q X → Nat.ble (zz_ent as).length nL = true ∧ zz_JD M c (zz_retD M Q X rm.cells rm.slots) 0 (zz_lv0 as nL) [] M (0, 0)) : mm_Spec l y (ws_ y cc nL ret) rm (zE sp) := by
  rintro as M Q X ⟨as', M', Q', X', rfl, rfl, hs, hQ, hX⟩
  obtain ⟨h1, h2⟩ := h _ _ _ _ hs
  refine mm_Met.drop (mm_Met.of hl hy (by rw [← zz_ent_e, eL_len]; exact Nat.le_of_ble_eq_true h1) (fun C G hnh _ eQ eX e1 e2 eM' => ?_))
  intro ad H locs ls hS
  have hcl : mm_cl0 (eM M') := hS.2.1.2.2
  rw [← zz_lv0_e] at hS
  have h3 := h2 C eM' hcl (ht C G hnh) (fun lv st M N hq => ?_) (fun lv st M N hq => ?_)
  · exact h3 ad H locs ls hS
  · have := zz_retD_0 hQ hq
    exact ⟨by rw [eQ]; exact this.1, by rw [e1]; exact this.2.1, by rw [e2]; exact this.2.2⟩
  · obtain ⟨⟨E, k1, k2⟩, k3, k4⟩ := zz_retD_1 hX hq
    exact ⟨⟨E, k1, by rw [eX]; exact k2⟩, by rw [e1]; exact k3, by rw [e2]; exact k4⟩
theorem zz_Met.JH {l : Launch} {y : MethodName} {cc : ByteArray} {nL : Nat} {ret : Option FieldType} {hh : List (Nat × Nat × Nat × Nat)} {rm : Room} {sp : zz_Sp} {c : zz_P} (hl : l.stackTraces = false) (hy : plainName y.cls = true)
    (ht : ∀ C : mm_C, mm_G C y.cls cc ret nL rm → mm_hd C hh → zz_OKs C c) (h : ∀ as M Q X, sp as M Q X → Nat.ble (zz_ent as).length nL = true ∧ zz_JD M c (zz_retD M Q X rm.cells rm.slots) 0 (zz_lv0 as nL) [] M (0, 0)) : mm_Spec l y (wsW_ y cc nL ret hh) rm (zE sp) := by
  rintro as M Q X ⟨as', M', Q', X', rfl, rfl, hs, hQ, hX⟩
  obtain ⟨h1, h2⟩ := h _ _ _ _ hs
  refine mm_Met.drop (mm_Met.ofH hl hy (by rw [← zz_ent_e, eL_len]; exact Nat.le_of_ble_eq_true h1) (fun C G hhd _ eQ eX e1 e2 eM' => ?_))
  intro ad H locs ls hS
  have hcl : mm_cl0 (eM M') := hS.2.1.2.2
  rw [← zz_lv0_e] at hS
  have h3 := h2 C eM' hcl (ht C G hhd) (fun lv st M N hq => ?_) (fun lv st M N hq => ?_)
  · exact h3 ad H locs ls hS
  · have := zz_retD_0 hQ hq
    exact ⟨by rw [eQ]; exact this.1, by rw [e1]; exact this.2.1, by rw [e2]; exact this.2.2⟩
  · obtain ⟨⟨E, k1, k2⟩, k3, k4⟩ := zz_retD_1 hX hq
    exact ⟨⟨E, k1, by rw [eX]; exact k2⟩, by rw [e1]; exact k3, by rw [e2]; exact k4⟩
/-- without forgetting -/
theorem zz_sb.rf {Mi M : zz_M} {v : Option zv} (h1 : ∀ h, (zsh Mi h).1 ≠ 0 → (zsh M h).1 ≠ 0) (h2 : ∀ h k b, (zsh M h).1 ≠ 0 → (zsh M h).1 < 16 → zpt M h k = some b → (zsh M b).1 ≠ 0) (h3 : ∀ b, v = some (.inr (.inr (some b))) → (zsh M b).1 ≠ 0) : zz_sb Mi M M v := ⟨h1, fun _ _ => ⟨rfl, rfl, rfl, rfl⟩, h2, h3⟩
/-- a run without forgetting, as one that may forget -/
theorem zz_J.D {Mi : zz_M} {c : zz_P} {K : zz_K} {pc : Nat} {lv : zz_L} {st : List zv} {M : zz_M} {N : mm_N} (h : zz_J c K pc lv st M N) : zz_JD Mi c K pc lv st M N := fun C _ _ hc h0 h1 => h C hc h0 h1
