/-! ===== arrays of arrays that are made at one go ===== -/
set_option maxRecDepth 100000
/-- an array b of n rows of k places each, the rows b + o, b + o + 1 .. : i of them are there -/
def mm_mu (M : mm_M) (o b n k : Nat) : Nat → mm_M
  | 0 => mm_al M b 6 n
  | i + 1 => mm_wP (mm_al (mm_mu M o b n k i) (b + o + i) 2 k) b i (some (b + o + i))
def o_man (rm : Room) (nx o n k : Nat) : mm_O := fun lv st M N K => match st with
  | .int y :: .int x :: r => (x = Int32.ofNat n ∧ y = Int32.ofNat k) ∧ ∃ b, ((M.1 b).1 = 0 ∧ ∀ i, i < n → (M.1 (b + o + i)).1 = 0) ∧ N.1 + (1 + n) ≤ rm.cells ∧ N.2 + (n + n * k) ≤ rm.slots ∧ K (nx + 2) lv (.ref b :: r) (mm_mu M o b n k n) (N.1 + 1 + n, N.2 + n + n * k)
  | _ => False
theorem mm_mu_1 (M : mm_M) {o : Nat} (ho : 1 ≤ o) (b n k : Nat) : ∀ (i x : Nat), (mm_mu M o b n k i).1 x = if x = b then (6, n) else if b + o ≤ x ∧ x < b + o + i then (2, k) else M.1 x
  | 0, x => by
    show (if x = b then (6, n) else M.1 x) = _
    by_cases e : x = b
    · rw [if_pos e, if_pos e]
    · rw [if_neg e, if_neg e, if_neg (by omega)]
  | i + 1, x => by
    show (if x = b + o + i then (2, k) else (mm_mu M o b n k i).1 x) = _
    rw [mm_mu_1 M ho b n k i x]
    by_cases e : x = b + o + i
    · rw [if_pos e, if_neg (by omega), if_pos (by omega)]
    · rw [if_neg e]
      by_cases e2 : x = b
      · rw [if_pos e2, if_pos e2]
      · rw [if_neg e2, if_neg e2]
        by_cases e3 : b + o ≤ x ∧ x < b + o + i
        · rw [if_pos e3, if_pos (by omega)]
        · rw [if_neg e3, if_neg (by omega)]
theorem mm_mu_P (M : mm_M) {o : Nat} (ho : 1 ≤ o) (b n k : Nat) : ∀ (i x j : Nat), (mm_mu M o b n k i).2.2.2 x j = if x = b then (if j < i then some (b + o + j) else none) else if b + o ≤ x ∧ x < b + o + i then none else M.2.2.2 x j
  | 0, x, j => by
    show (if x = b then (fun _ => none) else M.2.2.2 x) j = _
    by_cases e : x = b
    · rw [if_pos e, if_pos e, if_neg (Nat.not_lt_zero j)]
    · rw [if_neg e, if_neg e, if_neg (by omega)]
  | i + 1, x, j => by
    show mm_up (fun x => if x = b + o + i then (fun _ => none) else (mm_mu M o b n k i).2.2.2 x) b i (some (b + o + i)) x j = _
    rw [up_eq]
    by_cases c : x = b ∧ j = i
    · rw [if_pos c, if_pos c.1, if_pos (by omega), c.2]
    · rw [if_neg c]
      by_cases e : x = b + o + i
      · rw [if_pos e, if_neg (by omega), if_pos (by omega)]
      · rw [if_neg e, mm_mu_P M ho b n k i x j]
        by_cases e2 : x = b
        · rw [if_pos e2, if_pos e2]
          by_cases h : j < i
          · rw [if_pos h, if_pos (by omega)]
          · rw [if_neg h, if_neg (by omega)]
        · rw [if_neg e2, if_neg e2]
          by_cases e3 : b + o ≤ x ∧ x < b + o + i
          · rw [if_pos e3, if_pos (by omega)]
          · rw [if_neg e3, if_neg (by omega)]
theorem outer_arr (c : ClassId) (N h0 : Nat) : ∀ i, Free.Multi.outerC c N h0 i = arrV c N (fun j => if j < i then .ref (h0 + 1 + j) else .null)
  | 0 => by
    show ({ cls := c, slots := Array.replicate N .null, vm := .none } : Cell) = _
    rw [arrV_new]
    rfl
  | i + 1 => by
    show (Free.Multi.outerC c N h0 i).setSlot i (.ref (h0 + 1 + i)) = _
    rw [outer_arr c N h0 i, arrV_store]
    congr 1
    funext j
    unfold updV
    by_cases e : j = i
    · rw [if_pos e, if_pos (by omega), e]
    · rw [if_neg e]
      by_cases h : j < i
      · show (if j < i then _ else _) = _
        rw [if_pos h, if_pos (by omega)]
      · show (if j < i then _ else _) = _
        rw [if_neg h, if_neg (by omega)]
section MMX
variable {C : mm_C} {own : String} {cc : ByteArray} {ret : Option FieldType} {nL : Nat} {rm : Room}
theorem mm_fillS (G : mm_G C own cc ret nL rm) {lv : mm_L} {st r : List Value} {M : mm_M} {N N' : mm_N} {ad : Nat → Nat} {T : State} {locs : List Loc} {ls : Array Slot} {o b n k : Nat} (ho : 1 ≤ o) (hS : mm_S C lv st M N ad T.heap locs ls) (hN : N'.1 ≤ (c_R C).cells ∧ N'.2 ≤ (c_R C).slots) (hk : ∀ v ∈ r, mm_vk M v) (h0 : (M.1 b).1 = 0) (hr : ∀ i, i < n → (M.1 (b + o + i)).1 = 0) : ∀ i, i ≤ n →
    ∃ ad', mm_S C lv (.ref b :: r) (mm_mu M o b n k i) N' ad' (Free.Multi.fill T (c_aC C 6) (c_aC C 2) n k (.int 0) i).heap (locs ++ (List.range i).map fun j => (⟨T.heap.size, j⟩ : Loc)) ls ∧ ad' b = T.heap.size ∧ (∀ j, j < i → ad' (b + o + j) = T.heap.size + 1 + j) ∧ ∀ x, (M.1 x).1 ≠ 0 → ad' x = ad x := by
  intro i
  induction i with
  | zero =>
    intro _
    have z : (Free.Multi.fill T (c_aC C 6) (c_aC C 2) n k (.int 0) 0).heap.size = T.heap.size + 1 := (Free.Multi.fill_facts T _ _ n k _ 0).1
    have e1 := (Free.Multi.fill_facts T (c_aC C 6) (c_aC C 2) n k (.int 0) 0).2.1
    have oq : ∀ q : Nat, q < T.heap.size → (Free.Multi.fill T (c_aC C 6) (c_aC C 2) n k (.int 0) 0).heap[q]? = T.heap[q]? := fun q hq => Free.Multi.fill_old T _ _ n k _ hq 0
    refine ⟨mm_aa ad b T.heap.size, ?_, mm_aa_h _ _ _, fun j hj => absurd hj (Nat.not_lt_zero _), fun x hx => mm_aa_n ad _ (mm_free h0 hx)⟩
    rw [List.range_zero, List.map_nil, List.append_nil]
    refine hS.fresh (t := 6) (n := n) G.hA h0 (by decide) (by decide) z oq (mm_at_mk (by decide) ?_) hN hk
    rw [mm_aa_h, e1, outer_arr]
    congr 2
    funext j
    rw [if_neg (Nat.not_lt_zero j), mm_al_ea]
    rfl
  | succ i ih =>
    intro hi
    obtain ⟨ad1, hS1, a1, a2, a3⟩ := ih (by omega)
    have ff := Free.Multi.fill_facts T (c_aC C 6) (c_aC C 2) n k (.int 0) i
    obtain ⟨s1, s2, -, -⟩ := ff
    have hfr : ((mm_mu M o b n k i).1 (b + o + i)).1 = 0 := by
      rw [mm_mu_1 _ ho, if_neg (by omega), if_neg (by omega)]
      exact hr i (by omega)
    -- the row
    have hS2 := hS1.fresh (st' := .ref b :: r) (t := 2) (n := k) (H' := ((Free.Multi.fill T (c_aC C 6) (c_aC C 2) n k (.int 0) i).pushCell (Free.Multi.innerC (c_aC C 2) k (.int 0))).heap) G.hA hfr (by decide) (by decide) (by simp [State.pushCell]) (fun q hq => State.heap_pushCell_of_lt _ _ hq) (mm_at_mk (by decide) (by
        rw [mm_aa_h]
        have : ((Free.Multi.fill T (c_aC C 6) (c_aC C 2) n k (.int 0) i).pushCell (Free.Multi.innerC (c_aC C 2) k (.int 0))).heap[(Free.Multi.fill T (c_aC C 6) (c_aC C 2) n k (.int 0) i).heap.size]? = some (Free.Multi.innerC (c_aC C 2) k (.int 0)) := by simp [State.pushCell]
        rw [this]
        show some ({ cls := c_aC C 2, slots := Array.replicate k (.int 0), vm := .none } : Cell) = _
        rw [arrV_new]
        congr 2
        funext j
        rw [mm_al_ea]
        rfl)) hN (fun v hv => hS1.2.2.2.2.2.1.1 v hv)
    have hne : b ≠ b + o + i := by omega
    have hb6 : (mm_al (mm_mu M o b n k i) (b + o + i) 2 k).1 b = (6, n) := by
      show (if b = b + o + i then (2, k) else (mm_mu M o b n k i).1 b) = _
      rw [if_neg hne, mm_mu_1 _ ho, if_pos rfl]
    have ab : mm_aa ad1 (b + o + i) (Free.Multi.fill T (c_aC C 6) (c_aC C 2) n k (.int 0) i).heap.size b = T.heap.size := by rw [mm_aa_n _ _ hne, a1]
    have hAb : c_A C T.heap.size := by
      have := (hS2.2.1.1 b 6 n hb6 (by decide)).1 (by decide)
      rw [ab] at this
      exact this
    have hlt : T.heap.size < (Free.Multi.fill T (c_aC C 6) (c_aC C 2) n k (.int 0) i).heap.size := by omega
    have hcell : ((Free.Multi.fill T (c_aC C 6) (c_aC C 2) n k (.int 0) i).pushCell (Free.Multi.innerC (c_aC C 2) k (.int 0))).heap[T.heap.size]? = some (Free.Multi.outerC (c_aC C 6) n T.heap.size i) := by
      rw [State.heap_pushCell_of_lt (h := hlt)]
      exact s2
    have e3 : (locs ++ (List.range (i + 1)).map fun j => (⟨T.heap.size, j⟩ : Loc)) = (locs ++ (List.range i).map fun j => (⟨T.heap.size, j⟩ : Loc)) ++ [⟨T.heap.size, i⟩] := by simp [List.range_succ, List.append_assoc]
    have z : (Free.Multi.fill T (c_aC C 6) (c_aC C 2) n k (.int 0) (i + 1)).heap.size = ((Free.Multi.fill T (c_aC C 6) (c_aC C 2) n k (.int 0) i).pushCell (Free.Multi.innerC (c_aC C 2) k (.int 0))).heap.size := by
      rw [(Free.Multi.fill_facts T _ _ n k _ (i + 1)).1]
      simp [State.pushCell, s1]
      omega
    have oq : ∀ q : Nat, q ≠ T.heap.size → (Free.Multi.fill T (c_aC C 6) (c_aC C 2) n k (.int 0) (i + 1)).heap[q]? = ((Free.Multi.fill T (c_aC C 6) (c_aC C 2) n k (.int 0) i).pushCell (Free.Multi.innerC (c_aC C 2) k (.int 0))).heap[q]? := fun q hq => State.heap_setCell_other (Ne.symm hq)
    refine ⟨mm_aa ad1 (b + o + i) (Free.Multi.fill T (c_aC C 6) (c_aC C 2) n k (.int 0) i).heap.size, ?_, ab, fun j hj => ?_, fun x hx => ?_⟩
    · rw [e3]
      have hvk : ∀ v ∈ (Value.ref b :: r), mm_vk (mm_al (mm_mu M o b n k i) (b + o + i) 2 k) v := fun v hv => hS2.2.2.2.2.2.1.1 v (List.mem_cons_of_mem _ hv)
      refine hS2.mem (st' := .ref b :: r) (M' := mm_wP (mm_al (mm_mu M o b n k i) (b + o + i) 2 k) b i (some (b + o + i))) rfl (hS2.2.1.write (h := b) (by rw [hb6]; show (6 : Nat) ≠ 0; decide) (by rw [hb6]; show (6 : Nat) < 16; decide) rfl (fun _ _ => rfl) (fun _ _ => rfl) (fun a ha => mm_up_n _ _ _ ha) ?_ z (by rw [ab]; exact oq) (fun j x hx => ?_)) (hS2.2.2.1.put z oq hAb) ⟨hvk, hS2.2.2.2.2.2.1.2⟩
      · rw [hb6]
        refine mm_at_mk (by show (6 : Nat) ≠ 1; decide) ?_
        rw [ab, (Free.Multi.fill_facts T _ _ n k _ (i + 1)).2.1, outer_arr]
        congr 2
        funext j
        show _ = mm_v _ (va_rf (mm_up (mm_al (mm_mu M o b n k i) (b + o + i) 2 k).2.2.2 b i (some (b + o + i)) b j))
        rw [mm_up_a]
        by_cases ej : j = i
        · rw [if_pos (by omega), if_pos ej]
          show _ = Value.ref (mm_aa ad1 (b + o + i) _ (b + o + i))
          rw [mm_aa_h, s1, ej]
        · rw [if_neg ej]
          show _ = mm_v _ (va_rf ((if b = b + o + i then (fun _ => none) else (mm_mu M o b n k i).2.2.2 b) j))
          rw [if_neg hne, mm_mu_P _ ho, if_pos rfl]
          by_cases hj : j < i
          · rw [if_pos (by omega), if_pos hj]
            show _ = Value.ref (mm_aa ad1 (b + o + i) _ (b + o + j))
            rw [mm_aa_n _ _ (by omega), a2 j hj]
          · rw [if_neg (by omega), if_neg hj]
            rfl
      · have hx : mm_up (mm_al (mm_mu M o b n k i) (b + o + i) 2 k).2.2.2 b i (some (b + o + i)) b j = some x := hx
        rw [mm_up_a] at hx
        by_cases hj : j = i
        · rw [if_pos hj] at hx
          cases hx
          show (if b + o + i = b + o + i then (2, k) else _).1 ≠ 0
          rw [if_pos rfl]
          show (2 : Nat) ≠ 0
          decide
        · rw [if_neg hj] at hx
          exact hS2.2.1.2.2 b j x (by rw [hb6]; show (6 : Nat) ≠ 0; decide) (by rw [hb6, mm_me_lo (by show (6 : Nat) < 16; decide)]; exact hx)
    · by_cases ej : j = i
      · rw [ej, mm_aa_h, s1]
      · rw [mm_aa_n _ _ (by omega)]
        exact a2 j (by omega)
    · have : x ≠ b + o + i := fun e => hx (by rw [e]; exact hr i (by omega))
      rw [mm_aa_n _ _ this]
      exact a3 x hx
theorem ok_man (G : mm_G C own cc ret nL rm) {pc nx idx o n k : Nat} (ho : 1 ≤ o) (hcl : Cond.classLink own idx "[[I" ∈ lw_all) (hov : Cond.arrayOver (.array .int) ∈ lw_tbl) (har : Cond.arrayClass .int ∈ lw_all) (hnk : n ≤ 1000 ∧ k ≤ 1000) (hd : decode cc pc = .ok (.multianewarray idx 2, 4)) (hn : pc + 4 = nx) : mm_OK C pc (o_man rm nx o n k) := by
  subst hn
  intro lv st M N K hK h
  match st, h with
  | .int y :: .int x :: r, h =>
    obtain ⟨⟨rfl, rfl⟩, b, ⟨h0, hr⟩, hc, hs, hk⟩ := h
    intro ad H locs ls hS
    have hR := G.hR
    have en : (Int32.ofNat n).toNatClampNeg = n := by
      rw [Int32.toNatClampNeg_ofNat_of_lt (by omega)]
    have ek : (Int32.ofNat k).toNatClampNeg = k := by
      rw [Int32.toNatClampNeg_ofNat_of_lt (by omega)]
    have hao : (Cond.arrayOver (.array .int)).before (c_a C) (c_s C) = true := G.hn _ hov rfl
    show mm_Wc C H locs N (F0 (c_m C) pc ls (.int (Int32.ofNat k) :: .int (Int32.ofNat n) :: r.map (mm_v ad)))
    intro T hT X
    subst hT
    have hb := G.hb
    have n0 : ∀ m : Nat, m ≤ 1000 → ¬ (Int32.ofNat m) < 0 := fun m hm c => by
      have h1 : (Int32.ofNat m).toInt = (m : Int) := Int32.toInt_ofNat_of_lt (by omega)
      have h2 := Int32.lt_iff_toInt_lt.mp c
      rw [h1] at h2
      have h3 : (0 : Int32).toInt = 0 := rfl
      omega
    obtain ⟨vm1, cA, comp, hw, f1, f2, X', stp⟩ := X.multianewarray2 G.hx G.ho (G.ht _ hcl) hao (G.ht _ har) (g := F0 (c_m C) pc ls (.int (Int32.ofNat k) :: .int (Int32.ofNat n) :: r.map (mm_v ad))) rfl (by rw [hb]; exact hd) rfl (n0 n hnk.1) (n0 k hnk.2) (by rw [en]; omega) (by rw [ek]; show k * 4 ≤ _; omega) (by rw [ek]; omega) rfl rfl (by rw [en, hR]; exact hc) (by rw [en, ek, hR]; exact hs)
    rw [en, ek] at X' stp
    have c6 : cA = c_aC C 6 := by
      have h2 : (c_s C).vm.findClass ("[" ++ (FieldType.array .int).toString) = some (c_aC C 6) := (G.hK.2 4 _ rfl).2
      rw [f1] at h2
      exact Option.some.inj h2
    have c2 : comp = c_aC C 2 := by
      have h2 : (c_s C).vm.findClass (FieldType.array .int).toString = some (c_aC C 2) := (G.hK.2 0 _ rfl).2
      rw [f2] at h2
      exact Option.some.inj h2
    subst c6 c2
    have hkr : ∀ v ∈ r, mm_vk M v := fun v hv => hS.2.2.2.2.2.1.1 v (List.mem_cons_of_mem _ (List.mem_cons_of_mem _ hv))
    obtain ⟨ad', hS', a1, -, a3⟩ := mm_fillS G ho (T := T.setVm vm1) (N' := (N.1 + 1 + n, N.2 + n + n * k)) hS ⟨by rw [hR]; show N.1 + 1 + n ≤ _; omega, by rw [hR]; show N.2 + n + n * k ≤ _; omega⟩ hkr h0 hr n (Nat.le_refl _)
    have hkk := hK _ _ _ _ _ hk
    have h3 := hkk ad' _ _ ls hS' (Free.Multi.fill (T.setVm vm1) (c_aC C 6) (c_aC C 2) n k (.int 0) n) rfl X'
    obtain ⟨t, a4, b4⟩ := h3
    refine ⟨t, stp t ?_, b4⟩
    have e3 : (Value.ref b :: r).map (mm_v ad') = .ref T.heap.size :: r.map (mm_v ad) := by
      show Value.ref (ad' b) :: r.map (mm_v ad') = _
      rw [a1, mm_map_re (M := M) hkr (fun b hb => a3 b hb)]
      rfl
    rw [e3] at a4
    exact a4
end MMX
theorem mm_mu_I (M : mm_M) {o : Nat} (ho : 1 ≤ o) (b n k : Nat) : ∀ (i x : Nat), (mm_mu M o b n k i).2.1 x = if x = b ∨ (b + o ≤ x ∧ x < b + o + i) then (fun _ => 0) else M.2.1 x
  | 0, x => by
    show (if x = b then (fun _ => 0) else M.2.1 x) = _
    by_cases e : x = b
    · rw [if_pos e, if_pos (Or.inl e)]
    · rw [if_neg e, if_neg (by omega)]
  | i + 1, x => by
    show (if x = b + o + i then (fun _ => 0) else (mm_mu M o b n k i).2.1 x) = _
    by_cases e : x = b + o + i
    · rw [if_pos e, if_pos (by omega)]
    · rw [if_neg e, mm_mu_I M ho b n k i x]
      by_cases e2 : x = b ∨ (b + o ≤ x ∧ x < b + o + i)
      · rw [if_pos e2, if_pos (by omega)]
      · rw [if_neg e2, if_neg (by omega)]
theorem mm_mu_J (M : mm_M) {o : Nat} (ho : 1 ≤ o) (b n k : Nat) : ∀ (i x : Nat), (mm_mu M o b n k i).2.2.1 x = if x = b ∨ (b + o ≤ x ∧ x < b + o + i) then (fun _ => 0) else M.2.2.1 x
  | 0, x => by
    show (if x = b then (fun _ => 0) else M.2.2.1 x) = _
    by_cases e : x = b
    · rw [if_pos e, if_pos (Or.inl e)]
    · rw [if_neg e, if_neg (by omega)]
  | i + 1, x => by
    show (if x = b + o + i then (fun _ => 0) else (mm_mu M o b n k i).2.2.1 x) = _
    by_cases e : x = b + o + i
    · rw [if_pos e, if_pos (by omega)]
    · rw [if_neg e, mm_mu_J M ho b n k i x]
      by_cases e2 : x = b ∨ (b + o ≤ x ∧ x < b + o + i)
      · rw [if_pos e2, if_pos (by omega)]
      · rw [if_neg e2, if_neg (by omega)]
def zmuf (f : Nat → Nat × Nat) (o b n k : Nat) : Nat → Nat × Nat := fun x => if x = b then (6, n) else if b + o ≤ x ∧ x < b + o + n then (2, k) else f x
def zmuz (S : Nat → Nat → Int) (o b n : Nat) : Nat → Nat → Int := fun x => if x = b ∨ (b + o ≤ x ∧ x < b + o + n) then (fun _ => 0) else S x
def zmup (P : Nat → Nat → Option Nat) (o b n : Nat) : Nat → Nat → Option Nat := fun x j => if x = b then (if j < n then some (b + o + j) else none) else if b + o ≤ x ∧ x < b + o + n then none else P x j
theorem eM_mu {M : zz_M} {o b n k : Nat} (ho : 1 ≤ o) (h0 : zfree M b) (hr : ∀ i, i < n → zfree M (b + o + i)) : mm_mu (eM M) o b n k n = eM ((M.1.1, zmuf M.1.2 o b n k), zmuz M.2.1 o b n, zmuz M.2.2.1 o b n, zmup M.2.2.2 o b n) := by
  have hrow : ∀ x, b + o ≤ x ∧ x < b + o + n → zfs M.1.1 x = false := fun x hx => by
    have := (hr (x - (b + o)) (by omega)).1
    rw [show b + o + (x - (b + o)) = x by omega] at this
    exact this
  refine Prod.ext ?_ (Prod.ext ?_ (Prod.ext ?_ ?_))
  · funext x
    rw [mm_mu_1 _ ho]
    show _ = (bif zfs M.1.1 x then zfS M.1.1 x else zmuf M.1.2 o b n k x)
    unfold zmuf
    by_cases e : x = b
    · rw [if_pos e, if_pos e, e, h0.1]; rfl
    · rw [if_neg e, if_neg e]
      by_cases e2 : b + o ≤ x ∧ x < b + o + n
      · rw [if_pos e2, if_pos e2, hrow x e2]; rfl
      · rw [if_neg e2, if_neg e2]; rfl
  · funext x
    rw [mm_mu_I _ ho]
    show _ = zS (zmuz M.2.1 o b n) x
    unfold zS zmuz
    by_cases e : x = b ∨ (b + o ≤ x ∧ x < b + o + n)
    · rw [if_pos e]; funext j; rw [if_pos e]; rfl
    · rw [if_neg e]; funext j; rw [if_neg e]; rfl
  · funext x
    show (mm_mu (eM M) o b n k n).2.2.1 x = _
    rw [mm_mu_J _ ho]
    show _ = zJ (zmuz M.2.2.1 o b n) x
    unfold zJ zmuz
    by_cases e : x = b ∨ (b + o ≤ x ∧ x < b + o + n)
    · rw [if_pos e]; funext j; rw [if_pos e]; rfl
    · rw [if_neg e]; funext j; rw [if_neg e]; rfl
  · funext x j
    show (mm_mu (eM M) o b n k n).2.2.2 x j = _
    rw [mm_mu_P _ ho]
    show _ = (bif zfx M.1.1 x j then zfp M.1.1 x j else zmup M.2.2.2 o b n x j)
    unfold zmup
    by_cases e : x = b
    · rw [if_pos e, if_pos e, e, zfx_of h0.1]; rfl
    · rw [if_neg e, if_neg e]
      by_cases e2 : b + o ≤ x ∧ x < b + o + n
      · rw [if_pos e2, if_pos e2, zfx_of (hrow x e2)]; rfl
      · rw [if_neg e2, if_neg e2]; rfl
def zo_man (rm : Room) (nx o n k : Nat) : zz_O := fun lv st M N K => match st with
  | .inl y :: .inl x :: r => (x = (n : Int) ∧ y = (k : Int)) ∧ ∃ b, (zfree M b ∧ ∀ i, i < n → zfree M (b + o + i)) ∧ (N.1 + (1 + n) ≤ rm.cells ∧ N.2 + (n + n * k) ≤ rm.slots) ∧ K (nx + 2) lv (.inr (.inr (some b)) :: r) ((M.1.1, zmuf M.1.2 o b n k), zmuz M.2.1 o b n, zmuz M.2.2.1 o b n, zmup M.2.2.2 o b n) (N.1 + 1 + n, N.2 + n + n * k)
  | _ => False
theorem z_man (rm : Room) (nx o n k : Nat) (ho : 1 ≤ o) : zz_ok (zo_man rm nx o n k) (o_man rm nx o n k) := by
  intro lv st M N K K' hK h
  unfold zo_man at h
  split at h
  · next y x r =>
    obtain ⟨⟨rfl, rfl⟩, b, ⟨h0, hr⟩, ⟨hc, hs⟩, h⟩ := h
    have h := hK _ _ _ _ _ h
    refine ⟨⟨rfl, rfl⟩, b, ⟨h0.e, fun i hi => (hr i hi).e⟩, hc, hs, ?_⟩
    rw [eM_mu ho h0 hr]
    exact h
  · exact h.elim
