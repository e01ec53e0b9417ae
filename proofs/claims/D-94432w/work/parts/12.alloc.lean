/-! ===== new cells: a free handle is taken ===== -/
set_option maxRecDepth 100000
/-- a new cell under the handle h -/
def mm_al (M : mm_M) (h t n : Nat) : mm_M := (fun x => if x = h then (t, n) else M.1 x, fun x => if x = h then (fun _ => 0) else M.2.1 x, fun x => if x = h then (fun _ => 0) else M.2.2.1 x, fun x => if x = h then (fun _ => none) else M.2.2.2 x)
def mm_aa (ad : Nat → Nat) (h a : Nat) : Nat → Nat := fun x => if x = h then a else ad x
theorem mm_aa_h (ad : Nat → Nat) (h a : Nat) : mm_aa ad h a h = a := if_pos rfl
theorem mm_aa_n (ad : Nat → Nat) (a : Nat) {h x : Nat} (e : x ≠ h) : mm_aa ad h a x = ad x := if_neg e
theorem mm_al_h (M : mm_M) (h t n : Nat) : (mm_al M h t n).1 h = (t, n) := if_pos rfl
theorem mm_al_n (M : mm_M) (t n : Nat) {h x : Nat} (e : x ≠ h) : (mm_al M h t n).1 x = M.1 x := if_neg e
theorem mm_free {M : mm_M} {h x : Nat} (h0 : (M.1 h).1 = 0) (hx : (M.1 x).1 ≠ 0) : x ≠ h := fun e => hx (by rw [e]; exact h0)
theorem mm_R.fresh {D : va_G} {aC : Nat → ClassId} {ad : Nat → Nat} {M : mm_M} {A : Nat → Prop} {H H' : Heap} (hR : mm_R D aC ad M A H) {h t n : Nat} (h0 : (M.1 h).1 = 0) (ht' : t < 16) (hA : A H.size) (z : H'.size = H.size + 1) (oq : ∀ q : Nat, q < H.size → H'[q]? = H[q]?) (hat : mm_at D aC (mm_aa ad h H.size) (mm_al M h t n) h t n H') : mm_R D aC (mm_aa ad h H.size) (mm_al M h t n) A H' := by
  refine ⟨fun x t' n' hx ht0 => ?_, fun x y hx hy hx1 hy1 e => ?_, fun x k b hx hb => ?_⟩
  · by_cases e : x = h
    · subst e
      rw [mm_al_h] at hx
      cases hx
      refine ⟨fun _ => ?_, fun q _ => absurd ht' q, fun _ => ?_⟩
      · rw [mm_aa_h]; exact hA
      · rw [mm_me_lo ht', mm_hn_lo ht', Nat.mod_eq_of_lt ht']; exact hat
    · rw [mm_al_n M t n e] at hx
      obtain ⟨q1, q2, q3⟩ := hR.1 x t' n' hx ht0
      rw [mm_aa_n ad H.size e]
      refine ⟨q1, fun q r => ⟨(q2 q r).1, by have := (q2 q r).2; omega⟩, fun q => ?_⟩
      have hl : (M.1 x).1 ≠ 0 := by rw [hx]; exact ht0
      by_cases h16 : t' < 16
      · have q4 := q3 q
        rw [mm_me_lo h16] at q4 ⊢
        exact mm_at_kept q4 (mm_aa_n ad H.size e) (mm_hn_at (oq _ (hR.lt hl (by rw [hx]; show t' < 48; omega)))) (if_neg e) (if_neg e) (if_neg e) (fun k b hb => mm_aa_n ad H.size (mm_free h0 (hR.2.2 x k b hl (by rw [hx, mm_me_lo h16]; exact hb))))
      · have q4 := q3 q
        rw [mm_me_hi h16] at q4 ⊢
        exact mm_at_kept q4 (mm_aa_n ad H.size e) (mm_hn_at (oq _ (hR.lt hl (by rw [hx]; show t' < 48; omega)))) rfl rfl rfl (fun k b hb => mm_aa_n ad H.size (mm_free h0 (hR.2.2 x k b hl (by rw [hx, mm_me_hi h16]; exact hb))))
  · by_cases e1 : x = h
    · by_cases e2 : y = h
      · rw [e1, e2]
      · rw [mm_al_n M t n e2] at hy hy1
        have := hR.lt hy (by omega)
        rw [e1, mm_aa_h, mm_aa_n ad H.size e2] at e
        omega
    · rw [mm_al_n M t n e1] at hx hx1
      by_cases e2 : y = h
      · have := hR.lt hx (by omega)
        rw [e2, mm_aa_h, mm_aa_n ad H.size e1] at e
        omega
      · rw [mm_al_n M t n e2] at hy hy1
        rw [mm_aa_n ad H.size e1, mm_aa_n ad H.size e2] at e
        exact hR.2.1 x y hx hy hx1 hy1 e
  · by_cases e1 : x = h
    · subst e1
      rw [mm_al_h, mm_me_lo ht'] at hb
      have hb' : (if x = x then (fun _ => none) else M.2.2.2 x) k = some b := hb
      rw [if_pos rfl] at hb'
      cases hb'
    · rw [mm_al_n M t n e1] at hx hb
      have hl : (M.1 b).1 ≠ 0 := by
        by_cases h16 : (M.1 x).1 < 16
        · rw [mm_me_lo h16] at hb
          have hb' : (if x = h then (fun _ => none) else M.2.2.2 x) k = some b := hb
          rw [if_neg e1] at hb'
          exact hR.2.2 x k b hx (by rw [mm_me_lo h16]; exact hb')
        · rw [mm_me_hi h16] at hb
          exact hR.2.2 x k b hx (by rw [mm_me_hi h16]; exact hb)
      rw [mm_al_n M t n (mm_free h0 hl)]
      exact hl
theorem mm_vk.fresh {M : mm_M} {h t n : Nat} {v : Value} (h0 : (M.1 h).1 = 0) (hv : mm_vk M v) : mm_vk (mm_al M h t n) v := fun b e => by
  have hl := hv b e
  rw [mm_al_n M t n (mm_free h0 hl)]
  exact hl
theorem mm_S.fresh {C : mm_C} {lv : mm_L} {st st' : List Value} {M : mm_M} {N : mm_N} {ad : Nat → Nat} {H H' : Heap} {locs : List Loc} {ls : Array Slot} (hS : mm_S C lv st M N ad H locs ls) (hA : ∀ q, (c_s C).heap.size ≤ q → c_A C q) {h t n : Nat} (h0 : (M.1 h).1 = 0) (ht : t ≠ 0) (ht' : t < 16) (z : H'.size = H.size + 1) (oq : ∀ q : Nat, q < H.size → H'[q]? = H[q]?) (hat : mm_at (c_D C) (c_aC C) (mm_aa ad h H.size) (mm_al M h t n) h t n H') {N' : mm_N} (hN : N'.1 ≤ (c_R C).cells ∧ N'.2 ≤ (c_R C).slots) (hk : ∀ v ∈ st', mm_vk M v) : mm_S C lv (.ref h :: st') (mm_al M h t n) N' (mm_aa ad h H.size) H' locs ls := by
  obtain ⟨g1, g2, g3, g4, g5, g6, g7, g8⟩ := hS
  refine ⟨⟨fun x hx => ?_, fun x hx => ?_⟩, g2.fresh h0 ht' (hA _ g3.1) z oq hat, ⟨by have := g3.1; omega, fun q h1 h2 => (oq q (Nat.lt_of_lt_of_le h1 g3.1)).trans (g3.2.1 q h1 h2), g3.2.2⟩, g4.re g6.2 (fun b hb => mm_aa_n ad H.size (mm_free h0 hb)), g5, ⟨fun v hv => ?_, fun i v hv => (g6.2 i v hv).fresh h0⟩, hN.1, hN.2⟩
  · obtain ⟨e1, e2⟩ := g1.1 x hx
    have hl : (M.1 x).1 ≠ 0 := by rw [e2]; exact hx
    rw [mm_aa_n ad H.size (mm_free h0 hl), mm_al_n M t n (mm_free h0 hl)]
    exact ⟨e1, e2⟩
  · by_cases e : x = h
    · subst e
      rw [mm_al_h] at hx
      exact absurd ht' hx
    · rw [mm_al_n M t n e] at hx
      exact g1.2 x hx
  · rcases List.mem_cons.mp hv with hv | hv
    · intro b hb
      rw [hv] at hb
      cases hb
      rw [mm_al_h]
      exact ht
    · exact (hk v hv).fresh h0
/-- newarray of a kind t whose elements take B bytes each -/
def o_newa (rm : Room) (nx t B : Nat) : mm_O := fun lv st M N K => match st with
  | .int n :: r => ∃ h, (M.1 h).1 = 0 ∧ ¬ n < 0 ∧ n.toNatClampNeg * B ≤ 536870912 ∧ N.1 + 1 ≤ rm.cells ∧ N.2 + n.toNatClampNeg ≤ rm.slots ∧ K (nx + 2) lv (.ref h :: r) (mm_al M h t n.toNatClampNeg) (N.1 + 1, N.2 + n.toNatClampNeg)
  | _ => False
/-- new of the class number ci with n fields -/
def o_new (rm : Room) (nx ci n : Nat) : mm_O := fun lv st M N K => ∃ h, (M.1 h).1 = 0 ∧ N.1 + 1 ≤ rm.cells ∧ N.2 + n ≤ rm.slots ∧ K (nx + 2) lv (.ref h :: st) (mm_al M h 1 ci) (N.1 + 1, N.2 + n)
theorem mm_al_ea (M : mm_M) (h t n j : Nat) : mm_ea (mm_al M h t n) h t j = (match t with
  | 3 => Value.long 0
  | 6 => .null
  | 7 => .null
  | 8 => .null
  | _ => .int 0) := by
  unfold mm_ea mm_al
  split <;> simp [va_rf]
theorem mm_al_fa (M : mm_M) (h t n kd k : Nat) : mm_fa (mm_al M h t n) h kd k = (match kd with
  | 0 => Value.int 0
  | 1 => .long 0
  | _ => .null) := by
  unfold mm_fa mm_al
  split <;> simp [va_rf]
section MMA
variable {C : mm_C} {own : String} {cc : ByteArray} {ret : Option FieldType} {nL : Nat} {rm : Room}
theorem ok_newa (G : mm_G C own cc ret nL rm) {pc nx t B : Nat} {atype : ArrayType} {ty : FieldType} (hty : newarray.typeOf atype = ty) (hB : componentBytes ty = B) (hin : Cond.arrayClass ty ∈ lw_all) (htt : (mm_tys (c_aC C))[t - 2]? = some (c_aC C t, ty)) (ht : 2 ≤ t) (ht' : t < 16) (hnm : va_RA (c_s C) (c_aC C t) ty → (c_s C).vm.findClass ("[" ++ ty.toString) = some (c_aC C t)) (hdv : ∀ (M : mm_M) (h n j : Nat) (ad : Nat → Nat), mm_v ad (mm_ea (mm_al M h t n) h t j) = defaultValue ty) (hd : decode cc pc = .ok (.newarray atype, 2)) (hn : pc + 2 = nx) : mm_OK C pc (o_newa rm nx t B) := by
  subst hn hty hB
  intro lv st M N K hK h
  match st, h with
  | .int n :: r, h =>
    obtain ⟨x, h0, hn0, hbt, hc, hs, hk⟩ := h
    intro ad H locs ls hS
    have hR := G.hR
    show mm_Wc C H locs N (F0 (c_m C) pc ls (.int n :: r.map (mm_v ad)))
    refine va_newaK (c := c_c C) G.hx G.hb (G.ht _ hin) rfl hd rfl hn0 rfl hbt (by rw [hR]; exact hc) (by rw [hR]; exact hs) rfl fun H1 cA e1 z1 o1 hAr hNm => ?_
    have hcA : cA = c_aC C t := by
      have h2 := hnm (G.hK.2 _ _ htt).2
      rw [hNm] at h2
      exact Option.some.inj h2
    subst hcA
    have hkk := hK _ _ _ _ _ hk
    have hS' := hS.fresh (st' := r) (N' := (N.1 + 1, N.2 + n.toNatClampNeg)) G.hA (t := t) (n := n.toNatClampNeg) h0 (by omega) ht' z1 o1 (mm_at_mk (by omega) (by
      rw [mm_aa_h, e1]
      congr 2
      funext j
      exact (hdv _ _ _ _ _).symm)) ⟨by rw [hR]; exact hc, by rw [hR]; exact hs⟩ (fun v hv => hS.2.2.2.2.2.1.1 v (List.mem_cons_of_mem _ hv))
    have h3 := hkk _ _ _ _ hS'
    have e3 : (Value.ref x :: r).map (mm_v (mm_aa ad x H.size)) = .ref H.size :: r.map (mm_v ad) := by
      show Value.ref (mm_aa ad x H.size x) :: r.map (mm_v (mm_aa ad x H.size)) = _
      rw [mm_aa_h, mm_map_re (M := M) (fun v hv => hS.2.2.2.2.2.1.1 v (List.mem_cons_of_mem _ hv)) (fun b hb => mm_aa_n ad H.size (mm_free h0 hb))]
    rw [e3] at h3
    exact h3
theorem mm_df (ad : Nat → Nat) (M : mm_M) (h t n ci k : Nat) (hk : mm_ty ci k ≠ .float ∧ mm_ty ci k ≠ .double) : mm_v ad (mm_fa (mm_al M h t n) h (mm_kd ci k) k) = defaultValue (mm_ty ci k) := by
  rw [mm_al_fa]
  unfold mm_kd
  generalize mm_ty ci k = ty at hk
  cases ty <;> first | rfl | exact absurd rfl hk.1 | exact absurd rfl hk.2
theorem ok_new (G : mm_G C own cc ret nL rm) {pc nx ci idx n : Nat} (r : vw_C) (hc : mm_cl[ci]? = some r) (hrn : r.2.2 = n) (hcl : Cond.classLink own idx r.1 ∈ lw_all) (hins : Cond.instantiable r.1 n ∈ lw_all) (hini : Cond.initialized r.1 ∈ lw_all) (hfd : ∀ k, k < n → mm_ty ci k ≠ .float ∧ mm_ty ci k ≠ .double) (hd : decode cc pc = .ok (.new idx, 3)) (hn : pc + 3 = nx) : mm_OK C pc (o_new rm nx ci n) := by
  subst hn hrn
  intro lv st M N K hK h
  obtain ⟨x, h0, hcc, hs, hk⟩ := h
  intro ad H locs ls hS
  have hR := G.hR
  have hKn := G.hK.1 ci _ hc
  have hok := mm_clok ci r hc
  refine W.newcK G.hx G.hb G.ho (G.ht _ hcl) (G.ht _ hins) (G.ht _ hini) rfl hd (by rw [hR]; exact hcc) (by rw [hR]; exact hs) hKn.2.1 rfl fun H1 kC hkC e1 z1 o1 => ?_
  have hb := u_born (mm_ty ci) G.ht hok.1 hKn hkC e1 hok.2.1
  have hkk := hK _ _ _ _ _ hk
  have hS' := hS.fresh (st' := st) (N' := (N.1 + 1, N.2 + r.2.2)) G.hA (t := 1) (n := ci) h0 (by decide) (by decide) z1 o1 (mm_at_mko ⟨r, hc, by
    rw [mm_aa_h]
    exact hb.to (fun k hk => (mm_df _ M x 1 ci ci k (hfd k hk)).symm)⟩) ⟨by rw [hR]; exact hcc, by rw [hR]; exact hs⟩ hS.2.2.2.2.2.1.1
  have h3 := hkk _ _ _ _ hS'
  have e3 : (Value.ref x :: st).map (mm_v (mm_aa ad x H.size)) = .ref H.size :: st.map (mm_v ad) := by
    show Value.ref (mm_aa ad x H.size x) :: st.map (mm_v (mm_aa ad x H.size)) = _
    rw [mm_aa_h, mm_map_re (M := M) hS.2.2.2.2.2.1.1 (fun b hb => mm_aa_n ad H.size (mm_free h0 hb))]
  rw [e3] at h3
  exact h3
theorem ok_anew (G : mm_G C own cc ret nL rm) {pc nx t idx : Nat} {D : String} (hcl : Cond.classLink own idx D ∈ lw_all) (hov : Cond.arrayOver (.object D) ∈ lw_tbl) (htt : (mm_tys (c_aC C))[t - 2]? = some (c_aC C t, .object D)) (ht : t = 7 ∨ t = 8) (hd : decode cc pc = .ok (.anewarray idx, 3)) (hn : pc + 3 = nx) : mm_OK C pc (o_newa rm nx t 4) := by
  subst hn
  intro lv st M N K hK h
  match st, h with
  | .int n :: r, h =>
    obtain ⟨x, h0, hn0, hbt, hc, hs, hk⟩ := h
    intro ad H locs ls hS
    have hR := G.hR
    show mm_Wc C H locs N (F0 (c_m C) pc ls (.int n :: r.map (mm_v ad)))
    have hao : (Cond.arrayOver (.object D)).before (c_a C) (c_s C) = true := G.hn _ hov rfl
    refine W.anew G.hx G.hb G.ho (G.ht _ hcl) hao rfl hd rfl hn0 hbt (by rw [hR]; exact hc) (by rw [hR]; exact hs) fun cA kA comp f1 f2 f3 f4 => ?_
    generalize hH1 : H.push ({ cls := cA, slots := Array.replicate n.toNatClampNeg .null, vm := .none } : Cell) = H1
    have z1 : H1.size = H.size + 1 := by rw [← hH1, Array.size_push]
    have e1 : H1[H.size]? = some (arrV cA n.toNatClampNeg (fun _ => .null)) := by rw [← hH1, Array.getElem?_push_size, ← arrV_new]
    have o1 : ∀ q : Nat, q < H.size → H1[q]? = H[q]? := fun q hq => by rw [← hH1, Array.getElem?_push, if_neg (Nat.ne_of_lt hq)]
    have hcA : cA = c_aC C t := by
      obtain ⟨-, -, -, -, -, h2⟩ := (G.hK.2 _ _ htt).2
      rw [f1] at h2
      exact Option.some.inj h2
    subst hcA
    have hkk := hK _ _ _ _ _ hk
    have hS' := hS.fresh (st' := r) (N' := (N.1 + 1, N.2 + n.toNatClampNeg)) G.hA (t := t) (n := n.toNatClampNeg) h0 (by omega) (by omega) z1 o1 (mm_at_mk (by omega) (by
      rw [mm_aa_h, e1]
      congr 2
      funext j
      rw [mm_al_ea]
      rcases ht with e | e <;> subst e <;> rfl)) ⟨by rw [hR]; exact hc, by rw [hR]; exact hs⟩ (fun v hv => hS.2.2.2.2.2.1.1 v (List.mem_cons_of_mem _ hv))
    have h3 := hkk _ _ _ _ hS'
    have e3 : (Value.ref x :: r).map (mm_v (mm_aa ad x H.size)) = .ref H.size :: r.map (mm_v ad) := by
      show Value.ref (mm_aa ad x H.size x) :: r.map (mm_v (mm_aa ad x H.size)) = _
      rw [mm_aa_h, mm_map_re (M := M) (fun v hv => hS.2.2.2.2.2.1.1 v (List.mem_cons_of_mem _ hv)) (fun b hb => mm_aa_n ad H.size (mm_free h0 hb))]
    rw [e3] at h3
    exact h3
end MMA
