/-! ===== lists: get ===== -/
set_option maxRecDepth 100000
def zJ11_checkIndex : zz_Sp := fun as M Q X => match as with
  | [.inl i, .inl n, .inr (.inr v)] => (0 ≤ i ∧ i < n) ∧ n < 2147483647 ∧ v = none ∧ Q (some (vi i)) M
  | _ => False

theorem zmJ11_checkIndex (l : Launch) (hl : l.stackTraces = false) : mm_Spec l yJ11_checkIndex (ws_ yJ11_checkIndex cJ11_checkIndex 3 (some .int)) (mm_rm 1 0 0) (zE zJ11_checkIndex) := by
  refine zE_of (mJ11_checkIndex l hl) ?_
  rintro as M Q X Q' X' hQ hX h
  unfold zJ11_checkIndex at h
  split at h
  rotate_left
  · exact h.elim
  rename_i i n v
  obtain ⟨h1, h2, rfl, hq⟩ := h
  obtain ⟨i', rfl⟩ : ∃ i' : Nat, i = (i' : Int) := ⟨i.toNat, by omega⟩
  obtain ⟨n', rfl⟩ : ∃ n' : Nat, n = (n' : Int) := ⟨n.toNat, by omega⟩
  exact ⟨i', n', .null, rfl, by omega, by omega, Or.inl rfl, hQ _ _ hq⟩
def zJ22_checkIndex : zz_Sp := fun as M Q X => match as with
  | [.inl i, .inl n] => (0 ≤ i ∧ i < n) ∧ n < 2147483647 ∧ Q (some (vi i)) M
  | _ => False

def zpJ22_checkIndex : zz_P := [(0, zo_ild 1 0), (1, zo_ild 2 1), (2, zo_c 3 vn), (3, zo_calls 6 3 zJ11_checkIndex), (6, zo_iret)]
theorem ztJ22_checkIndex {C : mm_C} (G : mm_G C RJ22 cJ22_checkIndex (some .int) 2 (mm_rm 2 0 0)) (hnh : mm_nh C) : zz_OKs C zpJ22_checkIndex :=
  ⟨zz_of (ok_iload_n G dJ22_checkIndex_0 rfl rfl) (z_ild _ _),
   zz_of (ok_iload_n G dJ22_checkIndex_1 rfl rfl) (z_ild _ _),
   zz_of (ok_null G dJ22_checkIndex_2 rfl) (z_c0 3),
   zz_of (ok_calls G hnh (zmJ11_checkIndex _ G.hst) rfl rfl q1388 q745 q103 q746 (by decide +kernel) ⟨by decide, by decide⟩ dJ22_checkIndex_3 rfl) (z_calls _ _ _),
   zz_of (ok_iret G dJ22_checkIndex_6) (z_iret), trivial⟩

theorem zwJ22_checkIndex_0 {Q : Option zv → zz_M → Prop} {X : Nat → zz_M → Prop} {M : zz_M} {i : Int} {n : Int} (h : ((0 ≤ i ∧ i < n) ∧ n < 2147483647 ∧ (none : Option Nat) = none ∧ (Q (some (vi i)) M))) : zz_J zpJ22_checkIndex (zz_ret Q X 0 0) 0 [some (vi i), some (vi n)] [] M (0, 0) := zz_J.go [] 400 h

theorem zmJ22_checkIndex (l : Launch) (hl : l.stackTraces = false) : mm_Spec l yJ22_checkIndex (ws_ yJ22_checkIndex cJ22_checkIndex 2 (some .int)) (mm_rm 2 0 0) (zE zJ22_checkIndex) := by
  refine zz_Met.J hl (by decide) (fun C G hnh => ztJ22_checkIndex G hnh) ?_
  rintro as M Q X h
  unfold zJ22_checkIndex at h
  split at h
  rotate_left
  · exact h.elim
  rename_i i n
  refine ⟨rfl, ?_⟩
  obtain ⟨h1, h2, hq⟩ := h
  exact zwJ22_checkIndex_0 ⟨h1, h2, rfl, hq⟩
def zJ2_elementData : zz_Sp := fun as M Q X => match as with
  | [.inr (.inr (some h_)), .inl i] => zsh M h_ = (1, 17) ∧ ∃ (e_ n_ x_ : Nat), zpt M h_ 1 = some e_ ∧ zsh M e_ = (7, n_) ∧ n_ ≤ 2147483647 ∧ (0 ≤ i ∧ i < (n_ : Int)) ∧ zpt M e_ i.toNat = some x_ ∧ Q (some (vr x_)) M
  | _ => False

def zpJ2_elementData : zz_P := [(0, zo_ald 1 0), (1, zo_getq 4 17 1), (4, zo_ild 5 1), (5, zo_aald 6), (6, zo_aret)]
theorem ztJ2_elementData {C : mm_C} (G : mm_G C RJ2 cJ2_elementData (some (.object "java/lang/Object")) 2 (mm_rm 1 0 0)) (hnh : mm_nh C) : zz_OKs C zpJ2_elementData :=
  ⟨zz_of (ok_aload_n G dJ2_elementData_0 rfl rfl) (z_ald _ _),
   zz_of (ok_get G (nx := 4) (ci := 17) (kd := 2) (k := 1) (RJ2, TJ2, 3) rfl (by decide) rfl q157 dJ2_elementData_1 rfl) (z_getq _ _ _),
   zz_of (ok_iload_n G dJ2_elementData_4 rfl rfl) (z_ild _ _),
   zz_of (ok_aald G dJ2_elementData_5 rfl) (z_aald _),
   zz_of (ok_aret G (Or.inl ⟨_, rfl⟩) dJ2_elementData_6) (z_aret), trivial⟩

theorem zwJ2_elementData_0 {Q : Option zv → zz_M → Prop} {X : Nat → zz_M → Prop} {M : zz_M} {i : Int} {h_ : Nat} (h : zsh M h_ = (1, 17) ∧ (∀ b1 : Nat, zpt M h_ 1 = some b1 → ∃ t_ n_ : Nat, zsh M b1 = (t_, n_) ∧ (t_ = 6 ∨ t_ = 7 ∨ t_ = 8) ∧ (n_ : Int) ≤ 2147483647 ∧ (0 ≤ i ∧ i < (n_ : Int)) ∧ (∀ b2 : Nat, zpt M b1 i.toNat = some b2 → Q (some (vr b2)) M) ∧ (zpt M b1 i.toNat = none → Q (some (vn)) M)) ∧ (zpt M h_ 1 = none → False)) : zz_J zpJ2_elementData (zz_ret Q X 0 0) 0 [some (vr h_), some (vi i)] [] M (0, 0) := zz_J.go [] 400 h

theorem zmJ2_elementData (l : Launch) (hl : l.stackTraces = false) : mm_Spec l yJ2_elementData (ws_ yJ2_elementData cJ2_elementData 2 (some (.object "java/lang/Object"))) (mm_rm 1 0 0) (zE zJ2_elementData) := by
  refine zz_Met.J hl (by decide) (fun C G hnh => ztJ2_elementData G hnh) ?_
  rintro as M Q X h
  unfold zJ2_elementData at h
  split at h
  rotate_left
  · exact h.elim
  rename_i h_ i
  refine ⟨rfl, ?_⟩
  obtain ⟨hz, e, n, x, h1, h2, h3, h4, h5, hq⟩ := h
  refine zwJ2_elementData_0 (q_go hz h1 ⟨7, n, h2, by decide, by omega, h4, fun b hb => ?_, fun hb => ?_⟩)
  · rw [h5] at hb
    cases hb
    exact hq
  · rw [h5] at hb
    cases hb
def zJ2_get : zz_Sp := fun as M Q X => match as with
  | [.inr (.inr (some h_)), .inl i] => zsh M h_ = (1, 17) ∧ ∃ (e_ n_ x_ : Nat), zpt M h_ 1 = some e_ ∧ zsh M e_ = (7, n_) ∧ n_ ≤ 2147483647 ∧ (0 ≤ i ∧ i < (n_ : Int)) ∧ (i < M.2.1 h_ 2 ∧ M.2.1 h_ 2 < 2147483647) ∧ zpt M e_ i.toNat = some x_ ∧ Q (some (vr x_)) M
  | _ => False

def zpJ2_get : zz_P := [(0, zo_ild 1 1), (1, zo_ald 2 0), (2, zo_getp 5 17 0 2), (5, zo_calls 8 2 zJ22_checkIndex), (8, zo_pop 9), (9, zo_ald 10 0), (10, zo_ild 11 1), (11, zo_callvp 14 2 17 zJ2_elementData), (14, zo_aret)]
theorem ztJ2_get {C : mm_C} (G : mm_G C RJ2 cJ2_get (some (.object "java/lang/Object")) 2 (mm_rm 3 0 0)) (hnh : mm_nh C) : zz_OKs C zpJ2_get :=
  ⟨zz_of (ok_iload_n G dJ2_get_0 rfl rfl) (z_ild _ _),
   zz_of (ok_aload_n G dJ2_get_1 rfl rfl) (z_ald _ _),
   zz_of (ok_get G (nx := 5) (ci := 17) (kd := 0) (k := 2) (RJ2, TJ2, 3) rfl (by decide) rfl q158 dJ2_get_2 rfl) (z_getp _ _ _ _),
   zz_of (ok_calls G hnh (zmJ22_checkIndex _ G.hst) rfl rfl q1385 q1386 q125 q1387 (by decide +kernel) ⟨by decide, by decide⟩ dJ2_get_5 rfl) (z_calls _ _ _),
   zz_of (ok_pop G dJ2_get_8 rfl) (z_pop _),
   zz_of (ok_aload_n G dJ2_get_9 rfl rfl) (z_ald _ _),
   zz_of (ok_iload_n G dJ2_get_10 rfl rfl) (z_ild _ _),
   zz_of (ok_callv G hnh (zmJ2_elementData _ G.hst) rfl rfl (RJ2, TJ2, 3) rfl q1389 q1390 q1391 q86 q1392 (by decide +kernel) ⟨by decide, by decide⟩ dJ2_get_11 rfl) (z_callvp _ _ _ _),
   zz_of (ok_aret G (Or.inl ⟨_, rfl⟩) dJ2_get_14) (z_aret), trivial⟩

theorem zwJ2_get_0 {Q : Option zv → zz_M → Prop} {X : Nat → zz_M → Prop} {M : zz_M} {i : Int} {h_ : Nat} (h : zsh M h_ = (1, 17) ∧ (((0 ≤ i ∧ i < (M.2.1 h_ 2)) ∧ (M.2.1 h_ 2) < 2147483647 ∧ ((zsh M h_ = (1, 17) ∨ zsh M h_ = (17, 17)) ∧ (zsh M h_ = (1, 17) ∧ ∃ (e_2 n_2 x_2 : Nat), zpt M h_ 1 = some e_2 ∧ zsh M e_2 = (7, n_2) ∧ n_2 ≤ 2147483647 ∧ (0 ≤ i ∧ i < (n_2 : Int)) ∧ zpt M e_2 i.toNat = some x_2 ∧ (Q (some (vr x_2)) M)))))) : zz_J zpJ2_get (zz_ret Q X 0 0) 0 [some (vr h_), some (vi i)] [] M (0, 0) := zz_J.go [] 400 h

theorem zmJ2_get (l : Launch) (hl : l.stackTraces = false) : mm_Spec l yJ2_get (ws_ yJ2_get cJ2_get 2 (some (.object "java/lang/Object"))) (mm_rm 3 0 0) (zE zJ2_get) := by
  refine zz_Met.J hl (by decide) (fun C G hnh => ztJ2_get G hnh) ?_
  rintro as M Q X h
  unfold zJ2_get at h
  split at h
  rotate_left
  · exact h.elim
  rename_i h_ i
  refine ⟨rfl, ?_⟩
  obtain ⟨hz, e, n, x, h1, h2, h3, h4, h6, h5, hq⟩ := h
  exact zwJ2_get_0 ⟨hz, ⟨h4.1, h6.1⟩, h6.2, Or.inl hz, hz, e, n, x, h1, h2, h3, h4, h5, hq⟩
