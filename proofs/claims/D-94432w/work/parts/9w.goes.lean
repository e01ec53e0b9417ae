/-! ===== the component's calls otherwise: the walks ===== -/
set_option maxRecDepth 100000
def zX8_calls : zz_Sp := fun as M Q X => match as with
  | [.inr (.inr (some h_)), .inl k, .inl how, .inl line, .inl more] => bif Nat.beq h_ 134 && Nat.beq M.1.1 2 then (∃ (w_ : Nat → Int) (V_ : Int → Prop) (A_ : Int → Nat → Int) (K_ : Nat → Int) (u_ N_ m_ b_ : Nat) (c_ o_ : Int), (k = (u_ : Int) ∧ u_ < 4096 ∧ more = (m_ : Int) ∧ m_ ≤ 1 ∧ b_ ≤ 100) ∧ (0 ≤ how ∧ how ≤ 2) ∧ R32 line ∧ wsc M.2.1 w_ ∧ wV w_ ∧ clS M.2.1 M.2.2.1 b_ u_ c_ K_ ∧ ovR (w_ 194) (wcX w_ c_) = false ∧ (wcX w_ c_ 6 = 0 → how = 2 → 0 ≤ line ∧ line ≤ 9) ∧ (o_ = clH (wcX w_ c_) how line ∧ 0 ≤ o_ ∧ o_ ≤ 14 ∧ (wcX w_ c_ 6 = 0 → o_ ≤ 11)) ∧ V_ (whR (rlR w_ (wcX w_ c_) o_)) ∧ (∀ (g9 : Nat → Int) (m : Nat), (∀ i, i < m → V_ (g9 i)) → (∀ i j, i < m → j < m → g9 i = g9 j → i = j) → m ≤ 4000) ∧ M.2.1 134 7 = (N_ : Int) ∧ clI V_ (b_ + 1) (M.2.1 137) (M.2.1 138) (M.2.2.1 140) N_ A_ ∧ (∀ (S_ L_ : Nat → Nat → Int) (n_ : Nat), clF M.2.1 S_ → (∀ h, h ≠ 140 → L_ h = M.2.2.1 h) → S_ 134 7 = (n_ : Int) → clI V_ (b_ + 1) (S_ 137) (S_ 138) (L_ 140) n_ (fun c j => A_ c j + mnT c K_ (rlR w_ (wcX w_ c_) o_) m_ j) → Q none ((2, M.1.2), S_, L_, M.2.2.2))) else False
  | _ => False

def zpX8_calls : zz_P := [(0, zo_ald 1 0), (1, zo_ald 2 0), (2, zo_get 5 7 2 0), (5, zo_ild 6 1), (6, zo_iald 7), (7, zo_ald 8 0), (8, zo_get 11 7 2 8), (11, zo_get 14 0 2 9), (14, zo_callv 17 3 7 zX8_open), (17, zo_ald 18 0), (18, zo_get 21 7 2 8), (21, zo_get 24 0 2 9), (24, zo_ild 25 2), (25, zo_ild 26 3), (26, zo_callv 29 3 2 zX3_rally_108), (29, zo_pop 30), (30, zo_ald 31 0), (31, zo_ald 32 0), (32, zo_ald 33 0), (33, zo_get 36 7 2 8), (36, zo_get 39 0 2 9), (39, zo_callv 42 2 7 zX8_key), (42, zo_ald 43 0), (43, zo_get 46 7 2 1), (46, zo_ild 47 1), (47, zo_iald 48), (48, zo_ild 50 4), (50, zo_iadd 51), (51, zo_ald 52 0), (52, zo_get 55 7 2 4), (55, zo_ild 56 1), (56, zo_lald 57), (57, zo_callv 60 4 7 zX8_comes), (60, zo_vret)]
theorem ztX8_calls {C : mm_C} (G : mm_G C RX8 cX8_calls none 5 (mm_rm 6 0 0)) (hnh : mm_nh C) : zz_OKs C zpX8_calls :=
  ⟨zz_of (ok_aload_n G dX8_calls_0 rfl rfl) (z_ald _ _),
   zz_of (ok_aload_n G dX8_calls_1 rfl rfl) (z_ald _ _),
   zz_of (ok_get G (nx := 5) (ci := 7) (kd := 2) (k := 0) (RX8, TX8, 9) rfl (by decide) rfl q370 dX8_calls_2 rfl) (z_get _ _ _ _),
   zz_of (ok_iload_n G dX8_calls_5 rfl rfl) (z_ild _ _),
   zz_of (ok_iald G dX8_calls_6 rfl) (z_iald _),
   zz_of (ok_aload_n G dX8_calls_7 rfl rfl) (z_ald _ _),
   zz_of (ok_get G (nx := 11) (ci := 7) (kd := 2) (k := 8) (RX8, TX8, 9) rfl (by decide) rfl q378 dX8_calls_8 rfl) (z_get _ _ _ _),
   zz_of (ok_getN G (nx := 14) (ci := 0) (kd := 2) (k := 9) (RX1, TX1, 19) rfl (by decide) rfl q419 dX8_calls_11 rfl) (z_get _ _ _ _),
   zz_of (ok_callv G hnh (zmX8_open _ G.hst) rfl rfl (RX8, TX8, 9) rfl q1762 q1764 qs36 q92 q1765 (by decide +kernel) ⟨by decide, by decide⟩ dX8_calls_14 rfl) (z_callv _ _ _ _),
   zz_of (ok_aload_n G dX8_calls_17 rfl rfl) (z_ald _ _),
   zz_of (ok_get G (nx := 21) (ci := 7) (kd := 2) (k := 8) (RX8, TX8, 9) rfl (by decide) rfl q378 dX8_calls_18 rfl) (z_get _ _ _ _),
   zz_of (ok_getN G (nx := 24) (ci := 0) (kd := 2) (k := 9) (RX1, TX1, 19) rfl (by decide) rfl q419 dX8_calls_21 rfl) (z_get _ _ _ _),
   zz_of (ok_iload_n G dX8_calls_24 rfl rfl) (z_ild _ _),
   zz_of (ok_iload_n G dX8_calls_25 rfl rfl) (z_ild _ _),
   zz_of (ok_callv G hnh (zmX3_rally_108 _ G.hst) rfl rfl (RX3, TX3, 7) rfl q1772 q1542 q1543 q87 q1544 (by decide +kernel) ⟨by decide, by decide⟩ dX8_calls_26 rfl) (z_callv _ _ _ _),
   zz_of (ok_pop G dX8_calls_29 rfl) (z_pop _),
   zz_of (ok_aload_n G dX8_calls_30 rfl rfl) (z_ald _ _),
   zz_of (ok_aload_n G dX8_calls_31 rfl rfl) (z_ald _ _),
   zz_of (ok_aload_n G dX8_calls_32 rfl rfl) (z_ald _ _),
   zz_of (ok_get G (nx := 36) (ci := 7) (kd := 2) (k := 8) (RX8, TX8, 9) rfl (by decide) rfl q378 dX8_calls_33 rfl) (z_get _ _ _ _),
   zz_of (ok_getN G (nx := 39) (ci := 0) (kd := 2) (k := 9) (RX1, TX1, 19) rfl (by decide) rfl q419 dX8_calls_36 rfl) (z_get _ _ _ _),
   zz_of (ok_callv G hnh (zmX8_key _ G.hst) rfl rfl (RX8, TX8, 9) rfl q1753 q1755 qs35 q92 q1756 (by decide +kernel) ⟨by decide, by decide⟩ dX8_calls_39 rfl) (z_callv _ _ _ _),
   zz_of (ok_aload_n G dX8_calls_42 rfl rfl) (z_ald _ _),
   zz_of (ok_get G (nx := 46) (ci := 7) (kd := 2) (k := 1) (RX8, TX8, 9) rfl (by decide) rfl q371 dX8_calls_43 rfl) (z_get _ _ _ _),
   zz_of (ok_iload_n G dX8_calls_46 rfl rfl) (z_ild _ _),
   zz_of (ok_iald G dX8_calls_47 rfl) (z_iald _),
   zz_of (ok_iload G dX8_calls_48 rfl) (z_ild _ _),
   zz_of (ok_iadd G dX8_calls_50 rfl) (z_iadd _),
   zz_of (ok_aload_n G dX8_calls_51 rfl rfl) (z_ald _ _),
   zz_of (ok_get G (nx := 55) (ci := 7) (kd := 2) (k := 4) (RX8, TX8, 9) rfl (by decide) rfl q374 dX8_calls_52 rfl) (z_get _ _ _ _),
   zz_of (ok_iload_n G dX8_calls_55 rfl rfl) (z_ild _ _),
   zz_of (ok_lald G dX8_calls_56 rfl) (z_lald _),
   zz_of (ok_callv G hnh (zmX8_comes _ G.hst) rfl rfl (RX8, TX8, 9) rfl q1773 q1775 qs38 q92 q1776 (by decide +kernel) ⟨by decide, by decide⟩ dX8_calls_57 rfl) (z_callv _ _ _ _),
   zz_of (ok_vret G dX8_calls_60) (z_vret), trivial⟩

theorem zwX8_calls_0 {Q : Option zv → zz_M → Prop} {X : Nat → zz_M → Prop} {f : Nat → Nat × Nat} {S L : Nat → Nat → Int} {P : Nat → Nat → Option Nat} {k : Int} {how : Int} {line : Int} {more : Int} (h : (0 ≤ k ∧ k < 4096) ∧ ((∃ c_1 : Int, (S 135 k.toNat) = kC c_1 ∧ cV c_1 ∧ (((0 ≤ how ∧ how ≤ 2) ∧ R32 line ∧ (cx (cxW S 108 (wcX (fun _ => 0) c_1)) 108 6 = 0 → how = 2 → 0 ≤ line ∧ line ≤ 9) ∧ scb (cx (cxW S 108 (wcX (fun _ => 0) c_1)) 108) ∧ scV (cx (cxW S 108 (wcX (fun _ => 0) c_1)) 108) ∧ ∃ w_2 : Nat → Int, wsc (cxW S 108 (wcX (fun _ => 0) c_1)) w_2 ∧ wV w_2 ∧ ((scV (cx (cxW (cxW S 108 (wcX (fun _ => 0) c_1)) 108 (crR w_2 (cx (cxW S 108 (wcX (fun _ => 0) c_1)) 108) how line)) 108) ∧ ((0 ≤ k ∧ k < 4096) ∧ ((0 ≤ k ∧ k < 4096) ∧ ((∃ N_4 : Nat, (cxW (cxW S 108 (wcX (fun _ => 0) c_1)) 108 (crR w_2 (cx (cxW S 108 (wcX (fun _ => 0) c_1)) 108) how line)) 134 7 = (N_4 : Int) ∧ N_4 ≤ 4000 ∧ R32 ((nuR (cx (cxW (cxW S 108 (wcX (fun _ => 0) c_1)) 108 (crR w_2 (cx (cxW S 108 (wcX (fun _ => 0) c_1)) 108) how line)) 108) * 16 + cx (cxW (cxW S 108 (wcX (fun _ => 0) c_1)) 108 (crR w_2 (cx (cxW S 108 (wcX (fun _ => 0) c_1)) 108) how line)) 108 7) * 16 + cx (cxW (cxW S 108 (wcX (fun _ => 0) c_1)) 108 (crR w_2 (cx (cxW S 108 (wcX (fun _ => 0) c_1)) 108) how line)) 108 8) ∧ (0 ≤ (((cxW (cxW S 108 (wcX (fun _ => 0) c_1)) 108 (crR w_2 (cx (cxW S 108 (wcX (fun _ => 0) c_1)) 108) how line)) 136 k.toNat) + more) ∧ (((cxW (cxW S 108 (wcX (fun _ => 0) c_1)) 108 (crR w_2 (cx (cxW S 108 (wcX (fun _ => 0) c_1)) 108) how line)) 136 k.toNat) + more) ≤ 1000) ∧ (∀ s_4, s_4 < N_4 → R32 ((cxW (cxW S 108 (wcX (fun _ => 0) c_1)) 108 (crR w_2 (cx (cxW S 108 (wcX (fun _ => 0) c_1)) 108) how line)) 137 s_4) ∧ R32 ((cxW (cxW S 108 (wcX (fun _ => 0) c_1)) 108 (crR w_2 (cx (cxW S 108 (wcX (fun _ => 0) c_1)) 108) how line)) 138 s_4)) ∧ (∀ k_4, k_4 < N_4 → (cxW (cxW S 108 (wcX (fun _ => 0) c_1)) 108 (crR w_2 (cx (cxW S 108 (wcX (fun _ => 0) c_1)) 108) how line)) 137 k_4 = ((nuR (cx (cxW (cxW S 108 (wcX (fun _ => 0) c_1)) 108 (crR w_2 (cx (cxW S 108 (wcX (fun _ => 0) c_1)) 108) how line)) 108) * 16 + cx (cxW (cxW S 108 (wcX (fun _ => 0) c_1)) 108 (crR w_2 (cx (cxW S 108 (wcX (fun _ => 0) c_1)) 108) how line)) 108 7) * 16 + cx (cxW (cxW S 108 (wcX (fun _ => 0) c_1)) 108 (crR w_2 (cx (cxW S 108 (wcX (fun _ => 0) c_1)) 108) how line)) 108 8) → ((cxW (cxW S 108 (wcX (fun _ => 0) c_1)) 108 (crR w_2 (cx (cxW S 108 (wcX (fun _ => 0) c_1)) 108) how line)) 138 k_4 < (((cxW (cxW S 108 (wcX (fun _ => 0) c_1)) 108 (crR w_2 (cx (cxW S 108 (wcX (fun _ => 0) c_1)) 108) how line)) 136 k.toNat) + more) → (Q none ((2, f), cxW (cxW S 108 (wcX (fun _ => 0) c_1)) 108 (crR w_2 (cx (cxW S 108 (wcX (fun _ => 0) c_1)) 108) how line), L, P))) ∧ ((((cxW (cxW S 108 (wcX (fun _ => 0) c_1)) 108 (crR w_2 (cx (cxW S 108 (wcX (fun _ => 0) c_1)) 108) how line)) 136 k.toNat) + more) < (cxW (cxW S 108 (wcX (fun _ => 0) c_1)) 108 (crR w_2 (cx (cxW S 108 (wcX (fun _ => 0) c_1)) 108) how line)) 138 k_4 → (Q none ((2, f), mm_up (cxW (cxW S 108 (wcX (fun _ => 0) c_1)) 108 (crR w_2 (cx (cxW S 108 (wcX (fun _ => 0) c_1)) 108) how line)) 138 k_4 (((cxW (cxW S 108 (wcX (fun _ => 0) c_1)) 108 (crR w_2 (cx (cxW S 108 (wcX (fun _ => 0) c_1)) 108) how line)) 136 k.toNat) + more), mm_up L 140 k_4 (L 139 k.toNat), P))) ∧ ((((cxW (cxW S 108 (wcX (fun _ => 0) c_1)) 108 (crR w_2 (cx (cxW S 108 (wcX (fun _ => 0) c_1)) 108) how line)) 136 k.toNat) + more) = (cxW (cxW S 108 (wcX (fun _ => 0) c_1)) 108 (crR w_2 (cx (cxW S 108 (wcX (fun _ => 0) c_1)) 108) how line)) 138 k_4 → (Q none ((2, f), mm_up (cxW (cxW S 108 (wcX (fun _ => 0) c_1)) 108 (crR w_2 (cx (cxW S 108 (wcX (fun _ => 0) c_1)) 108) how line)) 138 k_4 (((cxW (cxW S 108 (wcX (fun _ => 0) c_1)) 108 (crR w_2 (cx (cxW S 108 (wcX (fun _ => 0) c_1)) 108) how line)) 136 k.toNat) + more), mm_up L 140 k_4 (L 140 k_4 + (L 139 k.toNat)), P)))) ∧ ((∀ s_4, s_4 < N_4 → (cxW (cxW S 108 (wcX (fun _ => 0) c_1)) 108 (crR w_2 (cx (cxW S 108 (wcX (fun _ => 0) c_1)) 108) how line)) 137 s_4 ≠ ((nuR (cx (cxW (cxW S 108 (wcX (fun _ => 0) c_1)) 108 (crR w_2 (cx (cxW S 108 (wcX (fun _ => 0) c_1)) 108) how line)) 108) * 16 + cx (cxW (cxW S 108 (wcX (fun _ => 0) c_1)) 108 (crR w_2 (cx (cxW S 108 (wcX (fun _ => 0) c_1)) 108) how line)) 108 7) * 16 + cx (cxW (cxW S 108 (wcX (fun _ => 0) c_1)) 108 (crR w_2 (cx (cxW S 108 (wcX (fun _ => 0) c_1)) 108) how line)) 108 8)) → N_4 < 4000 ∧ (Q none ((2, f), mm_up (mm_up (mm_up (cxW (cxW S 108 (wcX (fun _ => 0) c_1)) 108 (crR w_2 (cx (cxW S 108 (wcX (fun _ => 0) c_1)) 108) how line)) 134 7 ((N_4 : Int) + 1)) 137 N_4 ((nuR (cx (cxW (cxW S 108 (wcX (fun _ => 0) c_1)) 108 (crR w_2 (cx (cxW S 108 (wcX (fun _ => 0) c_1)) 108) how line)) 108) * 16 + cx (cxW (cxW S 108 (wcX (fun _ => 0) c_1)) 108 (crR w_2 (cx (cxW S 108 (wcX (fun _ => 0) c_1)) 108) how line)) 108 7) * 16 + cx (cxW (cxW S 108 (wcX (fun _ => 0) c_1)) 108 (crR w_2 (cx (cxW S 108 (wcX (fun _ => 0) c_1)) 108) how line)) 108 8)) 138 N_4 (((cxW (cxW S 108 (wcX (fun _ => 0) c_1)) 108 (crR w_2 (cx (cxW S 108 (wcX (fun _ => 0) c_1)) 108) how line)) 136 k.toNat) + more), mm_up L 140 N_4 (L 139 k.toNat), P)))))))))))))) : zz_J zpX8_calls (zz_ret Q X 0 0) 0 [some (vr 134), some (vi k), some (vi how), some (vi line), some (vi more)] [] ((2, f), S, L, P) (0, 0) := zz_J.go [] 400 h

theorem zmX8_calls (l : Launch) (hl : l.stackTraces = false) : mm_Spec l yX8_calls (ws_ yX8_calls cX8_calls 5 none) (mm_rm 6 0 0) (zE zX8_calls) := by
  refine zz_Met.J hl (by decide) (fun C G hnh => ztX8_calls G hnh) ?_
  rintro as ⟨⟨t_, f⟩, S, L, P⟩ Q X h
  unfold zX8_calls at h
  split at h
  rotate_left
  · exact h.elim
  rename_i h_ k how line more
  obtain ⟨e1_, e2_, h⟩ := mm_and2 h (fun q => q)
  cases mm_beq e1_
  cases mm_beq e2_
  try dsimp only at h
  refine ⟨rfl, ?_⟩
  obtain ⟨w, V, A, K, u, N, m, b, c, o, ⟨rfl, hu, rfl, hm, hb⟩, hh, hl, hws, hwV, ⟨k1, hcV, g, k2, k3, k4⟩, hov, h69, ⟨ho, o0, o14, o11⟩, hV, hB, hN, hI, hq⟩ := h
  obtain ⟨hxv, hxb⟩ := wcX_V (w := w) hcV
  have hx9 : ∀ j, 9 ≤ j → wcX w c j = 0 := (hxv.xG hxb (by decide)).2
  have hxs : scb (wcX w c) := (hxv.xG hxb (by decide)).1
  have hb5 := xB5 hwV hxb hov
  refine zwX8_calls_0 ⟨by omega, c, by rw [Int.toNat_natCast]; exact k1, hcV, ?_⟩
  rw [wcX_w (fun _ => 0) w c, Int.toNat_natCast]
  generalize wcX w c = x at hxv hxb hx9 hxs hb5 h69 ho o11 hV hq ⊢
  rw [cx_cxW S 108 x hx9]
  have hE := crR_xE (w := w) (how := how) (line := line) hxv hh.1 hh.2 h69
  rw [← ho] at hE
  have hRV := rlR_V hwV hxv o0 o14 o11
  have hRB := rlR_B (w := w) hxv hb5 o0 o14
  have hyV := scV_xE hRV hE
  have hy9 := crR_9 (w := w) (how := how) (line := line) hxv.2.1 hx9
  refine ⟨hh, hl, h69, hxs, hxv, w, wsc_cxW hws (Or.inr (Or.inl rfl)), hwV, ?_⟩
  rw [cxW_cxW, cx_cxW S 108 _ hy9]
  have hc := whR_V hRV hRB
  have hkey : (nuR (crR w x how line) * 16 + crR w x how line 7) * 16 + crR w x how line 8 = kC (whR (rlR w x o)) := by
    obtain ⟨-, -, b7, b8, -⟩ := hRB
    rw [kC_wh (by omega) (by omega), nuR_xE hRV hE, hE.2.2.2.2.2.2.2.1, hE.2.2.2.2.2.2.2.2]
  rw [hkey]
  obtain ⟨T, hT⟩ : ∃ T, cxW S 108 (crR w x how line) = T := ⟨_, rfl⟩
  have To : ∀ h, h < 108 ∨ 111 < h → T h = S h := fun h hh => by rw [← hT]; exact cxW_o S 108 _ (by omega) (by omega) (by omega) (by omega)
  have hF : clF S T := fun h k _ _ h3 _ => by rw [To h (by omega)]
  rw [hT, To 134 (by omega), To 136 (by omega), To 137 (by omega), To 138 (by omega), k2]
  generalize rlR w x o = y at hV hq hc hkey ⊢
  have hkr := kC_r hc.1.1 hc.1.2
  have hI1 := hI.1
  refine ⟨hyV, by omega, by omega, N, hN, hI1, by omega, by omega, fun s hs => by have := hI.r hs; omega, fun i hi e => ⟨fun c1 => ?_, fun c1 => ?_, fun c1 => ?_⟩, fun hn => ⟨hI.room hV hB hn, ?_⟩⟩
  · refine hq T L N hF (fun _ _ => rfl) ((congrFun (To 134 (by omega)) 7).trans hN) ?_
    rw [To 137 (by omega), To 138 (by omega)]
    exact hI.set (Nat.le_refl _) hi hc e k4 (by omega) (fun _ _ => ⟨rfl, rfl⟩) (fun _ => ⟨rfl, rfl⟩) (fun z => absurd z (by omega)) (fun z => absurd z (by omega))
  · have e7 : mm_up T 138 i ((g : Int) + (m : Int)) 137 = S 137 := by
      funext j
      rw [up_eq, if_neg (by omega), To 137 (by omega)]
    refine hq (mm_up T 138 i ((g : Int) + (m : Int))) (mm_up L 140 i (L 139 u)) N (fun h j h1 h2 h3 h4 => by rw [up_eq, if_neg (fun z => h2 z.1)]; exact hF h j h1 h2 h3 h4) (fun h hh => by funext j; rw [up_eq, if_neg (fun z => hh z.1)]) (by rw [up_eq, if_neg (by omega), To 134 (by omega)]; exact hN) ?_
    rw [e7]
    refine hI.set (Nat.le_refl _) hi hc e k4 (by omega) (fun j hj => ⟨?_, ?_⟩) (fun z => absurd z (by omega)) (fun _ => ⟨?_, ?_⟩) (fun z => absurd z (by omega))
    · rw [up_eq, if_neg (fun z => hj z.2), To 138 (by omega)]
    · rw [up_eq, if_neg (fun z => hj z.2)]
    · rw [up_eq, if_pos ⟨rfl, rfl⟩]; omega
    · rw [up_eq, if_pos ⟨rfl, rfl⟩]
  · have e7 : mm_up T 138 i ((g : Int) + (m : Int)) 137 = S 137 := by
      funext j
      rw [up_eq, if_neg (by omega), To 137 (by omega)]
    refine hq (mm_up T 138 i ((g : Int) + (m : Int))) (mm_up L 140 i (L 140 i + L 139 u)) N (fun h j h1 h2 h3 h4 => by rw [up_eq, if_neg (fun z => h2 z.1)]; exact hF h j h1 h2 h3 h4) (fun h hh => by funext j; rw [up_eq, if_neg (fun z => hh z.1)]) (by rw [up_eq, if_neg (by omega), To 134 (by omega)]; exact hN) ?_
    rw [e7]
    refine hI.set (Nat.le_refl _) hi hc e k4 (by omega) (fun j hj => ⟨?_, ?_⟩) (fun z => absurd z (by omega)) (fun z => absurd z (by omega)) (fun _ => ⟨?_, ?_⟩)
    · rw [up_eq, if_neg (fun z => hj z.2), To 138 (by omega)]
    · rw [up_eq, if_neg (fun z => hj z.2)]
    · rw [up_eq, if_pos ⟨rfl, rfl⟩]; omega
    · rw [up_eq, if_pos ⟨rfl, rfl⟩]
  · refine hq _ (mm_up L 140 N (L 139 u)) (N + 1) (fun h j h1 h2 h3 h4 => ?_) (fun h hh => by funext j; rw [up_eq, if_neg (fun z => hh z.1)]) ?_ (hI.new (Nat.le_refl _) (hI.room hV hB hn) hV hc hn k4 (by omega) (fun j hj => ⟨?_, ?_, ?_⟩) ?_ ?_ ?_)
    · rw [up_eq, if_neg (fun z => h2 z.1), up_eq, if_neg (fun z => h1 z.1), up_eq, if_neg h4]
      exact hF h j h1 h2 h3 h4
    · rw [up_eq, if_neg (by omega), up_eq, if_neg (by omega), up_eq, if_pos ⟨rfl, rfl⟩]
      omega
    · rw [up_eq, if_neg (by omega), up_eq, if_neg (fun z => hj z.2), up_eq, if_neg (by omega), To 137 (by omega)]
    · rw [up_eq, if_neg (fun z => hj z.2), up_eq, if_neg (by omega), up_eq, if_neg (by omega), To 138 (by omega)]
    · rw [up_eq, if_neg (fun z => hj z.2)]
    · rw [up_eq, if_neg (by omega), up_eq, if_pos ⟨rfl, rfl⟩]
    · rw [up_eq, if_pos ⟨rfl, rfl⟩]; omega
    · rw [up_eq, if_pos ⟨rfl, rfl⟩]
def zX8_goes : zz_Sp := fun as M Q X => match as with
  | [.inr (.inr (some h_)), .inl how, .inl line] => bif Nat.beq h_ 134 && Nat.beq M.1.1 2 then (∃ (w_ t_ x_ : Nat → Int) (k_ N_ : Nat), wsc M.2.1 w_ ∧ wV w_ ∧ (lgO t_ k_ = true ∧ (0 ≤ t_ (2 * k_ + 1) ∧ t_ (2 * k_ + 1) ≤ 255)) ∧ how = hwD t_ k_ ∧ line = t_ (2 * k_ + 1) - 48 ∧ k_ ≤ 30 ∧ mnB w_ t_ x_ (k_ + 1) ∧ M.2.1 134 6 = (N_ : Int) ∧ clI (mnV w_ t_ x_ k_) k_ (M.2.1 135) (M.2.1 136) (M.2.2.1 139) N_ (mnK w_ t_ x_ k_) ∧ (∀ (S_ L_ : Nat → Nat → Int) (n_ : Nat), (∀ h j, ¬ (108 ≤ h ∧ h ≤ 111) → ¬ (134 ≤ h ∧ h ≤ 140) → S_ h j = M.2.1 h j) → S_ 134 6 = (n_ : Int) → clI (mnV w_ t_ x_ (k_ + 1)) (k_ + 1) (S_ 135) (S_ 136) (L_ 139) n_ (mnK w_ t_ x_ (k_ + 1)) → Q none ((2, M.1.2), S_, L_, M.2.2.2))) else False
  | _ => False

def zpX8_goes : zz_P := [(0, zo_ald 1 0), (1, zo_c 2 (vi 0)), (2, zo_puti 5 7 7), (5, zo_c 6 (vi 0)), (6, zo_ist 7 3), (7, zo_ild 8 3), (8, zo_ald 9 0), (9, zo_get 12 7 0 6), (12, zo_cge false false 15 152), (15, zo_ald 16 0), (16, zo_ald 17 0), (17, zo_get 20 7 2 0), (20, zo_ild 21 3), (21, zo_iald 22), (22, zo_ald 23 0), (23, zo_get 26 7 2 8), (26, zo_get 29 0 2 9), (29, zo_callv 32 3 7 zX8_open), (32, zo_ald 33 0), (33, zo_get 36 7 2 8), (36, zo_get 39 0 2 9), (39, zo_callv 42 1 2 zX3_isOver_108), (42, zo_zifeq 45 48), (45, zo_goto 146), (48, zo_ald 49 0), (49, zo_get 52 7 2 8), (52, zo_get 55 0 2 9), (55, zo_get 58 2 0 5), (58, zo_ifeq false 61 70), (61, zo_ild 62 1), (62, zo_c 63 (vi 2)), (63, zo_cne false true 66 70), (66, zo_c 67 (vi 1)), (67, zo_goto 71), (70, zo_c 71 (vi 0)), (71, zo_ist 73 4), (73, zo_ald 74 0), (74, zo_get 77 7 2 8), (77, zo_get 80 0 2 9), (80, zo_get 83 2 2 2), (83, zo_c 84 (vi 0)), (84, zo_ialc 85 0), (85, zo_ist 87 5), (87, zo_ild 89 4), (89, zo_zifne 92 103), (92, zo_ald 93 0), (93, zo_ild 94 3), (94, zo_ild 95 1), (95, zo_ild 96 2), (96, zo_c 97 (vi 0)), (97, zo_callv 100 5 7 zX8_calls), (100, zo_goto 146), (103, zo_c 104 (vi (-1))), (104, zo_ist 106 6), (106, zo_ild 108 6), (108, zo_c 109 (vi 2)), (109, zo_cge false true 112 146), (112, zo_ald 113 0), (113, zo_ild 114 3), (114, zo_ild 115 1), (115, zo_ild 117 5), (117, zo_ild 119 6), (119, zo_iadd 120), (120, zo_ild 121 2), (121, zo_ild 123 5), (123, zo_isub 124), (124, zo_calls 127 1 zJ16_signum), (127, zo_ild 129 6), (129, zo_cne false false 132 136), (132, zo_c 133 (vi 0)), (133, zo_goto 137), (136, zo_c 137 (vi 1)), (137, zo_callv 140 5 7 zX8_calls), (140, zo_inc 143 6 1), (143, zo_goto 106), (146, zo_inc 149 3 1), (149, zo_goto 7), (152, zo_ald 153 0), (153, zo_ald 154 0), (154, zo_get 157 7 0 7), (157, zo_puti 160 7 6), (160, zo_ald 161 0), (161, zo_get 164 7 2 2), (164, zo_c 165 (vi 0)), (165, zo_ald 166 0), (166, zo_get 169 7 2 0), (169, zo_c 170 (vi 0)), (170, zo_ald 171 0), (171, zo_get 174 7 0 6), (174, zo_acpi 177 2), (177, zo_ald 178 0), (178, zo_get 181 7 2 3), (181, zo_c 182 (vi 0)), (182, zo_ald 183 0), (183, zo_get 186 7 2 1), (186, zo_c 187 (vi 0)), (187, zo_ald 188 0), (188, zo_get 191 7 0 6), (191, zo_acpi 194 2), (194, zo_ald 195 0), (195, zo_get 198 7 2 5), (198, zo_c 199 (vi 0)), (199, zo_ald 200 0), (200, zo_get 203 7 2 4), (203, zo_c 204 (vi 0)), (204, zo_ald 205 0), (205, zo_get 208 7 0 6), (208, zo_acpj 211), (211, zo_vret)]
theorem ztX8_goes {C : mm_C} (G : mm_G C RX8 cX8_goes none 7 (mm_rm 7 0 0)) (hnh : mm_nh C) : zz_OKs C zpX8_goes :=
  ⟨zz_of (ok_aload_n G dX8_goes_0 rfl rfl) (z_ald _ _),
   zz_of (ok_iconst G (v := 0) dX8_goes_1 (by decide) rfl) (z_cn 2 0),
   zz_of (ok_puti G (nx := 5) (idx := 48) (ci := 7) (k := 7) (RX8, TX8, 9) rfl (by decide) rfl (mm_pw G (ci := 7) (k := 7) (RX8, TX8, 9) rfl (by decide) rfl q377 dX8_goes_2) rfl) (z_puti _ _ _),
   zz_of (ok_iconst G (v := 0) dX8_goes_5 (by decide) rfl) (z_cn 6 0),
   zz_of (ok_istore_n G dX8_goes_6 rfl rfl (by decide)) (z_ist _ _),
   zz_of (ok_iload_n G dX8_goes_7 rfl rfl) (z_ild _ _),
   zz_of (ok_aload_n G dX8_goes_8 rfl rfl) (z_ald _ _),
   zz_of (ok_get G (nx := 12) (ci := 7) (kd := 0) (k := 6) (RX8, TX8, 9) rfl (by decide) rfl q376 dX8_goes_9 rfl) (z_get _ _ _ _),
   zz_of (ok_cge G dX8_goes_12 rfl rfl) (z_cge _ _ _ _),
   zz_of (ok_aload_n G dX8_goes_15 rfl rfl) (z_ald _ _),
   zz_of (ok_aload_n G dX8_goes_16 rfl rfl) (z_ald _ _),
   zz_of (ok_get G (nx := 20) (ci := 7) (kd := 2) (k := 0) (RX8, TX8, 9) rfl (by decide) rfl q370 dX8_goes_17 rfl) (z_get _ _ _ _),
   zz_of (ok_iload_n G dX8_goes_20 rfl rfl) (z_ild _ _),
   zz_of (ok_iald G dX8_goes_21 rfl) (z_iald _),
   zz_of (ok_aload_n G dX8_goes_22 rfl rfl) (z_ald _ _),
   zz_of (ok_get G (nx := 26) (ci := 7) (kd := 2) (k := 8) (RX8, TX8, 9) rfl (by decide) rfl q378 dX8_goes_23 rfl) (z_get _ _ _ _),
   zz_of (ok_getN G (nx := 29) (ci := 0) (kd := 2) (k := 9) (RX1, TX1, 19) rfl (by decide) rfl q419 dX8_goes_26 rfl) (z_get _ _ _ _),
   zz_of (ok_callv G hnh (zmX8_open _ G.hst) rfl rfl (RX8, TX8, 9) rfl q1762 q1764 qs36 q92 q1765 (by decide +kernel) ⟨by decide, by decide⟩ dX8_goes_29 rfl) (z_callv _ _ _ _),
   zz_of (ok_aload_n G dX8_goes_32 rfl rfl) (z_ald _ _),
   zz_of (ok_get G (nx := 36) (ci := 7) (kd := 2) (k := 8) (RX8, TX8, 9) rfl (by decide) rfl q378 dX8_goes_33 rfl) (z_get _ _ _ _),
   zz_of (ok_getN G (nx := 39) (ci := 0) (kd := 2) (k := 9) (RX1, TX1, 19) rfl (by decide) rfl q419 dX8_goes_36 rfl) (z_get _ _ _ _),
   zz_of (ok_callv G hnh (zmX3_isOver_108 _ G.hst) rfl rfl (RX3, TX3, 7) rfl q1767 q1523 q1524 q87 q1525 (by decide +kernel) ⟨by decide, by decide⟩ dX8_goes_39 rfl) (z_callv _ _ _ _),
   zz_of (ok_ifeq G dX8_goes_42 rfl rfl) (z_zifeq _ _),
   zz_of (ok_goto G dX8_goes_45 rfl) (z_goto _),
   zz_of (ok_aload_n G dX8_goes_48 rfl rfl) (z_ald _ _),
   zz_of (ok_get G (nx := 52) (ci := 7) (kd := 2) (k := 8) (RX8, TX8, 9) rfl (by decide) rfl q378 dX8_goes_49 rfl) (z_get _ _ _ _),
   zz_of (ok_getN G (nx := 55) (ci := 0) (kd := 2) (k := 9) (RX1, TX1, 19) rfl (by decide) rfl q419 dX8_goes_52 rfl) (z_get _ _ _ _),
   zz_of (ok_getN G (nx := 58) (ci := 2) (kd := 0) (k := 5) (RX3, TX3, 7) rfl (by decide) rfl q196 dX8_goes_55 rfl) (z_get _ _ _ _),
   zz_of (ok_ifeq G dX8_goes_58 rfl rfl) (z_ifeq _ _ _),
   zz_of (ok_iload_n G dX8_goes_61 rfl rfl) (z_ild _ _),
   zz_of (ok_iconst G (v := 2) dX8_goes_62 (by decide) rfl) (z_cn 63 2),
   zz_of (ok_cne G dX8_goes_63 rfl rfl) (z_cne _ _ _ _),
   zz_of (ok_iconst G (v := 1) dX8_goes_66 (by decide) rfl) (z_cn 67 1),
   zz_of (ok_goto G dX8_goes_67 rfl) (z_goto _),
   zz_of (ok_iconst G (v := 0) dX8_goes_70 (by decide) rfl) (z_cn 71 0),
   zz_of (ok_istore G dX8_goes_71 rfl (by decide)) (z_ist _ _),
   zz_of (ok_aload_n G dX8_goes_73 rfl rfl) (z_ald _ _),
   zz_of (ok_get G (nx := 77) (ci := 7) (kd := 2) (k := 8) (RX8, TX8, 9) rfl (by decide) rfl q378 dX8_goes_74 rfl) (z_get _ _ _ _),
   zz_of (ok_getN G (nx := 80) (ci := 0) (kd := 2) (k := 9) (RX1, TX1, 19) rfl (by decide) rfl q419 dX8_goes_77 rfl) (z_get _ _ _ _),
   zz_of (ok_getN G (nx := 83) (ci := 2) (kd := 2) (k := 2) (RX3, TX3, 7) rfl (by decide) rfl q186 dX8_goes_80 rfl) (z_get _ _ _ _),
   zz_of (ok_iconst G (v := 0) dX8_goes_83 (by decide) rfl) (z_cn 84 0),
   zz_of (ok_iald G dX8_goes_84 rfl) (z_ialc _ _),
   zz_of (ok_istore G dX8_goes_85 rfl (by decide)) (z_ist _ _),
   zz_of (ok_iload G dX8_goes_87 rfl) (z_ild _ _),
   zz_of (ok_ifne G dX8_goes_89 rfl rfl) (z_zifne _ _),
   zz_of (ok_aload_n G dX8_goes_92 rfl rfl) (z_ald _ _),
   zz_of (ok_iload_n G dX8_goes_93 rfl rfl) (z_ild _ _),
   zz_of (ok_iload_n G dX8_goes_94 rfl rfl) (z_ild _ _),
   zz_of (ok_iload_n G dX8_goes_95 rfl rfl) (z_ild _ _),
   zz_of (ok_iconst G (v := 0) dX8_goes_96 (by decide) rfl) (z_cn 97 0),
   zz_of (ok_callv G hnh (zmX8_calls _ G.hst) rfl rfl (RX8, TX8, 9) rfl q1768 q1770 qs37 q92 q1771 (by decide +kernel) ⟨by decide, by decide⟩ dX8_goes_97 rfl) (z_callv _ _ _ _),
   zz_of (ok_goto G dX8_goes_100 rfl) (z_goto _),
   zz_of (ok_iconst G (v := (zI (-1))) dX8_goes_103 (by decide) rfl) (z_cz 104 (-1)),
   zz_of (ok_istore G dX8_goes_104 rfl (by decide)) (z_ist _ _),
   zz_of (ok_iload G dX8_goes_106 rfl) (z_ild _ _),
   zz_of (ok_iconst G (v := 2) dX8_goes_108 (by decide) rfl) (z_cn 109 2),
   zz_of (ok_cge G dX8_goes_109 rfl rfl) (z_cge _ _ _ _),
   zz_of (ok_aload_n G dX8_goes_112 rfl rfl) (z_ald _ _),
   zz_of (ok_iload_n G dX8_goes_113 rfl rfl) (z_ild _ _),
   zz_of (ok_iload_n G dX8_goes_114 rfl rfl) (z_ild _ _),
   zz_of (ok_iload G dX8_goes_115 rfl) (z_ild _ _),
   zz_of (ok_iload G dX8_goes_117 rfl) (z_ild _ _),
   zz_of (ok_iadd G dX8_goes_119 rfl) (z_iadd _),
   zz_of (ok_iload_n G dX8_goes_120 rfl rfl) (z_ild _ _),
   zz_of (ok_iload G dX8_goes_121 rfl) (z_ild _ _),
   zz_of (ok_isub G dX8_goes_123 rfl) (z_isub _),
   zz_of (ok_calls G hnh (zmJ16_signum _ G.hst) rfl rfl q1777 q1778 q109 q1779 (by decide +kernel) ⟨by decide, by decide⟩ dX8_goes_124 rfl) (z_calls _ _ _),
   zz_of (ok_iload G dX8_goes_127 rfl) (z_ild _ _),
   zz_of (ok_cne G dX8_goes_129 rfl rfl) (z_cne _ _ _ _),
   zz_of (ok_iconst G (v := 0) dX8_goes_132 (by decide) rfl) (z_cn 133 0),
   zz_of (ok_goto G dX8_goes_133 rfl) (z_goto _),
   zz_of (ok_iconst G (v := 1) dX8_goes_136 (by decide) rfl) (z_cn 137 1),
   zz_of (ok_callv G hnh (zmX8_calls _ G.hst) rfl rfl (RX8, TX8, 9) rfl q1768 q1770 qs37 q92 q1771 (by decide +kernel) ⟨by decide, by decide⟩ dX8_goes_137 rfl) (z_callv _ _ _ _),
   zz_of (ok_iinc G (v := 1) dX8_goes_140 (by decide) rfl (by decide)) (z_incn 143 6 1),
   zz_of (ok_goto G dX8_goes_143 rfl) (z_goto _),
   zz_of (ok_iinc G (v := 1) dX8_goes_146 (by decide) rfl (by decide)) (z_incn 149 3 1),
   zz_of (ok_goto G dX8_goes_149 rfl) (z_goto _),
   zz_of (ok_aload_n G dX8_goes_152 rfl rfl) (z_ald _ _),
   zz_of (ok_aload_n G dX8_goes_153 rfl rfl) (z_ald _ _),
   zz_of (ok_get G (nx := 157) (ci := 7) (kd := 0) (k := 7) (RX8, TX8, 9) rfl (by decide) rfl q377 dX8_goes_154 rfl) (z_get _ _ _ _),
   zz_of (ok_puti G (nx := 160) (idx := 52) (ci := 7) (k := 6) (RX8, TX8, 9) rfl (by decide) rfl (mm_pw G (ci := 7) (k := 6) (RX8, TX8, 9) rfl (by decide) rfl q376 dX8_goes_157) rfl) (z_puti _ _ _),
   zz_of (ok_aload_n G dX8_goes_160 rfl rfl) (z_ald _ _),
   zz_of (ok_get G (nx := 164) (ci := 7) (kd := 2) (k := 2) (RX8, TX8, 9) rfl (by decide) rfl q372 dX8_goes_161 rfl) (z_get _ _ _ _),
   zz_of (ok_iconst G (v := 0) dX8_goes_164 (by decide) rfl) (z_cn 165 0),
   zz_of (ok_aload_n G dX8_goes_165 rfl rfl) (z_ald _ _),
   zz_of (ok_get G (nx := 169) (ci := 7) (kd := 2) (k := 0) (RX8, TX8, 9) rfl (by decide) rfl q370 dX8_goes_166 rfl) (z_get _ _ _ _),
   zz_of (ok_iconst G (v := 0) dX8_goes_169 (by decide) rfl) (z_cn 170 0),
   zz_of (ok_aload_n G dX8_goes_170 rfl rfl) (z_ald _ _),
   zz_of (ok_get G (nx := 174) (ci := 7) (kd := 0) (k := 6) (RX8, TX8, 9) rfl (by decide) rfl q376 dX8_goes_171 rfl) (z_get _ _ _ _),
   zz_of (ok_acpi G (t := 2) (ty := .int) (Or.inl ⟨rfl, rfl⟩) q1780 q501 q500 q94 ⟨Nat.le_of_ble_eq_true rfl, by decide⟩ dX8_goes_174 rfl) (z_acpi _ _),
   zz_of (ok_aload_n G dX8_goes_177 rfl rfl) (z_ald _ _),
   zz_of (ok_get G (nx := 181) (ci := 7) (kd := 2) (k := 3) (RX8, TX8, 9) rfl (by decide) rfl q373 dX8_goes_178 rfl) (z_get _ _ _ _),
   zz_of (ok_iconst G (v := 0) dX8_goes_181 (by decide) rfl) (z_cn 182 0),
   zz_of (ok_aload_n G dX8_goes_182 rfl rfl) (z_ald _ _),
   zz_of (ok_get G (nx := 186) (ci := 7) (kd := 2) (k := 1) (RX8, TX8, 9) rfl (by decide) rfl q371 dX8_goes_183 rfl) (z_get _ _ _ _),
   zz_of (ok_iconst G (v := 0) dX8_goes_186 (by decide) rfl) (z_cn 187 0),
   zz_of (ok_aload_n G dX8_goes_187 rfl rfl) (z_ald _ _),
   zz_of (ok_get G (nx := 191) (ci := 7) (kd := 0) (k := 6) (RX8, TX8, 9) rfl (by decide) rfl q376 dX8_goes_188 rfl) (z_get _ _ _ _),
   zz_of (ok_acpi G (t := 2) (ty := .int) (Or.inl ⟨rfl, rfl⟩) q1780 q501 q500 q94 ⟨Nat.le_of_ble_eq_true rfl, by decide⟩ dX8_goes_191 rfl) (z_acpi _ _),
   zz_of (ok_aload_n G dX8_goes_194 rfl rfl) (z_ald _ _),
   zz_of (ok_get G (nx := 198) (ci := 7) (kd := 2) (k := 5) (RX8, TX8, 9) rfl (by decide) rfl q375 dX8_goes_195 rfl) (z_get _ _ _ _),
   zz_of (ok_iconst G (v := 0) dX8_goes_198 (by decide) rfl) (z_cn 199 0),
   zz_of (ok_aload_n G dX8_goes_199 rfl rfl) (z_ald _ _),
   zz_of (ok_get G (nx := 203) (ci := 7) (kd := 2) (k := 4) (RX8, TX8, 9) rfl (by decide) rfl q374 dX8_goes_200 rfl) (z_get _ _ _ _),
   zz_of (ok_iconst G (v := 0) dX8_goes_203 (by decide) rfl) (z_cn 204 0),
   zz_of (ok_aload_n G dX8_goes_204 rfl rfl) (z_ald _ _),
   zz_of (ok_get G (nx := 208) (ci := 7) (kd := 0) (k := 6) (RX8, TX8, 9) rfl (by decide) rfl q376 dX8_goes_205 rfl) (z_get _ _ _ _),
   zz_of (ok_acpj G q1780 q501 q500 q94 ⟨Nat.le_of_ble_eq_true rfl, by decide⟩ dX8_goes_208 rfl) (z_acpj _),
   zz_of (ok_vret G dX8_goes_211) (z_vret), trivial⟩

theorem zwX8_goes_0 {Q : Option zv → zz_M → Prop} {X : Nat → zz_M → Prop} {f : Nat → Nat × Nat} {S L : Nat → Nat → Int} {P : Nat → Nat → Option Nat} {how : Int} {line : Int} (h : zz_J zpX8_goes (zz_ret Q X 0 0) 7 [some (vr 134), some (vi how), some (vi line), some (vi 0), none, none, none] [] ((2, f), mm_up S 134 7 0, L, P) (0, 0)) : zz_J zpX8_goes (zz_ret Q X 0 0) 0 [some (vr 134), some (vi how), some (vi line), none, none, none, none] [] ((2, f), S, L, P) (0, 0) := zz_J.go [(7, [4, 5, 6]), (106, [4]), (146, [4, 5, 6])] 400 h
theorem zwX8_goes_7 {Q : Option zv → zz_M → Prop} {X : Nat → zz_M → Prop} {f : Nat → Nat × Nat} {S L : Nat → Nat → Int} {P : Nat → Nat → Option Nat} {x1 : Int} {x2 : Int} {x3 : Int} (h : R32 x3 ∧ (R32 (S 134 6) ∧ (((S 134 6) ≤ x3 → ∃ a_ b_ : Nat, zsh ((2, f), mm_up S 134 6 (S 134 7), L, P) 137 = (2, a_) ∧ zsh ((2, f), mm_up S 134 6 (S 134 7), L, P) 135 = (2, b_) ∧ (a_ ≤ 2147483647 ∧ b_ ≤ 2147483647) ∧ (137 : Nat) ≠ 135 ∧ (0 ≤ (0 : Int) ∧ 0 ≤ (0 : Int) ∧ 0 ≤ (S 134 7)) ∧ (0 : Int) + (S 134 7) ≤ (a_ : Int) ∧ (0 : Int) + (S 134 7) ≤ (b_ : Int) ∧ ((2 : Nat) = 4 → ∀ i : Nat, i < (S 134 7).toNat → -128 ≤ (mm_up S 134 6 (S 134 7)) 137 ((0 : Int).toNat + i) ∧ (mm_up S 134 6 (S 134 7)) 137 ((0 : Int).toNat + i) ≤ 127) ∧ (∃ a_ b_ : Nat, zsh ((2, f), zrw (mm_up S 134 6 (S 134 7)) 135 (va_cpy ((mm_up S 134 6 (S 134 7)) 137) ((mm_up S 134 6 (S 134 7)) 135) (0 : Int).toNat (0 : Int).toNat (S 134 7).toNat), L, P) 138 = (2, a_) ∧ zsh ((2, f), zrw (mm_up S 134 6 (S 134 7)) 135 (va_cpy ((mm_up S 134 6 (S 134 7)) 137) ((mm_up S 134 6 (S 134 7)) 135) (0 : Int).toNat (0 : Int).toNat (S 134 7).toNat), L, P) 136 = (2, b_) ∧ (a_ ≤ 2147483647 ∧ b_ ≤ 2147483647) ∧ (138 : Nat) ≠ 136 ∧ (0 ≤ (0 : Int) ∧ 0 ≤ (0 : Int) ∧ 0 ≤ ((zrw (mm_up S 134 6 (S 134 7)) 135 (va_cpy ((mm_up S 134 6 (S 134 7)) 137) ((mm_up S 134 6 (S 134 7)) 135) (0 : Int).toNat (0 : Int).toNat (S 134 7).toNat)) 134 6)) ∧ (0 : Int) + ((zrw (mm_up S 134 6 (S 134 7)) 135 (va_cpy ((mm_up S 134 6 (S 134 7)) 137) ((mm_up S 134 6 (S 134 7)) 135) (0 : Int).toNat (0 : Int).toNat (S 134 7).toNat)) 134 6) ≤ (a_ : Int) ∧ (0 : Int) + ((zrw (mm_up S 134 6 (S 134 7)) 135 (va_cpy ((mm_up S 134 6 (S 134 7)) 137) ((mm_up S 134 6 (S 134 7)) 135) (0 : Int).toNat (0 : Int).toNat (S 134 7).toNat)) 134 6) ≤ (b_ : Int) ∧ ((2 : Nat) = 4 → ∀ i : Nat, i < ((zrw (mm_up S 134 6 (S 134 7)) 135 (va_cpy ((mm_up S 134 6 (S 134 7)) 137) ((mm_up S 134 6 (S 134 7)) 135) (0 : Int).toNat (0 : Int).toNat (S 134 7).toNat)) 134 6).toNat → -128 ≤ (zrw (mm_up S 134 6 (S 134 7)) 135 (va_cpy ((mm_up S 134 6 (S 134 7)) 137) ((mm_up S 134 6 (S 134 7)) 135) (0 : Int).toNat (0 : Int).toNat (S 134 7).toNat)) 138 ((0 : Int).toNat + i) ∧ (zrw (mm_up S 134 6 (S 134 7)) 135 (va_cpy ((mm_up S 134 6 (S 134 7)) 137) ((mm_up S 134 6 (S 134 7)) 135) (0 : Int).toNat (0 : Int).toNat (S 134 7).toNat)) 138 ((0 : Int).toNat + i) ≤ 127) ∧ (∃ a_ b_ : Nat, zsh ((2, f), zrw (zrw (mm_up S 134 6 (S 134 7)) 135 (va_cpy ((mm_up S 134 6 (S 134 7)) 137) ((mm_up S 134 6 (S 134 7)) 135) (0 : Int).toNat (0 : Int).toNat (S 134 7).toNat)) 136 (va_cpy ((zrw (mm_up S 134 6 (S 134 7)) 135 (va_cpy ((mm_up S 134 6 (S 134 7)) 137) ((mm_up S 134 6 (S 134 7)) 135) (0 : Int).toNat (0 : Int).toNat (S 134 7).toNat)) 138) ((zrw (mm_up S 134 6 (S 134 7)) 135 (va_cpy ((mm_up S 134 6 (S 134 7)) 137) ((mm_up S 134 6 (S 134 7)) 135) (0 : Int).toNat (0 : Int).toNat (S 134 7).toNat)) 136) (0 : Int).toNat (0 : Int).toNat ((zrw (mm_up S 134 6 (S 134 7)) 135 (va_cpy ((mm_up S 134 6 (S 134 7)) 137) ((mm_up S 134 6 (S 134 7)) 135) (0 : Int).toNat (0 : Int).toNat (S 134 7).toNat)) 134 6).toNat), L, P) 140 = (3, a_) ∧ zsh ((2, f), zrw (zrw (mm_up S 134 6 (S 134 7)) 135 (va_cpy ((mm_up S 134 6 (S 134 7)) 137) ((mm_up S 134 6 (S 134 7)) 135) (0 : Int).toNat (0 : Int).toNat (S 134 7).toNat)) 136 (va_cpy ((zrw (mm_up S 134 6 (S 134 7)) 135 (va_cpy ((mm_up S 134 6 (S 134 7)) 137) ((mm_up S 134 6 (S 134 7)) 135) (0 : Int).toNat (0 : Int).toNat (S 134 7).toNat)) 138) ((zrw (mm_up S 134 6 (S 134 7)) 135 (va_cpy ((mm_up S 134 6 (S 134 7)) 137) ((mm_up S 134 6 (S 134 7)) 135) (0 : Int).toNat (0 : Int).toNat (S 134 7).toNat)) 136) (0 : Int).toNat (0 : Int).toNat ((zrw (mm_up S 134 6 (S 134 7)) 135 (va_cpy ((mm_up S 134 6 (S 134 7)) 137) ((mm_up S 134 6 (S 134 7)) 135) (0 : Int).toNat (0 : Int).toNat (S 134 7).toNat)) 134 6).toNat), L, P) 139 = (3, b_) ∧ (a_ ≤ 2147483647 ∧ b_ ≤ 2147483647) ∧ (140 : Nat) ≠ 139 ∧ (0 ≤ (0 : Int) ∧ 0 ≤ (0 : Int) ∧ 0 ≤ ((zrw (zrw (mm_up S 134 6 (S 134 7)) 135 (va_cpy ((mm_up S 134 6 (S 134 7)) 137) ((mm_up S 134 6 (S 134 7)) 135) (0 : Int).toNat (0 : Int).toNat (S 134 7).toNat)) 136 (va_cpy ((zrw (mm_up S 134 6 (S 134 7)) 135 (va_cpy ((mm_up S 134 6 (S 134 7)) 137) ((mm_up S 134 6 (S 134 7)) 135) (0 : Int).toNat (0 : Int).toNat (S 134 7).toNat)) 138) ((zrw (mm_up S 134 6 (S 134 7)) 135 (va_cpy ((mm_up S 134 6 (S 134 7)) 137) ((mm_up S 134 6 (S 134 7)) 135) (0 : Int).toNat (0 : Int).toNat (S 134 7).toNat)) 136) (0 : Int).toNat (0 : Int).toNat ((zrw (mm_up S 134 6 (S 134 7)) 135 (va_cpy ((mm_up S 134 6 (S 134 7)) 137) ((mm_up S 134 6 (S 134 7)) 135) (0 : Int).toNat (0 : Int).toNat (S 134 7).toNat)) 134 6).toNat)) 134 6)) ∧ (0 : Int) + ((zrw (zrw (mm_up S 134 6 (S 134 7)) 135 (va_cpy ((mm_up S 134 6 (S 134 7)) 137) ((mm_up S 134 6 (S 134 7)) 135) (0 : Int).toNat (0 : Int).toNat (S 134 7).toNat)) 136 (va_cpy ((zrw (mm_up S 134 6 (S 134 7)) 135 (va_cpy ((mm_up S 134 6 (S 134 7)) 137) ((mm_up S 134 6 (S 134 7)) 135) (0 : Int).toNat (0 : Int).toNat (S 134 7).toNat)) 138) ((zrw (mm_up S 134 6 (S 134 7)) 135 (va_cpy ((mm_up S 134 6 (S 134 7)) 137) ((mm_up S 134 6 (S 134 7)) 135) (0 : Int).toNat (0 : Int).toNat (S 134 7).toNat)) 136) (0 : Int).toNat (0 : Int).toNat ((zrw (mm_up S 134 6 (S 134 7)) 135 (va_cpy ((mm_up S 134 6 (S 134 7)) 137) ((mm_up S 134 6 (S 134 7)) 135) (0 : Int).toNat (0 : Int).toNat (S 134 7).toNat)) 134 6).toNat)) 134 6) ≤ (a_ : Int) ∧ (0 : Int) + ((zrw (zrw (mm_up S 134 6 (S 134 7)) 135 (va_cpy ((mm_up S 134 6 (S 134 7)) 137) ((mm_up S 134 6 (S 134 7)) 135) (0 : Int).toNat (0 : Int).toNat (S 134 7).toNat)) 136 (va_cpy ((zrw (mm_up S 134 6 (S 134 7)) 135 (va_cpy ((mm_up S 134 6 (S 134 7)) 137) ((mm_up S 134 6 (S 134 7)) 135) (0 : Int).toNat (0 : Int).toNat (S 134 7).toNat)) 138) ((zrw (mm_up S 134 6 (S 134 7)) 135 (va_cpy ((mm_up S 134 6 (S 134 7)) 137) ((mm_up S 134 6 (S 134 7)) 135) (0 : Int).toNat (0 : Int).toNat (S 134 7).toNat)) 136) (0 : Int).toNat (0 : Int).toNat ((zrw (mm_up S 134 6 (S 134 7)) 135 (va_cpy ((mm_up S 134 6 (S 134 7)) 137) ((mm_up S 134 6 (S 134 7)) 135) (0 : Int).toNat (0 : Int).toNat (S 134 7).toNat)) 134 6).toNat)) 134 6) ≤ (b_ : Int) ∧ (Q none ((2, f), zrw (zrw (mm_up S 134 6 (S 134 7)) 135 (va_cpy ((mm_up S 134 6 (S 134 7)) 137) ((mm_up S 134 6 (S 134 7)) 135) (0 : Int).toNat (0 : Int).toNat (S 134 7).toNat)) 136 (va_cpy ((zrw (mm_up S 134 6 (S 134 7)) 135 (va_cpy ((mm_up S 134 6 (S 134 7)) 137) ((mm_up S 134 6 (S 134 7)) 135) (0 : Int).toNat (0 : Int).toNat (S 134 7).toNat)) 138) ((zrw (mm_up S 134 6 (S 134 7)) 135 (va_cpy ((mm_up S 134 6 (S 134 7)) 137) ((mm_up S 134 6 (S 134 7)) 135) (0 : Int).toNat (0 : Int).toNat (S 134 7).toNat)) 136) (0 : Int).toNat (0 : Int).toNat ((zrw (mm_up S 134 6 (S 134 7)) 135 (va_cpy ((mm_up S 134 6 (S 134 7)) 137) ((mm_up S 134 6 (S 134 7)) 135) (0 : Int).toNat (0 : Int).toNat (S 134 7).toNat)) 134 6).toNat), zrw L 139 (va_cpy (L 140) (L 139) (0 : Int).toNat (0 : Int).toNat ((zrw (zrw (mm_up S 134 6 (S 134 7)) 135 (va_cpy ((mm_up S 134 6 (S 134 7)) 137) ((mm_up S 134 6 (S 134 7)) 135) (0 : Int).toNat (0 : Int).toNat (S 134 7).toNat)) 136 (va_cpy ((zrw (mm_up S 134 6 (S 134 7)) 135 (va_cpy ((mm_up S 134 6 (S 134 7)) 137) ((mm_up S 134 6 (S 134 7)) 135) (0 : Int).toNat (0 : Int).toNat (S 134 7).toNat)) 138) ((zrw (mm_up S 134 6 (S 134 7)) 135 (va_cpy ((mm_up S 134 6 (S 134 7)) 137) ((mm_up S 134 6 (S 134 7)) 135) (0 : Int).toNat (0 : Int).toNat (S 134 7).toNat)) 136) (0 : Int).toNat (0 : Int).toNat ((zrw (mm_up S 134 6 (S 134 7)) 135 (va_cpy ((mm_up S 134 6 (S 134 7)) 137) ((mm_up S 134 6 (S 134 7)) 135) (0 : Int).toNat (0 : Int).toNat (S 134 7).toNat)) 134 6).toNat)) 134 6).toNat), P))))) ∧ (¬ (S 134 6) ≤ x3 → (0 ≤ x3 ∧ x3 < 4096) ∧ ((∃ c_1 : Int, (S 135 x3.toNat) = kC c_1 ∧ cV c_1 ∧ ((scb (cx (cxW S 108 (wcX (fun _ => 0) c_1)) 108) ∧ R32 ((cxW S 108 (wcX (fun _ => 0) c_1)) 200 1) ∧ (ovR ((cxW S 108 (wcX (fun _ => 0) c_1)) 200 1) (cx (cxW S 108 (wcX (fun _ => 0) c_1)) 108) = true → (zz_J zpX8_goes (zz_ret Q X 0 0) 146 [some (vr 134), some (vi x1), some (vi x2), some (vi x3), none, none, none] [] ((2, f), cxW S 108 (wcX (fun _ => 0) c_1), L, P) (0, 0))) ∧ (ovR ((cxW S 108 (wcX (fun _ => 0) c_1)) 200 1) (cx (cxW S 108 (wcX (fun _ => 0) c_1)) 108) = false → (R32 ((cxW S 108 (wcX (fun _ => 0) c_1)) 108 5) ∧ ((((cxW S 108 (wcX (fun _ => 0) c_1)) 108 5) = 0 → (∃ (w_3 : Nat → Int) (V_3 : Int → Prop) (A_3 : Int → Nat → Int) (K_3 : Nat → Int) (u_3 N_3 m_3 b_3 : Nat) (c_3 o_3 : Int), (x3 = (u_3 : Int) ∧ u_3 < 4096 ∧ (0 : Int) = (m_3 : Int) ∧ m_3 ≤ 1 ∧ b_3 ≤ 100) ∧ (0 ≤ x1 ∧ x1 ≤ 2) ∧ R32 x2 ∧ wsc (cxW S 108 (wcX (fun _ => 0) c_1)) w_3 ∧ wV w_3 ∧ clS (cxW S 108 (wcX (fun _ => 0) c_1)) L b_3 u_3 c_3 K_3 ∧ ovR (w_3 194) (wcX w_3 c_3) = false ∧ (wcX w_3 c_3 6 = 0 → x1 = 2 → 0 ≤ x2 ∧ x2 ≤ 9) ∧ (o_3 = clH (wcX w_3 c_3) x1 x2 ∧ 0 ≤ o_3 ∧ o_3 ≤ 14 ∧ (wcX w_3 c_3 6 = 0 → o_3 ≤ 11)) ∧ V_3 (whR (rlR w_3 (wcX w_3 c_3) o_3)) ∧ (∀ (g9 : Nat → Int) (m : Nat), (∀ i, i < m → V_3 (g9 i)) → (∀ i j, i < m → j < m → g9 i = g9 j → i = j) → m ≤ 4000) ∧ (cxW S 108 (wcX (fun _ => 0) c_1)) 134 7 = (N_3 : Int) ∧ clI V_3 (b_3 + 1) ((cxW S 108 (wcX (fun _ => 0) c_1)) 137) ((cxW S 108 (wcX (fun _ => 0) c_1)) 138) (L 140) N_3 A_3 ∧ (∀ (S_3 L_3 : Nat → Nat → Int) (n_3 : Nat), clF (cxW S 108 (wcX (fun _ => 0) c_1)) S_3 → (∀ h, h ≠ 140 → L_3 h = L h) → S_3 134 7 = (n_3 : Int) → clI V_3 (b_3 + 1) (S_3 137) (S_3 138) (L_3 140) n_3 (fun c j => A_3 c j + mnT c K_3 (rlR w_3 (wcX w_3 c_3) o_3) m_3 j) → (zz_J zpX8_goes (zz_ret Q X 0 0) 146 [some (vr 134), some (vi x1), some (vi x2), some (vi x3), none, none, none] [] ((2, f), S_3, L_3, P) (0, 0))))) ∧ (¬ ((cxW S 108 (wcX (fun _ => 0) c_1)) 108 5) = 0 → R32 x1 ∧ ((¬ x1 = 2 → (∃ (w_4 : Nat → Int) (V_4 : Int → Prop) (A_4 : Int → Nat → Int) (K_4 : Nat → Int) (u_4 N_4 m_4 b_4 : Nat) (c_4 o_4 : Int), (x3 = (u_4 : Int) ∧ u_4 < 4096 ∧ (0 : Int) = (m_4 : Int) ∧ m_4 ≤ 1 ∧ b_4 ≤ 100) ∧ (0 ≤ x1 ∧ x1 ≤ 2) ∧ R32 x2 ∧ wsc (cxW S 108 (wcX (fun _ => 0) c_1)) w_4 ∧ wV w_4 ∧ clS (cxW S 108 (wcX (fun _ => 0) c_1)) L b_4 u_4 c_4 K_4 ∧ ovR (w_4 194) (wcX w_4 c_4) = false ∧ (wcX w_4 c_4 6 = 0 → x1 = 2 → 0 ≤ x2 ∧ x2 ≤ 9) ∧ (o_4 = clH (wcX w_4 c_4) x1 x2 ∧ 0 ≤ o_4 ∧ o_4 ≤ 14 ∧ (wcX w_4 c_4 6 = 0 → o_4 ≤ 11)) ∧ V_4 (whR (rlR w_4 (wcX w_4 c_4) o_4)) ∧ (∀ (g9 : Nat → Int) (m : Nat), (∀ i, i < m → V_4 (g9 i)) → (∀ i j, i < m → j < m → g9 i = g9 j → i = j) → m ≤ 4000) ∧ (cxW S 108 (wcX (fun _ => 0) c_1)) 134 7 = (N_4 : Int) ∧ clI V_4 (b_4 + 1) ((cxW S 108 (wcX (fun _ => 0) c_1)) 137) ((cxW S 108 (wcX (fun _ => 0) c_1)) 138) (L 140) N_4 A_4 ∧ (∀ (S_4 L_4 : Nat → Nat → Int) (n_4 : Nat), clF (cxW S 108 (wcX (fun _ => 0) c_1)) S_4 → (∀ h, h ≠ 140 → L_4 h = L h) → S_4 134 7 = (n_4 : Int) → clI V_4 (b_4 + 1) (S_4 137) (S_4 138) (L_4 140) n_4 (fun c j => A_4 c j + mnT c K_4 (rlR w_4 (wcX w_4 c_4) o_4) m_4 j) → (zz_J zpX8_goes (zz_ret Q X 0 0) 146 [some (vr 134), some (vi x1), some (vi x2), some (vi x3), none, none, none] [] ((2, f), S_4, L_4, P) (0, 0))))) ∧ (x1 = 2 → zz_J zpX8_goes (zz_ret Q X 0 0) 106 [some (vr 134), some (vi x1), some (vi x2), some (vi x3), none, some (vi ((cxW S 108 (wcX (fun _ => 0) c_1)) 111 0)), some (vi (-1))] [] ((2, f), cxW S 108 (wcX (fun _ => 0) c_1), L, P) (0, 0))))))))))))))) : zz_J zpX8_goes (zz_ret Q X 0 0) 7 [some (vr 134), some (vi x1), some (vi x2), some (vi x3), none, none, none] [] ((2, f), S, L, P) (0, 0) := zz_J.go [(7, [4, 5, 6]), (106, [4]), (146, [4, 5, 6])] 400 h
theorem zwX8_goes_106 {Q : Option zv → zz_M → Prop} {X : Nat → zz_M → Prop} {f : Nat → Nat × Nat} {S L : Nat → Nat → Int} {P : Nat → Nat → Option Nat} {x1 : Int} {x2 : Int} {x3 : Int} {x5 : Int} {x6 : Int} (h : R32 x6 ∧ ((2 ≤ x6 → zz_J zpX8_goes (zz_ret Q X 0 0) 146 [some (vr 134), some (vi x1), some (vi x2), some (vi x3), none, none, none] [] ((2, f), S, L, P) (0, 0)) ∧ (¬ 2 ≤ x6 → ((-100 ≤ (x2 - x5) ∧ (x2 - x5) ≤ 100) ∧ (R32 (if (x2 - x5) < 0 then -1 else if (x2 - x5) = 0 then 0 else 1) ∧ (R32 x6 ∧ ((¬ (if (x2 - x5) < 0 then -1 else if (x2 - x5) = 0 then 0 else 1) = x6 → (∃ (w_2 : Nat → Int) (V_2 : Int → Prop) (A_2 : Int → Nat → Int) (K_2 : Nat → Int) (u_2 N_2 m_2 b_2 : Nat) (c_2 o_2 : Int), (x3 = (u_2 : Int) ∧ u_2 < 4096 ∧ (1 : Int) = (m_2 : Int) ∧ m_2 ≤ 1 ∧ b_2 ≤ 100) ∧ (0 ≤ x1 ∧ x1 ≤ 2) ∧ R32 (x5 + x6) ∧ wsc S w_2 ∧ wV w_2 ∧ clS S L b_2 u_2 c_2 K_2 ∧ ovR (w_2 194) (wcX w_2 c_2) = false ∧ (wcX w_2 c_2 6 = 0 → x1 = 2 → 0 ≤ (x5 + x6) ∧ (x5 + x6) ≤ 9) ∧ (o_2 = clH (wcX w_2 c_2) x1 (x5 + x6) ∧ 0 ≤ o_2 ∧ o_2 ≤ 14 ∧ (wcX w_2 c_2 6 = 0 → o_2 ≤ 11)) ∧ V_2 (whR (rlR w_2 (wcX w_2 c_2) o_2)) ∧ (∀ (g9 : Nat → Int) (m : Nat), (∀ i, i < m → V_2 (g9 i)) → (∀ i j, i < m → j < m → g9 i = g9 j → i = j) → m ≤ 4000) ∧ S 134 7 = (N_2 : Int) ∧ clI V_2 (b_2 + 1) (S 137) (S 138) (L 140) N_2 A_2 ∧ (∀ (S_2 L_2 : Nat → Nat → Int) (n_2 : Nat), clF S S_2 → (∀ h, h ≠ 140 → L_2 h = L h) → S_2 134 7 = (n_2 : Int) → clI V_2 (b_2 + 1) (S_2 137) (S_2 138) (L_2 140) n_2 (fun c j => A_2 c j + mnT c K_2 (rlR w_2 (wcX w_2 c_2) o_2) m_2 j) → (zz_J zpX8_goes (zz_ret Q X 0 0) 106 [some (vr 134), some (vi x1), some (vi x2), some (vi x3), none, some (vi x5), some (vi (x6 + 1))] [] ((2, f), S_2, L_2, P) (0, 0))))) ∧ ((if (x2 - x5) < 0 then -1 else if (x2 - x5) = 0 then 0 else 1) = x6 → (∃ (w_3 : Nat → Int) (V_3 : Int → Prop) (A_3 : Int → Nat → Int) (K_3 : Nat → Int) (u_3 N_3 m_3 b_3 : Nat) (c_3 o_3 : Int), (x3 = (u_3 : Int) ∧ u_3 < 4096 ∧ (0 : Int) = (m_3 : Int) ∧ m_3 ≤ 1 ∧ b_3 ≤ 100) ∧ (0 ≤ x1 ∧ x1 ≤ 2) ∧ R32 (x5 + x6) ∧ wsc S w_3 ∧ wV w_3 ∧ clS S L b_3 u_3 c_3 K_3 ∧ ovR (w_3 194) (wcX w_3 c_3) = false ∧ (wcX w_3 c_3 6 = 0 → x1 = 2 → 0 ≤ (x5 + x6) ∧ (x5 + x6) ≤ 9) ∧ (o_3 = clH (wcX w_3 c_3) x1 (x5 + x6) ∧ 0 ≤ o_3 ∧ o_3 ≤ 14 ∧ (wcX w_3 c_3 6 = 0 → o_3 ≤ 11)) ∧ V_3 (whR (rlR w_3 (wcX w_3 c_3) o_3)) ∧ (∀ (g9 : Nat → Int) (m : Nat), (∀ i, i < m → V_3 (g9 i)) → (∀ i j, i < m → j < m → g9 i = g9 j → i = j) → m ≤ 4000) ∧ S 134 7 = (N_3 : Int) ∧ clI V_3 (b_3 + 1) (S 137) (S 138) (L 140) N_3 A_3 ∧ (∀ (S_3 L_3 : Nat → Nat → Int) (n_3 : Nat), clF S S_3 → (∀ h, h ≠ 140 → L_3 h = L h) → S_3 134 7 = (n_3 : Int) → clI V_3 (b_3 + 1) (S_3 137) (S_3 138) (L_3 140) n_3 (fun c j => A_3 c j + mnT c K_3 (rlR w_3 (wcX w_3 c_3) o_3) m_3 j) → (zz_J zpX8_goes (zz_ret Q X 0 0) 106 [some (vr 134), some (vi x1), some (vi x2), some (vi x3), none, some (vi x5), some (vi (x6 + 1))] [] ((2, f), S_3, L_3, P) (0, 0)))))))))))) : zz_J zpX8_goes (zz_ret Q X 0 0) 106 [some (vr 134), some (vi x1), some (vi x2), some (vi x3), none, some (vi x5), some (vi x6)] [] ((2, f), S, L, P) (0, 0) := zz_J.go [(7, [4, 5, 6]), (106, [4]), (146, [4, 5, 6])] 400 h
theorem zwX8_goes_146 {Q : Option zv → zz_M → Prop} {X : Nat → zz_M → Prop} {f : Nat → Nat × Nat} {S L : Nat → Nat → Int} {P : Nat → Nat → Option Nat} {x1 : Int} {x2 : Int} {x3 : Int} (h : zz_J zpX8_goes (zz_ret Q X 0 0) 7 [some (vr 134), some (vi x1), some (vi x2), some (vi (x3 + 1)), none, none, none] [] ((2, f), S, L, P) (0, 0)) : zz_J zpX8_goes (zz_ret Q X 0 0) 146 [some (vr 134), some (vi x1), some (vi x2), some (vi x3), none, none, none] [] ((2, f), S, L, P) (0, 0) := zz_J.go [(7, [4, 5, 6]), (106, [4]), (146, [4, 5, 6])] 400 h

/-- how a rally is called by the chase that is played off -/
theorem rl_as {w x : Nat → Int} {how : Int} (h6 : x 6 = 1) (h2 : 2 ≤ how) (h11 : how ≤ 11) : rlR w x how = rlR w x (mnAs x how) := by
  have := (clH_rl w x (line := how - 2) (by omega) (by omega) (Or.inr h6)).1
  rw [show 2 + (how - 2) = how by omega] at this
  rw [← this]
  unfold clH mnAs
  rw [if_neg (by decide), if_pos h6]
theorem zmX8_goes (l : Launch) (hl : l.stackTraces = false) : mm_Spec l yX8_goes (ws_ yX8_goes cX8_goes 7 none) (mm_rm 7 0 0) (zE zX8_goes) := by
  refine zz_Met.J hl (by decide) (fun C G hnh => ztX8_goes G hnh) ?_
  rintro as ⟨⟨t_, f⟩, S, L, P⟩ Q X h
  unfold zX8_goes at h
  split at h
  rotate_left
  · exact h.elim
  rename_i h_ how line
  obtain ⟨e1_, e2_, h⟩ := mm_and2 h (fun q => q)
  cases mm_beq e1_
  cases mm_beq e2_
  try dsimp only at h
  refine ⟨rfl, ?_⟩
  obtain ⟨w, t, x0, k, N, hws, hwV, ⟨hO, ht⟩, rfl, rfl, hk, hB, hN, hI, hq⟩ := h
  obtain ⟨hh, hhl, hh1, hho⟩ := lgO_d hO ht
  have hI1 := hI.1
  obtain ⟨c, hc, h0, hsum⟩ := hI.sum
  have hstep : ∀ c' j, mnK w t x0 (k + 1) c' j = sumN mnN (fun s => mnC w (hwO t k) (s : Int) (mnK w t x0 k (s : Int)) c' j) := fun _ _ => rfl
  have hVs : ∀ s c', mnV w t x0 k s → ovR (w 194) (wcX w s) = false → (c' = whR (rlR w (wcX w s) (hwO t k)) ∨ (2 ≤ hwO t k ∧ wcX w s 6 = 1 ∧ ∃ o, (o = 12 ∨ o = 13 ∨ o = 14) ∧ c' = whR (rlR w (wcX w s) o))) → mnV w t x0 (k + 1) c' := fun s c' h1 h2 h3 => ⟨s, h1, h2, h3⟩
  obtain ⟨line, hline⟩ : ∃ line, t (2 * k + 1) - 48 = line := ⟨_, rfl⟩
  have hlR : -48 ≤ line ∧ line ≤ 207 := by omega
  rw [hline] at hhl ⊢
  generalize hwO t k = how at hhl hh1 hho hstep hVs
  generalize hwD t k = hw at hh hhl hh1 ⊢
  have wq : ∀ {T : Nat → Nat → Int}, clF S T → wsc T w := fun {T} e => by
    refine ⟨?_, ?_, ?_, ?_, ?_⟩ <;> rw [e 200 _ (by decide) (by decide) (by decide) (by decide)]
    · exact hws.1
    · exact hws.2.1
    · exact hws.2.2.1
    · exact hws.2.2.2.1
    · exact hws.2.2.2.2
  have t7 : ∀ (r s N' : Nat) (T L' : Nat → Nat → Int), s + r = N → clF S T → (∀ h, h ≠ 140 → L' h = L h) → T 134 7 = (N' : Int) → clI (mnV w t x0 (k + 1)) (k + 1) (T 137) (T 138) (L' 140) N' (fun c' j => sumN s (fun i => mnC w how (c i) (mnK w t x0 k (c i)) c' j)) → zz_J zpX8_goes (zz_ret Q X 0 0) 7 [some (vr 134), some (vi hw), some (vi line), some (vi (s : Int)), none, none, none] [] ((2, f), T, L', P) (0, 0) := by
    intro r
    induction r with
    | zero =>
      intro s N' T L' hs hF hL h7 hA
      have es : s = N := by omega
      subst es
      have hA1 := hA.1
      have T6 : T 134 6 = (s : Int) := (hF 134 6 (by decide) (by decide) (by decide) (by decide)).trans hN
      refine zwX8_goes_7 ⟨by omega, by rw [T6]; omega, fun _ => ?_, fun z => absurd (by rw [T6]; exact Int.le_refl _) z⟩
      rw [h7]
      refine ⟨4096, 4096, rfl, rfl, by decide, by decide, by omega, by omega, by omega, fun z => absurd z (by decide), ?_⟩
      obtain ⟨T1, hT1⟩ : ∃ T1, zrw (mm_up T 134 6 (N' : Int)) 135 (va_cpy (mm_up T 134 6 (N' : Int) 137) (mm_up T 134 6 (N' : Int) 135) (0 : Int).toNat (0 : Int).toNat ((N' : Int)).toNat) = T1 := ⟨_, rfl⟩
      have T1o : ∀ h j, h ≠ 135 → ¬ (h = 134 ∧ j = 6) → T1 h j = T h j := fun h j h1 h2 => by rw [← hT1, zrw_n _ _ h1, up_eq, if_neg h2]
      have T16 : T1 134 6 = (N' : Int) := by rw [← hT1, zrw_n _ _ (by decide), up_eq, if_pos ⟨rfl, rfl⟩]
      rw [hT1, T16]
      refine ⟨4096, 4096, rfl, rfl, by decide, by decide, by omega, by omega, by omega, fun z => absurd z (by decide), ?_⟩
      obtain ⟨T2, hT2⟩ : ∃ T2, zrw T1 136 (va_cpy (T1 138) (T1 136) (0 : Int).toNat (0 : Int).toNat ((N' : Int)).toNat) = T2 := ⟨_, rfl⟩
      have T2o : ∀ h, h ≠ 136 → T2 h = T1 h := fun h h1 => by rw [← hT2, zrw_n _ _ h1]
      rw [hT2, T2o 134 (by decide), T16]
      refine ⟨4096, 4096, rfl, rfl, by decide, by decide, by omega, by omega, by omega, ?_⟩
      rw [Int.toNat_natCast]
      refine hq T2 _ N' (fun h j h1 h2 => ?_) ?_ ((hA.c fun c' j => ?_).cp (fun i hi => ?_) (fun i hi => ?_) (fun i hi => ?_))
      · rw [T2o h (by omega), T1o h j (by omega) (by omega)]
        exact hF h j (by omega) (by omega) h1 (by omega)
      · rw [T2o 134 (by decide)]; exact T16
      · rw [hstep]
        exact (hsum (fun z => mnC w how z (mnK w t x0 k z) c' j) (fun z hz => mnC_0 (fun i _ => h0 z i hz))).symm
      · rw [T2o 135 (by decide), ← hT1, zrw_s, Int.toNat_natCast]
        refine (va_cpy_k _ _ hi).trans ?_
        rw [up_eq, if_neg (by omega)]
      · rw [← hT2, zrw_s, Int.toNat_natCast]
        refine (va_cpy_k _ _ hi).trans ?_
        exact T1o 138 i (by omega) (by omega)
      · rw [zrw_s]
        exact va_cpy_k _ _ hi
    | succ r ih =>
      intro s N' T L' hs hF hL h7 hA
      have T6 : T 134 6 = (N : Int) := (hF 134 6 (by decide) (by decide) (by decide) (by decide)).trans hN
      have T5 : T 135 s = S 135 s := hF 135 s (by omega) (by omega) (by omega) (by omega)
      obtain ⟨e1, hVc, hcV, g, g1, g2, g3⟩ := hc s (by omega)
      obtain ⟨hxv, hxb⟩ := wcX_V (w := w) hcV
      have hxG := hxv.xG hxb (by decide)
      have w1 := hwV.1
      -- on to the next score
      have nxt : ∀ (N2 : Nat) (U L2 : Nat → Nat → Int) (A : Int → Nat → Int), clF S U → (∀ h, h ≠ 140 → L2 h = L h) → U 134 7 = (N2 : Int) → clI (mnV w t x0 (k + 1)) (k + 1) (U 137) (U 138) (L2 140) N2 A → (∀ c' j, A c' j = sumN s (fun i => mnC w how (c i) (mnK w t x0 k (c i)) c' j) + mnC w how (c s) (mnK w t x0 k (c s)) c' j) → zz_J zpX8_goes (zz_ret Q X 0 0) 146 [some (vr 134), some (vi hw), some (vi line), some (vi (s : Int)), none, none, none] [] ((2, f), U, L2, P) (0, 0) := by
        intro N2 U L2 A u1 u2 u3 u4 u5
        refine zwX8_goes_146 ?_
        have := ih (s + 1) N2 U L2 (by omega) u1 u2 u3 (u4.c u5)
        rw [show ((s + 1 : Nat) : Int) = (s : Int) + 1 by omega] at this
        exact this
      have hVv : ∀ c', ovR (w 194) (wcX w (c s)) = false → (c' = whR (rlR w (wcX w (c s)) how) ∨ (2 ≤ how ∧ wcX w (c s) 6 = 1 ∧ ∃ o, (o = 12 ∨ o = 13 ∨ o = 14) ∧ c' = whR (rlR w (wcX w (c s)) o))) → mnV w t x0 (k + 1) c' := fun c' => hVs (c s) c' hVc
      have hmC : ∀ c' j, mnC w how (c s) (mnK w t x0 k (c s)) c' j = if ovR (w 194) (wcX w (c s)) = true then 0 else mnT c' (mnK w t x0 k (c s)) (rlR w (wcX w (c s)) how) 0 j + (if 2 ≤ how ∧ wcX w (c s) 6 = 1 then mnE w (wcX w (c s)) how 12 (mnK w t x0 k (c s)) c' j + mnE w (wcX w (c s)) how 13 (mnK w t x0 k (c s)) c' j + mnE w (wcX w (c s)) how 14 (mnK w t x0 k (c s)) c' j else 0) := fun _ _ => rfl
      have src : ∀ {U L2 : Nat → Nat → Int}, clF S U → (∀ h, h ≠ 140 → L2 h = L h) → clS U L2 k s (c s) (mnK w t x0 k (c s)) := fun {U L2} u1 u2 => ⟨(u1 135 s (by omega) (by omega) (by omega) (by omega)).trans e1, hcV, g, (u1 136 s (by omega) (by omega) (by omega) (by omega)).trans g1, g2, by rw [u2 139 (by omega)]; exact g3⟩
      refine zwX8_goes_7 ⟨by omega, by rw [T6]; omega, fun z => absurd z (by rw [T6]; omega), fun _ => ⟨by omega, c s, by rw [Int.toNat_natCast, T5]; exact e1, hcV, ?_⟩⟩
      rw [wcX_w (fun _ => 0) w (c s)]
      have hx9 : ∀ j, 9 ≤ j → wcX w (c s) j = 0 := hxG.2
      rw [cx_cxW T 108 _ hx9]
      have hF1 : clF S (cxW T 108 (wcX w (c s))) := hF.cxW
      have q200 : cxW T 108 (wcX w (c s)) 200 1 = w 194 := (wq hF1).1
      have q108 : cxW T 108 (wcX w (c s)) 108 5 = wcX w (c s) 6 := rfl
      have q111 : cxW T 108 (wcX w (c s)) 111 0 = wcX w (c s) 4 := rfl
      have q7 : cxW T 108 (wcX w (c s)) 134 7 = (N' : Int) := (congrFun (cxW_o T 108 _ (by decide) (by decide) (by decide) (by decide)) 7).trans h7
      have qI : clI (mnV w t x0 (k + 1)) (k + 1) (cxW T 108 (wcX w (c s)) 137) (cxW T 108 (wcX w (c s)) 138) (L' 140) N' (fun c' j => sumN s (fun i => mnC w how (c i) (mnK w t x0 k (c i)) c' j)) := by
        rw [cxW_o T 108 _ (h := 137) (by decide) (by decide) (by decide) (by decide), cxW_o T 108 _ (h := 138) (by decide) (by decide) (by decide) (by decide)]
        exact hA
      rw [q200, q108, q111]
      generalize cxW T 108 (wcX w (c s)) = U at hF1 q7 qI ⊢
      have h4 := hxG.1 4
      have h6 : wcX w (c s) 6 = 0 ∨ wcX w (c s) 6 = 1 := by
        rcases hxv.2.2 with ⟨a, b⟩ | ⟨a, b, -⟩ | ⟨a, b, -⟩ <;> omega
      have hsx : scb (wcX w (c s)) := hxG.1
      -- as it was told
      have told : ovR (w 194) (wcX w (c s)) = false → ¬ (wcX w (c s) 6 = 1 ∧ hw = 2) → ∃ (w_3 : Nat → Int) (V_3 : Int → Prop) (A_3 : Int → Nat → Int) (K_3 : Nat → Int) (u_3 N_3 m_3 b_3 : Nat) (c_3 o_3 : Int), ((s : Int) = (u_3 : Int) ∧ u_3 < 4096 ∧ (0 : Int) = (m_3 : Int) ∧ m_3 ≤ 1 ∧ b_3 ≤ 100) ∧ (0 ≤ hw ∧ hw ≤ 2) ∧ R32 line ∧ wsc U w_3 ∧ wV w_3 ∧ clS U L' b_3 u_3 c_3 K_3 ∧ ovR (w_3 194) (wcX w_3 c_3) = false ∧ (wcX w_3 c_3 6 = 0 → hw = 2 → 0 ≤ line ∧ line ≤ 9) ∧ (o_3 = clH (wcX w_3 c_3) hw line ∧ 0 ≤ o_3 ∧ o_3 ≤ 14 ∧ (wcX w_3 c_3 6 = 0 → o_3 ≤ 11)) ∧ V_3 (whR (rlR w_3 (wcX w_3 c_3) o_3)) ∧ (∀ (f : Nat → Int) (m : Nat), (∀ i, i < m → V_3 (f i)) → (∀ i j, i < m → j < m → f i = f j → i = j) → m ≤ 4000) ∧ U 134 7 = (N_3 : Int) ∧ clI V_3 (b_3 + 1) (U 137) (U 138) (L' 140) N_3 A_3 ∧ (∀ (S_3 L_3 : Nat → Nat → Int) (n_3 : Nat), clF U S_3 → (∀ h, h ≠ 140 → L_3 h = L' h) → S_3 134 7 = (n_3 : Int) → clI V_3 (b_3 + 1) (S_3 137) (S_3 138) (L_3 140) n_3 (fun c j => A_3 c j + mnT c K_3 (rlR w_3 (wcX w_3 c_3) o_3) m_3 j) → zz_J zpX8_goes (zz_ret Q X 0 0) 146 [some (vr 134), some (vi hw), some (vi line), some (vi (s : Int)), none, none, none] [] ((2, f), S_3, L_3, P) (0, 0)) := by
        intro ov nd
        have eo : clH (wcX w (c s)) hw line = how := by
          unfold clH
          by_cases h2 : hw < 2
          · rw [if_pos h2, hh1 h2]
          · have e2 : hw = 2 := by omega
            rw [if_neg h2, if_neg (fun z => nd ⟨z, e2⟩), (hhl e2).2]
        refine ⟨w, mnV w t x0 (k + 1), _, mnK w t x0 k (c s), s, N', 0, k, c s, how, ⟨rfl, by omega, rfl, by decide, by omega⟩, hh, by omega, wq hF1, hwV, src hF1 hL, ov, fun _ e => (hhl e).1, ⟨eo.symm, hho.1, by omega, fun _ => hho.2⟩, hVv _ ov (Or.inl rfl), hB, q7, qI, fun S3 L3 n3 a1 a2 a3 a4 => ?_⟩
        refine nxt n3 S3 L3 _ (hF1.tr a1) (fun h hh => (a2 h hh).trans (hL h hh)) a3 a4 (fun c' j => ?_)
        rw [hmC, if_neg (by rw [ov]; decide), if_neg (fun z => nd ⟨z.2, ?_⟩), Int.add_zero]
        have z1 := z.1
        apply Decidable.byContradiction
        intro ne
        have := hh1 (by omega)
        omega
      refine ⟨hsx, by omega, fun ov => ?_, fun ov => ⟨by omega, fun z6 => told ov (fun z => by omega), fun n6 => ⟨by omega, fun n2 => told ov (fun z => n2 z.2), fun e2 => ?_⟩⟩⟩
      · refine nxt N' U L' _ hF1 hL q7 qI (fun c' j => ?_)
        rw [hmC, if_pos ov, Int.add_zero]
      · -- as it was told, and in two ways otherwise
        have e6 : wcX w (c s) 6 = 1 := by omega
        obtain ⟨hl9, ehow⟩ := hhl e2
        have hov : ¬ ovR (w 194) (wcX w (c s)) = true := by rw [ov]; decide
        generalize hKe : mnK w t x0 k (c s) = K at hmC src nxt
        generalize hxe : wcX w (c s) = x at hxv hxb h4 h6 hsx e6 hmC hVv ov hov
        have asI : mnAs x how = 12 ∧ line < x 4 ∨ mnAs x how = 14 ∧ line = x 4 ∨ mnAs x how = 13 ∧ x 4 < line := by
          unfold mnAs
          by_cases a : how - 2 < x 4
          · rw [if_pos a]; omega
          · rw [if_neg a]
            by_cases b : x 4 < how - 2
            · rw [if_pos b]; omega
            · rw [if_neg b]; omega
        -- one way: o, by the line x 4 + y6
        have one : ∀ (y6 o : Int), (y6 = -1 ∧ o = 12 ∨ y6 = 0 ∧ o = 14 ∨ y6 = 1 ∧ o = 13) → ∀ (N2 : Nat) (U L2 : Nat → Nat → Int) (A : Int → Nat → Int), clF S U → (∀ h, h ≠ 140 → L2 h = L h) → U 134 7 = (N2 : Int) → clI (mnV w t x0 (k + 1)) (k + 1) (U 137) (U 138) (L2 140) N2 A → (∀ (N3 : Nat) (U3 L3 : Nat → Nat → Int), clF S U3 → (∀ h, h ≠ 140 → L3 h = L h) → U3 134 7 = (N3 : Int) → clI (mnV w t x0 (k + 1)) (k + 1) (U3 137) (U3 138) (L3 140) N3 (fun c' j => A c' j + mnT c' K (rlR w x o) (if o = mnAs x how then 0 else 1) j) → zz_J zpX8_goes (zz_ret Q X 0 0) 106 [some (vr 134), some (vi hw), some (vi line), some (vi (s : Int)), none, some (vi (x 4)), some (vi (y6 + 1))] [] ((2, f), U3, L3, P) (0, 0)) → zz_J zpX8_goes (zz_ret Q X 0 0) 106 [some (vr 134), some (vi hw), some (vi line), some (vi (s : Int)), none, some (vi (x 4)), some (vi y6)] [] ((2, f), U, L2, P) (0, 0) := by
          intro y6 o hyo N2 U L2 A u1 u2 u3 u4 hgo
          have eo : clH x hw (x 4 + y6) = o := by
            unfold clH
            rw [if_neg (by omega), if_pos e6]
            rcases hyo with ⟨a, b⟩ | ⟨a, b⟩ | ⟨a, b⟩
            · rw [if_pos (by omega), b]
            · rw [if_neg (by omega), if_neg (by omega), b]
            · rw [if_neg (by omega), if_pos (by omega), b]
          have com : ∀ m : Nat, m ≤ 1 → m = (if o = mnAs x how then 0 else 1) → ∃ (w_3 : Nat → Int) (V_3 : Int → Prop) (A_3 : Int → Nat → Int) (K_3 : Nat → Int) (u_3 N_3 m_3 b_3 : Nat) (c_3 o_3 : Int), ((s : Int) = (u_3 : Int) ∧ u_3 < 4096 ∧ (m : Int) = (m_3 : Int) ∧ m_3 ≤ 1 ∧ b_3 ≤ 100) ∧ (0 ≤ hw ∧ hw ≤ 2) ∧ R32 (x 4 + y6) ∧ wsc U w_3 ∧ wV w_3 ∧ clS U L2 b_3 u_3 c_3 K_3 ∧ ovR (w_3 194) (wcX w_3 c_3) = false ∧ (wcX w_3 c_3 6 = 0 → hw = 2 → 0 ≤ x 4 + y6 ∧ x 4 + y6 ≤ 9) ∧ (o_3 = clH (wcX w_3 c_3) hw (x 4 + y6) ∧ 0 ≤ o_3 ∧ o_3 ≤ 14 ∧ (wcX w_3 c_3 6 = 0 → o_3 ≤ 11)) ∧ V_3 (whR (rlR w_3 (wcX w_3 c_3) o_3)) ∧ (∀ (f : Nat → Int) (m : Nat), (∀ i, i < m → V_3 (f i)) → (∀ i j, i < m → j < m → f i = f j → i = j) → m ≤ 4000) ∧ U 134 7 = (N_3 : Int) ∧ clI V_3 (b_3 + 1) (U 137) (U 138) (L2 140) N_3 A_3 ∧ (∀ (S_3 L_3 : Nat → Nat → Int) (n_3 : Nat), clF U S_3 → (∀ h, h ≠ 140 → L_3 h = L2 h) → S_3 134 7 = (n_3 : Int) → clI V_3 (b_3 + 1) (S_3 137) (S_3 138) (L_3 140) n_3 (fun c j => A_3 c j + mnT c K_3 (rlR w_3 (wcX w_3 c_3) o_3) m_3 j) → zz_J zpX8_goes (zz_ret Q X 0 0) 106 [some (vr 134), some (vi hw), some (vi line), some (vi (s : Int)), none, some (vi (x 4)), some (vi (y6 + 1))] [] ((2, f), S_3, L_3, P) (0, 0)) := by
            intro m hm em
            refine ⟨w, mnV w t x0 (k + 1), A, K, s, N2, m, k, c s, o, ⟨rfl, by omega, rfl, hm, by omega⟩, hh, by omega, wq u1, hwV, src u1 u2, by rw [hxe]; exact ov, fun z => by rw [hxe] at z; omega, ⟨by rw [hxe]; exact eo.symm, by omega, by omega, fun z => by rw [hxe] at z; omega⟩, ?_, hB, u3, u4, fun S3 L3 n3 a1 a2 a3 a4 => ?_⟩
            · rw [hxe]
              exact hVv _ ov (Or.inr ⟨by omega, e6, o, by omega, rfl⟩)
            · refine hgo n3 S3 L3 (u1.tr a1) (fun h hh => (a2 h hh).trans (u2 h hh)) a3 ?_
              rw [hxe, em] at a4
              exact a4
          refine zwX8_goes_106 ⟨by omega, fun z => by omega, fun _ => ⟨by omega, ?_, by omega, fun ne => ?_, fun eq => ?_⟩⟩
          · split
            · decide
            · split <;> decide
          · have := com 1 (Nat.le_refl _) ?_
            · exact this
            · rw [if_neg (fun e => ne ?_)]
              rcases asI with ⟨a, b⟩ | ⟨a, b⟩ | ⟨a, b⟩
              · rw [if_pos (by omega)]; omega
              · rw [if_neg (by omega), if_pos (by omega)]; omega
              · rw [if_neg (by omega), if_neg (by omega)]; omega
          · have := com 0 (by decide) ?_
            · exact this
            · rw [if_pos ?_]
              rcases asI with ⟨a, b⟩ | ⟨a, b⟩ | ⟨a, b⟩
              · rw [if_pos (by omega)] at eq; omega
              · rw [if_neg (by omega), if_pos (by omega)] at eq; omega
              · rw [if_neg (by omega), if_neg (by omega)] at eq; omega
        refine one (-1) 12 (Or.inl ⟨rfl, rfl⟩) N' U L' _ hF1 hL q7 qI (fun N1 U1 L1 a1 a2 a3 a4 => ?_)
        refine one 0 14 (Or.inr (Or.inl ⟨rfl, rfl⟩)) N1 U1 L1 _ a1 a2 a3 a4 (fun N2 U2 L2 b1 b2 b3 b4 => ?_)
        refine one 1 13 (Or.inr (Or.inr ⟨rfl, rfl⟩)) N2 U2 L2 _ b1 b2 b3 b4 (fun N3 U3 L3 d1 d2 d3 d4 => ?_)
        refine zwX8_goes_106 ⟨by decide, fun _ => nxt N3 U3 L3 _ d1 d2 d3 d4 (fun c' j => ?_), fun z => absurd (by decide) z⟩
        rw [hmC, if_neg hov, if_pos (show 2 ≤ how ∧ x 6 = 1 from ⟨by omega, e6⟩), rl_as e6 (by omega) hho.2]
        unfold mnE
        rcases asI with ⟨a, -⟩ | ⟨a, -⟩ | ⟨a, -⟩ <;> rw [a] <;> simp <;> omega
  refine zwX8_goes_0 ?_
  refine t7 N 0 0 _ L (by omega) (fun h j _ _ _ h4 => by rw [up_eq, if_neg h4]) (fun _ _ => rfl) (by rw [up_eq, if_pos ⟨rfl, rfl⟩]; rfl) ?_
  exact clI.nil
