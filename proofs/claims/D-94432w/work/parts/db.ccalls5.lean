/-! ===== the component's calls that make another world; the world under its old names ===== -/
set_option maxRecDepth 100000
/-- the handles of the world at t and those of the world's old place change their names -/
def sw (t h : Nat) : Nat := if 200 ≤ h ∧ h < 226 ∧ h ≠ 208 ∧ h ≠ 209 then t + (h - 200) else if t ≤ h ∧ h < t + 26 ∧ h ≠ t + 8 ∧ h ≠ t + 9 then 200 + (h - t) else h
theorem sw_o {t h : Nat} (h1 : ¬ (200 ≤ h ∧ h < 226 ∧ h ≠ 208 ∧ h ≠ 209)) (h2 : ¬ (t ≤ h ∧ h < t + 26 ∧ h ≠ t + 8 ∧ h ≠ t + 9)) : sw t h = h := by
  unfold sw
  rw [if_neg h1, if_neg h2]
theorem sw_i {t i : Nat} (h1 : i < 26) (h2 : i ≠ 8) (h3 : i ≠ 9) : sw t (200 + i) = t + i := by
  unfold sw
  rw [if_pos (by omega)]
  omega
theorem sw_t {t i : Nat} (ht : 2000 ≤ t) (h1 : i < 26) (h2 : i ≠ 8) (h3 : i ≠ 9) : sw t (t + i) = 200 + i := by
  unfold sw
  rw [if_neg (by omega), if_pos (by omega)]
  omega
theorem sw_b {t b : Nat} (ht : 2000 ≤ t) (h : b < 200 ∨ (226 ≤ b ∧ b < t)) : sw t b = b := sw_o (by omega) (by omega)
theorem sw_sw {t : Nat} (ht : 2000 ≤ t) (h : Nat) : sw t (sw t h) = h := by
  by_cases c : 200 ≤ h ∧ h < 226 ∧ h ≠ 208 ∧ h ≠ 209
  · have e : sw t h = t + (h - 200) := if_pos c
    rw [e, sw_t ht (by omega) (by omega) (by omega)]
    omega
  · by_cases c2 : t ≤ h ∧ h < t + 26 ∧ h ≠ t + 8 ∧ h ≠ t + 9
    · have e : sw t h = 200 + (h - t) := by
        unfold sw
        rw [if_neg c, if_pos c2]
      rw [e, sw_i (by omega) (by omega) (by omega)]
      omega
    · rw [sw_o c c2, sw_o c c2]
/-- the references under the new names -/
def pw (t : Nat) (P : Nat → Nat → Option Nat) : Nat → Nat → Option Nat := fun h k => if zfx 2 h k = true then cP h k else (P (sw t h) k).map (sw t)
theorem pw_f {t : Nat} {P : Nat → Nat → Option Nat} {h k : Nat} (e : zfx 2 h k = false) : pw t P h k = (P (sw t h) k).map (sw t) := by
  unfold pw
  rw [e, if_neg (by decide)]
/-- shapes and references of memory of kind 3 -/
def zs3 (f : Nat → Nat × Nat) (h : Nat) : Nat × Nat := bif zfs 3 h then cS h else f h
def zp3 (P : Nat → Nat → Option Nat) (h k : Nat) : Option Nat := bif zfx 3 h k then cP h k else P h k
theorem zs3_f {f : Nat → Nat × Nat} {h : Nat} (e : zfs 2 h = false) : zs3 f h = f h := by
  unfold zs3
  rw [show zfs 3 h = zfs 2 h from rfl, e]
  rfl
theorem zp3_f {P : Nat → Nat → Option Nat} {h k : Nat} (e : zfx 3 h k = false) : zp3 P h k = P h k := by
  unfold zp3
  rw [e]
  rfl
/-- the component with another world at t -/
def C3 (x : aS) (t : Nat) (f : Nat → Nat × Nat) (S : Nat → Nat → Int) (P : Nat → Nat → Option Nat) (top : Nat) : Prop :=
  (2000 ≤ t ∧ t + 26 ≤ top) ∧ (f t = (1, 1) ∧ wSh f P t 100 ∧ P 100 0 = some t) ∧ CI x (fun h => zs3 f (sw t h)) (fun h => S (sw t h)) (pw t (zp3 P)) top
theorem cx_sw {T S : Nat → Nat → Int} {a b : Nat} (e : ∀ i, i ≤ 3 → T (a + i) = S (b + i)) : cx T a = cx S b := by
  have e0 : T a = S b := e 0 (by decide)
  unfold cx
  rw [e0, e 1 (by decide), e 2 (by decide), e 3 (by decide)]
theorem wSh.fw {t lo hi h x : Nat} {f f' : Nat → Nat × Nat} {S S' : Nat → Nat → Int} {P P' : Nat → Nat → Option Nat} (q : wSh f P h x) (a : agW t lo hi f S P f' S' P') (h1 : lo ≤ h) (h2 : h + 26 ≤ hi) (h3 : 226 ≤ h) (h4 : h + 26 ≤ t) (hx : x < 200) (hl : (f h).1 ≠ 0) : wSh f' P' h x := by
  have A := fun (j : Nat) (a1 : h ≤ j) (a2 : j < h + 26) (a3 : (f j).1 ≠ 0) => a j (by omega) (by omega) a3
  obtain ⟨⟨⟨q1, q2, q3, q4, q5⟩, q6⟩, ⟨r1, r2, r3, r4, r5⟩, q8, s1, s2, s3, s4⟩ := q
  refine ⟨⟨⟨?_, fun i hi => ?_, ?_, ?_, ?_⟩, fun i c d => ?_⟩, ⟨?_, ?_, ?_, ?_, ?_⟩, fun i hi => ?_, ?_, ?_, ?_, ?_⟩
  · rw [(A (h + 1) (by omega) (by omega) (by rw [q1]; decide)).1]; exact q1
  · rw [(A (h + 10 + i) (by omega) (by omega) (by rw [q2 i hi]; decide)).1]; exact q2 i hi
  · rw [(A (h + 2) (by omega) (by omega) (by rw [q3]; decide)).1]; exact q3
  · rw [(A (h + 3) (by omega) (by omega) (by rw [q4]; decide)).1]; exact q4
  · rw [(A (h + 4) (by omega) (by omega) (by rw [q5]; decide)).1]; exact q5
  · rw [(A (h + i) (by omega) (by omega) (by rw [q6 i c d]; decide)).1]; exact q6 i c d
  · exact (A h (by omega) (by omega) hl).2.2.2 6 _ r1 (by omega)
  · exact (A h (by omega) (by omega) hl).2.2.2 7 _ r2 (by omega)
  · exact (A h (by omega) (by omega) hl).2.2.2 8 _ r3 (by omega)
  · exact (A h (by omega) (by omega) hl).2.2.2 9 _ r4 (by omega)
  · exact (A h (by omega) (by omega) hl).2.2.2 10 _ r5 (by omega)
  · exact (A (h + 1) (by omega) (by omega) (by rw [q1]; decide)).2.2.2 i _ (q8 i hi) (by omega)
  · exact (A (h + 4) (by omega) (by omega) (by rw [q5]; decide)).2.2.2 0 _ s1 (by omega)
  · exact (A (h + 4) (by omega) (by omega) (by rw [q5]; decide)).2.2.2 1 _ s2 (by omega)
  · exact (A (h + 4) (by omega) (by omega) (by rw [q5]; decide)).2.2.2 2 _ s3 (by omega)
  · exact (A (h + 4) (by omega) (by omega) (by rw [q5]; decide)).2.2.2 6 _ s4 (by omega)
theorem rlX.fw {hl e m t av y u : Nat} {f f' : Nat → Nat × Nat} {S S' : Nat → Nat → Int} {P P' : Nat → Nat → Option Nat} {rs : List (Fc → Option Int)} (q : rlX hl e m t av f S P rs) (a : agW t 2000 t f S P f' S' P') (h1 : 2000 ≤ hl) (h2 : hl < t) (hu : t ≤ u) (hy : y = av ∨ y = 1300 ∨ t ≤ y) (hf : (f hl).1 ≠ 0) : rlX hl e m u y f' S' P' rs := by
  obtain ⟨q1, q2, q3, q4, q5, q6, q7, q8, l, q9, q10⟩ := q
  obtain ⟨a1, a2, a3, a4⟩ := a hl h1 h2 hf
  refine ⟨by omega, by rw [a2]; exact q2, q3, a4 1 e q4 ?_, q5, q6, q7, ?_, l, q9, fun i x r b1 b2 => ?_⟩
  · rcases q8 with ⟨c, -⟩ | ⟨c, -⟩
    · omega
    · have := c.2.1
      have := c.2.2
      omega
  · rcases q8 with c | ⟨c1, c2, c3, c4⟩
    · exact Or.inl c
    · refine Or.inr ⟨⟨c1.1, c1.2.1, by have := c1.2.2; omega⟩, c2, ?_, c4⟩
      rw [(a e c1.2.1 c1.2.2 (by rw [c3]; exact Nat.succ_ne_zero 6)).1]
      exact c3
  · obtain ⟨p1, lo, hi, p2, p3, p4, p5, p6, p7⟩ := q10 i x r b1 b2
    refine ⟨?_, lo, hi, p2, by omega, p4, p5, by omega, p7.fw p3 (a.sub p2 p3)⟩
    have hx := p7.1.lt p3
    rcases q8 with ⟨-, z⟩ | ⟨c, -, c3, -⟩
    · have : i < l.length := (List.getElem?_eq_some_iff.mp b1).1
      omega
    · exact (a e c.2.1 c.2.2 (by rw [c3]; exact Nat.succ_ne_zero 6)).2.2.2 i x p1 (by omega)
theorem imC.fw {g e' m' t e y u : Nat} {f f' : Nat → Nat × Nat} {S S' : Nat → Nat → Int} {P P' : Nat → Nat → Option Nat} {v : Nat → Int} {rs : List (Fc → Option Int)} (q : imC g e' m' t e f S P v rs) (a : agW t 2000 t f S P f' S' P') (hu : t ≤ u) (hy : y = e ∨ y = 1300 ∨ t ≤ y) : imC g e' m' u y f' S' P' v rs := by
  obtain ⟨⟨q1, q2⟩, q3, ⟨q4, q5⟩, ⟨q6, q7, q8, q9, q10⟩, ⟨q11, q12⟩, q13, q14, q15⟩ := q
  have A := fun (h : Nat) (h1 : g ≤ h) (h2 : h ≤ g + 25) (h3 : (f h).1 ≠ 0) => a h (by omega) (by omega) h3
  have w := q5.1
  have z0 : (f g).1 ≠ 0 := by rw [q4]; decide
  have z4 : ∀ i, i ≤ 3 → (f (g + 4 + i)).1 ≠ 0 := fun i hi => by
    rcases (show i = 0 ∨ 1 ≤ i by omega) with c | c
    · subst c
      rw [show g + 4 + 0 = g + 4 from rfl, w.1.2.2.2.2]
      decide
    · rw [show g + 4 + i = g + (4 + i) by omega, w.2 (4 + i) (by omega) (by omega)]
      decide
  have ecx : cx S' (g + 4) = cx S (g + 4) := cx_sw fun i hi => (A (g + 4 + i) (by omega) (by omega) (z4 i hi)).2.1
  have ee := q11.e
  refine ⟨⟨q1, by omega⟩, by omega, ⟨by rw [(A g (by omega) (by omega) z0).1]; exact q4, q5.fw a (by omega) (by omega) (by omega) (by omega) (by decide) z0⟩, ?_, ⟨q11.fw a (by omega) (by omega) hu hy (by rw [w.1.2.2.1]; decide), q12⟩, fun p hp => by rw [(A (g + 3) (by omega) (by omega) (by rw [w.1.2.2.2.1]; decide)).2.1]; exact q13 p hp, by rw [ecx]; exact q14, by rw [ecx]; exact q15⟩
  rw [(A g (by omega) (by omega) z0).2.1]
  refine ⟨?_, q7, q8, q9, q10⟩
  obtain ⟨w1, w2, w3, w4⟩ := q6
  unfold drW
  rw [(A g (by omega) (by omega) z0).2.1]
  exact ⟨fun i k hi hk => by rw [(A (g + 10 + i) (by omega) (by omega) (by rw [w.1.2.1 i hi]; decide)).2.1]; exact w1 i k hi hk, w2, w3, w4⟩
section
variable {x : aS} {f : Nat → Nat × Nat} {S L : Nat → Nat → Int} {P : Nat → Nat → Option Nat} {top : Nat} {a b d g : Int}
/-- a world that was copied is the world now -/
theorem C3.mk {t h0 e0 n u n' hh : Nat} {r w' vr t' : Nat → Int} {v fl' : Int} {rs : List (Fc → Option Int)} {f' : Nat → Nat × Nat} {S' : Nat → Nat → Int} {P' : Nat → Nat → Option Nat} (t2 : 2000 ≤ t) (hu : t + 26 ≤ u) (hf : frF f' u)
    (A1 : ∀ h, h < t → f' h = f h) (A2 : ∀ h k, h < t → h ≠ 101 → ¬ (h = 100 ∧ k = 8) → S' h k = S h k) (A8 : S' 100 8 = 0) (A3 : ∀ h k, h < t → ¬ (h = 100 ∧ k = 0) → P' h k = P h k) (A0 : P' 100 0 = some t)
    (E : cpE t h0 e0 n r v f S L P f' S' P') (hn : n = rs.length) (h6 : rs.length ≤ 6) (hel : 0 < rs.length → ∃ l : List Nat, l.length = rs.length ∧ ∀ (i y : Nat) (q : Fc → Option Int), l[i]? = some y → rs[i]? = some q → zpt ((2, f), S, L, P) e0 i = some y ∧ ∃ lo hi : Nat, 2000 ≤ lo ∧ hi ≤ t ∧ ruT lo hi f S P y q)
    (hW : WI w') (v0 : v = w' 192) (v4 : S h0 4 = w' 197) (v5 : S h0 5 = w' 198) (hr : ∀ k, k < 192 → r k = w' k) (hr' : r 194 = w' 194 ∧ r 195 = w' 195 ∧ r 196 = w' 196) (e193 : w' 193 = (rs.length : Int)) (e3 : ∀ p, p < 2 → S (h0 + 3) p = w' (199 + p)) (hx : xE (cx S (h0 + 4)) (nwW w')) (hb : scb (cx S (h0 + 4))) (hR : ruR w' rs)
    (cn : ∀ q, q = 116 ∨ q = 120 ∨ q = 124 → ∃ a, cN P q a) (lo : (∀ h, h < 100 → h ≠ 51 → (f h).1 = 0) ∧ f 51 = (3, 1))
    (T1 : S' 101 1 = (n' : Int)) (T2 : ∀ k, k < n' → S' 102 k = cby (t' k)) (T5 : S' 101 5 = fl')
    (C6 : (hh = 0 ∧ P 100 1 = none) ∨ (hh = 1 ∧ ∃ (g e1 m1 e : Nat) (rs1 : List (Fc → Option Int)), P 100 1 = some g ∧ imC g e1 m1 t e f S P vr rs1)) : C3 (w', vr, hh, t', n', fl') t f' S' P' u := by
  obtain ⟨p1, p2, ⟨p3, p4, p5⟩, ⟨p6a, p6b, p6c, p6d⟩, ⟨p7, p8, p9⟩, p10, p11⟩ := E
  refine ⟨⟨t2, hu⟩, ⟨p1, p2, A0⟩, ?_⟩
  obtain ⟨F, hF⟩ : ∃ F : Nat → Nat × Nat, (fun h => zs3 f' (sw t h)) = F := ⟨_, rfl⟩
  obtain ⟨T, hT⟩ : ∃ T : Nat → Nat → Int, (fun h => S' (sw t h)) = T := ⟨_, rfl⟩
  rw [hF, hT]
  have F0 : ∀ h, F h = zs3 f' (sw t h) := fun h => by rw [← hF]
  have F2 : ∀ h, 2000 ≤ h → zs3 f' h = f' h := fun h hh => zs3_f (zfs_hi hh)
  have P2 : ∀ h k, 2000 ≤ h → zp3 P' h k = P' h k := fun h k hh => zp3_f (zfx_of (show zfs 3 h = false from zfs_hi hh) k)
  have T0 : ∀ h, T h = S' (sw t h) := fun h => by rw [← hT]
  have Ti : ∀ i, i < 26 → i ≠ 8 → i ≠ 9 → T (200 + i) = S' (t + i) := fun i a b c => by rw [T0, sw_i a b c]
  have To : ∀ h, h < 200 → T h = S' h := fun h hh => by rw [T0, sw_b t2 (Or.inl hh)]
  have Fo : ∀ h, h < 100 → F h = f h := fun h hh => by rw [F0, sw_b t2 (Or.inl (by omega)), zs3_f (zfs_lo hh), A1 h (by omega)]
  have Qo : ∀ h k, h < 200 → zfx 2 h k = false → zfx 3 h k = false → ¬ (h = 100 ∧ k = 0) → pw t (zp3 P') h k = (P h k).map (sw t) := fun h k hh e e3 hk => by rw [pw_f e, sw_b t2 (Or.inl hh), zp3_f e3, A3 h k (by omega) hk]
  have aW : agW t 2000 t f S P F T (pw t (zp3 P')) := by
    intro h h1 h2 _
    have e := sw_b t2 (Or.inr ⟨by omega, h2⟩ : h < 200 ∨ (226 ≤ h ∧ h < t))
    have eP : ∀ k, pw t (zp3 P') h k = (P h k).map (sw t) := fun k => by rw [pw_f (zfx_of (zfs_hi h1) k), e, P2 h k h1, A3 h k h2 (by omega)]
    refine ⟨by rw [F0, e, F2 h h1, A1 h h2], ?_, fun k hk => by rw [eP, hk]; rfl, fun k b hk hb => by rw [eP, hk, Option.map_some, sw_b t2 hb]⟩
    funext k
    rw [T0, e, A2 h k h2 (by omega) (by omega)]
  have q202 : pw t (zp3 P') 202 1 = (P' (t + 2) 1).map (sw t) := by rw [pw_f rfl, show sw t 202 = t + 2 from sw_i (i := 2) (by decide) (by decide) (by decide), P2 (t + 2) 1 (by omega)]
  have s9 : sw t (t + 9) = t + 9 := sw_o (by omega) (by omega)
  have hlist : ∃ e2 m2 : Nat, (e2 = 1300 ∨ e2 = t + 9) ∧ rlX 202 e2 m2 u t F T (pw t (zp3 P')) rs := by
    refine rlX.mk t2 hu h6 ?_ (fun c => ?_) (fun c => ⟨?_, ?_⟩) (Or.inl (by decide)) (fun c => ?_)
    · rw [show T 202 = S' (t + 2) from Ti 2 (by decide) (by decide) (by decide), p7, hn]
    · rw [q202, p8 (by omega), Option.map_some, sw_b t2 (by omega)]
    · rw [q202, (p9 (by omega)).1, Option.map_some, s9]
    · rw [F0, s9, F2 (t + 9) (by omega)]
      exact (p9 (by omega)).2.1
    · obtain ⟨l, k1, k2⟩ := hel c
      refine ⟨l, k1, fun i y q b1 b2 => ?_⟩
      have hi : i < l.length := (List.getElem?_eq_some_iff.mp b1).1
      obtain ⟨z1, lo, hi', z2, z3, z4⟩ := k2 i y q b1 b2
      have hy := z4.1.lt z3
      refine ⟨?_, lo, hi', z2, z3, Or.inr z3, z4.fw z3 (aW.sub z2 z3)⟩
      rw [pw_f (zfx_of (zfs_hi (by omega)) i), s9, P2 (t + 9) i (by omega), (p9 (by omega)).2.2 i (by omega), z1, Option.map_some, sw_b t2 (Or.inr hy)]
  obtain ⟨e2, m2, he2, hX⟩ := hlist
  have G := hX.G
  have ecx : cx T 204 = cx S (h0 + 4) := (cx_sw (fun i hi => by rw [show 204 + i = 200 + (4 + i) by omega, Ti (4 + i) (by omega) (by omega) (by omega), show t + (4 + i) = t + 4 + i by omega])).trans p11
  have CN : ∀ q, q = 116 ∨ q = 120 ∨ q = 124 → ∃ a, cN (pw t (zp3 P')) q a := fun q hq => by
    obtain ⟨a, ha⟩ := cn q hq
    have z : ∀ k, k < 2 → zfx 2 q k = false ∧ zfx 3 q k = false := fun k hk => by
      rcases (show k = 0 ∨ k = 1 by omega) with e | e <;> subst e <;> rcases hq with e | e | e <;> subst e <;> exact ⟨rfl, rfl⟩
    have ha1 := ha.1
    refine ⟨a, ha.1, ?_, ?_⟩
    · rw [Qo q 0 (by omega) (z 0 (by decide)).1 (z 0 (by decide)).2 (by omega), ha.2.1, Option.map_some, sw_b t2 (Or.inl (by omega))]
    · rw [Qo q 1 (by omega) (z 1 (by decide)).1 (z 1 (by decide)).2 (by omega), ha.2.2, Option.map_some, sw_b t2 (Or.inl (by omega))]
  have e200 : T 200 = S' t := Ti 0 (by decide) (by decide) (by decide)
  have e203 : T 203 = S' (t + 3) := Ti 3 (by decide) (by decide) (by decide)
  refine ⟨rs, e2, m2, ⟨?_, hW.1, Or.inl (by rw [To 100 (by decide)]; exact A8), ⟨G.I, hR, fun p hp => ?_⟩, ?_, CN 116 (by omega), CN 120 (by omega), CN 124 (by omega)⟩, G, ⟨⟨hf.1, fun h hh => ?_⟩, fun h h1 h2 => by rw [Fo h (by omega)]; exact lo.1 h h1 h2, by rw [Fo 51 (by decide)]; exact lo.2⟩, ⟨by rw [To 101 (by decide)]; exact T1, fun k hk => by rw [To 102 (by decide)]; exact T2 k hk⟩, by rw [To 101 (by decide)]; exact T5, ?_⟩
  · unfold wRel wsc
    rw [e200, e203]
    refine ⟨⟨p6b.trans hr'.1, p6c.trans hr'.2.1, p6d.trans hr'.2.2, p4.trans v4, p5.trans v5⟩, p3.trans v0, G.2.1.trans e193.symm, (p10 0 (by decide)).trans (e3 0 (by decide)), (p10 1 (by decide)).trans (e3 1 (by decide)), fun i k hi hk => ?_⟩
    rw [show 210 + i = 200 + (10 + i) by omega, Ti (10 + i) (by omega) (by omega) (by omega), show t + (10 + i) = t + 10 + i by omega]
    exact (p6a i k hi hk).trans (hr _ (by omega))
  · obtain ⟨-, -, -, ⟨r0, hr0, -, -, hp4⟩, -⟩ := hW
    have := hp4 p hp
    have e : T 203 p = w' (199 + p) := by rw [e203]; exact (p10 p hp).trans (e3 p hp)
    unfold prI
    rw [e]
    omega
  · rw [ecx]
    exact ⟨hx, hW.2.1.1, hb⟩
  · have : sw t h = h := sw_o (by have := hf.1; omega) (by omega)
    rw [F0, this, F2 h (by have := hf.1; omega)]
    exact hf.2 h hh
  · show (hh = 0 ∧ pw t (zp3 P') 100 1 = none) ∨ _
    rw [Qo 100 1 (by decide) rfl rfl (by omega)]
    rcases C6 with ⟨c1, c2⟩ | ⟨c1, g, e1, m1, e, rs1, c2, c3⟩
    · exact Or.inl ⟨c1, by rw [c2]; rfl⟩
    · have g1 := c3.1.1
      have g2 := c3.1.2
      refine Or.inr ⟨c1, g, e1, m1, rs1, ?_, c3.fw aW (by omega) (by omega)⟩
      rw [c2, Option.map_some, sw_b t2 (by omega)]
def eQ3 (y : Int × Int × aS) : Option zv → zz_M → Prop := fun r M' => y.1 = 0 ∧ r = some (vi y.2.1) ∧ ∃ t f' S' L' P' top', M' = ((3, f'), S', L', P') ∧ C3 y.2.2 t f' S' P' top'
theorem eQ3.mk {y : Int × Int × aS} {v : Int} {x' : aS} {t : Nat} (hy : y = (0, v, x')) (C : C3 x' t f S P top) : eQ3 y (some (vi v)) ((3, f), S, L, P) := by
  subst hy
  exact ⟨rfl, rfl, _, _, _, _, _, _, rfl, C⟩
theorem el_of {e m : Nat} {rs : List (Fc → Option Int)} (q : rlG 202 e m top f S P rs) : 0 < rs.length → ∃ l : List Nat, l.length = rs.length ∧ ∀ (i y : Nat) (q : Fc → Option Int), l[i]? = some y → rs[i]? = some q → zpt ((2, f), S, L, P) e i = some y ∧ ∃ lo hi : Nat, 2000 ≤ lo ∧ hi ≤ top ∧ ruT lo hi f S P y q := by
  intro hpos
  obtain ⟨q1, q2, q3, q4, q5, q6, q7, q8, l, q9, q10⟩ := q
  refine ⟨l, q9, fun i y r a1 a2 => ?_⟩
  obtain ⟨p1, lo, hi, p2, p3, p4, p5, p6⟩ := q10 i y r a1 a2
  refine ⟨?_, lo, hi, p2, p3, p6⟩
  rcases q8 with c | c
  · omega
  · rw [zpt_hi c.1.le]
    exact p1
theorem el_ofX {hl e m av : Nat} {rs : List (Fc → Option Int)} (q : rlX hl e m top av f S P rs) : 0 < rs.length → ∃ l : List Nat, l.length = rs.length ∧ ∀ (i y : Nat) (q : Fc → Option Int), l[i]? = some y → rs[i]? = some q → zpt ((2, f), S, L, P) e i = some y ∧ ∃ lo hi : Nat, 2000 ≤ lo ∧ hi ≤ top ∧ ruT lo hi f S P y q := by
  intro hpos
  obtain ⟨q1, q2, q3, q4, q5, q6, q7, q8, l, q9, q10⟩ := q
  refine ⟨l, q9, fun i y r a1 a2 => ?_⟩
  obtain ⟨p1, lo, hi, p2, p3, p4, p5, -, p6⟩ := q10 i y r a1 a2
  refine ⟨?_, lo, hi, p2, p3, p6⟩
  rcases q8 with c | c
  · omega
  · rw [zpt_hi c.1.le]
    exact p1
theorem CI.C6 {e : Nat} {v : Nat → Int} {hh : Nat} (C6 : (hh = 0 ∧ P 100 1 = none) ∨ (hh = 1 ∧ ∃ (g e' m' : Nat) (rs' : List (Fc → Option Int)), P 100 1 = some g ∧ imC g e' m' top e f S P v rs')) : (hh = 0 ∧ P 100 1 = none) ∨ (hh = 1 ∧ ∃ (g e1 m1 e : Nat) (rs1 : List (Fc → Option Int)), P 100 1 = some g ∧ imC g e1 m1 top e f S P v rs1) :=
  C6.imp id (fun ⟨h1, g, e', m', rs', h2, h3⟩ => ⟨h1, g, e', m', e, rs', h2, h3⟩)
theorem le02 (C : CI x f S P top) (hA : AI x) : zX1_court [vr 100] ((2, f), S, L, P) (eQ3 (sm2 x)) (eX [(1, 1), (2, 2)] (sm2 x)) := by
  apply oX1_court
  have hK := ka2 hA
  obtain ⟨rs, e, m, c1, c2, c3, c4, c5, c6⟩ := id C
  have hn := hA.2.2.1.1
  have t2 := c2.1
  obtain ⟨⟨w1, w2, w3, w4, w5⟩, r2, r3, r4, r5, r6⟩ := id c1.1
  have h12 := hA.1.2.2.1
  have e193 : x.1 193 = (rs.length : Int) := by
    have h2 := c2.2.1
    omega
  have thr : ∀ (fl : Int) (S' L' : Nat → Nat → Int) (P' : Nat → Nat → Option Nat) (f' : Nat → Nat × Nat) (u : Nat), grc top u f S L P f' S' L' P' → S' 101 1 = 0 → S' 101 5 = fl → CI (aN x x.1 0 fl) f' S' P' u := fun fl S' L' P' f' u q h1 h5 =>
    C.mv q.1 q.2.2.2 (fun h hh => (q.2.1 h hh).1) (fun h k hh a1 _ _ _ _ => q.2.2.1 h k hh a1) (fun h k hh _ => by rw [(q.2.1 h hh).2.2]) ⟨h1, fun k hk => absurd hk (Nat.not_lt_zero _)⟩ h5
  refine ⟨x.2.2.2.1, x.1, x.2.2.2.2.1, top, e, m, rs.length, ⟨hn, C.tape.1, fun k hk => ⟨hA.2.2.1.2 k (by omega), C.tape.2.1 k hk⟩⟩, wo_of c1 c2, c3.1, dr_of c1.1, hA.1.1.1.1, by omega, fun v hv S' L' P' f' u q h1 h5 => ?_, fun r hr => ⟨fun c S' L' P' f' u q h1 h5 => ?_, fun c S' L' P' f' u q h1 h5 E => ?_⟩⟩
  · exact eX.mk (c := 1) (v := 0) (x' := aN x x.1 0 (v : Int)) (by unfold sm2; rw [hv]) (by decide) (thr _ S' L' P' f' u q h1 h5)
  · exact eX.mk (c := 2) (v := 0) (x' := aN x x.1 0 (-1)) (by unfold sm2; rw [hr]; exact if_pos (by omega)) (by decide) (thr _ S' L' P' f' u q h1 h5)
  · have es : sm2 x = (0, x.1 192 + 1, aN x (fun k => if k = 192 then x.1 192 + 1 else r k) 0 (-1)) := by unfold sm2; rw [hr]; exact if_neg (by omega)
    rw [es] at hK
    obtain ⟨g1, g2, g3⟩ := ctW_r hr hA.1.1.1.1
    have o : ∀ k, k ≠ 192 → (fun k => if k = 192 then x.1 192 + 1 else r k) k = r k := fun k hk => if_neg hk
    have o2 : ∀ k, (k = 193 ∨ 197 ≤ k) → (fun k => if k = 192 then x.1 192 + 1 else r k) k = x.1 k := fun k hk => (o k (by omega)).trans (g3 k (by omega))
    obtain ⟨q1, q2, q3, q4, q5, q6, q7⟩ := q
    rw [r2]
    refine eQ3.mk es (C3.mk t2 q1 q2 (fun h hh => (q3 h hh).1) q4 q5 q6 q7 E rfl c2.2.2.1 (el_of c2) hK.1 ?_ ?_ ?_ (fun k hk => (o k (by omega)).symm) ⟨(o 194 (by decide)).symm, (o 195 (by decide)).symm, (o 196 (by decide)).symm⟩ ((o2 193 (by omega)).trans e193) (fun p hp => ?_) ?_ c1.2.2.2.2.1.2.2 (fun i q hq => ?_) (fun q hq => ?_) c3.2 h1 (fun k hk => absurd hk (Nat.not_lt_zero _)) h5 (CI.C6 c6))
    · rw [r2]
      exact (if_pos rfl).symm
    · exact w4.trans (o2 197 (by omega)).symm
    · exact w5.trans (o2 198 (by omega)).symm
    · rcases (show p = 0 ∨ p = 1 by omega) with z | z <;> subst z
      · exact r4.trans (o2 199 (by omega)).symm
      · exact r5.trans (o2 200 (by omega)).symm
    · rw [nwW_c (w := x.1) (fun k k1 k2 => o2 k (by omega))]
      exact c1.2.2.2.2.1.1
    · obtain ⟨c', z1, z2⟩ := c1.2.2.2.1.2.1 i q hq
      have eN : trN (fun k => if k = 192 then x.1 192 + 1 else r k) i = trN x.1 i := by
        unfold trN
        rw [o2 _ (by omega)]
      have eT : trT (fun k => if k = 192 then x.1 192 + 1 else r k) i = trT x.1 i := funext fun k => o2 _ (by omega)
      exact ⟨c', by rw [eN, eT]; exact z1, z2⟩
    · rcases hq with z | z | z <;> subst z
      · exact c1.2.2.2.2.2.1
      · exact c1.2.2.2.2.2.2.1
      · exact c1.2.2.2.2.2.2.2
theorem wo_im {g e' m' e : Nat} {v : Nat → Int} {rs : List (Fc → Option Int)} (q : imC g e' m' top e f S P v rs) (hV : scV (nwW v)) : woZ ((2, f), S, L, P) g e' m' rs.length := by
  obtain ⟨⟨q1, q2⟩, q3, ⟨q4, ⟨⟨a1, a2, a3, a4, a5⟩, a6⟩, ⟨b1, b2, b3, b4, b5⟩, b6, b7, b8, b9, b10⟩, -, ⟨⟨k1, k2, k3, k4, k5, k6, k7, k8, l, k9, k10⟩, -⟩, -, q14, -⟩ := q
  have hV := scV_xE hV q14
  have h6 : S (g + 4) 5 = 0 ∨ S (g + 4) 5 = 1 := by
    have hh := hV.2.2
    unfold Jvm.Pilot.CChaseCourtLaw_law_r1587_f51dab.hV at hh
    have e : cx S (g + 4) 6 = S (g + 4) 5 := rfl
    rw [e] at hh
    omega
  have zf : ∀ j, g ≤ j → zsh ((2, f), S, L, P) j = f j := fun j hj => zsh_hi (by omega)
  have zp : ∀ j k, g ≤ j → zpt ((2, f), S, L, P) j k = P j k := fun j k hj => zpt_hi (by omega)
  refine ⟨(zf g (by omega)).trans q4, ⟨(zp g 6 (by omega)).trans b1, (zp g 7 (by omega)).trans b2, (zp g 8 (by omega)).trans b3, (zp g 9 (by omega)).trans b4, (zp g 10 (by omega)).trans b5⟩, (zf _ (by omega)).trans a1, fun i hi => ⟨(zf _ (by omega)).trans (a2 i hi), (zp _ _ (by omega)).trans (b6 i hi)⟩, (zf _ (by omega)).trans a4, ⟨(zf _ (by omega)).trans a5, ⟨(zf _ (by omega)).trans (a6 5 (by decide) (by decide)), (zf _ (by omega)).trans (a6 6 (by decide) (by decide)), (zf _ (by omega)).trans (a6 7 (by decide) (by decide))⟩, (zp _ _ (by omega)).trans b7, (zp _ _ (by omega)).trans b8, (zp _ _ (by omega)).trans b9⟩, ⟨(zf _ (by omega)).trans a3, (zp _ _ (by omega)).trans k4, k2, ?_, k5, k7, fun i y hi hy => ?_⟩, k3, h6⟩
  · rcases k8 with ⟨c, d⟩ | c
    · subst c d
      exact Or.inr ⟨rfl, rfl⟩
    · exact Or.inl ((zsh_hi c.1.le).trans c.2.2.1)
  · obtain ⟨r1, lo, hi', r2, r3, r4, r5, -, r6⟩ := k10 i _ _ (List.getElem?_eq_getElem (by omega : i < l.length)) (List.getElem?_eq_getElem hi)
    rcases k8 with c | c
    · omega
    · rw [zpt_hi c.1.le, r1] at hy
      cases hy
      obtain ⟨y1, ci, y2, y3⟩ := ruT.V.1 _ _ _ _ _ _ _ r6
      exact ⟨ci, (zsh_hi y1.le).trans y2, y3⟩
theorem le25 (C : CI x f S P top) (hA : AI x) : zX1_back [vr 100] ((2, f), S, L, P) (fun r M' => eQ (sm25 x) r M' ∨ eQ3 (sm25 x) r M') (eX [] (sm25 x)) := by
  apply oX1_back
  obtain ⟨rs, e, m, c1, c2, c3, c4, c5, c6⟩ := id C
  have t2 := c2.1
  refine ⟨fun hn => Or.inl ?_, fun g hg => ?_⟩
  · rcases id c6 with ⟨c, -⟩ | ⟨-, g, e', m', rs', z, -⟩
    · exact eQ.mk (by unfold sm25; rw [if_pos c]) C
    · rw [hn] at z
      cases z
  · obtain ⟨e', m', rs', hI, h1⟩ : ∃ (e' m' : Nat) (rs' : List (Fc → Option Int)), imC g e' m' top e f S P x.2.1 rs' ∧ x.2.2.1 = 1 := by
      rcases id c6 with ⟨-, c⟩ | ⟨c, g', e', m', rs', z, hI⟩
      · rw [hg] at c
        cases c
      · rw [hg] at z
        cases z
        exact ⟨e', m', rs', hI, c⟩
    have hv : WI x.2.1 := (hA.2.1.1.resolve_left (by omega)).2
    have es : sm25 x = (0, 1, aN x x.2.1 x.2.2.2.2.1 x.2.2.2.2.2) := by unfold sm25; rw [if_neg (by omega)]
    obtain ⟨⟨q1, q2⟩, q3, ⟨q4, q5⟩, ⟨q6, q7, q8, q9, q10⟩, ⟨q11, q12⟩, q13, q14, q15⟩ := id hI
    refine ⟨x.2.1, top, e', m', rs'.length, wo_im hI hv.2.1.1, c3.1, by omega, by omega, q6, fun S' L' P' f' q hk E => Or.inr ?_⟩
    obtain ⟨z1, z2, z3, z4, z5, z6, z7⟩ := q
    refine eQ3.mk es (C3.mk t2 z1 z2 (fun h hh => (z3 h hh).1) z4 z5 z6 z7 E rfl q11.2.2.1 (el_ofX q11) hv q7 q8 q9 (fun _ _ => rfl) ⟨rfl, rfl, rfl⟩ q10 q13 q14 q15 q12 (fun q hq => ?_) c3.2 ((hk 1).trans c4.1) (fun k hk2 => (z4 102 k (by omega) (by decide) (by omega)).trans (c4.2 k hk2)) ((hk 5).trans c5) (CI.C6 c6))
    rcases hq with z | z | z <;> subst z
    · exact c1.2.2.2.2.2.1
    · exact c1.2.2.2.2.2.2.1
    · exact c1.2.2.2.2.2.2.2
end
