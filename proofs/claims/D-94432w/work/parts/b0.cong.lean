/-! ===== a text is read by its bytes alone ===== -/
set_option maxRecDepth 100000
theorem cg_rnF {q q' : Nat → Bool} {n : Nat} (h : ∀ k, k < n → q k = q' k) : ∀ f a, rnF q n f a = rnF q' n f a
  | 0, _ => rfl
  | f + 1, a => by
    unfold rnF
    by_cases c : a < n
    · rw [h a c, cg_rnF h f (a + 1)]
    · rw [decide_eq_false c]
      rfl
theorem cg_rn {q q' : Nat → Bool} {n : Nat} (h : ∀ k, k < n → q k = q' k) : rn q n = rn q' n := funext fun a => cg_rnF h _ a
theorem cg_fgV {tx tx' : Nat → Int} {b : Nat} : ∀ k, (∀ i, i < k → tx (b + i) = tx' (b + i)) → fgV tx b k = fgV tx' b k
  | 0, _ => rfl
  | k + 1, h => by
    unfold fgV
    rw [cg_fgV k (fun i hi => h i (by omega)), h k (by omega)]
section
variable {tx tx' : Nat → Int} {n : Nat}
theorem cg_B (h : ∀ k, k < n → tx k = tx' k) : rn (qB tx) n = rn (qB tx') n := cg_rn fun k hk => by unfold qB; rw [h k hk]
theorem cg_L (h : ∀ k, k < n → tx k = tx' k) : rn (qL tx) n = rn (qL tx') n := cg_rn fun k hk => by unfold qL; rw [h k hk]
theorem cg_D (h : ∀ k, k < n → tx k = tx' k) : rn (qD tx) n = rn (qD tx') n := cg_rn fun k hk => by unfold qD; rw [h k hk]
theorem rn_in2 (q : Nat → Bool) (b i : Nat) (hi : i < rn q n b - b) : b + i < n := by
  by_cases c : b ≤ n
  · have := rn_le (q := q) c
    omega
  · have : rn q n b = b := by
      unfold rn
      rw [show n - b = 0 by omega]
      rfl
    omega
theorem cg_sg (h : ∀ k, k < n → tx k = tx' k) : isSg tx n = isSg tx' n := by
  funext b c
  unfold isSg
  by_cases q : b < n
  · rw [h b q]
  · rw [decide_eq_false q]
    rfl
theorem cg_hs (h : ∀ k, k < n → tx k = tx' k) : hsW tx n = hsW tx' n := by
  funext b w
  unfold hsW
  rw [cg_L h]
  by_cases q : rn (qL tx') n b = b + w.length
  · rw [decide_eq_true q, Bool.true_and, Bool.true_and, Bool.eq_iff_iff, List.all_eq_true, List.all_eq_true]
    have e : ∀ i, i < w.length → tx (b + i) = tx' (b + i) := fun i hi => h _ (rn_in2 (qL tx') b i (by omega))
    constructor
    · intro z i hi
      have := z i hi
      rw [e i (List.mem_range.mp hi)] at this
      exact this
    · intro z i hi
      rw [e i (List.mem_range.mp hi)]
      exact z i hi
  · rw [decide_eq_false q]
    rfl
theorem cg_fv (h : ∀ k, k < n → tx k = tx' k) (b : Nat) : fgV tx b (rn (qD tx') n b - b) = fgV tx' b (rn (qD tx') n b - b) := cg_fgV _ fun i hi => h _ (rn_in2 (qD tx') b i hi)
theorem cg_fg (h : ∀ k, k < n → tx k = tx' k) : fgB tx n = fgB tx' n := by
  funext b lo hi
  unfold fgB
  rw [cg_D h, cg_fv h b]
theorem cg_nm (h : ∀ k, k < n → tx k = tx' k) : nmP tx n = nmP tx' n := by
  funext lo hi a
  unfold nmP
  rw [cg_fg h, cg_B h, cg_D h, cg_fv h]
theorem cg_pt (h : ∀ k, k < n → tx k = tx' k) : ptP tx n = ptP tx' n := by
  funext a
  unfold ptP
  rw [cg_fg h, cg_B h, cg_D h, cg_hs h, cg_fv h]
  by_cases c : rn (qB tx') n a < n
  · have e : qD tx (rn (qB tx') n a) = qD tx' (rn (qB tx') n a) := by
      unfold qD
      rw [h _ c]
    rw [e]
  · rw [if_neg (show ¬ (rn (qB tx') n a < n ∧ qD tx (rn (qB tx') n a) = true) from fun z => c z.1), if_neg (show ¬ (rn (qB tx') n a < n ∧ qD tx' (rn (qB tx') n a) = true) from fun z => c z.1)]
theorem cg_spS (h : ∀ k, k < n → tx k = tx' k) : spS tx n = spS tx' n := by
  funext c a
  unfold spS
  rw [cg_sg h, cg_B h]
theorem cg_spW (h : ∀ k, k < n → tx k = tx' k) : spW tx n = spW tx' n := by
  funext j a
  unfold spW
  rw [cg_hs h, cg_B h]
theorem cg_su (h : ∀ k, k < n → tx k = tx' k) : suP tx n = suP tx' n := by
  funext a
  unfold suP
  rw [cg_pt h, cg_B h, cg_spS h]
theorem cg_pl (h : ∀ k, k < n → tx k = tx' k) : plP tx n = plP tx' n := by
  funext a
  unfold plP
  rw [cg_su h, cg_B h, cg_sg h, cg_hs h]
theorem cg_seq {α : Type} (h : ∀ k, k < n → tx k = tx' k) (j : Nat) (cb : α → α → α) (p : Nat → Pr α) : seqP tx n j cb p = seqP tx' n j cb p := by
  funext a
  unfold seqP
  rw [cg_B h, cg_spW h]
theorem cg_so (h : ∀ k, k < n → tx k = tx' k) (p : Nat → Pr (Fc → Bool)) : soP tx n p = soP tx' n p := by
  unfold soP evP
  rw [cg_seq h, cg_seq h]
theorem cg_at (h : ∀ k, k < n → tx k = tx' k) : ∀ r, atP tx n r = atP tx' n r
  | 0 => by
    funext a
    unfold atP
    rw [cg_B h, cg_sg h, cg_hs h, cg_pl h]
  | r + 1 => by
    funext a
    unfold atP
    rw [cg_B h, cg_sg h, cg_hs h, cg_pl h, cg_at h r, cg_so h]
theorem cg_rl (h : ∀ k, k < n → tx k = tx' k) : rlP tx n = rlP tx' n := by
  funext a
  unfold rlP
  rw [cg_nm h, cg_B h, cg_hs h, cg_at h 6, cg_so h]
theorem cg_liF {α : Type} (h : ∀ k, k < n → tx k = tx' k) (p : Nat → Pr α) (cb : α → α → α) : ∀ r, liF tx n p cb r = liF tx' n p cb r
  | 0 => by
    funext a g
    unfold liF
    rw [cg_B h]
  | r + 1 => by
    funext a g
    unfold liF
    rw [cg_B h, cg_sg h, cg_liF h p cb r]
/-- what a rule's text says depends on its bytes alone -/
theorem cg_ru (h : ∀ k, k < n → tx k = tx' k) : ruP tx n = ruP tx' n := by
  unfold ruP liP
  rw [cg_rl h, cg_B h, cg_liF h]
end
