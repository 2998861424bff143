set_option maxRecDepth 100000
/-! 'take' writes into its own cliff alone -/
section TF
variable {t : mt} {M N : mm} {c d n p q k : Nat}
theorem far_3 (hp : c ≤ p ∧ p < c + n) : far c n M (C3_take t M p q) := by
  have f := far.rf c n M
  exact (((f.sI hp).sF hp).sI hp).sF hp
theorem spare_in (c : Nat) (M : mm) (x : Int32) : c + 12 ≤ C2_spare t M c x ∧ C2_spare t M c x < c + 48 := by
  unfold C2_spare
  have h := spC_le M (spB c x) 17 0
  have h2 : spB c x = c + 5 ∨ spB c x = c + 6 := by
    unfold spB
    split
    · exact .inl rfl
    · exact .inr rfl
  omega
theorem far_like {r : Option Nat} : far c 64 M (C2_like t M c r).2 := by
  unfold C2_like
  split
  · exact far.rf _ _ _
  · exact far_3 (by have := spare_in (t := t) c M (kd4 t (r.getD 0)); omega)
theorem far_tpa : ∀ k, k ≤ 18 → far c 64 M (L_tpa t M c k)
  | 0, _ => by rw [L_tpa_0]; exact far.rf _ _ _
  | k + 1, h => by
    rw [L_tpa_s]
    exact ((far_tpa k (by omega)).sI (by omega)).sI (by omega)
theorem far_tpm : ∀ k, far c 64 M (L_tpm t M c d k)
  | 0 => by rw [L_tpm_0]; exact far.rf _ _ _
  | k + 1 => by
    rw [L_tpm_s]
    exact ((far_tpm k).tr far_like).wR (by omega)
theorem far_tpb : ∀ k, far c 64 M (L_tpb t M c d k)
  | 0 => by rw [L_tpb_0]; exact far.rf _ _ _
  | k + 1 => by
    rw [L_tpb_s]
    exact ((far_tpb k).tr far_like).wR (by omega)
theorem far_tpc : ∀ k, far c 64 M (L_tpc t M c d k)
  | 0 => by rw [L_tpc_0]; exact far.rf _ _ _
  | k + 1 => by
    rw [L_tpc_s]
    exact ((far_tpc k).tr far_like).wR (by omega)
theorem far_tp : far c 64 M (C2_takePlants t M c d) := (((far_tpa 18 (by decide)).tr (far_tpm 5)).tr (far_tpb 5)).tr (far_tpc 12)
theorem far_6 (hp : c ≤ p ∧ p < c + n) : far c n M (C6_take t M p q) := (((far.rf c n M).sI hp).sI hp).sI hp
theorem far_7 (hp : c ≤ p ∧ p < c + n) : far c n M (C7_take t M p q) := ((((far.rf c n M).sI hp).sI hp).sI hp).sF hp
theorem far_8 (hp : c ≤ p ∧ p < c + n) : far c n M (C8_take t M p q) := ((((far.rf c n M).sI hp).sI hp).sF hp).sI hp
theorem far_tkm : ∀ k, k ≤ 6 → far c 64 M (L_tkm t M c d k)
  | 0, _ => by rw [L_tkm_0]; exact far.rf _ _ _
  | k + 1, h => by
    rw [L_tkm_s]
    exact (far_tkm k (by omega)).tr (far_6 (t := t) (by omega))
theorem far_tks : ∀ k, k ≤ 4 → far c 64 M (L_tks t M c d k)
  | 0, _ => by rw [L_tks_0]; exact far.rf _ _ _
  | k + 1, h => by
    rw [L_tks_s]
    exact (far_tks k (by omega)).tr (far_7 (t := t) (by omega))
theorem far_tkp (hp : ∀ k, k < 6 → ∃ j, j < 6 ∧ aR M (c + 11) k = some (c + 58 + j)) : ∀ k, k ≤ 6 → far c 64 M (L_tkp t M c d k)
  | 0, _ => by rw [L_tkp_0]; exact far.rf _ _ _
  | k + 1, h => by
    rw [L_tkp_s]
    refine (far_tkp hp k (by omega)).tr ?_
    obtain ⟨j, hj, e⟩ := hp k (by omega)
    have e1 : aR (L_tkp t M c d k) (c + 11) k = some (c + 58 + j) := by rw [tkp_aR]; exact e
    unfold S_tkp
    rw [e1]
    exact far_8 (show c ≤ c + 58 + j ∧ c + 58 + j < c + 64 by omega)
theorem far_take (hw : wfK M c) (h1 : ix 7 (gI M 211 d)) (h2 : ix 5 (gI M 212 d)) (h3 : ix 6 (gI M 213 d)) : far c 64 M (C2_take t M c d) := by
  unfold C2_take
  have f0 : far c 64 M (C2_takePlants t (wI (wI (wF M (c + 1) (va_cpy (aF M (d + 1)) (aF M (c + 1)) 0 0 12)) (c + 2) (va_cpy (aI M (d + 2)) (aI M (c + 2)) 0 0 12)) (c + 3) (va_cpy (aI (wI (wF M (c + 1) (va_cpy (aF M (d + 1)) (aF M (c + 1)) 0 0 12)) (c + 2) (va_cpy (aI M (d + 2)) (aI M (c + 2)) 0 0 12)) (d + 3)) (aI (wI (wF M (c + 1) (va_cpy (aF M (d + 1)) (aF M (c + 1)) 0 0 12)) (c + 2) (va_cpy (aI M (d + 2)) (aI M (c + 2)) 0 0 12)) (c + 3)) 0 0 12)) (c) (d)) := ((((far.rf c 64 M).wF (by omega)).wI (by omega)).wI (by omega)).tr far_tp
  have e0 : ∀ k, aR (C2_takePlants t (wI (wI (wF M (c + 1) (va_cpy (aF M (d + 1)) (aF M (c + 1)) 0 0 12)) (c + 2) (va_cpy (aI M (d + 2)) (aI M (c + 2)) 0 0 12)) (c + 3) (va_cpy (aI (wI (wF M (c + 1) (va_cpy (aF M (d + 1)) (aF M (c + 1)) 0 0 12)) (c + 2) (va_cpy (aI M (d + 2)) (aI M (c + 2)) 0 0 12)) (d + 3)) (aI (wI (wF M (c + 1) (va_cpy (aF M (d + 1)) (aF M (c + 1)) 0 0 12)) (c + 2) (va_cpy (aI M (d + 2)) (aI M (c + 2)) 0 0 12)) (c + 3)) 0 0 12)) (c) (d)) (c + 11) k = aR M (c + 11) k := fun k => by
    rw [tp_aR t _ c d (c + 11) (by omega) (by omega) (by omega)]
    rfl
  generalize C2_takePlants t _ c d = u at f0 e0
  have l1 := h1.nlt
  have l2 := h2.nlt
  have l3 := h3.nlt
  have f1 := (f0.tr (far_tkm (t := t) (d := d) (gI M 211 d).toNatClampNeg (by omega))).tr (far_tks (t := t) (d := d) (gI M 212 d).toNatClampNeg (by omega))
  have f2 := f1.tr (far_tkp (t := t) (d := d) (fun k hk => by
    obtain ⟨j, hj, e⟩ := hw.2.2.2.2.2.2.2 k hk
    exact ⟨j, hj, by rw [tks_aR, tkm_aR, e0]; exact e⟩) (gI M 213 d).toNatClampNeg (by omega))
  dsimp only
  have hc : c ≤ c ∧ c < c + 64 := by omega
  exact ((((((((f2.sI hc).sI hc).sI hc).sI hc).sI hc).sI hc).sI hc).sI hc).sI hc
end TF
