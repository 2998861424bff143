set_option maxRecDepth 100000
/-! what a cliff does stays in the cliff -/
section FO
variable {t : mt} {M N : mm} {c p k : Nat} {x y z : Int32} {r : Option Nat}
theorem far_r (f : far c 64 M N) {A B : Prop} [Decidable A] {a b : Int32} {τ : Type} {u v w : τ} {m1 m2 : mm} (h1 : A → far c 64 M m1) (h2 : ¬ A → far c 64 M m2) : far c 64 M (if A then (a, b, u, m1) else (x, y, v, m2)).2.2.2 := by
  split
  · exact h1 ‹_›
  · exact h2 ‹_›
theorem far_member (hn : ix 7 (gI M 211 c)) : far c 64 M (C2_member t M c).2.2.2 := by
  have f := far.rf c 64 M
  have hl := hn.nlt
  unfold C2_member
  dsimp only
  by_cases e : gI M 211 c = 6
  · rw [if_pos e, if_neg (by decide)]
    exact f
  · have : (gI M 211 c).toNatClampNeg < 6 := by
      obtain ⟨j, hj, h⟩ := hn
      rw [h] at e ⊢
      rw [cl_nI (by omega)]
      rcases Nat.lt_or_ge j 6 with h9 | h9
      · exact h9
      · exact absurd (by rw [show j = 6 by omega]; rfl) e
    rw [if_neg e, if_pos rfl]
    exact (((f.sI (by omega)).sI (by omega)).sI (by omega)).sI (by omega)
theorem far_dig (hx : ix 6 x) : far c 64 M (C2_dig t M c x y).2.2.2 := by
  have f := far.rf c 64 M
  have := hx.nlt
  unfold C2_dig
  dsimp only
  (repeat' split) <;> first | exact f | exact (f.sI (by omega)).wI (by omega)
theorem far_rest (hx : ix 6 x) : far c 64 M (C2_rest t M c x).2.2.2 := by
  have f := far.rf c 64 M
  have := hx.nlt
  unfold C2_rest
  dsimp only
  (repeat' split) <;> first | exact f | exact (f.wI (by omega)).sI (by omega)
theorem far_shed (hn : ix 5 (gI M 212 c)) : far c 64 M (C2_shed t M c x).2.2.2 := by
  have f := far.rf c 64 M
  unfold C2_shed
  dsimp only
  by_cases e : gI M 212 c = 4
  · rw [if_pos e, if_neg (by decide)]
    exact f
  · have : (gI M 212 c).toNatClampNeg < 4 := by
      obtain ⟨j, hj, h⟩ := hn
      rw [h] at e ⊢
      rw [cl_nI (by omega)]
      rcases Nat.lt_or_ge j 4 with h9 | h9
      · exact h9
      · exact absurd (by rw [show j = 4 by omega]; rfl) e
    rw [if_neg e, if_pos rfl]
    (repeat' split) <;> first | exact f | exact ((((f.sI (by omega)).sI (by omega)).sI (by omega)).sF (by omega)).sI (by omega)
theorem far_rope (hx : ix 4 x) : far c 64 M (C2_rope t M c x).2.2.2 := by
  have f := far.rf c 64 M
  have := hx.nlt
  unfold C2_rope
  dsimp only
  (repeat' split) <;> first | exact f | exact f.sI (by omega)
theorem far_pour (hx : ix 4 x) : far c 64 M (C2_pour t M c x y z).2.2.2 := by
  have f := far.rf c 64 M
  have := hx.nlt
  unfold C2_pour
  dsimp only
  (repeat' split) <;> first | exact f | exact (f.sF (by omega)).wF (by omega)
theorem bench_in (c : Nat) (M : mm) (y : Int32) : C2_bench t M c y = c + 7 ∨ C2_bench t M c y = c + 8 := by
  unfold C2_bench
  split
  · exact .inl rfl
  · exact .inr rfl
theorem far_seedling : far c 64 M (C2_seedling t M c x y).2.2.2 := by
  have f := far.rf c 64 M
  have h1 := bench_in (t := t) c M y
  have h2 := spare_in (t := t) c M x
  unfold C2_seedling
  dsimp only
  (repeat' split) <;> first | exact f | exact ((((f.wR (by omega)).sI (by omega)).sF (by omega)).sI (by omega)).sI (by omega)
theorem mar_in (h : marP c p ∨ beaP c p) : c + 12 ≤ p ∧ p < c + 48 := by
  rcases h with ⟨j, hj, rfl⟩ | ⟨j, hj, rfl⟩ <;> omega
theorem far_plant (hw : wfK M c) (hz : ix 5 z) (hn : ¬ aR M (C2_bench t M c y) z.toNatClampNeg = none) : far c 64 M (C2_plant t M c x y z).2.2.2 := by
  have f := far.rf c 64 M
  have h1 := bench_in (t := t) c M y
  have hp : c + 12 ≤ (aR M (C2_bench t M c y) z.toNatClampNeg).getD 0 ∧ (aR M (C2_bench t M c y) z.toNatClampNeg).getD 0 < c + 48 := by
    cases e : aR M (C2_bench t M c y) z.toNatClampNeg with
    | none => exact absurd e hn
    | some p =>
      rcases h1 with h1 | h1
      · rw [h1] at e; exact mar_in (.inl (hw.2.2.2.1 _ hz.nlt p e))
      · rw [h1] at e; exact mar_in (.inr (hw.2.2.2.2.1 _ hz.nlt p e))
  unfold C2_plant
  dsimp only
  (repeat' split) <;> first | exact f | exact (((f.wR (by omega)).sI (by omega)).sF (by omega)).wR (by omega)
theorem far_lsC : ∀ k, ∀ N, far c 64 M N → far c 64 M (lsC c k N)
  | 0, N, h => h
  | k + 1, N, h => by
    unfold lsC
    split
    · exact h
    · exact far_lsC k _ ((h.wR (by omega)).wR (by omega))
theorem far_harvest (hw : wfK M c) (hx : ix 6 x) (hm : gI M 500 (c + 48 + x.toNatClampNeg) = -1 ∨ ix 12 (gI M 500 (c + 48 + x.toNatClampNeg))) : far c 64 M (C2_harvest t M c x).2.2.2 := by
  have f := far.rf c 64 M
  have hx1 := hx.nlt
  unfold C2_harvest
  dsimp only
  by_cases e : gI M 500 (c + 48 + x.toNatClampNeg) = -1
  · rw [if_pos e, if_neg (by decide)]
    exact f
  rw [if_neg e, if_pos rfl]
  have hm := hm.resolve_left e
  by_cases e1 : aR M (c + 4) (gI M 500 (c + 48 + x.toNatClampNeg)).toNatClampNeg = none
  · rw [if_pos e1, if_neg (by decide)]
    exact f
  rw [if_neg e1, if_pos rfl]
  have hp : c + 12 ≤ (aR M (c + 4) (gI M 500 (c + 48 + x.toNatClampNeg)).toNatClampNeg).getD 0 ∧ (aR M (c + 4) (gI M 500 (c + 48 + x.toNatClampNeg)).toNatClampNeg).getD 0 < c + 48 := by
    cases e : aR M (c + 4) (gI M 500 (c + 48 + x.toNatClampNeg)).toNatClampNeg with
    | none => exact absurd e e1
    | some p => exact mar_in (hw.2.2.1 _ hm.nlt p e).1
  have f1 : far c 64 M (sI (sI (sI (wR M (c + 4) (va_up (aR M (c + 4)) ((gI M 500 (c + 48 + (x).toNatClampNeg))).toNatClampNeg none)) 302 ((aR M (c + 4) ((gI M 500 (c + 48 + (x).toNatClampNeg))).toNatClampNeg).getD 0) (0 : Int32)) 502 (c + 48 + (x).toNatClampNeg) ((gI M 502 (c + 48 + (x).toNatClampNeg)) + (1 : Int32))) 218 c ((gI M 218 c) + (1 : Int32))) := (((f.wR (by omega)).sI (by omega)).sI (by omega)).sI (by omega)
  have e2 : ∀ i, aR (sI (sI (sI (wR M (c + 4) (va_up (aR M (c + 4)) ((gI M 500 (c + 48 + (x).toNatClampNeg))).toNatClampNeg none)) 302 ((aR M (c + 4) ((gI M 500 (c + 48 + (x).toNatClampNeg))).toNatClampNeg).getD 0) (0 : Int32)) 502 (c + 48 + (x).toNatClampNeg) ((gI M 502 (c + 48 + (x).toNatClampNeg)) + (1 : Int32))) 218 c ((gI M 218 c) + (1 : Int32))) (c + 11) i = aR M (c + 11) i := fun i => congrFun (m1_ne M.2.2.2.2.2.2.1 _ (by omega)) i
  have e3 : gI (sI (sI (sI (wR M (c + 4) (va_up (aR M (c + 4)) ((gI M 500 (c + 48 + (x).toNatClampNeg))).toNatClampNeg none)) 302 ((aR M (c + 4) ((gI M 500 (c + 48 + (x).toNatClampNeg))).toNatClampNeg).getD 0) (0 : Int32)) 502 (c + 48 + (x).toNatClampNeg) ((gI M 502 (c + 48 + (x).toNatClampNeg)) + (1 : Int32))) 218 c ((gI M 218 c) + (1 : Int32))) 213 c = gI M 213 c := by
    rw [gI_sI_f _ _ _ _ (show (213 : Nat) ≠ 218 by decide), gI_sI_f _ _ _ _ (show (213 : Nat) ≠ 502 by decide), gI_sI_f _ _ _ _ (show (213 : Nat) ≠ 302 by decide)]
    rfl
  generalize sI (sI (sI (wR M (c + 4) _) 302 _ (0 : Int32)) 502 _ _) 218 c _ = u at f1 e2 e3
  unfold C2_lists
  rw [e3, e2]
  obtain ⟨j, hj, e4⟩ := hw.2.2.2.2.2.2.2 (gI M 213 c).toNatClampNeg hw.n3.nlt
  rw [e4]
  have f2 : ∀ a1 a2 a3 a4, far c 64 M (C8_is t u ((some (c + 58 + j)).getD 0) a1 a2 a3 a4) := fun a1 a2 a3 a4 => f1.tr (((((far.rf c 64 u).sI (show c ≤ c + 58 + j ∧ c + 58 + j < c + 64 by omega)).sI (show c ≤ c + 58 + j ∧ c + 58 + j < c + 64 by omega)).sF (show c ≤ c + 58 + j ∧ c + 58 + j < c + 64 by omega)).sI (show c ≤ c + 58 + j ∧ c + 58 + j < c + 64 by omega))
  exact (far_lsC _ _ (f2 _ _ _ _)).sI (show c ≤ c ∧ c < c + 64 by omega)
theorem far_vote (hx : ix 6 x) : far c 64 M (C2_vote t M c x y).2 := by
  have := hx.nlt
  exact (far.rf c 64 M).sI (by omega)
theorem far_Lcount : ∀ k, far c 64 M (L_count t M c k).2
  | 0 => by rw [L_count_0]; exact far.rf _ _ _
  | k + 1 => by
    rw [L_count_s]
    exact (far_Lcount k).wI (by omega)
theorem far_Lcz : ∀ k, k ≤ 6 → far c 64 M (L_cz t M c k)
  | 0, _ => by rw [L_cz_0]; exact far.rf _ _ _
  | k + 1, h => by
    rw [L_cz_s]
    exact (far_Lcz k (by omega)).sI (by omega)
theorem Lcount_211 : ∀ k, gI (L_count t M c k).2 211 c = gI M 211 c
  | 0 => by rw [L_count_0]
  | k + 1 => by rw [L_count_s, ← Lcount_211 k]; rfl
theorem far_count (hn : ix 7 (gI M 211 c)) : far c 64 M (C2_count t M c).2 := by
  have hl := hn.nlt
  unfold C2_count
  dsimp only
  split
  · exact (far_Lcz _ (show (gI M 211 c).toNatClampNeg ≤ 6 by omega)).sI (by omega)
  · exact ((far_Lcount 12).tr (far_Lcz _ (by rw [Lcount_211]; omega))).sI (by omega)
end FO
