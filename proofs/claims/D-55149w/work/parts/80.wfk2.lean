set_option maxRecDepth 100000
/-! stores that leave what stands in a cliff -/
section WS
variable {M : mm} {c a f : Nat} {v : Int32}
theorem wfK.sIo (h : wfK M c) (h1 : 211 ≠ f ∧ 212 ≠ f ∧ 213 ≠ f ∧ 214 ≠ f ∧ 215 ≠ f ∧ 500 ≠ f ∧ 601 ≠ f ∧ 602 ≠ f) : wfK (sI M f a v) c := by
  obtain ⟨g1, g2, g3, g4, g5, g6, g7, g8⟩ := h1
  unfold wfK at h ⊢
  simp only [gI_sI_f M a _ v g1, gI_sI_f M a _ v g2, gI_sI_f M a _ v g3, gI_sI_f M a _ v g4, gI_sI_f M a _ v g5, gI_sI_f M a _ v g6, gI_sI_f M a _ v g7, gI_sI_f M a _ v g8]
  exact h
theorem wfK.s214 (h : wfK M c) (hv : ix 13 v) : wfK (sI M 214 c v) c := by
  obtain ⟨⟨-, h2, h3, h4, h5⟩, hr⟩ := h
  unfold wfK
  refine ⟨⟨by rw [gI_sI_at]; exact hv, by rw [gI_sI_f M c _ v (by decide)]; exact h2, by rw [gI_sI_f M c _ v (by decide)]; exact h3, by rw [gI_sI_f M c _ v (by decide)]; exact h4, by rw [gI_sI_f M c _ v (by decide)]; exact h5⟩, ?_⟩
  simp only [gI_sI_f M c _ v (show (212 : Nat) ≠ 214 by decide), gI_sI_f M c _ v (show (211 : Nat) ≠ 214 by decide), gI_sI_f M c _ v (show (601 : Nat) ≠ 214 by decide), gI_sI_f M c _ v (show (602 : Nat) ≠ 214 by decide), gI_sI_f M c _ v (show (500 : Nat) ≠ 214 by decide)]
  exact hr
theorem wfK.s215 (h : wfK M c) (hv : ix 21 v) : wfK (sI M 215 c v) c := by
  obtain ⟨⟨h1, -, h3, h4, h5⟩, hr⟩ := h
  unfold wfK
  refine ⟨⟨by rw [gI_sI_f M c _ v (by decide)]; exact h1, by rw [gI_sI_at]; exact hv, by rw [gI_sI_f M c _ v (by decide)]; exact h3, by rw [gI_sI_f M c _ v (by decide)]; exact h4, by rw [gI_sI_f M c _ v (by decide)]; exact h5⟩, ?_⟩
  simp only [gI_sI_f M c _ v (show (212 : Nat) ≠ 215 by decide), gI_sI_f M c _ v (show (211 : Nat) ≠ 215 by decide), gI_sI_f M c _ v (show (601 : Nat) ≠ 215 by decide), gI_sI_f M c _ v (show (602 : Nat) ≠ 215 by decide), gI_sI_f M c _ v (show (500 : Nat) ≠ 215 by decide)]
  exact hr
theorem wfK.vote {t : mt} {x y : Int32} (h : wfK M c) : wfK (C2_vote t M c x y).2 c := h.sIo (by decide)
theorem wfK.s500 (h : wfK M c) (hv : v = -1 ∨ ix 12 v) : wfK (sI M 500 a v) c := by
  obtain ⟨h1, h2, h3, h4, h5, h6, h7, h8⟩ := h
  unfold wfK
  simp only [gI_sI_f M a _ v (show (211 : Nat) ≠ 500 by decide), gI_sI_f M a _ v (show (212 : Nat) ≠ 500 by decide), gI_sI_f M a _ v (show (213 : Nat) ≠ 500 by decide), gI_sI_f M a _ v (show (214 : Nat) ≠ 500 by decide), gI_sI_f M a _ v (show (215 : Nat) ≠ 500 by decide), gI_sI_f M a _ v (show (601 : Nat) ≠ 500 by decide), gI_sI_f M a _ v (show (602 : Nat) ≠ 500 by decide)]
  refine ⟨h1, h2, h3, h4, h5, h6, fun k hk hn => ?_, h8⟩
  by_cases e : c + 48 + k = a
  · rw [e, gI_sI_at]; exact hv
  · rw [show gI (sI M 500 a v) 500 (c + 48 + k) = gI M 500 (c + 48 + k) from m2_ne M.1 v e]
    exact h7 k hk hn
theorem wfK.wI3 {i : Nat} (h : wfK M c) (hv : v = -1 ∨ ix 6 v) : wfK (wI M (c + 3) (upd (aI M (c + 3)) i v)) c := by
  obtain ⟨h1, h2, hr⟩ := h
  refine ⟨h1, fun k hk => ⟨(h2 k hk).1, ?_, ?_⟩, hr⟩
  · rw [show aI (wI M (c + 3) (upd (aI M (c + 3)) i v)) (c + 2) = aI M (c + 2) from m1_ne _ _ (by omega)]
    exact (h2 k hk).2.1
  · rw [show aI (wI M (c + 3) (upd (aI M (c + 3)) i v)) (c + 3) = upd (aI M (c + 3)) i v from m1_at _ _ _]
    by_cases e : k = i
    · rw [e, pk_us]; exact hv
    · rw [pk_un e]; exact (h2 k hk).2.2
theorem wfK.dig {t : mt} {x y : Int32} (h : wfK M c) (hx : ix 6 x) (hy : ix 12 y) : wfK (C2_dig t M c x y).2.2.2 c := by
  unfold C2_dig
  dsimp only
  (repeat' split) <;> first | exact h | exact (h.s500 (.inr hy)).wI3 (.inr hx)
theorem wfK.rest {t : mt} {x : Int32} (h : wfK M c) : wfK (C2_rest t M c x).2.2.2 c := by
  unfold C2_rest
  dsimp only
  (repeat' split) <;> first | exact h | exact (h.wI3 (.inl rfl)).s500 (.inl rfl)
theorem wfK.s601 (h : wfK M c) (hv : ix 7 v) : wfK (sI M 601 a v) c := by
  obtain ⟨h1, h2, h3, h4, h5, h6, h7, h8⟩ := h
  unfold wfK
  simp only [gI_sI_f M a _ v (show (211 : Nat) ≠ 601 by decide), gI_sI_f M a _ v (show (212 : Nat) ≠ 601 by decide), gI_sI_f M a _ v (show (213 : Nat) ≠ 601 by decide), gI_sI_f M a _ v (show (214 : Nat) ≠ 601 by decide), gI_sI_f M a _ v (show (215 : Nat) ≠ 601 by decide), gI_sI_f M a _ v (show (500 : Nat) ≠ 601 by decide), gI_sI_f M a _ v (show (602 : Nat) ≠ 601 by decide)]
  refine ⟨h1, h2, h3, h4, h5, fun k hk hn => ⟨?_, (h6 k hk hn).2⟩, h7, h8⟩
  by_cases e : c + 54 + k = a
  · rw [e, gI_sI_at]; exact hv
  · rw [show gI (sI M 601 a v) 601 (c + 54 + k) = gI M 601 (c + 54 + k) from m2_ne M.1 v e]
    exact (h6 k hk hn).1
theorem wfK.rope {t : mt} {x : Int32} (h : wfK M c) (hx : ix 4 x) (hn : x.toNatClampNeg < (gI M 212 c).toNatClampNeg) : wfK (C2_rope t M c x).2.2.2 c := by
  have h7 := (h.2.2.2.2.2.1 _ hx.nlt hn).1
  unfold C2_rope
  dsimp only
  by_cases e : gI M 602 (c + 54 + x.toNatClampNeg) = 0
  · rw [if_pos e, if_neg (by decide)]; exact h
  rw [if_neg e, if_pos rfl]
  by_cases e1 : gI M 601 (c + 54 + x.toNatClampNeg) = 6
  · rw [if_pos e1, if_neg (by decide)]; exact h
  rw [if_neg e1, if_pos rfl]
  refine h.s601 ?_
  obtain ⟨j, hj, e2⟩ := six_ix h7 e1
  exact ⟨j + 1, by omega, by rw [e2]; exact nI_1 j⟩
theorem wfK.wI2 {g : Nat → Int32} (h : wfK M c) (hv : ∀ k, k < 12 → ix 10 (g k)) : wfK (wI M (c + 2) g) c := by
  obtain ⟨h1, h2, hr⟩ := h
  refine ⟨h1, fun k hk => ⟨(h2 k hk).1, ?_, ?_⟩, hr⟩
  · rw [show aI (wI M (c + 2) g) (c + 2) = g from m1_at _ _ _]
    exact hv k hk
  · rw [show aI (wI M (c + 2) g) (c + 3) = aI M (c + 3) from m1_ne _ _ (by omega)]
    exact (h2 k hk).2.2
theorem wfK.wF1 {r : UInt32} {i : Nat} (h : wfK M c) (hv : kd false 12 r) : wfK (wF M (c + 1) (vf_upd (aF M (c + 1)) i r)) c := by
  obtain ⟨h1, h2, hr⟩ := h
  refine ⟨h1, fun k hk => ⟨?_, (h2 k hk).2⟩, hr⟩
  rw [show aF (wF M (c + 1) (vf_upd (aF M (c + 1)) i r)) (c + 1) = vf_upd (aF M (c + 1)) i r from m1_at _ _ _]
  by_cases e : k = i
  · rw [e, vfu]; exact hv
  · rw [show vf_upd (aF M (c + 1)) i r k = aF M (c + 1) k from if_neg e]; exact (h2 k hk).1
theorem wfK.s211 (h : wfK M c) (hv : ix 7 v) (hm : ∀ k, k < 6 → k < v.toNatClampNeg → gI M 500 (c + 48 + k) = -1 ∨ ix 12 (gI M 500 (c + 48 + k))) : wfK (sI M 211 c v) c := by
  obtain ⟨⟨a1, a2, a3, -, a5⟩, h2, h3, h4, h5, h6, h7, h8⟩ := h
  unfold wfK
  simp only [gI_sI_f M c _ v (show (500 : Nat) ≠ 211 by decide), gI_sI_f M c _ v (show (212 : Nat) ≠ 211 by decide), gI_sI_f M c _ v (show (213 : Nat) ≠ 211 by decide), gI_sI_f M c _ v (show (214 : Nat) ≠ 211 by decide), gI_sI_f M c _ v (show (215 : Nat) ≠ 211 by decide), gI_sI_f M c _ v (show (601 : Nat) ≠ 211 by decide), gI_sI_f M c _ v (show (602 : Nat) ≠ 211 by decide), gI_sI_at]
  exact ⟨⟨a1, a2, a3, hv, a5⟩, h2, h3, h4, h5, h6, hm, h8⟩
theorem wfK.member {t : mt} (h : wfK M c) : wfK (C2_member t M c).2.2.2 c := by
  unfold C2_member
  dsimp only
  by_cases e : gI M 211 c = 6
  · rw [if_pos e, if_neg (by decide)]; exact h
  rw [if_neg e, if_pos rfl]
  obtain ⟨j, hj, ej⟩ := six_ix h.n1 e
  have e0 : gI (C6_begins t M (c + 48 + (gI M 211 c).toNatClampNeg)) 211 c = nI j := by
    unfold C6_begins
    rw [gI_sI_f _ _ _ _ (by decide), gI_sI_f _ _ _ _ (by decide), gI_sI_f _ _ _ _ (by decide)]
    exact ej
  have hu : wfK (C6_begins t M (c + 48 + (gI M 211 c).toNatClampNeg)) c := ((h.s500 (.inl rfl)).sIo (by decide)).sIo (by decide)
  have hp : gI (C6_begins t M (c + 48 + (gI M 211 c).toNatClampNeg)) 500 (c + 48 + j) = -1 := by
    rw [ej, cl_nI (by omega)]
    unfold C6_begins
    rw [gI_sI_f _ _ _ _ (by decide), gI_sI_f _ _ _ _ (by decide), gI_sI_at]
  generalize C6_begins t M (c + 48 + (gI M 211 c).toNatClampNeg) = u at e0 hu hp ⊢
  rw [e0, nI_1]
  refine hu.s211 ⟨j + 1, by omega, rfl⟩ (fun k hk hn => ?_)
  rw [cl_nI (by omega)] at hn
  by_cases ek : k = j
  · rw [ek]; exact .inl hp
  · exact hu.mp k hk (by rw [e0, cl_nI (by omega)]; omega)
theorem ten_less {x d : Int32} (h : ix 10 x) : ix 10 (x - (if d = (-1 : Int32) then (0 : Int32) else (if x < (2 : Int32) then x else (2 : Int32)))) := by
  obtain ⟨j, hj, rfl⟩ := h
  have key : ∀ j, j < 10 → (∃ i, i < 10 ∧ nI j - 0 = nI i) ∧ ∃ i, i < 10 ∧ nI j - (if nI j < (2 : Int32) then nI j else (2 : Int32)) = nI i := by decide +kernel
  split
  · exact (key j hj).1
  · exact (key j hj).2
theorem wfK.cnt {t : mt} (h : wfK M c) : ∀ k, k ≤ 12 → wfK (L_count t M c k).2 c
  | 0, _ => by rw [L_count_0]; exact h
  | k + 1, hk => by
    rw [L_count_s]
    have ih := wfK.cnt (t := t) h k (by omega)
    generalize L_count t M c k = z at ih ⊢
    refine ih.wI2 (fun i hi => ?_)
    by_cases e : i = k
    · rw [e, pk_us]; exact ten_less (ih.2.1 k (by omega)).2.1
    · rw [pk_un e]; exact (ih.2.1 i hi).2.1
theorem wfK.cz {t : mt} (h : wfK M c) : ∀ k, wfK (L_cz t M c k) c
  | 0 => by rw [L_cz_0]; exact h
  | k + 1 => by
    rw [L_cz_s]
    exact (wfK.cz h k).sIo (by decide)
theorem wfK.count {t : mt} (h : wfK M c) : wfK (C2_count t M c).2 c := by
  unfold C2_count
  dsimp only
  split
  · exact (wfK.cz h _).sIo (by decide)
  · exact (wfK.cz (wfK.cnt h 12 (by decide)) _).sIo (by decide)
theorem wfK.s602 (h : wfK M c) (hv : v = 0 ∨ v = 1) : wfK (sI M 602 a v) c := by
  obtain ⟨h1, h2, h3, h4, h5, h6, h7, h8⟩ := h
  unfold wfK
  simp only [gI_sI_f M a _ v (show (211 : Nat) ≠ 602 by decide), gI_sI_f M a _ v (show (212 : Nat) ≠ 602 by decide), gI_sI_f M a _ v (show (213 : Nat) ≠ 602 by decide), gI_sI_f M a _ v (show (214 : Nat) ≠ 602 by decide), gI_sI_f M a _ v (show (215 : Nat) ≠ 602 by decide), gI_sI_f M a _ v (show (500 : Nat) ≠ 602 by decide), gI_sI_f M a _ v (show (601 : Nat) ≠ 602 by decide)]
  refine ⟨h1, h2, h3, h4, h5, fun k hk hn => ⟨(h6 k hk hn).1, (h6 k hk hn).2.1, ?_⟩, h7, h8⟩
  by_cases e : c + 54 + k = a
  · rw [e, gI_sI_at]; exact hv
  · rw [show gI (sI M 602 a v) 602 (c + 54 + k) = gI M 602 (c + 54 + k) from m2_ne M.1 v e]
    exact (h6 k hk hn).2.2
theorem gF_sF_f (M : mm) {f g : Nat} (a b : Nat) (v : UInt32) (h : g ≠ f) : gF (sF M f a v) g b = gF M g b := m2_nf M.2.1 v h
theorem gF_sF_at (M : mm) (f a : Nat) (v : UInt32) : gF (sF M f a v) f a = v := m2_at M.2.1 f a v
theorem wfK.sF603 {r : UInt32} (h : wfK M c) (hv : kd false 7 r) : wfK (sF M 603 a r) c := by
  obtain ⟨h1, h2, h3, h4, h5, h6, h7, h8⟩ := h
  refine ⟨h1, h2, fun k hk p hp => ⟨(h3 k hk p hp).1, ?_⟩, h4, h5, fun k hk hn => ⟨(h6 k hk hn).1, ?_, (h6 k hk hn).2.2⟩, h7, h8⟩
  · rw [gF_sF_f M a p r (show (301 : Nat) ≠ 603 by decide)]; exact (h3 k hk p hp).2
  · by_cases e : c + 54 + k = a
    · rw [e, gF_sF_at]; exact hv
    · rw [show gF (sF M 603 a r) 603 (c + 54 + k) = gF M 603 (c + 54 + k) from m2_ne M.2.1 r e]
      exact (h6 k hk hn).2.1
theorem wfK.s212 (h : wfK M c) (hv : ix 5 v) (hm : ∀ k, k < 4 → k < v.toNatClampNeg → ix 7 (gI M 601 (c + 54 + k)) ∧ kd false 7 (gF M 603 (c + 54 + k)) ∧ (gI M 602 (c + 54 + k) = 0 ∨ gI M 602 (c + 54 + k) = 1)) : wfK (sI M 212 c v) c := by
  obtain ⟨⟨a1, a2, -, a4, a5⟩, h2, h3, h4, h5, h6, h7, h8⟩ := h
  unfold wfK
  simp only [gI_sI_f M c _ v (show (500 : Nat) ≠ 212 by decide), gI_sI_f M c _ v (show (211 : Nat) ≠ 212 by decide), gI_sI_f M c _ v (show (213 : Nat) ≠ 212 by decide), gI_sI_f M c _ v (show (214 : Nat) ≠ 212 by decide), gI_sI_f M c _ v (show (215 : Nat) ≠ 212 by decide), gI_sI_f M c _ v (show (601 : Nat) ≠ 212 by decide), gI_sI_f M c _ v (show (602 : Nat) ≠ 212 by decide), gI_sI_at]
  exact ⟨⟨a1, a2, hv, a4, a5⟩, h2, h3, h4, h5, hm, h7, h8⟩
end WS
