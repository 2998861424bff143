set_option maxRecDepth 100000
/-! deques as lists; what stands in a cliff and in the whole between two calls -/
/-- the deque at d holds the list L -/
def dq (M : mm) (d : Nat) (L : List Nat) : Prop := ∃ h, h < 17 ∧ gI M 1001 d = nI h ∧ gI M 1002 d = nI ((h + L.length) % 17) ∧ (∀ i, i < L.length → aR M (d + 1) ((h + i) % 17) = L[i]?) ∧ (∀ i, L.length ≤ i → i < 17 → aR M (d + 1) ((h + i) % 17) = none)
theorem nI_inj17 {a b : Nat} (ha : a < 17) (hb : b < 17) (h : nI a = nI b) : a = b := by
  have := congrArg Int32.toNatClampNeg h
  rw [cl_nI (by omega), cl_nI (by omega)] at this
  exact this
theorem T_inc17 {k : Nat} (hk : k < 17) : T_inc (nI k) 17 = nI ((k + 1) % 17) := by
  have key : ∀ k, k < 17 → T_inc (nI k) 17 = nI ((k + 1) % 17) := by decide +kernel
  exact key k hk
theorem T_dec17 {k : Nat} (hk : k < 17) : T_dec (nI k) 17 = nI ((k + 16) % 17) := by
  have key : ∀ k, k < 17 → T_dec (nI k) 17 = nI ((k + 16) % 17) := by decide +kernel
  exact key k hk
theorem T_sub17 {h n : Nat} (hh : h < 17) (hn : n < 17) : T_sub (nI ((h + n) % 17)) (nI h) 17 = nI n := by
  have key : ∀ h, h < 17 → ∀ n, n < 17 → T_sub (nI ((h + n) % 17)) (nI h) 17 = nI n := by decide +kernel
  exact key h hh n hn
theorem gI_sI_f (M : mm) {f g : Nat} (a b : Nat) (v : Int32) (h : g ≠ f) : gI (sI M f a v) g b = gI M g b := m2_nf M.1 v h
theorem gI_sI_at (M : mm) (f a : Nat) (v : Int32) : gI (sI M f a v) f a = v := m2_at M.1 f a v
theorem CJ1_addLast_eq (t : mt) (M : mm) (d q : Nat) : CJ1_addLast t M d q = sI (wR M (d + 1) (va_up (aR M (d + 1)) (gI M 1002 d).toNatClampNeg (some q))) 1002 d (T_inc (gI M 1002 d) 17) := rfl
section DQ
variable {t : mt} {M : mm} {d q : Nat} {L : List Nat}
theorem dq.hd (h : dq M d L) : ix 17 (gI M 1001 d) := by
  obtain ⟨k, h1, h2, -⟩ := h
  exact ⟨k, h1, h2⟩
theorem dq.tl (h : dq M d L) : ix 17 (gI M 1002 d) := by
  obtain ⟨k, h1, -, h2, -⟩ := h
  exact ⟨_, Nat.mod_lt _ (by decide), h2⟩
theorem dq.isEmpty (h : dq M d L) (hL : L.length < 17) : CJ1_isEmpty t M d = if L = [] then 1 else 0 := by
  obtain ⟨k, h1, h2, h3, -⟩ := h
  unfold CJ1_isEmpty
  rw [h2, h3]
  cases L with
  | nil => rw [if_pos rfl, if_pos (by rw [List.length_nil, Nat.add_zero, Nat.mod_eq_of_lt h1])]
  | cons a L =>
    rw [if_neg (c := a :: L = []) (by simp), if_neg]
    intro e
    have := nI_inj17 h1 (Nat.mod_lt _ (by decide)) e
    rw [List.length_cons] at this hL
    omega
theorem dq.size (h : dq M d L) (hL : L.length < 17) : CJ1_size t M d = nI L.length := by
  obtain ⟨k, h1, h2, h3, -⟩ := h
  unfold CJ1_size
  rw [h2, h3]
  exact T_sub17 h1 hL
theorem dq.full (h : dq M d L) (hL : L.length < 16) : ¬ gI M 1001 d = T_inc (gI M 1002 d) 17 := by
  obtain ⟨k, h1, h2, h3, -⟩ := h
  rw [h2, h3, T_inc17 (Nat.mod_lt _ (by decide))]
  intro e
  have := nI_inj17 h1 (Nat.mod_lt _ (by decide)) e
  omega
theorem dq.add (h : dq M d L) (hL : L.length < 16) : dq (CJ1_addLast t M d q) d (L ++ [q]) := by
  obtain ⟨k, h1, h2, h3, h4, h5⟩ := h
  refine ⟨k, h1, ?_, ?_, ?_, ?_⟩
  · rw [CJ1_addLast_eq, gI_sI_f _ _ _ _ (show (1001 : Nat) ≠ 1002 by decide)]
    exact h2
  · rw [CJ1_addLast_eq, gI_sI_at, h3]
    rw [T_inc17 (Nat.mod_lt _ (by decide)), List.length_append, List.length_singleton]
    congr 1
    omega
  all_goals
    intro i
    rw [show aR (CJ1_addLast t M d q) (d + 1) = va_up (aR M (d + 1)) ((gI M 1002 d)).toNatClampNeg (some q) from m1_at _ _ _, h3, cl_nI (by omega), List.length_append, List.length_singleton]
  · intro hi
    by_cases e : i = L.length
    · subst e
      rw [List.getElem?_append_right (Nat.le_refl _), Nat.sub_self]
      exact if_pos rfl
    · rw [List.getElem?_append_left (by omega), ← h4 i (by omega)]
      exact if_neg (by omega)
  · intro hi hi2
    rw [← h5 i (by omega) hi2]
    exact if_neg (by omega)
theorem dq.first (h : dq M d (q :: L)) (hL : L.length < 16) : (CJ1_pollFirst t M d).1 = some q ∧ dq (CJ1_pollFirst t M d).2 d L := by
  obtain ⟨k, h1, h2, h3, h4, h5⟩ := h
  have e : CJ1_elementAt t M (d + 1) (gI M 1001 d) = some q := by
    unfold CJ1_elementAt
    rw [h2, cl_nI (by omega)]
    have := h4 0 (by rw [List.length_cons]; omega)
    rw [show (k + 0) % 17 = k from by omega] at this
    exact this
  have e1 : CJ1_pollFirst t M d = (some q, sI (wR M (d + 1) (va_up (aR M (d + 1)) k none)) 1001 d (nI ((k + 1) % 17))) := by
    unfold CJ1_pollFirst
    rw [e]
    dsimp only
    rw [if_neg (by simp), h2, T_inc17 h1, cl_nI (by omega)]
    rfl
  rw [e1]
  refine ⟨rfl, (k + 1) % 17, Nat.mod_lt _ (by decide), m2_at _ _ _ _, ?_, ?_, ?_⟩
  · refine (gI_sI_f (wR M (d + 1) (va_up (aR M (d + 1)) k none)) d d (nI ((k + 1) % 17)) (show (1002 : Nat) ≠ 1001 by decide)).trans (h3.trans ?_)
    rw [List.length_cons]
    congr 1
    omega
  all_goals
    intro i
    rw [show aR (sI (wR M (d + 1) (va_up (aR M (d + 1)) k none)) 1001 d (nI ((k + 1) % 17))) (d + 1) = va_up (aR M (d + 1)) k none from m1_at _ _ _]
  · intro hi
    have := h4 (i + 1) (by rw [List.length_cons]; omega)
    rw [List.getElem?_cons_succ] at this
    rw [← this, show ((k + 1) % 17 + i) % 17 = (k + (i + 1)) % 17 by omega]
    exact if_neg (by omega)
  · intro hi hi2
    by_cases e9 : i = 16
    · subst e9
      rw [show ((k + 1) % 17 + 16) % 17 = k by omega]
      exact if_pos rfl
    · rw [show ((k + 1) % 17 + i) % 17 = (k + (i + 1)) % 17 by omega, ← h5 (i + 1) (by rw [List.length_cons]; omega) (by omega)]
      exact if_neg (by omega)
theorem dq.last (h : dq M d (L ++ [q])) (hL : L.length < 16) : (CJ1_pollLast t M d).1 = some q ∧ dq (CJ1_pollLast t M d).2 d L := by
  obtain ⟨k, h1, h2, h3, h4, h5⟩ := h
  rw [List.length_append, List.length_singleton] at h3 h4 h5
  have ed : T_dec (gI M 1002 d) 17 = nI ((k + L.length) % 17) := by
    rw [h3, T_dec17 (Nat.mod_lt _ (by decide))]
    congr 1
    omega
  have e : CJ1_elementAt t M (d + 1) (nI ((k + L.length) % 17)) = some q := by
    unfold CJ1_elementAt
    rw [cl_nI (by omega), h4 L.length (by omega), List.getElem?_append_right (Nat.le_refl _), Nat.sub_self]
    rfl
  have e1 : CJ1_pollLast t M d = (some q, wR (sI M 1002 d (nI ((k + L.length) % 17))) (d + 1) (va_up (aR M (d + 1)) ((k + L.length) % 17) none)) := by
    unfold CJ1_pollLast
    dsimp only
    rw [ed, e, if_neg (by simp), cl_nI (by omega)]
    rfl
  rw [e1]
  refine ⟨rfl, k, h1, (gI_sI_f M d d (nI ((k + L.length) % 17)) (show (1001 : Nat) ≠ 1002 by decide)).trans h2, gI_sI_at M 1002 d _, ?_, ?_⟩
  all_goals
    intro i
    rw [show aR (wR (sI M 1002 d (nI ((k + L.length) % 17))) (d + 1) (va_up (aR M (d + 1)) ((k + L.length) % 17) none)) (d + 1) = va_up (aR M (d + 1)) ((k + L.length) % 17) none from m1_at _ _ _]
  · intro hi
    have := h4 i (by omega)
    rw [List.getElem?_append_left hi] at this
    rw [← this]
    exact if_neg (by omega)
  · intro hi hi2
    by_cases e9 : i = L.length
    · subst e9
      exact if_pos rfl
    · rw [← h5 i (by omega) hi2]
      exact if_neg (by omega)
end DQ
/-- N is M but for the cells from c on, n of them -/
def far (c n : Nat) (M N : mm) : Prop := ∀ b, b < c ∨ c + n ≤ b → (∀ f, gI N f b = gI M f b) ∧ (∀ f, gF N f b = gF M f b) ∧ (∀ f, gN N f b = gN M f b) ∧ aI N b = aI M b ∧ aF N b = aF M b ∧ aR N b = aR M b
theorem far.rf (c n : Nat) (M : mm) : far c n M M := fun _ _ => ⟨fun _ => rfl, fun _ => rfl, fun _ => rfl, rfl, rfl, rfl⟩
theorem far.tr {c n : Nat} {M N P : mm} (h : far c n M N) (k : far c n N P) : far c n M P := fun b hb => ⟨fun f => ((k b hb).1 f).trans ((h b hb).1 f), fun f => ((k b hb).2.1 f).trans ((h b hb).2.1 f), fun f => ((k b hb).2.2.1 f).trans ((h b hb).2.2.1 f), (k b hb).2.2.2.1.trans (h b hb).2.2.2.1, (k b hb).2.2.2.2.1.trans (h b hb).2.2.2.2.1, (k b hb).2.2.2.2.2.trans (h b hb).2.2.2.2.2⟩
section FAR
variable {c n a : Nat} {M N : mm}
theorem far.sI {f : Nat} {v : Int32} (h : far c n M N) (ha : c ≤ a ∧ a < c + n) : far c n M (sI N f a v) := fun b hb =>
  have hne : b ≠ a := by omega
  ⟨fun g => (m2_ne N.1 v hne).trans ((h b hb).1 g), (h b hb).2.1, (h b hb).2.2.1, (h b hb).2.2.2.1, (h b hb).2.2.2.2.1, (h b hb).2.2.2.2.2⟩
theorem far.sF {f : Nat} {v : UInt32} (h : far c n M N) (ha : c ≤ a ∧ a < c + n) : far c n M (sF N f a v) := fun b hb =>
  have hne : b ≠ a := by omega
  ⟨(h b hb).1, fun g => (m2_ne N.2.1 v hne).trans ((h b hb).2.1 g), (h b hb).2.2.1, (h b hb).2.2.2.1, (h b hb).2.2.2.2.1, (h b hb).2.2.2.2.2⟩
theorem far.wI {v : Nat → Int32} (h : far c n M N) (ha : c ≤ a ∧ a < c + n) : far c n M (wI N a v) := fun b hb =>
  have hne : b ≠ a := by omega
  ⟨(h b hb).1, (h b hb).2.1, (h b hb).2.2.1, (m1_ne N.2.2.2.2.1 v hne).trans (h b hb).2.2.2.1, (h b hb).2.2.2.2.1, (h b hb).2.2.2.2.2⟩
theorem far.wF {v : Nat → UInt32} (h : far c n M N) (ha : c ≤ a ∧ a < c + n) : far c n M (wF N a v) := fun b hb =>
  have hne : b ≠ a := by omega
  ⟨(h b hb).1, (h b hb).2.1, (h b hb).2.2.1, (h b hb).2.2.2.1, (m1_ne N.2.2.2.2.2.1 v hne).trans (h b hb).2.2.2.2.1, (h b hb).2.2.2.2.2⟩
theorem far.wR {v : Nat → Option Nat} (h : far c n M N) (ha : c ≤ a ∧ a < c + n) : far c n M (wR N a v) := fun b hb =>
  have hne : b ≠ a := by omega
  ⟨(h b hb).1, (h b hb).2.1, (h b hb).2.2.1, (h b hb).2.2.2.1, (h b hb).2.2.2.2.1, (m1_ne N.2.2.2.2.2.2.1 v hne).trans (h b hb).2.2.2.2.2⟩
end FAR
/-- a plant of the cliff's own -/
def marP (c p : Nat) : Prop := ∃ j, j < 18 ∧ p = c + 12 + 2 * j
def beaP (c p : Nat) : Prop := ∃ j, j < 18 ∧ p = c + 13 + 2 * j
/-- what stands in a cliff between two calls -/
def wfK (M : mm) (c : Nat) : Prop := (ix 13 (gI M 214 c) ∧ ix 21 (gI M 215 c) ∧ ix 5 (gI M 212 c) ∧ ix 7 (gI M 211 c) ∧ ix 6 (gI M 213 c)) ∧ (∀ k, k < 12 → kd false 12 (aF M (c + 1) k) ∧ ix 10 (aI M (c + 2) k) ∧ (aI M (c + 3) k = -1 ∨ ix 6 (aI M (c + 3) k))) ∧ (∀ k, k < 12 → ∀ p, aR M (c + 4) k = some p → (marP c p ∨ beaP c p) ∧ kd false 7 (gF M 301 p)) ∧ (∀ k, k < 5 → ∀ p, aR M (c + 7) k = some p → marP c p) ∧ (∀ k, k < 5 → ∀ p, aR M (c + 8) k = some p → beaP c p) ∧ (∀ k, k < 4 → k < (gI M 212 c).toNatClampNeg → ix 7 (gI M 601 (c + 54 + k)) ∧ kd false 7 (gF M 603 (c + 54 + k)) ∧ (gI M 602 (c + 54 + k) = 0 ∨ gI M 602 (c + 54 + k) = 1)) ∧ (∀ k, k < 6 → k < (gI M 211 c).toNatClampNeg → gI M 500 (c + 48 + k) = -1 ∨ ix 12 (gI M 500 (c + 48 + k))) ∧ (∀ k, k < 6 → ∃ j, j < 6 ∧ aR M (c + 11) k = some (c + 58 + j))
section WFK
variable {t : mt} {M : mm} {c p : Nat}
theorem marP.k (h : marP c p) (hL : lay t c) : t p = (3, 0) := by
  obtain ⟨j, hj, rfl⟩ := h
  exact hL.mar hj
theorem beaP.k (h : beaP c p) (hL : lay t c) : t p = (4, 0) := by
  obtain ⟨j, hj, rfl⟩ := h
  exact hL.bea hj
theorem wfK.cr (h : wfK M c) (hL : lay t c) : ∀ k, k < 12 → plO t (aR M (c + 4) k) := fun k hk p hp => ((h.2.2.1 k hk p hp).1).elim (fun h9 => .inl (h9.k hL)) (fun h9 => .inr (h9.k hL))
theorem wfK.m7 (h : wfK M c) (hL : lay t c) : ∀ k, k < 5 → ∀ q, aR M (c + 7) k = some q → t q = (3, 0) := fun k hk p hp => (h.2.2.2.1 k hk p hp).k hL
theorem wfK.m8 (h : wfK M c) (hL : lay t c) : ∀ k, k < 5 → ∀ q, aR M (c + 8) k = some q → t q = (4, 0) := fun k hk p hp => (h.2.2.2.2.1 k hk p hp).k hL
theorem wfK.n1 (h : wfK M c) : ix 7 (gI M 211 c) := h.1.2.2.2.1
theorem wfK.n2 (h : wfK M c) : ix 5 (gI M 212 c) := h.1.2.2.1
theorem wfK.n3 (h : wfK M c) : ix 6 (gI M 213 c) := h.1.2.2.2.2
theorem wfK.wd (h : wfK M c) : ix 13 (gI M 214 c) := h.1.1
theorem wfK.rn (h : wfK M c) : ix 21 (gI M 215 c) := h.1.2.1
theorem wfK.wa (h : wfK M c) : ∀ k, k < 12 → kd false 12 (aF M (c + 1) k) := fun k hk => (h.2.1 k hk).1
theorem wfK.dg (h : wfK M c) : ∀ k, k < 12 → aI M (c + 3) k = -1 ∨ ix 6 (aI M (c + 3) k) := fun k hk => (h.2.1 k hk).2.2
theorem wfK.st (h : wfK M c) : ∀ k, k < 4 → k < (gI M 212 c).toNatClampNeg → gI M 602 (c + 54 + k) = 0 ∨ gI M 602 (c + 54 + k) = 1 := fun k hk hn => (h.2.2.2.2.2.1 k hk hn).2.2
theorem wfK.pz (h : wfK M c) (hL : lay t c) : ∀ k, k < 6 → przO t (aR M (c + 11) k) := fun k hk => by
  obtain ⟨j, hj, e⟩ := h.2.2.2.2.2.2.2 k hk
  exact ⟨_, e, hL.prz hj⟩
theorem wfK.mp (h : wfK M c) : ∀ k, k < 6 → k < (gI M 211 c).toNatClampNeg → gI M 500 (c + 48 + k) = -1 ∨ ix 12 (gI M 500 (c + 48 + k)) := h.2.2.2.2.2.2.1
theorem wfK.wfC (h : wfK M c) (hL : lay t c) : wfC t M c := ⟨h.1.1, h.1.2.1, h.1.2.2.1, h.wa, fun k hk => (h.2.1 k hk).2.1, h.cr hL, fun k hk p hp => (h.2.2.1 k hk p hp).2, fun k hk hn => ⟨(h.2.2.2.2.2.1 k hk hn).1, (h.2.2.2.2.2.1 k hk hn).2.1⟩⟩
/-- what is far stays -/
theorem wfK.far {N : mm} {a n : Nat} (h : wfK M c) (hf : far a n M N) (hc : c + 64 ≤ a ∨ a + n ≤ c) : wfK N c := by
  have f : ∀ i, i < 64 → (∀ f, gI N f (c + i) = gI M f (c + i)) ∧ (∀ f, gF N f (c + i) = gF M f (c + i)) ∧ (∀ f, gN N f (c + i) = gN M f (c + i)) ∧ aI N (c + i) = aI M (c + i) ∧ aF N (c + i) = aF M (c + i) ∧ aR N (c + i) = aR M (c + i) := fun i hi => hf (c + i) (by omega)
  have fI : ∀ g i, i < 64 → gI N g (c + i) = gI M g (c + i) := fun g i hi => (f i hi).1 g
  have f0 : ∀ g, gI N g c = gI M g c := fun g => fI g 0 (by decide)
  obtain ⟨h1, h2, h3, h4, h5, h6, h7, h8⟩ := h
  refine ⟨by rw [f0, f0, f0, f0, f0]; exact h1, fun k hk => ?_, fun k hk p hp => ?_, fun k hk p hp => ?_, fun k hk p hp => ?_, fun k hk hn => ?_, fun k hk hn => ?_, fun k hk => ?_⟩
  · rw [(f 1 (by decide)).2.2.2.2.1, (f 2 (by decide)).2.2.2.1, (f 3 (by decide)).2.2.2.1]
    exact h2 k hk
  · rw [(f 4 (by decide)).2.2.2.2.2] at hp
    obtain ⟨h9, h10⟩ := h3 k hk p hp
    refine ⟨h9, ?_⟩
    have : ∃ i, i < 64 ∧ p = c + i := by
      rcases h9 with ⟨j, hj, rfl⟩ | ⟨j, hj, rfl⟩
      · exact ⟨12 + 2 * j, by omega, by omega⟩
      · exact ⟨13 + 2 * j, by omega, by omega⟩
    obtain ⟨i, hi, rfl⟩ := this
    rw [(f i hi).2.1]
    exact h10
  · rw [(f 7 (by decide)).2.2.2.2.2] at hp
    exact h4 k hk p hp
  · rw [(f 8 (by decide)).2.2.2.2.2] at hp
    exact h5 k hk p hp
  · rw [f0] at hn
    have := h6 k hk hn
    rw [Nat.add_assoc] at this ⊢
    rw [fI _ _ (by omega), fI _ _ (by omega), (f (54 + k) (by omega)).2.1]
    exact this
  · rw [f0] at hn
    have := h7 k hk hn
    rw [Nat.add_assoc] at this ⊢
    rw [fI _ _ (by omega)]
    exact this
  · rw [(f 11 (by decide)).2.2.2.2.2]
    exact h8 k hk
end WFK
/-- the cliffs of the whole at a -/
def cliffs (a : Nat) : List Nat := [a + 1, a + 65, a + 129, a + 203, a + 267, a + 331, a + 395, a + 459, a + 523, a + 587, a + 651]
def eight (a : Nat) : List Nat := [a + 203, a + 267, a + 331, a + 395, a + 459, a + 523, a + 587, a + 651]
def layR (t : mt) (r : Nat) : Prop := t r = (8, 0) ∧ t (r + 1) = (22, 60) ∧ t (r + 2) = (20, 60) ∧ t (r + 3) = (20, 60) ∧ t (r - 2) = (11, 0) ∧ 2 ≤ r
theorem layR.z {t : mt} {r : Nat} (h : layR t r) : t r = (8, 0) := h.1
def layA (t : mt) (a : Nat) : Prop := t a = (1, 0) ∧ (∀ c, c ∈ cliffs a → lay t c) ∧ layQ t (a + 193) ∧ layQ t (a + 195) ∧ layR t (a + 199)
section LA
variable {t : mt} {M : mm} {a : Nat}
theorem layA.z (h : layA t a) : t a = (1, 0) := h.1
theorem layA.c1 (h : layA t a) : lay t (a + 1) := h.2.1 _ (by simp [cliffs])
theorem layA.c2 (h : layA t a) : lay t (a + 65) := h.2.1 _ (by simp [cliffs])
theorem layA.c3 (h : layA t a) : lay t (a + 129) := h.2.1 _ (by simp [cliffs])
theorem layA.k (h : layA t a) : layQ t (a + 193) := h.2.2.1
theorem layA.s (h : layA t a) : layQ t (a + 195) := h.2.2.2.1
theorem layA.r (h : layA t a) : layR t (a + 199) := h.2.2.2.2
theorem layA.b (h : layA t a) : t (a + 197) = (11, 0) := h.2.2.2.2.2.2.2.2.1
/-- what stands in the whole between two calls: K the kept, S the spare -/
def wfA (M : mm) (a : Nat) (K S : List Nat) : Prop := (∀ c, c ∈ cliffs a → wfK M c) ∧ dq M (a + 193) K ∧ dq M (a + 195) S ∧ (K ++ S).Perm (eight a)
theorem wfA.w1 {K S : List Nat} (h : wfA M a K S) : wfK M (a + 1) := h.1 _ (by simp [cliffs])
theorem wfA.w2 {K S : List Nat} (h : wfA M a K S) : wfK M (a + 65) := h.1 _ (by simp [cliffs])
theorem wfA.w3 {K S : List Nat} (h : wfA M a K S) : wfK M (a + 129) := h.1 _ (by simp [cliffs])
theorem wfA.len {K S : List Nat} (h : wfA M a K S) : K.length + S.length = 8 := by
  have := h.2.2.2.length_eq
  rw [List.length_append] at this
  exact this
theorem eight_c {a q : Nat} (h : q ∈ eight a) : q ∈ cliffs a := by
  simp only [eight, cliffs, List.mem_cons, List.not_mem_nil, or_false] at h ⊢
  omega
theorem eight_ge {a q : Nat} (h : q ∈ eight a) : a + 203 ≤ q := by
  simp only [eight, List.mem_cons, List.not_mem_nil, or_false] at h
  omega
theorem wfA.mem {K S : List Nat} (h : wfA M a K S) {q : Nat} (hq : q ∈ K ∨ q ∈ S) : q ∈ eight a := h.2.2.2.mem_iff.mp (List.mem_append.mpr hq)
end LA
