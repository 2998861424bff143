set_option maxRecDepth 100000
/-! the constructor of a cliff -/
/-- the cells of a cliff under construction -/
def kdC (j : Nat) : Nat × Nat := if j = 1 then (21, 12) else if j = 2 then (20, 12) else if j = 3 then (20, 12) else if j = 4 then (24, 12) else if j = 5 then (24, 18) else if j = 6 then (24, 18) else if j = 7 then (25, 5) else if j = 8 then (26, 5) else if j = 9 then (33, 6) else if j = 10 then (34, 4) else if j = 11 then (29, 6) else if j < 48 then (if j % 2 = 0 then (3, 0) else (4, 0)) else if j < 54 then (5, 0) else if j < 58 then (6, 0) else (7, 0)
def kdF (j : Nat) : Nat × Nat := if j = 5 then (31, 18) else if j = 6 then (31, 18) else if j = 9 then (27, 6) else if j = 10 then (28, 4) else kdC j
def tC (t : mt) (c n : Nat) : mt := fun b => if c < b ∧ b ≤ c + n then kdC (b - c) else t b
/-- a finished cliff at c -/
def tF (t : mt) (c : Nat) : mt := fun b => if b = c then (2, 0) else if c < b ∧ b ≤ c + 63 then kdF (b - c) else t b
section TC
variable {t : mt} {c n j k : Nat} {x : Nat × Nat}
theorem tC_0 (t : mt) (c : Nat) : tC t c 0 = t := by
  funext b
  unfold tC
  rw [if_neg (by omega)]
theorem tC_s (hx : x = kdC (n + 1)) : m1 (tC t c n) (c + (n + 1)) x = tC t c (n + 1) := by
  funext b
  by_cases e : b = c + (n + 1)
  · rw [e, m1_at, hx]
    unfold tC
    rw [if_pos (by omega), show c + (n + 1) - c = n + 1 by omega]
  · rw [m1_ne _ _ e]
    unfold tC
    by_cases h : c < b ∧ b ≤ c + n
    · rw [if_pos h, if_pos (by omega)]
    · rw [if_neg h, if_neg (by omega)]
theorem tC_at (h1 : 1 ≤ j) (h2 : j ≤ n) : tC t c n (c + j) = kdC j := by
  unfold tC
  rw [if_pos (by omega), show c + j - c = j by omega]
theorem tC_c : tC t c n c = t c := by
  unfold tC
  rw [if_neg (by omega)]
theorem kdC_m (h : k < 18) : kdC (12 + 2 * k) = (3, 0) := by
  have key : ∀ k, k < 18 → kdC (12 + 2 * k) = (3, 0) := by decide +kernel
  exact key k h
theorem kdC_b (h : k < 18) : kdC (13 + 2 * k) = (4, 0) := by
  have key : ∀ k, k < 18 → kdC (13 + 2 * k) = (4, 0) := by decide +kernel
  exact key k h
theorem kdC_e (h : k < 6) : kdC (48 + k) = (5, 0) := by
  have key : ∀ k, k < 6 → kdC (48 + k) = (5, 0) := by decide +kernel
  exact key k h
theorem kdC_s (h : k < 4) : kdC (54 + k) = (6, 0) := by
  have key : ∀ k, k < 4 → kdC (54 + k) = (6, 0) := by decide +kernel
  exact key k h
theorem kdC_z (h : k < 6) : kdC (58 + k) = (7, 0) := by
  have key : ∀ k, k < 6 → kdC (58 + k) = (7, 0) := by decide +kernel
  exact key k h
theorem kdC_n (h1 : 1 ≤ j) (h2 : j ≤ 63) : (kdC j).1 ≠ 0 := by
  have key : ∀ j, j < 64 → 1 ≤ j → (kdC j).1 ≠ 0 := by decide +kernel
  exact key j (by omega) h1
theorem tC_lt {E : mE} {M : mm} {H : Heap} (hm : mw E (tC t c n) M H) (hc : (t c).1 ≠ 0) (hn : n ≤ 63) : c + n < H.size := by
  cases n with
  | zero => rw [tC_0] at hm; exact hm.lt hc
  | succ n => exact hm.lt (by rw [tC_at (by omega) (Nat.le_refl _)]; exact kdC_n (by omega) hn)
end TC
theorem qe_of {q h z n c : Nat} (h1 : q = h) (h2 : h ≤ z + n) (hz : z = c + 1) (h3 : c + n < h) : q = c + (n + 1) := by omega
theorem ct42 {E : mE} {t : mt} {M : mm} {a n : Nat} (h : t a = (42, n)) : ct E t M a = .inr (1, [va_rf (gR M 200 a), va_rf (gR M 201 a), va_rf (gR M 202 a), va_rf (gR M 203 a), va_rf (gR M 204 a), va_rf (gR M 205 a), va_rf (gR M 206 a), va_rf (gR M 207 a), va_rf (gR M 208 a), va_rf (gR M 209 a), va_rf (gR M 210 a), .int (gI M 211 a), .int (gI M 212 a), .int (gI M 213 a), .int (gI M 214 a), .int (gI M 215 a), .int (gI M 216 a), .int (gI M 217 a), .int (gI M 218 a), .int (gI M 219 a)]) := ct_k h
theorem gR_at (M : mm) (f a : Nat) (v : Option Nat) : gR (sR M f a v) f a = v := m2_at M.2.2.2.1 f a v
theorem gR_nf (M : mm) {f g : Nat} (a b : Nat) (v : Option Nat) (h : g ≠ f) : gR (sR M f a v) g b = gR M g b := m2_nf M.2.2.2.1 v h
theorem ci_two {E : mE} {t : mt} {M M2 : mm} {c : Nat} {H : Heap} (hc : t c = (42, 0)) (h : M2 = (sR (wR (sR (wR (sR (wR (sR (wR (sR (wR (sR (wR (sR (wR (sR (wR (sR (wI (sR (wI (sR (wF M (c + 1) (fun _ => 0)) 200 c (some (c + 1))) (c + 2) (fun _ => 0)) 201 c (some (c + 2))) (c + 3) (fun _ => 0)) 202 c (some (c + 3))) (c + 4) (fun _ => none)) 203 c (some (c + 4))) (c + 5) (fun _ => none)) 204 c (some (c + 5))) (c + 6) (fun _ => none)) 205 c (some (c + 6))) (c + 7) (fun _ => none)) 206 c (some (c + 7))) (c + 8) (fun _ => none)) 207 c (some (c + 8))) (c + 9) (fun _ => none)) 208 c (some (c + 9))) (c + 10) (fun _ => none)) 209 c (some (c + 10))) (c + 11) (fun _ => none)) 210 c (some (c + 11)))) (hm : mw E (tC t c 11) M2 H) : mw E (tC (m1 t c (2, 0)) c 11) M2 H := by
  refine hm.conv (fun b hb => ?_) (fun b hb hat => ?_)
  · by_cases e : b = c
    · rw [e, tC_c, hc]; decide
    · unfold tC at hb ⊢
      by_cases h9 : c < b ∧ b ≤ c + 11
      · rw [if_pos h9] at hb ⊢; exact hb
      · rw [if_neg h9, m1_ne _ _ e] at hb; rw [if_neg h9]; exact hb
  · by_cases e : b = c
    · rw [e] at hat ⊢
      rw [ct42 (tC_c.trans hc)] at hat
      rw [show ct E (tC (m1 t c (2, 0)) c 11) M2 c = _ from ct2 (tC_c.trans (m1_at _ _ _))]
      have hg : gR M2 200 c = some (c + 1) ∧ gR M2 201 c = some (c + 2) ∧ gR M2 202 c = some (c + 3) ∧ gR M2 203 c = some (c + 4) ∧ gR M2 204 c = some (c + 5) ∧ gR M2 205 c = some (c + 6) ∧ gR M2 206 c = some (c + 7) ∧ gR M2 207 c = some (c + 8) ∧ gR M2 208 c = some (c + 9) ∧ gR M2 209 c = some (c + 10) ∧ gR M2 210 c = some (c + 11) := by
        rw [h]
        simp only [gR, sR, wF, wI, wR, m2_at, m2_nf, ne_eq, Nat.reduceEqDiff, not_false_eq_true, and_self]
      obtain ⟨g0, g1, g2, g3, g4, g5, g6, g7, g8, g9, g10⟩ := hg
      rw [g0, g1, g2, g3, g4, g5, g6, g7, g8, g9, g10] at hat
      exact hat
    · have e2 : tC (m1 t c (2, 0)) c 11 b = tC t c 11 b := by
        unfold tC
        rw [m1_ne _ _ e]
      have e3 : ct E (tC (m1 t c (2, 0)) c 11) M2 b = ct E (tC t c 11) M2 b := by
        unfold ct
        rw [e2]
      rw [e3]
      exact hat
theorem pz_ge {k : Nat} (h : k ≤ 6) (c : (5 : Int32) < nI k) : k = 6 := by
  have := (nI_ltI (a := 5) (by omega) (by omega)).mp c
  omega
theorem pz_lt {k : Nat} (h : k ≤ 6) (c : ¬ (5 : Int32) < nI k) : k < 6 := by
  rcases Nat.lt_or_ge k 6 with h9 | h9
  · exact h9
  · exact absurd (nI_lt (a := 5) (b := k) (by omega) (by omega)) c
def S_ci1 (t : mt) (M : mm) (c : Nat) (z : mm) (k : Nat) : mm :=
  (wI (wF z (c + 1) (vf_upd (aF z (c + 1)) k (1106247680 : UInt32))) (c + 3) (upd (aI z (c + 3)) k (-1 : Int32)))
def L_ci1 (t : mt) (M : mm) (c : Nat) : Nat → mm
  | 0 => M
  | k + 1 => S_ci1 t M c (L_ci1 t M c k) k
  termination_by k => k
theorem L_ci1_0 (t : mt) (M : mm) (c : Nat) : L_ci1 t M c 0 = M := by rw [L_ci1]
theorem L_ci1_s (t : mt) (M : mm) (c : Nat) (k : Nat) : L_ci1 t M c (k + 1) = S_ci1 t M c (L_ci1 t M c k) k := by rw [L_ci1]
def S_ci2 (t : mt) (M : mm) (c : Nat) (z : mm) (k : Nat) : mm :=
  (wR (zc (wR (zc z (c + ((11 + 2 * k) + 1))) (c + 5) (va_up (aR (zc z (c + ((11 + 2 * k) + 1))) (c + 5)) k (some (c + ((11 + 2 * k) + 1))))) (c + ((11 + 2 * k + 1) + 1))) (c + 6) (va_up (aR (zc (wR (zc z (c + ((11 + 2 * k) + 1))) (c + 5) (va_up (aR (zc z (c + ((11 + 2 * k) + 1))) (c + 5)) k (some (c + ((11 + 2 * k) + 1))))) (c + ((11 + 2 * k + 1) + 1))) (c + 6)) k (some (c + ((11 + 2 * k + 1) + 1)))))
def L_ci2 (t : mt) (M : mm) (c : Nat) : Nat → mm
  | 0 => M
  | k + 1 => S_ci2 t M c (L_ci2 t M c k) k
  termination_by k => k
theorem L_ci2_0 (t : mt) (M : mm) (c : Nat) : L_ci2 t M c 0 = M := by rw [L_ci2]
theorem L_ci2_s (t : mt) (M : mm) (c : Nat) (k : Nat) : L_ci2 t M c (k + 1) = S_ci2 t M c (L_ci2 t M c k) k := by rw [L_ci2]
def S_ci3 (t : mt) (M : mm) (c : Nat) (z : mm) (k : Nat) : mm :=
  (wR (zc z (c + ((47 + k) + 1))) (c + 9) (va_up (aR (zc z (c + ((47 + k) + 1))) (c + 9)) k (some (c + ((47 + k) + 1)))))
def L_ci3 (t : mt) (M : mm) (c : Nat) : Nat → mm
  | 0 => M
  | k + 1 => S_ci3 t M c (L_ci3 t M c k) k
  termination_by k => k
theorem L_ci3_0 (t : mt) (M : mm) (c : Nat) : L_ci3 t M c 0 = M := by rw [L_ci3]
theorem L_ci3_s (t : mt) (M : mm) (c : Nat) (k : Nat) : L_ci3 t M c (k + 1) = S_ci3 t M c (L_ci3 t M c k) k := by rw [L_ci3]
def S_ci4 (t : mt) (M : mm) (c : Nat) (z : mm) (k : Nat) : mm :=
  (wR (zc z (c + ((53 + k) + 1))) (c + 10) (va_up (aR (zc z (c + ((53 + k) + 1))) (c + 10)) k (some (c + ((53 + k) + 1)))))
def L_ci4 (t : mt) (M : mm) (c : Nat) : Nat → mm
  | 0 => M
  | k + 1 => S_ci4 t M c (L_ci4 t M c k) k
  termination_by k => k
theorem L_ci4_0 (t : mt) (M : mm) (c : Nat) : L_ci4 t M c 0 = M := by rw [L_ci4]
theorem L_ci4_s (t : mt) (M : mm) (c : Nat) (k : Nat) : L_ci4 t M c (k + 1) = S_ci4 t M c (L_ci4 t M c k) k := by rw [L_ci4]
def S_ci5 (t : mt) (M : mm) (c : Nat) (z : mm) (k : Nat) : mm :=
  (wR (zc z (c + ((57 + k) + 1))) (c + 11) (va_up (aR (zc z (c + ((57 + k) + 1))) (c + 11)) k (some (c + ((57 + k) + 1)))))
def L_ci5 (t : mt) (M : mm) (c : Nat) : Nat → mm
  | 0 => M
  | k + 1 => S_ci5 t M c (L_ci5 t M c k) k
  termination_by k => k
theorem L_ci5_0 (t : mt) (M : mm) (c : Nat) : L_ci5 t M c 0 = M := by rw [L_ci5]
theorem L_ci5_s (t : mt) (M : mm) (c : Nat) (k : Nat) : L_ci5 t M c (k + 1) = S_ci5 t M c (L_ci5 t M c k) k := by rw [L_ci5]
theorem far.zc {a n q : Nat} {M N : mm} (h : far a n M N) (ha : a ≤ q ∧ q < a + n) : far a n M (zc N q) := fun b hb =>
  have hne : b ≠ q := by omega
  ⟨fun f => (gI_zn hne).trans ((h b hb).1 f), fun f => (gF_zn hne).trans ((h b hb).2.1 f), fun f => (gN_zn hne).trans ((h b hb).2.2.1 f), (h b hb).2.2.2.1, (h b hb).2.2.2.2.1, (h b hb).2.2.2.2.2⟩
theorem far.sR {a n f b : Nat} {v : Option Nat} {M N : mm} (h : far a n M N) : far a n M (sR N f b v) := h
theorem gI_sR9 (M : mm) (f a : Nat) (v : Option Nat) (g b : Nat) : gI (sR M f a v) g b = gI M g b := rfl
theorem gI_wR9 (M : mm) (a : Nat) (v : Nat → Option Nat) (g b : Nat) : gI (wR M a v) g b = gI M g b := rfl
theorem gI_wI9 (M : mm) (a : Nat) (v : Nat → Int32) (g b : Nat) : gI (wI M a v) g b = gI M g b := rfl
theorem gI_wF9 (M : mm) (a : Nat) (v : Nat → UInt32) (g b : Nat) : gI (wF M a v) g b = gI M g b := rfl
theorem aR_sR (M : mm) (f a : Nat) (v : Option Nat) (b : Nat) : aR (sR M f a v) b = aR M b := rfl
theorem aI_sR (M : mm) (f a : Nat) (v : Option Nat) (b : Nat) : aI (sR M f a v) b = aI M b := rfl
theorem aI_wR (M : mm) (a : Nat) (v : Nat → Option Nat) (b : Nat) : aI (wR M a v) b = aI M b := rfl
theorem aR_wR (M : mm) (a : Nat) (f : Nat → Option Nat) : aR (wR M a f) a = f := m1_at _ _ _
theorem aR_wRn (M : mm) {a b : Nat} (f : Nat → Option Nat) (h : b ≠ a) : aR (wR M a f) b = aR M b := m1_ne _ _ h
/-- objects are made one by one and laid into an array -/
theorem glp {F : Nat → mm} {Z : mm} {c B A : Nat} (h0 : F 0 = Z) (hs : ∀ k, F (k + 1) = wR (zc (F k) (c + (B + k + 1))) A (va_up (aR (zc (F k) (c + (B + k + 1))) A) k (some (c + (B + k + 1))))) (hA : c ≤ A ∧ A < c + 64) : ∀ k, B + k ≤ 63 → (∀ b, aI (F k) b = aI Z b) ∧ (∀ b, aF (F k) b = aF Z b) ∧ (∀ b, b ≠ A → aR (F k) b = aR Z b) ∧ (∀ j, j < k → aR (F k) A j = some (c + (B + j + 1))) ∧ (∀ f b, b ≤ c + B → gI (F k) f b = gI Z f b) ∧ far c 64 Z (F k)
  | 0, _ => by
    rw [h0]
    exact ⟨fun _ => rfl, fun _ => rfl, fun _ _ => rfl, fun j hj => absurd hj (Nat.not_lt_zero j), fun _ _ _ => rfl, far.rf _ _ _⟩
  | k + 1, hk => by
    obtain ⟨g1, g2, g3, g4, g5, g6⟩ := glp h0 hs hA k (by omega)
    rw [hs]
    refine ⟨g1, g2, fun b hb => (aR_wRn _ _ hb).trans (g3 b hb), fun j hj => ?_, fun f b hb => (gI_zn (by omega)).trans (g5 f b hb), (g6.zc (by omega)).wR hA⟩
    rw [aR_wR]
    by_cases e : j = k
    · rw [e, va_up_self]
    · rw [va_up_ne _ _ e]
      exact g4 j (by omega)
theorem clp1 {t : mt} {Z : mm} {c : Nat} : ∀ k, (∀ b, aR (L_ci1 t Z c k) b = aR Z b) ∧ (∀ f b, gI (L_ci1 t Z c k) f b = gI Z f b) ∧ (∀ j, j < k → aF (L_ci1 t Z c k) (c + 1) j = 1106247680 ∧ aI (L_ci1 t Z c k) (c + 3) j = -1) ∧ aI (L_ci1 t Z c k) (c + 2) = aI Z (c + 2) ∧ far c 64 Z (L_ci1 t Z c k)
  | 0 => by
    rw [L_ci1_0]
    exact ⟨fun _ => rfl, fun _ _ => rfl, fun j hj => absurd hj (Nat.not_lt_zero j), rfl, far.rf _ _ _⟩
  | k + 1 => by
    obtain ⟨g1, g2, g3, g4, g5⟩ := clp1 (t := t) (Z := Z) (c := c) k
    rw [L_ci1_s]
    unfold S_ci1
    refine ⟨g1, g2, fun j hj => ?_, (m1_ne _ _ (by omega)).trans g4, (g5.wF (by omega)).wI (by omega)⟩
    rw [show aF (wI (wF (L_ci1 t Z c k) (c + 1) (vf_upd (aF (L_ci1 t Z c k) (c + 1)) k 1106247680)) (c + 3) (upd (aI (L_ci1 t Z c k) (c + 3)) k (-1))) (c + 1) = vf_upd (aF (L_ci1 t Z c k) (c + 1)) k 1106247680 from m1_at _ _ _, show aI (wI (wF (L_ci1 t Z c k) (c + 1) (vf_upd (aF (L_ci1 t Z c k) (c + 1)) k 1106247680)) (c + 3) (upd (aI (L_ci1 t Z c k) (c + 3)) k (-1))) (c + 3) = upd (aI (L_ci1 t Z c k) (c + 3)) k (-1) from m1_at _ _ _]
    by_cases e : j = k
    · rw [e, vfu, pk_us]
      exact ⟨rfl, rfl⟩
    · rw [pk_un e, show vf_upd (aF (L_ci1 t Z c k) (c + 1)) k 1106247680 j = aF (L_ci1 t Z c k) (c + 1) j from if_neg e]
      exact g3 j (by omega)
theorem clp2 {t : mt} {Z : mm} {c : Nat} : ∀ k, k ≤ 18 → (∀ b, aI (L_ci2 t Z c k) b = aI Z b) ∧ (∀ b, aF (L_ci2 t Z c k) b = aF Z b) ∧ (∀ b, b ≠ c + 5 → b ≠ c + 6 → aR (L_ci2 t Z c k) b = aR Z b) ∧ (∀ j, j < k → aR (L_ci2 t Z c k) (c + 5) j = some (c + 12 + 2 * j) ∧ aR (L_ci2 t Z c k) (c + 6) j = some (c + 13 + 2 * j)) ∧ (∀ f b, b ≤ c + 11 → gI (L_ci2 t Z c k) f b = gI Z f b) ∧ (∀ f b, c + 12 ≤ b → b < c + 12 + 2 * k → gI (L_ci2 t Z c k) f b = 0) ∧ far c 64 Z (L_ci2 t Z c k)
  | 0, _ => by
    rw [L_ci2_0]
    exact ⟨fun _ => rfl, fun _ => rfl, fun _ _ _ => rfl, fun j hj => absurd hj (Nat.not_lt_zero j), fun _ _ _ => rfl, fun f b h1 h2 => by omega, far.rf _ _ _⟩
  | k + 1, hk => by
    obtain ⟨g1, g2, g3, g4, g5, g6, g7⟩ := clp2 (t := t) (Z := Z) (c := c) k (by omega)
    rw [L_ci2_s]
    unfold S_ci2
    generalize hz : L_ci2 t Z c k = z at *
    have n56 : c + 5 ≠ c + 6 := by omega
    refine ⟨g1, g2, fun b hb hb2 => ((aR_wRn _ _ hb2).trans (aR_wRn _ _ hb)).trans (g3 b hb hb2), fun j hj => ⟨?_, ?_⟩, fun f b hb => ((gI_zn (by omega)).trans (gI_zn (by omega))).trans (g5 f b hb), fun f b h1 h2 => ?_, (((g7.zc (by omega)).wR (by omega)).zc (by omega)).wR (by omega)⟩
    · rw [aR_wRn _ _ n56]
      show aR (wR (zc z (c + ((11 + 2 * k) + 1))) (c + 5) (va_up (aR (zc z (c + ((11 + 2 * k) + 1))) (c + 5)) k (some (c + ((11 + 2 * k) + 1))))) (c + 5) j = _
      rw [aR_wR]
      by_cases e : j = k
      · rw [e, va_up_self]
        congr 1
        omega
      · rw [va_up_ne _ _ e]
        exact (g4 j (by omega)).1
    · rw [aR_wR]
      by_cases e : j = k
      · rw [e, va_up_self]
        congr 1
        omega
      · rw [va_up_ne _ _ e]
        show aR (wR (zc z (c + ((11 + 2 * k) + 1))) (c + 5) (va_up (aR (zc z (c + ((11 + 2 * k) + 1))) (c + 5)) k (some (c + ((11 + 2 * k) + 1))))) (c + 6) j = _
        rw [aR_wRn _ _ (Ne.symm n56)]
        exact (g4 j (by omega)).2
    · show gI (zc (wR (zc z (c + ((11 + 2 * k) + 1))) (c + 5) (va_up (aR (zc z (c + ((11 + 2 * k) + 1))) (c + 5)) k (some (c + ((11 + 2 * k) + 1))))) (c + ((11 + 2 * k + 1) + 1))) f b = 0
      by_cases e : b = c + ((11 + 2 * k + 1) + 1)
      · rw [e, gI_zc]
      · rw [gI_zn e]
        show gI (zc z (c + ((11 + 2 * k) + 1))) f b = 0
        by_cases e2 : b = c + ((11 + 2 * k) + 1)
        · rw [e2, gI_zc]
        · rw [gI_zn e2]
          exact g6 f b h1 (by omega)
/-- what stands in a new cliff -/
def iniC (N : mm) (c : Nat) : Prop := (gI N 211 c = 0 ∧ gI N 212 c = 0 ∧ gI N 213 c = 0 ∧ gI N 214 c = 4 ∧ gI N 215 c = 2 ∧ gI N 216 c = 0 ∧ gI N 217 c = 0 ∧ gI N 218 c = 0 ∧ gI N 219 c = 0) ∧ (∀ k, k < 12 → aF N (c + 1) k = 1106247680 ∧ aI N (c + 2) k = 0 ∧ aI N (c + 3) k = -1 ∧ aR N (c + 4) k = none) ∧ (∀ k, k < 5 → aR N (c + 7) k = none ∧ aR N (c + 8) k = none) ∧ (∀ k, k < 6 → aR N (c + 11) k = some (c + 58 + k)) ∧ (∀ b, c + 12 ≤ b → b < c + 48 → gI N 302 b = 0)
def newC (t : mt) (M : mm) (c : Nat) (S : mt × mm) : Prop := S.1 = tF t c ∧ far c 64 M S.2 ∧ iniC S.2 c ∧ (∀ k, k < 18 → aR S.2 (c + 5) k = some (c + 12 + 2 * k) ∧ aR S.2 (c + 6) k = some (c + 13 + 2 * k)) ∧ (∀ k, k < 6 → aR S.2 (c + 9) k = some (c + 48 + k)) ∧ (∀ k, k < 4 → aR S.2 (c + 10) k = some (c + 54 + k))
theorem ci_post {t : mt} {M M2 Zci1 Zci2 Zci3 Zci4 Zci5 : mm} {c : Nat} (hM0 : ∀ f, gI M f c = 0) (hM2 : M2 = (sR (wR (sR (wR (sR (wR (sR (wR (sR (wR (sR (wR (sR (wR (sR (wR (sR (wI (sR (wI (sR (wF M (c + 1) (fun _ => 0)) 200 c (some (c + 1))) (c + 2) (fun _ => 0)) 201 c (some (c + 2))) (c + 3) (fun _ => 0)) 202 c (some (c + 3))) (c + 4) (fun _ => none)) 203 c (some (c + 4))) (c + 5) (fun _ => none)) 204 c (some (c + 5))) (c + 6) (fun _ => none)) 205 c (some (c + 6))) (c + 7) (fun _ => none)) 206 c (some (c + 7))) (c + 8) (fun _ => none)) 207 c (some (c + 8))) (c + 9) (fun _ => none)) 208 c (some (c + 9))) (c + 10) (fun _ => none)) 209 c (some (c + 10))) (c + 11) (fun _ => none)) 210 c (some (c + 11)))) (h1 : Zci1 = (sI (sI M2 214 c (4 : Int32)) 215 c (2 : Int32))) (h2 : Zci2 = L_ci1 t Zci1 c 12) (h3 : Zci3 = L_ci2 t Zci2 c 18) (h4 : Zci4 = L_ci3 t Zci3 c 6) (h5 : Zci5 = L_ci4 t Zci4 c 4) : newC t M c (tF t c, L_ci5 t Zci5 c 6) := by
  have f2 : far c 64 M M2 := by
    rw [hM2]
    repeat' (first | with_reducible exact far.rf _ _ _ | with_reducible refine far.sR ?_ | with_reducible refine far.wR ?_ (by omega) | with_reducible refine far.wI ?_ (by omega) | with_reducible refine far.wF ?_ (by omega))
  have m2I : ∀ f b, gI M2 f b = gI M f b := fun f b => by rw [hM2]; simp only [gI_sR9, gI_wR9, gI_wI9, gI_wF9]
  have nn : ∀ i j : Nat, i ≠ j → c + i ≠ c + j := fun i j h => by omega
  have m2a : aI M2 (c + 2) = (fun _ => 0) := by
    rw [hM2, aI_sR, aI_wR, aI_sR, aI_wR, aI_sR, aI_wR, aI_sR, aI_wR, aI_sR, aI_wR, aI_sR, aI_wR, aI_sR, aI_wR, aI_sR, aI_wR, aI_sR, aI_wIn _ _ (nn 2 3 (by decide)), aI_sR, aI_wI]
  have r4 : aR M2 (c + 4) = (fun _ => none) := by
    rw [hM2, aR_sR, aR_wRn _ _ (nn 4 11 (by decide)), aR_sR, aR_wRn _ _ (nn 4 10 (by decide)), aR_sR, aR_wRn _ _ (nn 4 9 (by decide)), aR_sR, aR_wRn _ _ (nn 4 8 (by decide)), aR_sR, aR_wRn _ _ (nn 4 7 (by decide)), aR_sR, aR_wRn _ _ (nn 4 6 (by decide)), aR_sR, aR_wRn _ _ (nn 4 5 (by decide)), aR_sR, aR_wR]
  have r7 : aR M2 (c + 7) = (fun _ => none) := by
    rw [hM2, aR_sR, aR_wRn _ _ (nn 7 11 (by decide)), aR_sR, aR_wRn _ _ (nn 7 10 (by decide)), aR_sR, aR_wRn _ _ (nn 7 9 (by decide)), aR_sR, aR_wRn _ _ (nn 7 8 (by decide)), aR_sR, aR_wR]
  have r8 : aR M2 (c + 8) = (fun _ => none) := by
    rw [hM2, aR_sR, aR_wRn _ _ (nn 8 11 (by decide)), aR_sR, aR_wRn _ _ (nn 8 10 (by decide)), aR_sR, aR_wRn _ _ (nn 8 9 (by decide)), aR_sR, aR_wR]
  clear hM2
  obtain ⟨a1, a2, a3, a4, a5⟩ := clp1 (t := t) (Z := Zci1) (c := c) 12
  obtain ⟨b1, b2, b3, b4, b5, b6, b7⟩ := clp2 (t := t) (Z := Zci2) (c := c) 18 (Nat.le_refl _)
  obtain ⟨c1, c2, c3, c4, c5, c6⟩ := glp (F := L_ci3 t Zci3 c) (B := 47) (A := c + 9) (L_ci3_0 t Zci3 c) (fun k => L_ci3_s t Zci3 c k) (by omega) 6 (by decide)
  obtain ⟨d1, d2, d3, d4, d5, d6⟩ := glp (F := L_ci4 t Zci4 c) (B := 53) (A := c + 10) (L_ci4_0 t Zci4 c) (fun k => L_ci4_s t Zci4 c k) (by omega) 4 (by decide)
  obtain ⟨e1, e2, e3, e4, e5, e6⟩ := glp (F := L_ci5 t Zci5 c) (B := 57) (A := c + 11) (L_ci5_0 t Zci5 c) (fun k => L_ci5_s t Zci5 c k) (by omega) 6 (by decide)
  rw [← h2] at a1 a2 a3 a4 a5
  rw [← h3] at b1 b2 b3 b4 b5 b6 b7
  rw [← h4] at c1 c2 c3 c4 c5 c6
  rw [← h5] at d1 d2 d3 d4 d5 d6
  have z1I : ∀ f, f ≠ 214 → f ≠ 215 → gI Zci1 f c = 0 := fun f hf hf2 => by
    rw [h1, gI_sI_f _ _ _ _ hf2, gI_sI_f _ _ _ _ hf, m2I, hM0]
  have kI : ∀ f, gI (L_ci5 t Zci5 c 6) f c = gI Zci1 f c := fun f => by
    rw [e5 f c (by omega), d5 f c (by omega), c5 f c (by omega), b5 f c (by omega), a2]
  have f1 : far c 64 M Zci1 := by rw [h1]; exact (f2.sI (by omega)).sI (by omega)
  have kR : ∀ b, b ≠ c + 5 → b ≠ c + 6 → b ≠ c + 9 → b ≠ c + 10 → b ≠ c + 11 → aR (L_ci5 t Zci5 c 6) b = aR M2 b := fun b q1 q2 q3 q4 q5 => by
    rw [e3 b q5, d3 b q4, c3 b q3, b3 b q1 q2, a1, h1]
    rfl
  refine ⟨rfl, ((((f1.tr a5).tr b7).tr c6).tr d6).tr e6, ⟨⟨?_, ?_, ?_, ?_, ?_, ?_, ?_, ?_, ?_⟩, fun k hk => ⟨?_, ?_, ?_, ?_⟩, fun k hk => ⟨?_, ?_⟩, fun k hk => ?_, fun b hb hb2 => ?_⟩, fun k hk => ⟨?_, ?_⟩, fun k hk => ?_, fun k hk => ?_⟩
  · rw [kI, z1I 211 (by decide) (by decide)]
  · rw [kI, z1I 212 (by decide) (by decide)]
  · rw [kI, z1I 213 (by decide) (by decide)]
  · rw [kI, h1, gI_sI_f _ _ _ _ (by decide), gI_sI_at]
  · rw [kI, h1, gI_sI_at]
  · rw [kI, z1I 216 (by decide) (by decide)]
  · rw [kI, z1I 217 (by decide) (by decide)]
  · rw [kI, z1I 218 (by decide) (by decide)]
  · rw [kI, z1I 219 (by decide) (by decide)]
  · show aF (L_ci5 t Zci5 c 6) (c + 1) k = _
    rw [e2, d2, c2, b2]
    exact (a3 k hk).1
  · show aI (L_ci5 t Zci5 c 6) (c + 2) k = _
    rw [e1, d1, c1, b1, a4, h1]
    exact congrFun m2a k
  · show aI (L_ci5 t Zci5 c 6) (c + 3) k = _
    rw [e1, d1, c1, b1]
    exact (a3 k hk).2
  · show aR (L_ci5 t Zci5 c 6) (c + 4) k = _
    rw [kR _ (nn 4 5 (by decide)) (nn 4 6 (by decide)) (nn 4 9 (by decide)) (nn 4 10 (by decide)) (nn 4 11 (by decide)), r4]
  · show aR (L_ci5 t Zci5 c 6) (c + 7) k = _
    rw [kR _ (nn 7 5 (by decide)) (nn 7 6 (by decide)) (nn 7 9 (by decide)) (nn 7 10 (by decide)) (nn 7 11 (by decide)), r7]
  · show aR (L_ci5 t Zci5 c 6) (c + 8) k = _
    rw [kR _ (nn 8 5 (by decide)) (nn 8 6 (by decide)) (nn 8 9 (by decide)) (nn 8 10 (by decide)) (nn 8 11 (by decide)), r8]
  · show aR (L_ci5 t Zci5 c 6) (c + 11) k = _
    rw [e4 k hk]
    congr 1
    omega
  · show gI (L_ci5 t Zci5 c 6) 302 b = 0
    rw [e5 302 b (by omega), d5 302 b (by omega), c5 302 b (by omega)]
    exact b6 302 b hb (by omega)
  · show aR (L_ci5 t Zci5 c 6) (c + 5) k = _
    rw [e3 _ (nn 5 11 (by decide)), d3 _ (nn 5 10 (by decide)), c3 _ (nn 5 9 (by decide))]
    exact (b4 k hk).1
  · show aR (L_ci5 t Zci5 c 6) (c + 6) k = _
    rw [e3 _ (nn 6 11 (by decide)), d3 _ (nn 6 10 (by decide)), c3 _ (nn 6 9 (by decide))]
    exact (b4 k hk).2
  · show aR (L_ci5 t Zci5 c 6) (c + 9) k = _
    rw [e3 _ (nn 9 11 (by decide)), d3 _ (nn 9 10 (by decide)), c4 k hk]
    congr 1
    omega
  · show aR (L_ci5 t Zci5 c 6) (c + 10) k = _
    rw [e3 _ (nn 10 11 (by decide)), d4 k hk]
    congr 1
    omega
theorem tF_at {t : mt} {c j : Nat} (h1 : 1 ≤ j) (h2 : j ≤ 63) : tF t c (c + j) = kdF j := by
  unfold tF
  rw [if_neg (by omega), if_pos (by omega), show c + j - c = j by omega]
theorem arr_cg {cA : ClassId} {n : Nat} {f g : Nat → Option Nat} (h : ∀ k, k < n → f k = g k) : vp_cell cA (n, .inr (.inr (.inr (.inr f)))) = vp_cell cA (n, .inr (.inr (.inr (.inr g)))) := by
  rw [vp_cell_q, vp_cell_q]
  exact arrV_cg (fun k hk => by rw [h k hk])
theorem ci_conv {E : mE} {t : mt} {M N : mm} {c : Nat} {H : Heap} (hp : newC t M c (tF t c, N)) (hm : mw E (tC (m1 t c (2, 0)) c 63) N H) : mw E (tF t c) N H := by
  obtain ⟨-, -, -, h56, h9, h10⟩ := hp
  have key : ∀ b, b = c ∨ (∃ j, 1 ≤ j ∧ j ≤ 63 ∧ b = c + j) ∨ (b < c ∨ c + 63 < b) := fun b => by
    by_cases e : b = c
    · exact .inl e
    · by_cases e2 : c < b ∧ b ≤ c + 63
      · exact .inr (.inl ⟨b - c, by omega, by omega, by omega⟩)
      · exact .inr (.inr (by omega))
  refine hm.conv (fun b hb => ?_) (fun b hb hat => ?_)
  · rcases key b with e | ⟨j, j1, j2, e⟩ | e
    · rw [e, tC_c, m1_at]; decide
    · rw [e, tC_at j1 j2]; exact kdC_n j1 j2
    · unfold tF at hb
      unfold tC
      rw [if_neg (by omega), if_neg (by omega)] at hb
      rw [if_neg (by omega), m1_ne _ _ (by omega)]
      exact hb
  · have same : ∀ b, tF t c b = tC (m1 t c (2, 0)) c 63 b → va_at E.1 clA (b, ct E (tC (m1 t c (2, 0)) c 63) N b) H → va_at E.1 clA (b, ct E (tF t c) N b) H := fun b e h => by
      have : ct E (tF t c) N b = ct E (tC (m1 t c (2, 0)) c 63) N b := by unfold ct; rw [e]
      rw [this]; exact h
    rcases key b with e | ⟨j, j1, j2, e⟩ | e
    · refine same b ?_ hat
      rw [e, tC_c, m1_at]
      exact if_pos rfl
    · subst e
      by_cases q5 : j = 5
      · subst q5
        rw [show ct E (tC (m1 t c (2, 0)) c 63) N (c + 5) = .inl (E.2.1 4, 18, .inr (.inr (.inr (.inr (aR N (c + 5)))))) from ct_k (show tC (m1 t c (2, 0)) c 63 (c + 5) = (24, 18) from tC_at (by decide) (by decide))] at hat
        rw [show ct E (tF t c) N (c + 5) = .inl (E.2.1 4, 18, .inr (.inr (.inr (.inr (fun k => some (c + 5 + 7 + 2 * k)))))) from ct_k (show tF t c (c + 5) = (31, 18) from tF_at (by decide) (by decide))]
        show H[c + 5]? = some (vp_cell _ _)
        rw [← arr_cg (f := aR N (c + 5)) (fun k hk => (h56 k hk).1)]
        exact hat
      · by_cases q6 : j = 6
        · subst q6
          rw [show ct E (tC (m1 t c (2, 0)) c 63) N (c + 6) = .inl (E.2.1 4, 18, .inr (.inr (.inr (.inr (aR N (c + 6)))))) from ct_k (show tC (m1 t c (2, 0)) c 63 (c + 6) = (24, 18) from tC_at (by decide) (by decide))] at hat
          rw [show ct E (tF t c) N (c + 6) = .inl (E.2.1 4, 18, .inr (.inr (.inr (.inr (fun k => some (c + 6 + 7 + 2 * k)))))) from ct_k (show tF t c (c + 6) = (31, 18) from tF_at (by decide) (by decide))]
          show H[c + 6]? = some (vp_cell _ _)
          rw [← arr_cg (f := aR N (c + 6)) (fun k hk => (h56 k hk).2)]
          exact hat
        · by_cases q9 : j = 9
          · subst q9
            rw [show ct E (tC (m1 t c (2, 0)) c 63) N (c + 9) = .inl (E.2.1 7, 6, .inr (.inr (.inr (.inr (aR N (c + 9)))))) from ct_k (show tC (m1 t c (2, 0)) c 63 (c + 9) = (33, 6) from tC_at (by decide) (by decide))] at hat
            rw [show ct E (tF t c) N (c + 9) = .inl (E.2.1 7, 6, .inr (.inr (.inr (.inr (fun k => some (c + 9 + 39 + k)))))) from ct_k (show tF t c (c + 9) = (27, 6) from tF_at (by decide) (by decide))]
            show H[c + 9]? = some (vp_cell _ _)
            rw [← arr_cg (f := aR N (c + 9)) (fun k hk => h9 k hk)]
            exact hat
          · by_cases q10 : j = 10
            · subst q10
              rw [show ct E (tC (m1 t c (2, 0)) c 63) N (c + 10) = .inl (E.2.1 8, 4, .inr (.inr (.inr (.inr (aR N (c + 10)))))) from ct_k (show tC (m1 t c (2, 0)) c 63 (c + 10) = (34, 4) from tC_at (by decide) (by decide))] at hat
              rw [show ct E (tF t c) N (c + 10) = .inl (E.2.1 8, 4, .inr (.inr (.inr (.inr (fun k => some (c + 10 + 44 + k)))))) from ct_k (show tF t c (c + 10) = (28, 4) from tF_at (by decide) (by decide))]
              show H[c + 10]? = some (vp_cell _ _)
              rw [← arr_cg (f := aR N (c + 10)) (fun k hk => h10 k hk)]
              exact hat
            · refine same (c + j) ?_ hat
              rw [tF_at j1 j2, tC_at j1 j2]
              unfold kdF
              rw [if_neg q5, if_neg q6, if_neg q9, if_neg q10]
    · refine same b ?_ hat
      unfold tF tC
      rw [if_neg (by omega), if_neg (by omega), if_neg (by omega), m1_ne _ _ (by omega)]

set_option maxHeartbeats 4000000 in
theorem cm2_init (l : Launch) (E : mE) (t : mt) (M : mm) (c : Nat) (hc : t c = (42, 0)) (hM0 : ∀ f, gI M f c = 0) : Met l yX2_init (ws_ yX2_init cX2_init 2 none) ({ frames := 3, cells := 63, slots := 276, locals := 64 }) (va_Pc [.ref c] (zP E t M (c + 1))) (va_Qv (fun (S : mt × mm) => newC t M c S) (fun S U => mw E S.1 S.2 U.heap) (eA E)) 63 276 (eA E) := by
  refine Met.ofW (cc := cX2_init) (maxL := 2) (ret := none) (by decide) rfl ?_
  intro p e s m args below meth c0 s₁ B hml hv
  obtain ⟨rfl, ⟨hs, hm⟩, hz0⟩ := hv
  have hx := B.exec
  have hb := B.bytes
  have hr := B.returns
  have hts := atoms_spec (ws := ws_ yX2_init cX2_init 2 none) B.pre
  have hts : ∀ w ∈ lw_all, w.before _ s = true := fun w h => hts w (List.mem_cons_of_mem _ h)
  have hown : s.vm.findClass RX2 = some m.cls := findClass_of_methodNamed B.named
  have hlocks := B.notSynchronized
  have hS : va_S (eA E) s.heap s.heap [] := va_S.rf
  have hl := lv_entry ([.ref c]) (n := 2) (Nat.le_of_ble_eq_true rfl)
  rw [lg_entry_eq]
  generalize (lg_sl ([.ref c]) ++ List.replicate (2 - (lg_sl ([.ref c])).length) Slot.unset).toArray = ls at hl ⊢
  have hl : lv_has ls 2 [(0, .ref (c))] := hl
  have hin2 : meth.name = "<init>" := (name_of_methodNamed B.named B.method).1
  have hcn : (t c).1 ≠ 0 := by rw [hc]; decide
  have hm : mw E (tC t c 0) M s.heap := by rw [tC_0]; exact hm
  refine lv_aload_n hx hb dX2_init_0 rfl (lv_at hl 0 rfl) ?_
  refine W.objInit hx hb hown (hts _ q110) (hts _ q103) (hts _ q104) rfl (by rw [hml]; exact hl.1) rfl dX2_init_1 (Nat.le_of_ble_eq_true rfl) (Nat.le_of_ble_eq_true rfl) ?_
  refine lv_aload_n hx hb dX2_init_4 rfl (lv_at hl 0 rfl) ?_
  refine lv_bipush (v := (12 : Int32)) hx hb dX2_init_5 (by decide) ?_
  refine k_size (fun hsz_1 => ?_)
  have hsz_1 : s.heap.size ≤ s.heap.size + (0) := hsz_1
  have hlo_1 := tC_lt hm hcn (by decide)
  refine k_newG (kd0 := 21) (j := 1) (atype := .float) (ty := .float) (N := 12) (a0 := (12, .inr (.inr (.inl fun _ => 0)))) (M1 := fun q => wF M q (fun _ => 0)) hx hb (hts _ q146) rfl hs hm hS rfl (fun h => h) (fun _ => rfl) (fun q b hb9 => by rw [ct_wF hb9]; unfold ct; rw [m1_ne _ _ hb9]) (fun q => by unfold ct; rw [m1_at]; simp only [aF, wF, m1_at]) (by decide) (by decide) (by decide) (Nat.le_of_ble_eq_true rfl) (Nat.le_of_ble_eq_true rfl) dX2_init_7 (fun q_1 H hqe_1 _ hq0_1 hm hS => ?_)
  have hqe_1 : q_1 = (c + 1) := qe_of hqe_1 hsz_1 hz0 hlo_1
  subst hqe_1
  clear hsz_1 hlo_1
  have hm : mw E (tC t c (0 + 1)) (wF M (c + 1) (fun _ => 0)) H := by rw [← tC_s (n := 0) (x := (21, 12)) rfl]; exact hm
  have hm : mw E (tC t c 1) (wF M (c + 1) (fun _ => 0)) H := hm
  refine k_putF (M1 := sR (wF M (c + 1) (fun _ => 0)) 200 c (some (c + 1))) (C := RX2) (T := TX2) (N := 20) hx hb hts in_X2 tyX2 tyX2_ok nmX2 hown hs hm hS (mt_ne (tC_c.trans hc) (by decide)) (ct42 (tC_c.trans hc)) rfl 0 (by decide) (hts _ q227) (fun _ h9 => h9) rfl hin2 rfl (tyX2_ok 0 (by decide)) rfl rfl (Nat.le_of_ble_eq_true rfl) (fun b => ct_sRa ((ct42 (tC_c.trans hc)).trans (by simp only [gR, sR, m2_at, m2_nf, ne_eq, Nat.reduceEqDiff, not_false_eq_true]; rfl))) dX2_init_9 (fun H locs hm hS => ?_)
  have hm : mw E (tC t c 1) ((sR (wF M (c + 1) (fun _ => 0)) 200 c (some (c + 1)))) H := hm
  refine lv_aload_n hx hb dX2_init_12 rfl (lv_at hl 0 rfl) ?_
  refine lv_bipush (v := (12 : Int32)) hx hb dX2_init_13 (by decide) ?_
  refine k_size (fun hsz_2 => ?_)
  have hsz_2 : H.size ≤ s.heap.size + (1) := hsz_2
  have hlo_2 := tC_lt hm hcn (by decide)
  refine k_newG (kd0 := 20) (j := 0) (atype := .int) (ty := .int) (N := 12) (a0 := (12, .inl fun _ => 0)) (M1 := fun q => wI (sR (wF M (c + 1) (fun _ => 0)) 200 c (some (c + 1))) q (fun _ => 0)) hx hb (hts _ q147) rfl hs hm hS rfl (fun h => h) (fun _ => rfl) (fun q b hb9 => by rw [ct_wI hb9]; unfold ct; rw [m1_ne _ _ hb9]) (fun q => by unfold ct; rw [m1_at]; simp only [aI, wI, m1_at]) (by decide) (by decide) (by decide) (Nat.le_of_ble_eq_true rfl) (Nat.le_of_ble_eq_true rfl) dX2_init_15 (fun q_2 H hqe_2 _ hq0_2 hm hS => ?_)
  have hqe_2 : q_2 = (c + 2) := qe_of hqe_2 hsz_2 hz0 hlo_2
  subst hqe_2
  clear hsz_2 hlo_2
  have hm : mw E (tC t c (1 + 1)) (wI (sR (wF M (c + 1) (fun _ => 0)) 200 c (some (c + 1))) (c + 2) (fun _ => 0)) H := by rw [← tC_s (n := 1) (x := (20, 12)) rfl]; exact hm
  have hm : mw E (tC t c 2) (wI (sR (wF M (c + 1) (fun _ => 0)) 200 c (some (c + 1))) (c + 2) (fun _ => 0)) H := hm
  refine k_putF (M1 := sR (wI (sR (wF M (c + 1) (fun _ => 0)) 200 c (some (c + 1))) (c + 2) (fun _ => 0)) 201 c (some (c + 2))) (C := RX2) (T := TX2) (N := 20) hx hb hts in_X2 tyX2 tyX2_ok nmX2 hown hs hm hS (mt_ne (tC_c.trans hc) (by decide)) (ct42 (tC_c.trans hc)) rfl 1 (by decide) (hts _ q229) (fun _ h9 => h9) rfl hin2 rfl (tyX2_ok 1 (by decide)) rfl rfl (Nat.le_of_ble_eq_true rfl) (fun b => ct_sRa ((ct42 (tC_c.trans hc)).trans (by simp only [gR, sR, m2_at, m2_nf, ne_eq, Nat.reduceEqDiff, not_false_eq_true]; rfl))) dX2_init_17 (fun H locs hm hS => ?_)
  have hm : mw E (tC t c 2) ((sR (wI (sR (wF M (c + 1) (fun _ => 0)) 200 c (some (c + 1))) (c + 2) (fun _ => 0)) 201 c (some (c + 2)))) H := hm
  refine lv_aload_n hx hb dX2_init_20 rfl (lv_at hl 0 rfl) ?_
  refine lv_bipush (v := (12 : Int32)) hx hb dX2_init_21 (by decide) ?_
  refine k_size (fun hsz_3 => ?_)
  have hsz_3 : H.size ≤ s.heap.size + (2) := hsz_3
  have hlo_3 := tC_lt hm hcn (by decide)
  refine k_newG (kd0 := 20) (j := 0) (atype := .int) (ty := .int) (N := 12) (a0 := (12, .inl fun _ => 0)) (M1 := fun q => wI (sR (wI (sR (wF M (c + 1) (fun _ => 0)) 200 c (some (c + 1))) (c + 2) (fun _ => 0)) 201 c (some (c + 2))) q (fun _ => 0)) hx hb (hts _ q147) rfl hs hm hS rfl (fun h => h) (fun _ => rfl) (fun q b hb9 => by rw [ct_wI hb9]; unfold ct; rw [m1_ne _ _ hb9]) (fun q => by unfold ct; rw [m1_at]; simp only [aI, wI, m1_at]) (by decide) (by decide) (by decide) (Nat.le_of_ble_eq_true rfl) (Nat.le_of_ble_eq_true rfl) dX2_init_23 (fun q_3 H hqe_3 _ hq0_3 hm hS => ?_)
  have hqe_3 : q_3 = (c + 3) := qe_of hqe_3 hsz_3 hz0 hlo_3
  subst hqe_3
  clear hsz_3 hlo_3
  have hm : mw E (tC t c (2 + 1)) (wI (sR (wI (sR (wF M (c + 1) (fun _ => 0)) 200 c (some (c + 1))) (c + 2) (fun _ => 0)) 201 c (some (c + 2))) (c + 3) (fun _ => 0)) H := by rw [← tC_s (n := 2) (x := (20, 12)) rfl]; exact hm
  have hm : mw E (tC t c 3) (wI (sR (wI (sR (wF M (c + 1) (fun _ => 0)) 200 c (some (c + 1))) (c + 2) (fun _ => 0)) 201 c (some (c + 2))) (c + 3) (fun _ => 0)) H := hm
  refine k_putF (M1 := sR (wI (sR (wI (sR (wF M (c + 1) (fun _ => 0)) 200 c (some (c + 1))) (c + 2) (fun _ => 0)) 201 c (some (c + 2))) (c + 3) (fun _ => 0)) 202 c (some (c + 3))) (C := RX2) (T := TX2) (N := 20) hx hb hts in_X2 tyX2 tyX2_ok nmX2 hown hs hm hS (mt_ne (tC_c.trans hc) (by decide)) (ct42 (tC_c.trans hc)) rfl 2 (by decide) (hts _ q231) (fun _ h9 => h9) rfl hin2 rfl (tyX2_ok 2 (by decide)) rfl rfl (Nat.le_of_ble_eq_true rfl) (fun b => ct_sRa ((ct42 (tC_c.trans hc)).trans (by simp only [gR, sR, m2_at, m2_nf, ne_eq, Nat.reduceEqDiff, not_false_eq_true]; rfl))) dX2_init_25 (fun H locs hm hS => ?_)
  have hm : mw E (tC t c 3) ((sR (wI (sR (wI (sR (wF M (c + 1) (fun _ => 0)) 200 c (some (c + 1))) (c + 2) (fun _ => 0)) 201 c (some (c + 2))) (c + 3) (fun _ => 0)) 202 c (some (c + 3)))) H := hm
  refine lv_aload_n hx hb dX2_init_28 rfl (lv_at hl 0 rfl) ?_
  refine lv_bipush (v := (12 : Int32)) hx hb dX2_init_29 (by decide) ?_
  refine k_size (fun hsz_4 => ?_)
  have hsz_4 : H.size ≤ s.heap.size + (3) := hsz_4
  have hlo_4 := tC_lt hm hcn (by decide)
  refine k_newR (kd0 := 24) (j := 4) (N := 12) hx hb hown (hts _ q111) (hs.2.2.1 _ q112 rfl) hs hm hS rfl (fun q => by unfold ct; rw [m1_at]; simp only [aR, wR, m1_at]) (by decide) (by decide) (by decide) (Nat.le_of_ble_eq_true rfl) (Nat.le_of_ble_eq_true rfl) dX2_init_31 (fun q_4 H hqe_4 hq0_4 hm hS => ?_)
  have hqe_4 : q_4 = (c + 4) := qe_of hqe_4 hsz_4 hz0 hlo_4
  subst hqe_4
  clear hsz_4 hlo_4
  have hm : mw E (tC t c (3 + 1)) (wR (sR (wI (sR (wI (sR (wF M (c + 1) (fun _ => 0)) 200 c (some (c + 1))) (c + 2) (fun _ => 0)) 201 c (some (c + 2))) (c + 3) (fun _ => 0)) 202 c (some (c + 3))) (c + 4) (fun _ => none)) H := by rw [← tC_s (n := 3) (x := (24, 12)) rfl]; exact hm
  have hm : mw E (tC t c 4) (wR (sR (wI (sR (wI (sR (wF M (c + 1) (fun _ => 0)) 200 c (some (c + 1))) (c + 2) (fun _ => 0)) 201 c (some (c + 2))) (c + 3) (fun _ => 0)) 202 c (some (c + 3))) (c + 4) (fun _ => none)) H := hm
  refine k_putF (M1 := sR (wR (sR (wI (sR (wI (sR (wF M (c + 1) (fun _ => 0)) 200 c (some (c + 1))) (c + 2) (fun _ => 0)) 201 c (some (c + 2))) (c + 3) (fun _ => 0)) 202 c (some (c + 3))) (c + 4) (fun _ => none)) 203 c (some (c + 4))) (C := RX2) (T := TX2) (N := 20) hx hb hts in_X2 tyX2 tyX2_ok nmX2 hown hs hm hS (mt_ne (tC_c.trans hc) (by decide)) (ct42 (tC_c.trans hc)) rfl 3 (by decide) (hts _ q233) (fun _ h9 => h9) rfl hin2 rfl (tyX2_ok 3 (by decide)) rfl rfl (Nat.le_of_ble_eq_true rfl) (fun b => ct_sRa ((ct42 (tC_c.trans hc)).trans (by simp only [gR, sR, m2_at, m2_nf, ne_eq, Nat.reduceEqDiff, not_false_eq_true]; rfl))) dX2_init_34 (fun H locs hm hS => ?_)
  have hm : mw E (tC t c 4) ((sR (wR (sR (wI (sR (wI (sR (wF M (c + 1) (fun _ => 0)) 200 c (some (c + 1))) (c + 2) (fun _ => 0)) 201 c (some (c + 2))) (c + 3) (fun _ => 0)) 202 c (some (c + 3))) (c + 4) (fun _ => none)) 203 c (some (c + 4)))) H := hm
  refine lv_aload_n hx hb dX2_init_37 rfl (lv_at hl 0 rfl) ?_
  refine lv_bipush (v := (18 : Int32)) hx hb dX2_init_38 (by decide) ?_
  refine k_size (fun hsz_5 => ?_)
  have hsz_5 : H.size ≤ s.heap.size + (4) := hsz_5
  have hlo_5 := tC_lt hm hcn (by decide)
  refine k_newR (kd0 := 24) (j := 4) (N := 18) hx hb hown (hts _ q111) (hs.2.2.1 _ q112 rfl) hs hm hS rfl (fun q => by unfold ct; rw [m1_at]; simp only [aR, wR, m1_at]) (by decide) (by decide) (by decide) (Nat.le_of_ble_eq_true rfl) (Nat.le_of_ble_eq_true rfl) dX2_init_40 (fun q_5 H hqe_5 hq0_5 hm hS => ?_)
  have hqe_5 : q_5 = (c + 5) := qe_of hqe_5 hsz_5 hz0 hlo_5
  subst hqe_5
  clear hsz_5 hlo_5
  have hm : mw E (tC t c (4 + 1)) (wR (sR (wR (sR (wI (sR (wI (sR (wF M (c + 1) (fun _ => 0)) 200 c (some (c + 1))) (c + 2) (fun _ => 0)) 201 c (some (c + 2))) (c + 3) (fun _ => 0)) 202 c (some (c + 3))) (c + 4) (fun _ => none)) 203 c (some (c + 4))) (c + 5) (fun _ => none)) H := by rw [← tC_s (n := 4) (x := (24, 18)) rfl]; exact hm
  have hm : mw E (tC t c 5) (wR (sR (wR (sR (wI (sR (wI (sR (wF M (c + 1) (fun _ => 0)) 200 c (some (c + 1))) (c + 2) (fun _ => 0)) 201 c (some (c + 2))) (c + 3) (fun _ => 0)) 202 c (some (c + 3))) (c + 4) (fun _ => none)) 203 c (some (c + 4))) (c + 5) (fun _ => none)) H := hm
  refine k_putF (M1 := sR (wR (sR (wR (sR (wI (sR (wI (sR (wF M (c + 1) (fun _ => 0)) 200 c (some (c + 1))) (c + 2) (fun _ => 0)) 201 c (some (c + 2))) (c + 3) (fun _ => 0)) 202 c (some (c + 3))) (c + 4) (fun _ => none)) 203 c (some (c + 4))) (c + 5) (fun _ => none)) 204 c (some (c + 5))) (C := RX2) (T := TX2) (N := 20) hx hb hts in_X2 tyX2 tyX2_ok nmX2 hown hs hm hS (mt_ne (tC_c.trans hc) (by decide)) (ct42 (tC_c.trans hc)) rfl 4 (by decide) (hts _ q235) (fun _ h9 => h9) rfl hin2 rfl (tyX2_ok 4 (by decide)) rfl rfl (Nat.le_of_ble_eq_true rfl) (fun b => ct_sRa ((ct42 (tC_c.trans hc)).trans (by simp only [gR, sR, m2_at, m2_nf, ne_eq, Nat.reduceEqDiff, not_false_eq_true]; rfl))) dX2_init_43 (fun H locs hm hS => ?_)
  have hm : mw E (tC t c 5) ((sR (wR (sR (wR (sR (wI (sR (wI (sR (wF M (c + 1) (fun _ => 0)) 200 c (some (c + 1))) (c + 2) (fun _ => 0)) 201 c (some (c + 2))) (c + 3) (fun _ => 0)) 202 c (some (c + 3))) (c + 4) (fun _ => none)) 203 c (some (c + 4))) (c + 5) (fun _ => none)) 204 c (some (c + 5)))) H := hm
  refine lv_aload_n hx hb dX2_init_46 rfl (lv_at hl 0 rfl) ?_
  refine lv_bipush (v := (18 : Int32)) hx hb dX2_init_47 (by decide) ?_
  refine k_size (fun hsz_6 => ?_)
  have hsz_6 : H.size ≤ s.heap.size + (5) := hsz_6
  have hlo_6 := tC_lt hm hcn (by decide)
  refine k_newR (kd0 := 24) (j := 4) (N := 18) hx hb hown (hts _ q111) (hs.2.2.1 _ q112 rfl) hs hm hS rfl (fun q => by unfold ct; rw [m1_at]; simp only [aR, wR, m1_at]) (by decide) (by decide) (by decide) (Nat.le_of_ble_eq_true rfl) (Nat.le_of_ble_eq_true rfl) dX2_init_49 (fun q_6 H hqe_6 hq0_6 hm hS => ?_)
  have hqe_6 : q_6 = (c + 6) := qe_of hqe_6 hsz_6 hz0 hlo_6
  subst hqe_6
  clear hsz_6 hlo_6
  have hm : mw E (tC t c (5 + 1)) (wR (sR (wR (sR (wR (sR (wI (sR (wI (sR (wF M (c + 1) (fun _ => 0)) 200 c (some (c + 1))) (c + 2) (fun _ => 0)) 201 c (some (c + 2))) (c + 3) (fun _ => 0)) 202 c (some (c + 3))) (c + 4) (fun _ => none)) 203 c (some (c + 4))) (c + 5) (fun _ => none)) 204 c (some (c + 5))) (c + 6) (fun _ => none)) H := by rw [← tC_s (n := 5) (x := (24, 18)) rfl]; exact hm
  have hm : mw E (tC t c 6) (wR (sR (wR (sR (wR (sR (wI (sR (wI (sR (wF M (c + 1) (fun _ => 0)) 200 c (some (c + 1))) (c + 2) (fun _ => 0)) 201 c (some (c + 2))) (c + 3) (fun _ => 0)) 202 c (some (c + 3))) (c + 4) (fun _ => none)) 203 c (some (c + 4))) (c + 5) (fun _ => none)) 204 c (some (c + 5))) (c + 6) (fun _ => none)) H := hm
  refine k_putF (M1 := sR (wR (sR (wR (sR (wR (sR (wI (sR (wI (sR (wF M (c + 1) (fun _ => 0)) 200 c (some (c + 1))) (c + 2) (fun _ => 0)) 201 c (some (c + 2))) (c + 3) (fun _ => 0)) 202 c (some (c + 3))) (c + 4) (fun _ => none)) 203 c (some (c + 4))) (c + 5) (fun _ => none)) 204 c (some (c + 5))) (c + 6) (fun _ => none)) 205 c (some (c + 6))) (C := RX2) (T := TX2) (N := 20) hx hb hts in_X2 tyX2 tyX2_ok nmX2 hown hs hm hS (mt_ne (tC_c.trans hc) (by decide)) (ct42 (tC_c.trans hc)) rfl 5 (by decide) (hts _ q236) (fun _ h9 => h9) rfl hin2 rfl (tyX2_ok 5 (by decide)) rfl rfl (Nat.le_of_ble_eq_true rfl) (fun b => ct_sRa ((ct42 (tC_c.trans hc)).trans (by simp only [gR, sR, m2_at, m2_nf, ne_eq, Nat.reduceEqDiff, not_false_eq_true]; rfl))) dX2_init_52 (fun H locs hm hS => ?_)
  have hm : mw E (tC t c 6) ((sR (wR (sR (wR (sR (wR (sR (wI (sR (wI (sR (wF M (c + 1) (fun _ => 0)) 200 c (some (c + 1))) (c + 2) (fun _ => 0)) 201 c (some (c + 2))) (c + 3) (fun _ => 0)) 202 c (some (c + 3))) (c + 4) (fun _ => none)) 203 c (some (c + 4))) (c + 5) (fun _ => none)) 204 c (some (c + 5))) (c + 6) (fun _ => none)) 205 c (some (c + 6)))) H := hm
  refine lv_aload_n hx hb dX2_init_55 rfl (lv_at hl 0 rfl) ?_
  refine lv_iconst (v := (5 : Int32)) hx hb dX2_init_56 (by decide) ?_
  refine k_size (fun hsz_7 => ?_)
  have hsz_7 : H.size ≤ s.heap.size + (6) := hsz_7
  have hlo_7 := tC_lt hm hcn (by decide)
  refine k_newR (kd0 := 25) (j := 5) (N := 5) hx hb hown (hts _ q113) (hs.2.2.1 _ q114 rfl) hs hm hS rfl (fun q => by unfold ct; rw [m1_at]; simp only [aR, wR, m1_at]) (by decide) (by decide) (by decide) (Nat.le_of_ble_eq_true rfl) (Nat.le_of_ble_eq_true rfl) dX2_init_57 (fun q_7 H hqe_7 hq0_7 hm hS => ?_)
  have hqe_7 : q_7 = (c + 7) := qe_of hqe_7 hsz_7 hz0 hlo_7
  subst hqe_7
  clear hsz_7 hlo_7
  have hm : mw E (tC t c (6 + 1)) (wR (sR (wR (sR (wR (sR (wR (sR (wI (sR (wI (sR (wF M (c + 1) (fun _ => 0)) 200 c (some (c + 1))) (c + 2) (fun _ => 0)) 201 c (some (c + 2))) (c + 3) (fun _ => 0)) 202 c (some (c + 3))) (c + 4) (fun _ => none)) 203 c (some (c + 4))) (c + 5) (fun _ => none)) 204 c (some (c + 5))) (c + 6) (fun _ => none)) 205 c (some (c + 6))) (c + 7) (fun _ => none)) H := by rw [← tC_s (n := 6) (x := (25, 5)) rfl]; exact hm
  have hm : mw E (tC t c 7) (wR (sR (wR (sR (wR (sR (wR (sR (wI (sR (wI (sR (wF M (c + 1) (fun _ => 0)) 200 c (some (c + 1))) (c + 2) (fun _ => 0)) 201 c (some (c + 2))) (c + 3) (fun _ => 0)) 202 c (some (c + 3))) (c + 4) (fun _ => none)) 203 c (some (c + 4))) (c + 5) (fun _ => none)) 204 c (some (c + 5))) (c + 6) (fun _ => none)) 205 c (some (c + 6))) (c + 7) (fun _ => none)) H := hm
  refine k_putF (M1 := sR (wR (sR (wR (sR (wR (sR (wR (sR (wI (sR (wI (sR (wF M (c + 1) (fun _ => 0)) 200 c (some (c + 1))) (c + 2) (fun _ => 0)) 201 c (some (c + 2))) (c + 3) (fun _ => 0)) 202 c (some (c + 3))) (c + 4) (fun _ => none)) 203 c (some (c + 4))) (c + 5) (fun _ => none)) 204 c (some (c + 5))) (c + 6) (fun _ => none)) 205 c (some (c + 6))) (c + 7) (fun _ => none)) 206 c (some (c + 7))) (C := RX2) (T := TX2) (N := 20) hx hb hts in_X2 tyX2 tyX2_ok nmX2 hown hs hm hS (mt_ne (tC_c.trans hc) (by decide)) (ct42 (tC_c.trans hc)) rfl 6 (by decide) (hts _ q237) (fun _ h9 => h9) rfl hin2 rfl (tyX2_ok 6 (by decide)) rfl rfl (Nat.le_of_ble_eq_true rfl) (fun b => ct_sRa ((ct42 (tC_c.trans hc)).trans (by simp only [gR, sR, m2_at, m2_nf, ne_eq, Nat.reduceEqDiff, not_false_eq_true]; rfl))) dX2_init_60 (fun H locs hm hS => ?_)
  have hm : mw E (tC t c 7) ((sR (wR (sR (wR (sR (wR (sR (wR (sR (wI (sR (wI (sR (wF M (c + 1) (fun _ => 0)) 200 c (some (c + 1))) (c + 2) (fun _ => 0)) 201 c (some (c + 2))) (c + 3) (fun _ => 0)) 202 c (some (c + 3))) (c + 4) (fun _ => none)) 203 c (some (c + 4))) (c + 5) (fun _ => none)) 204 c (some (c + 5))) (c + 6) (fun _ => none)) 205 c (some (c + 6))) (c + 7) (fun _ => none)) 206 c (some (c + 7)))) H := hm
  refine lv_aload_n hx hb dX2_init_63 rfl (lv_at hl 0 rfl) ?_
  refine lv_iconst (v := (5 : Int32)) hx hb dX2_init_64 (by decide) ?_
  refine k_size (fun hsz_8 => ?_)
  have hsz_8 : H.size ≤ s.heap.size + (7) := hsz_8
  have hlo_8 := tC_lt hm hcn (by decide)
  refine k_newR (kd0 := 26) (j := 6) (N := 5) hx hb hown (hts _ q115) (hs.2.2.1 _ q116 rfl) hs hm hS rfl (fun q => by unfold ct; rw [m1_at]; simp only [aR, wR, m1_at]) (by decide) (by decide) (by decide) (Nat.le_of_ble_eq_true rfl) (Nat.le_of_ble_eq_true rfl) dX2_init_65 (fun q_8 H hqe_8 hq0_8 hm hS => ?_)
  have hqe_8 : q_8 = (c + 8) := qe_of hqe_8 hsz_8 hz0 hlo_8
  subst hqe_8
  clear hsz_8 hlo_8
  have hm : mw E (tC t c (7 + 1)) (wR (sR (wR (sR (wR (sR (wR (sR (wR (sR (wI (sR (wI (sR (wF M (c + 1) (fun _ => 0)) 200 c (some (c + 1))) (c + 2) (fun _ => 0)) 201 c (some (c + 2))) (c + 3) (fun _ => 0)) 202 c (some (c + 3))) (c + 4) (fun _ => none)) 203 c (some (c + 4))) (c + 5) (fun _ => none)) 204 c (some (c + 5))) (c + 6) (fun _ => none)) 205 c (some (c + 6))) (c + 7) (fun _ => none)) 206 c (some (c + 7))) (c + 8) (fun _ => none)) H := by rw [← tC_s (n := 7) (x := (26, 5)) rfl]; exact hm
  have hm : mw E (tC t c 8) (wR (sR (wR (sR (wR (sR (wR (sR (wR (sR (wI (sR (wI (sR (wF M (c + 1) (fun _ => 0)) 200 c (some (c + 1))) (c + 2) (fun _ => 0)) 201 c (some (c + 2))) (c + 3) (fun _ => 0)) 202 c (some (c + 3))) (c + 4) (fun _ => none)) 203 c (some (c + 4))) (c + 5) (fun _ => none)) 204 c (some (c + 5))) (c + 6) (fun _ => none)) 205 c (some (c + 6))) (c + 7) (fun _ => none)) 206 c (some (c + 7))) (c + 8) (fun _ => none)) H := hm
  refine k_putF (M1 := sR (wR (sR (wR (sR (wR (sR (wR (sR (wR (sR (wI (sR (wI (sR (wF M (c + 1) (fun _ => 0)) 200 c (some (c + 1))) (c + 2) (fun _ => 0)) 201 c (some (c + 2))) (c + 3) (fun _ => 0)) 202 c (some (c + 3))) (c + 4) (fun _ => none)) 203 c (some (c + 4))) (c + 5) (fun _ => none)) 204 c (some (c + 5))) (c + 6) (fun _ => none)) 205 c (some (c + 6))) (c + 7) (fun _ => none)) 206 c (some (c + 7))) (c + 8) (fun _ => none)) 207 c (some (c + 8))) (C := RX2) (T := TX2) (N := 20) hx hb hts in_X2 tyX2 tyX2_ok nmX2 hown hs hm hS (mt_ne (tC_c.trans hc) (by decide)) (ct42 (tC_c.trans hc)) rfl 7 (by decide) (hts _ q238) (fun _ h9 => h9) rfl hin2 rfl (tyX2_ok 7 (by decide)) rfl rfl (Nat.le_of_ble_eq_true rfl) (fun b => ct_sRa ((ct42 (tC_c.trans hc)).trans (by simp only [gR, sR, m2_at, m2_nf, ne_eq, Nat.reduceEqDiff, not_false_eq_true]; rfl))) dX2_init_68 (fun H locs hm hS => ?_)
  have hm : mw E (tC t c 8) ((sR (wR (sR (wR (sR (wR (sR (wR (sR (wR (sR (wI (sR (wI (sR (wF M (c + 1) (fun _ => 0)) 200 c (some (c + 1))) (c + 2) (fun _ => 0)) 201 c (some (c + 2))) (c + 3) (fun _ => 0)) 202 c (some (c + 3))) (c + 4) (fun _ => none)) 203 c (some (c + 4))) (c + 5) (fun _ => none)) 204 c (some (c + 5))) (c + 6) (fun _ => none)) 205 c (some (c + 6))) (c + 7) (fun _ => none)) 206 c (some (c + 7))) (c + 8) (fun _ => none)) 207 c (some (c + 8)))) H := hm
  refine lv_aload_n hx hb dX2_init_71 rfl (lv_at hl 0 rfl) ?_
  refine lv_bipush (v := (6 : Int32)) hx hb dX2_init_72 (by decide) ?_
  refine k_size (fun hsz_9 => ?_)
  have hsz_9 : H.size ≤ s.heap.size + (8) := hsz_9
  have hlo_9 := tC_lt hm hcn (by decide)
  refine k_newR (kd0 := 33) (j := 7) (N := 6) hx hb hown (hts _ q117) (hs.2.2.1 _ q118 rfl) hs hm hS rfl (fun q => by unfold ct; rw [m1_at]; simp only [aR, wR, m1_at]) (by decide) (by decide) (by decide) (Nat.le_of_ble_eq_true rfl) (Nat.le_of_ble_eq_true rfl) dX2_init_74 (fun q_9 H hqe_9 hq0_9 hm hS => ?_)
  have hqe_9 : q_9 = (c + 9) := qe_of hqe_9 hsz_9 hz0 hlo_9
  subst hqe_9
  clear hsz_9 hlo_9
  have hm : mw E (tC t c (8 + 1)) (wR (sR (wR (sR (wR (sR (wR (sR (wR (sR (wR (sR (wI (sR (wI (sR (wF M (c + 1) (fun _ => 0)) 200 c (some (c + 1))) (c + 2) (fun _ => 0)) 201 c (some (c + 2))) (c + 3) (fun _ => 0)) 202 c (some (c + 3))) (c + 4) (fun _ => none)) 203 c (some (c + 4))) (c + 5) (fun _ => none)) 204 c (some (c + 5))) (c + 6) (fun _ => none)) 205 c (some (c + 6))) (c + 7) (fun _ => none)) 206 c (some (c + 7))) (c + 8) (fun _ => none)) 207 c (some (c + 8))) (c + 9) (fun _ => none)) H := by rw [← tC_s (n := 8) (x := (33, 6)) rfl]; exact hm
  have hm : mw E (tC t c 9) (wR (sR (wR (sR (wR (sR (wR (sR (wR (sR (wR (sR (wI (sR (wI (sR (wF M (c + 1) (fun _ => 0)) 200 c (some (c + 1))) (c + 2) (fun _ => 0)) 201 c (some (c + 2))) (c + 3) (fun _ => 0)) 202 c (some (c + 3))) (c + 4) (fun _ => none)) 203 c (some (c + 4))) (c + 5) (fun _ => none)) 204 c (some (c + 5))) (c + 6) (fun _ => none)) 205 c (some (c + 6))) (c + 7) (fun _ => none)) 206 c (some (c + 7))) (c + 8) (fun _ => none)) 207 c (some (c + 8))) (c + 9) (fun _ => none)) H := hm
  refine k_putF (M1 := sR (wR (sR (wR (sR (wR (sR (wR (sR (wR (sR (wR (sR (wI (sR (wI (sR (wF M (c + 1) (fun _ => 0)) 200 c (some (c + 1))) (c + 2) (fun _ => 0)) 201 c (some (c + 2))) (c + 3) (fun _ => 0)) 202 c (some (c + 3))) (c + 4) (fun _ => none)) 203 c (some (c + 4))) (c + 5) (fun _ => none)) 204 c (some (c + 5))) (c + 6) (fun _ => none)) 205 c (some (c + 6))) (c + 7) (fun _ => none)) 206 c (some (c + 7))) (c + 8) (fun _ => none)) 207 c (some (c + 8))) (c + 9) (fun _ => none)) 208 c (some (c + 9))) (C := RX2) (T := TX2) (N := 20) hx hb hts in_X2 tyX2 tyX2_ok nmX2 hown hs hm hS (mt_ne (tC_c.trans hc) (by decide)) (ct42 (tC_c.trans hc)) rfl 8 (by decide) (hts _ q239) (fun _ h9 => h9) rfl hin2 rfl (tyX2_ok 8 (by decide)) rfl rfl (Nat.le_of_ble_eq_true rfl) (fun b => ct_sRa ((ct42 (tC_c.trans hc)).trans (by simp only [gR, sR, m2_at, m2_nf, ne_eq, Nat.reduceEqDiff, not_false_eq_true]; rfl))) dX2_init_77 (fun H locs hm hS => ?_)
  have hm : mw E (tC t c 9) ((sR (wR (sR (wR (sR (wR (sR (wR (sR (wR (sR (wR (sR (wI (sR (wI (sR (wF M (c + 1) (fun _ => 0)) 200 c (some (c + 1))) (c + 2) (fun _ => 0)) 201 c (some (c + 2))) (c + 3) (fun _ => 0)) 202 c (some (c + 3))) (c + 4) (fun _ => none)) 203 c (some (c + 4))) (c + 5) (fun _ => none)) 204 c (some (c + 5))) (c + 6) (fun _ => none)) 205 c (some (c + 6))) (c + 7) (fun _ => none)) 206 c (some (c + 7))) (c + 8) (fun _ => none)) 207 c (some (c + 8))) (c + 9) (fun _ => none)) 208 c (some (c + 9)))) H := hm
  refine lv_aload_n hx hb dX2_init_80 rfl (lv_at hl 0 rfl) ?_
  refine lv_iconst (v := (4 : Int32)) hx hb dX2_init_81 (by decide) ?_
  refine k_size (fun hsz_10 => ?_)
  have hsz_10 : H.size ≤ s.heap.size + (9) := hsz_10
  have hlo_10 := tC_lt hm hcn (by decide)
  refine k_newR (kd0 := 34) (j := 8) (N := 4) hx hb hown (hts _ q119) (hs.2.2.1 _ q120 rfl) hs hm hS rfl (fun q => by unfold ct; rw [m1_at]; simp only [aR, wR, m1_at]) (by decide) (by decide) (by decide) (Nat.le_of_ble_eq_true rfl) (Nat.le_of_ble_eq_true rfl) dX2_init_82 (fun q_10 H hqe_10 hq0_10 hm hS => ?_)
  have hqe_10 : q_10 = (c + 10) := qe_of hqe_10 hsz_10 hz0 hlo_10
  subst hqe_10
  clear hsz_10 hlo_10
  have hm : mw E (tC t c (9 + 1)) (wR (sR (wR (sR (wR (sR (wR (sR (wR (sR (wR (sR (wR (sR (wI (sR (wI (sR (wF M (c + 1) (fun _ => 0)) 200 c (some (c + 1))) (c + 2) (fun _ => 0)) 201 c (some (c + 2))) (c + 3) (fun _ => 0)) 202 c (some (c + 3))) (c + 4) (fun _ => none)) 203 c (some (c + 4))) (c + 5) (fun _ => none)) 204 c (some (c + 5))) (c + 6) (fun _ => none)) 205 c (some (c + 6))) (c + 7) (fun _ => none)) 206 c (some (c + 7))) (c + 8) (fun _ => none)) 207 c (some (c + 8))) (c + 9) (fun _ => none)) 208 c (some (c + 9))) (c + 10) (fun _ => none)) H := by rw [← tC_s (n := 9) (x := (34, 4)) rfl]; exact hm
  have hm : mw E (tC t c 10) (wR (sR (wR (sR (wR (sR (wR (sR (wR (sR (wR (sR (wR (sR (wI (sR (wI (sR (wF M (c + 1) (fun _ => 0)) 200 c (some (c + 1))) (c + 2) (fun _ => 0)) 201 c (some (c + 2))) (c + 3) (fun _ => 0)) 202 c (some (c + 3))) (c + 4) (fun _ => none)) 203 c (some (c + 4))) (c + 5) (fun _ => none)) 204 c (some (c + 5))) (c + 6) (fun _ => none)) 205 c (some (c + 6))) (c + 7) (fun _ => none)) 206 c (some (c + 7))) (c + 8) (fun _ => none)) 207 c (some (c + 8))) (c + 9) (fun _ => none)) 208 c (some (c + 9))) (c + 10) (fun _ => none)) H := hm
  refine k_putF (M1 := sR (wR (sR (wR (sR (wR (sR (wR (sR (wR (sR (wR (sR (wR (sR (wI (sR (wI (sR (wF M (c + 1) (fun _ => 0)) 200 c (some (c + 1))) (c + 2) (fun _ => 0)) 201 c (some (c + 2))) (c + 3) (fun _ => 0)) 202 c (some (c + 3))) (c + 4) (fun _ => none)) 203 c (some (c + 4))) (c + 5) (fun _ => none)) 204 c (some (c + 5))) (c + 6) (fun _ => none)) 205 c (some (c + 6))) (c + 7) (fun _ => none)) 206 c (some (c + 7))) (c + 8) (fun _ => none)) 207 c (some (c + 8))) (c + 9) (fun _ => none)) 208 c (some (c + 9))) (c + 10) (fun _ => none)) 209 c (some (c + 10))) (C := RX2) (T := TX2) (N := 20) hx hb hts in_X2 tyX2 tyX2_ok nmX2 hown hs hm hS (mt_ne (tC_c.trans hc) (by decide)) (ct42 (tC_c.trans hc)) rfl 9 (by decide) (hts _ q241) (fun _ h9 => h9) rfl hin2 rfl (tyX2_ok 9 (by decide)) rfl rfl (Nat.le_of_ble_eq_true rfl) (fun b => ct_sRa ((ct42 (tC_c.trans hc)).trans (by simp only [gR, sR, m2_at, m2_nf, ne_eq, Nat.reduceEqDiff, not_false_eq_true]; rfl))) dX2_init_85 (fun H locs hm hS => ?_)
  have hm : mw E (tC t c 10) ((sR (wR (sR (wR (sR (wR (sR (wR (sR (wR (sR (wR (sR (wR (sR (wI (sR (wI (sR (wF M (c + 1) (fun _ => 0)) 200 c (some (c + 1))) (c + 2) (fun _ => 0)) 201 c (some (c + 2))) (c + 3) (fun _ => 0)) 202 c (some (c + 3))) (c + 4) (fun _ => none)) 203 c (some (c + 4))) (c + 5) (fun _ => none)) 204 c (some (c + 5))) (c + 6) (fun _ => none)) 205 c (some (c + 6))) (c + 7) (fun _ => none)) 206 c (some (c + 7))) (c + 8) (fun _ => none)) 207 c (some (c + 8))) (c + 9) (fun _ => none)) 208 c (some (c + 9))) (c + 10) (fun _ => none)) 209 c (some (c + 10)))) H := hm
  refine lv_aload_n hx hb dX2_init_88 rfl (lv_at hl 0 rfl) ?_
  refine lv_bipush (v := (6 : Int32)) hx hb dX2_init_89 (by decide) ?_
  refine k_size (fun hsz_11 => ?_)
  have hsz_11 : H.size ≤ s.heap.size + (10) := hsz_11
  have hlo_11 := tC_lt hm hcn (by decide)
  refine k_newR (kd0 := 29) (j := 9) (N := 6) hx hb hown (hts _ q121) (hs.2.2.1 _ q122 rfl) hs hm hS rfl (fun q => by unfold ct; rw [m1_at]; simp only [aR, wR, m1_at]) (by decide) (by decide) (by decide) (Nat.le_of_ble_eq_true rfl) (Nat.le_of_ble_eq_true rfl) dX2_init_91 (fun q_11 H hqe_11 hq0_11 hm hS => ?_)
  have hqe_11 : q_11 = (c + 11) := qe_of hqe_11 hsz_11 hz0 hlo_11
  subst hqe_11
  clear hsz_11 hlo_11
  have hm : mw E (tC t c (10 + 1)) (wR (sR (wR (sR (wR (sR (wR (sR (wR (sR (wR (sR (wR (sR (wR (sR (wI (sR (wI (sR (wF M (c + 1) (fun _ => 0)) 200 c (some (c + 1))) (c + 2) (fun _ => 0)) 201 c (some (c + 2))) (c + 3) (fun _ => 0)) 202 c (some (c + 3))) (c + 4) (fun _ => none)) 203 c (some (c + 4))) (c + 5) (fun _ => none)) 204 c (some (c + 5))) (c + 6) (fun _ => none)) 205 c (some (c + 6))) (c + 7) (fun _ => none)) 206 c (some (c + 7))) (c + 8) (fun _ => none)) 207 c (some (c + 8))) (c + 9) (fun _ => none)) 208 c (some (c + 9))) (c + 10) (fun _ => none)) 209 c (some (c + 10))) (c + 11) (fun _ => none)) H := by rw [← tC_s (n := 10) (x := (29, 6)) rfl]; exact hm
  have hm : mw E (tC t c 11) (wR (sR (wR (sR (wR (sR (wR (sR (wR (sR (wR (sR (wR (sR (wR (sR (wI (sR (wI (sR (wF M (c + 1) (fun _ => 0)) 200 c (some (c + 1))) (c + 2) (fun _ => 0)) 201 c (some (c + 2))) (c + 3) (fun _ => 0)) 202 c (some (c + 3))) (c + 4) (fun _ => none)) 203 c (some (c + 4))) (c + 5) (fun _ => none)) 204 c (some (c + 5))) (c + 6) (fun _ => none)) 205 c (some (c + 6))) (c + 7) (fun _ => none)) 206 c (some (c + 7))) (c + 8) (fun _ => none)) 207 c (some (c + 8))) (c + 9) (fun _ => none)) 208 c (some (c + 9))) (c + 10) (fun _ => none)) 209 c (some (c + 10))) (c + 11) (fun _ => none)) H := hm
  refine k_putF (M1 := sR (wR (sR (wR (sR (wR (sR (wR (sR (wR (sR (wR (sR (wR (sR (wR (sR (wI (sR (wI (sR (wF M (c + 1) (fun _ => 0)) 200 c (some (c + 1))) (c + 2) (fun _ => 0)) 201 c (some (c + 2))) (c + 3) (fun _ => 0)) 202 c (some (c + 3))) (c + 4) (fun _ => none)) 203 c (some (c + 4))) (c + 5) (fun _ => none)) 204 c (some (c + 5))) (c + 6) (fun _ => none)) 205 c (some (c + 6))) (c + 7) (fun _ => none)) 206 c (some (c + 7))) (c + 8) (fun _ => none)) 207 c (some (c + 8))) (c + 9) (fun _ => none)) 208 c (some (c + 9))) (c + 10) (fun _ => none)) 209 c (some (c + 10))) (c + 11) (fun _ => none)) 210 c (some (c + 11))) (C := RX2) (T := TX2) (N := 20) hx hb hts in_X2 tyX2 tyX2_ok nmX2 hown hs hm hS (mt_ne (tC_c.trans hc) (by decide)) (ct42 (tC_c.trans hc)) rfl 10 (by decide) (hts _ q243) (fun _ h9 => h9) rfl hin2 rfl (tyX2_ok 10 (by decide)) rfl rfl (Nat.le_of_ble_eq_true rfl) (fun b => ct_sRa ((ct42 (tC_c.trans hc)).trans (by simp only [gR, sR, m2_at, m2_nf, ne_eq, Nat.reduceEqDiff, not_false_eq_true]; rfl))) dX2_init_94 (fun H locs hm hS => ?_)
  have hm : mw E (tC t c 11) ((sR (wR (sR (wR (sR (wR (sR (wR (sR (wR (sR (wR (sR (wR (sR (wR (sR (wI (sR (wI (sR (wF M (c + 1) (fun _ => 0)) 200 c (some (c + 1))) (c + 2) (fun _ => 0)) 201 c (some (c + 2))) (c + 3) (fun _ => 0)) 202 c (some (c + 3))) (c + 4) (fun _ => none)) 203 c (some (c + 4))) (c + 5) (fun _ => none)) 204 c (some (c + 5))) (c + 6) (fun _ => none)) 205 c (some (c + 6))) (c + 7) (fun _ => none)) 206 c (some (c + 7))) (c + 8) (fun _ => none)) 207 c (some (c + 8))) (c + 9) (fun _ => none)) 208 c (some (c + 9))) (c + 10) (fun _ => none)) 209 c (some (c + 10))) (c + 11) (fun _ => none)) 210 c (some (c + 11)))) H := hm
  obtain ⟨M2, hM2⟩ : ∃ M2, M2 = (sR (wR (sR (wR (sR (wR (sR (wR (sR (wR (sR (wR (sR (wR (sR (wR (sR (wI (sR (wI (sR (wF M (c + 1) (fun _ => 0)) 200 c (some (c + 1))) (c + 2) (fun _ => 0)) 201 c (some (c + 2))) (c + 3) (fun _ => 0)) 202 c (some (c + 3))) (c + 4) (fun _ => none)) 203 c (some (c + 4))) (c + 5) (fun _ => none)) 204 c (some (c + 5))) (c + 6) (fun _ => none)) 205 c (some (c + 6))) (c + 7) (fun _ => none)) 206 c (some (c + 7))) (c + 8) (fun _ => none)) 207 c (some (c + 8))) (c + 9) (fun _ => none)) 208 c (some (c + 9))) (c + 10) (fun _ => none)) 209 c (some (c + 10))) (c + 11) (fun _ => none)) 210 c (some (c + 11))) := ⟨_, rfl⟩
  rw [← hM2] at hm
  have hm : mw E (tC (m1 t c (2, 0)) c 11) M2 H := ci_two hc hM2 hm
  have hc2 : m1 t c (2, 0) c = (2, 0) := m1_at _ _ _
  have hcn2 : (m1 t c (2, 0) c).1 ≠ 0 := by rw [hc2]; decide
  refine lv_aload_n hx hb dX2_init_97 rfl (lv_at hl 0 rfl) ?_
  refine lv_iconst (v := (4 : Int32)) hx hb dX2_init_98 (by decide) ?_
  refine pf_214 hx hb hts hown hs hm hS (tC_c.trans hc2) (hts _ q251) dX2_init_99 (fun H locs hm hS => ?_)
  have hm : mw E (tC (m1 t c (2, 0)) c 11) ((sI M2 214 c (4 : Int32))) H := hm
  refine lv_aload_n hx hb dX2_init_102 rfl (lv_at hl 0 rfl) ?_
  refine lv_iconst (v := (2 : Int32)) hx hb dX2_init_103 (by decide) ?_
  refine pf_215 hx hb hts hown hs hm hS (tC_c.trans hc2) (hts _ q254) dX2_init_104 (fun H locs hm hS => ?_)
  have hm : mw E (tC (m1 t c (2, 0)) c 11) ((sI (sI M2 214 c (4 : Int32)) 215 c (2 : Int32))) H := hm
  obtain ⟨Zci1, hZci1⟩ : ∃ Z, Z = (sI (sI M2 214 c (4 : Int32)) 215 c (2 : Int32)) := ⟨_, rfl⟩
  rw [← hZci1] at hm
  refine lv_iconst (v := (0 : Int32)) hx hb dX2_init_107 (by decide) ?_
  refine lv_istore_n (lv' := [(1, _), (0, _)]) hx hb dX2_init_108 rfl hl (by decide) rfl (fun ls hl => ?_)
  refine k_loop (fun k => 12 - k) (fun (k : Nat) H locs ls => (k ≤ 12) ∧ mw E (tC (m1 t c (2, 0)) c 11) ((L_ci1 t Zci1 c k)) H ∧ va_S (eA E) s.heap H locs ∧ lv_has ls 2 [(1, .int (nI k)), (0, .ref (c))]) (fun (k : Nat) ls => F0 m 109 ls []) (fun k => (11, 110)) (fun k ih_12 H locs ls hP => ?_) (0) ⟨(Nat.zero_le _), (by rw [L_ci1_0]; exact hm), hS, lv_sub hl [0, 1] rfl⟩
  obtain ⟨hI_12, hm, hS, hl⟩ := hP
  refine lv_iload_n hx hb dX2_init_109 rfl (lv_at hl 0 rfl) ?_
  refine lv_bipush (v := (12 : Int32)) hx hb dX2_init_110 (by decide) ?_
  refine lv_icmp_ge (tgt := 136) hx hb dX2_init_112 (by decide) (fun c_13 => ?_) (fun c_13 => ?_)
  · have hkN : k = 12 := lp_ge (by decide) hI_12 c_13
    replace hkN := hkN.symm
    subst hkN
    have hm : mw E (tC (m1 t c (2, 0)) c 11) (L_ci1 t Zci1 c 12) H := hm
    obtain ⟨Zci2, hZci2⟩ : ∃ Z, Z = (L_ci1 t Zci1 c 12) := ⟨_, rfl⟩
    rw [← hZci2] at hm
    refine lv_iconst (v := (0 : Int32)) hx hb dX2_init_136 (by decide) ?_
    refine lv_istore_n (lv' := [(1, _), (0, _)]) hx hb dX2_init_137 rfl hl (by decide) rfl (fun ls hl => ?_)
    refine k_loop (fun k => 18 - k) (fun (k : Nat) H locs ls => (k ≤ 18) ∧ mw E (tC (m1 t c (2, 0)) c (11 + 2 * k)) ((L_ci2 t Zci2 c k)) H ∧ va_S (eA E) s.heap H locs ∧ lv_has ls 2 [(1, .int (nI k)), (0, .ref (c))]) (fun (k : Nat) ls => F0 m 138 ls []) (fun k => (11 + 2 * k, 110 + 6 * k)) (fun k ih_14 H locs ls hP => ?_) (0) ⟨(Nat.zero_le _), (by rw [L_ci2_0]; exact hm), hS, lv_sub hl [0, 1] rfl⟩
    obtain ⟨hI_14, hm, hS, hl⟩ := hP
    refine lv_iload_n hx hb dX2_init_138 rfl (lv_at hl 0 rfl) ?_
    refine lv_bipush (v := (18 : Int32)) hx hb dX2_init_139 (by decide) ?_
    refine lv_icmp_ge (tgt := 176) hx hb dX2_init_141 (by decide) (fun c_15 => ?_) (fun c_15 => ?_)
    · have hkN : k = 18 := lp_ge (by decide) hI_14 c_15
      replace hkN := hkN.symm
      subst hkN
      have hm : mw E (tC (m1 t c (2, 0)) c 47) (L_ci2 t Zci2 c 18) H := hm
      obtain ⟨Zci3, hZci3⟩ : ∃ Z, Z = (L_ci2 t Zci2 c 18) := ⟨_, rfl⟩
      rw [← hZci3] at hm
      refine lv_iconst (v := (0 : Int32)) hx hb dX2_init_176 (by decide) ?_
      refine lv_istore_n (lv' := [(1, _), (0, _)]) hx hb dX2_init_177 rfl hl (by decide) rfl (fun ls hl => ?_)
      refine k_loop (fun k => 6 - k) (fun (k : Nat) H locs ls => (k ≤ 6) ∧ mw E (tC (m1 t c (2, 0)) c (47 + k)) ((L_ci3 t Zci3 c k)) H ∧ va_S (eA E) s.heap H locs ∧ lv_has ls 2 [(1, .int (nI k)), (0, .ref (c))]) (fun (k : Nat) ls => F0 m 178 ls []) (fun k => (47 + k, 218 + 3 * k)) (fun k ih_16 H locs ls hP => ?_) (0) ⟨(Nat.zero_le _), (by rw [L_ci3_0]; exact hm), hS, lv_sub hl [0, 1] rfl⟩
      obtain ⟨hI_16, hm, hS, hl⟩ := hP
      refine lv_iload_n hx hb dX2_init_178 rfl (lv_at hl 0 rfl) ?_
      refine lv_bipush (v := (6 : Int32)) hx hb dX2_init_179 (by decide) ?_
      refine lv_icmp_ge (tgt := 203) hx hb dX2_init_181 (by decide) (fun c_17 => ?_) (fun c_17 => ?_)
      · have hkN : k = 6 := lp_ge (by decide) hI_16 c_17
        replace hkN := hkN.symm
        subst hkN
        have hm : mw E (tC (m1 t c (2, 0)) c 53) (L_ci3 t Zci3 c 6) H := hm
        obtain ⟨Zci4, hZci4⟩ : ∃ Z, Z = (L_ci3 t Zci3 c 6) := ⟨_, rfl⟩
        rw [← hZci4] at hm
        refine lv_iconst (v := (0 : Int32)) hx hb dX2_init_203 (by decide) ?_
        refine lv_istore_n (lv' := [(1, _), (0, _)]) hx hb dX2_init_204 rfl hl (by decide) rfl (fun ls hl => ?_)
        refine k_loop (fun k => 4 - k) (fun (k : Nat) H locs ls => (k ≤ 4) ∧ mw E (tC (m1 t c (2, 0)) c (53 + k)) ((L_ci4 t Zci4 c k)) H ∧ va_S (eA E) s.heap H locs ∧ lv_has ls 2 [(1, .int (nI k)), (0, .ref (c))]) (fun (k : Nat) ls => F0 m 205 ls []) (fun k => (53 + k, 236 + 4 * k)) (fun k ih_18 H locs ls hP => ?_) (0) ⟨(Nat.zero_le _), (by rw [L_ci4_0]; exact hm), hS, lv_sub hl [0, 1] rfl⟩
        obtain ⟨hI_18, hm, hS, hl⟩ := hP
        refine lv_iload_n hx hb dX2_init_205 rfl (lv_at hl 0 rfl) ?_
        refine lv_iconst (v := (4 : Int32)) hx hb dX2_init_206 (by decide) ?_
        refine lv_icmp_ge (tgt := 229) hx hb dX2_init_207 (by decide) (fun c_19 => ?_) (fun c_19 => ?_)
        · have hkN : k = 4 := lp_ge (by decide) hI_18 c_19
          replace hkN := hkN.symm
          subst hkN
          have hm : mw E (tC (m1 t c (2, 0)) c 57) (L_ci4 t Zci4 c 4) H := hm
          obtain ⟨Zci5, hZci5⟩ : ∃ Z, Z = (L_ci4 t Zci4 c 4) := ⟨_, rfl⟩
          rw [← hZci5] at hm
          refine lv_iconst (v := (0 : Int32)) hx hb dX2_init_229 (by decide) ?_
          refine lv_istore_n (lv' := [(1, _), (0, _)]) hx hb dX2_init_230 rfl hl (by decide) rfl (fun ls hl => ?_)
          refine k_loop (fun k => 6 - k) (fun (k : Nat) H locs ls => (k ≤ 6) ∧ mw E (tC (m1 t c (2, 0)) c (57 + k)) ((L_ci5 t Zci5 c k)) H ∧ va_S (eA E) s.heap H locs ∧ lv_has ls 2 [(1, .int (nI k)), (0, .ref (c))]) (fun (k : Nat) ls => F0 m 231 ls []) (fun k => (57 + k, 252 + 4 * k)) (fun k ih_20 H locs ls hP => ?_) (0) ⟨(Nat.zero_le _), (by rw [L_ci5_0]; exact hm), hS, lv_sub hl [0, 1] rfl⟩
          obtain ⟨hI_20, hm, hS, hl⟩ := hP
          refine lv_iload_n hx hb dX2_init_231 rfl (lv_at hl 0 rfl) ?_
          refine lv_iconst (v := (5 : Int32)) hx hb dX2_init_232 (by decide) ?_
          refine lv_icmp_gt (tgt := 255) hx hb dX2_init_233 (by decide) (fun c_21 => ?_) (fun c_21 => ?_)
          · have hkN : k = 6 := pz_ge hI_20 c_21
            replace hkN := hkN.symm
            subst hkN
            have hm : mw E (tC (m1 t c (2, 0)) c 63) (L_ci5 t Zci5 c 6) H := hm
            refine W.widen (k := 63) (n := 276) (Nat.le_of_ble_eq_true rfl) (Nat.le_of_ble_eq_true rfl) ?_
            exact W.vret hx hb hr (fun t9 ht9 _ => ⟨⟨(tF t c, (L_ci5 t Zci5 c 6)), rfl, ci_post hM0 hM2 hZci1 hZci2 hZci3 hZci4 hZci5, hb9 (B := fun H9 => mw E _ _ H9) ht9 (ci_conv (ci_post hM0 hM2 hZci1 hZci2 hZci3 hZci4 hZci5) hm)⟩, hS.F ht9⟩) hS.2.2 dX2_init_255
          · have hk : k < 6 := pz_lt hI_20 c_21
            refine lv_aload_n hx hb dX2_init_236 rfl (lv_at hl 1 rfl) ?_
            refine gf_210 hx hb hts hown hs hm (tC_c.trans hc2) (hts _ q243) dX2_init_237 ?_
            refine lv_iload_n hx hb dX2_init_240 rfl (lv_at hl 0 rfl) ?_
            refine k_size (fun hsz_22 => ?_)
            have hsz_22 : H.size ≤ s.heap.size + (57 + k) := hsz_22
            have hlo_22 := tC_lt hm hcn2 (by omega)
            refine k_newO (ci := 6) (kd0 := 7) (N := 4) (fs := [.int 0, .int 0, .float 0, .int 0]) hx hb hts in_X8 tyX8 tyX8_ok hown (hts _ q121) (hts _ q204) (hts _ q65) hs hm hS rfl (by decide +kernel) (fun q => by unfold ct; rw [m1_at]; simp only [gI_zc, gF_zc]) ((show 57 + k + 1 ≤ 63 from by omega)) ((show 252 + 4 * k + 4 ≤ 276 from by omega)) dX2_init_241 (fun q_22 H hqe_22 _ hq0_22 hm hS => ?_)
            have hqe_22 : q_22 = (c + ((57 + k) + 1)) := qe_of hqe_22 hsz_22 hz0 hlo_22
            subst hqe_22
            clear hsz_22 hlo_22
            have hm : mw E (tC (m1 t c (2, 0)) c ((57 + k) + 1)) (zc (L_ci5 t Zci5 c k) (c + ((57 + k) + 1))) H := by rw [← tC_s (n := (57 + k)) (x := (7, 0)) (show (7, 0) = kdC ((57 + k) + 1) from (show kdC ((57 + k) + 1) = (7, 0) from (by rw [show 57 + k + 1 = 58 + k by omega]; exact kdC_z hk)).symm)]; exact hm
            have hk_22 : tC (m1 t c (2, 0)) c ((57 + k) + 1) (c + ((57 + k) + 1)) = (7, 0) := ((tC_at (by omega) (by omega)).trans ((by rw [show 57 + k + 1 = 58 + k by omega]; exact kdC_z hk)))
            refine lv_dup hx hb dX2_init_244 rfl ?_
            refine k_callv (va_runIN (As := []) (rest := [.ref ((c + ((57 + k) + 1))), .int (nI k), .ref ((c + 11))]) ⟨hx, hb, hml, hown, hts⟩ (cm8_init l E (tC (m1 t c (2, 0)) c ((57 + k) + 1)) (zc (L_ci5 t Zci5 c k) (c + ((57 + k) + 1)))  ((c + ((57 + k) + 1)))  hk_22 ) (⟨va_cnB 0 hts (lw_meth q207) rfl rfl rfl (hs.2.2.1 _ q205 rfl) (hts _ q65) (by decide +kernel) ⟨Nat.le_of_ble_eq_true rfl, Nat.le_of_ble_eq_true rfl⟩, rfl, hts _ q206⟩) (k_preS hs hm hS) rfl rfl hl.1 rfl (lv_room (Nat.le_of_ble_eq_true rfl)) dX2_init_245 ⟨(show 57 + k + 1 + 0 ≤ 63 from by omega), (show 252 + 4 * k + 4 + 0 ≤ 276 from by omega)⟩) hS (fun u_23 H locs hw_23 hm_23 hS => ?_)
            replace hw_23 : (zc (L_ci5 t Zci5 c k) (c + ((57 + k) + 1))) = u_23 := Eq.symm hw_23
            subst hw_23
            have hm : mw E (tC (m1 t c (2, 0)) c ((57 + k) + 1)) ((zc (L_ci5 t Zci5 c k) (c + ((57 + k) + 1)))) H := hm_23
            refine k_aastS (j := 9) (ci := 6) hx hb hs hm hS (show tC (m1 t c (2, 0)) c ((57 + k) + 1) (c + 11) = (29, 6) from tC_at (by decide) (by omega)) (by decide) (fun _ => rfl) rfl (ct7 hk_22) (mt_ne hk_22 (by decide)) rfl (vi k hk (by decide)) dX2_init_248 (fun H locs hm hS => ?_)
            rw [show (nI k).toNatClampNeg = k from cl_nI (by omega)] at hm
            have hm : mw E (tC (m1 t c (2, 0)) c ((57 + k) + 1)) ((wR (zc (L_ci5 t Zci5 c k) (c + ((57 + k) + 1))) (c + 11) (va_up (aR (zc (L_ci5 t Zci5 c k) (c + ((57 + k) + 1))) (c + 11)) k (some (c + ((57 + k) + 1)))))) H := hm
            refine lv_iinc (v := nI (k + 1)) (lv' := [(1, _), (0, _)]) hx hb dX2_init_249 hl (k := 0) rfl (nI_succ k).symm (by decide) rfl (fun ls hl => ?_)
            refine lv_goto (tgt := 231) hx hb dX2_init_252 (by decide) ?_
            have hE : L_ci5 t Zci5 c (k + 1) = _ := (L_ci5_s t _ c k).trans (rfl)
            exact ih_20 (k + 1) (by omega) _ _ _ ⟨(by omega), (by rw [hE]; exact hm), hS, lv_sub hl [0, 1] rfl⟩
        · have hk : k < 4 := lp_lt (by decide) hI_18 c_19
          refine lv_aload_n hx hb dX2_init_210 rfl (lv_at hl 1 rfl) ?_
          refine gf_209 hx hb hts hown hs hm (tC_c.trans hc2) (hts _ q241) dX2_init_211 ?_
          refine lv_iload_n hx hb dX2_init_214 rfl (lv_at hl 0 rfl) ?_
          refine k_size (fun hsz_24 => ?_)
          have hsz_24 : H.size ≤ s.heap.size + (53 + k) := hsz_24
          have hlo_24 := tC_lt hm hcn2 (by omega)
          refine k_newO (ci := 5) (kd0 := 6) (N := 4) (fs := [.int 0, .int 0, .int 0, .float 0]) hx hb hts in_X7 tyX7 tyX7_ok hown (hts _ q119) (hts _ q178) (hts _ q64) hs hm hS rfl (by decide +kernel) (fun q => by unfold ct; rw [m1_at]; simp only [gI_zc, gF_zc]) ((show 53 + k + 1 ≤ 63 from by omega)) ((show 236 + 4 * k + 4 ≤ 276 from by omega)) dX2_init_215 (fun q_24 H hqe_24 _ hq0_24 hm hS => ?_)
          have hqe_24 : q_24 = (c + ((53 + k) + 1)) := qe_of hqe_24 hsz_24 hz0 hlo_24
          subst hqe_24
          clear hsz_24 hlo_24
          have hm : mw E (tC (m1 t c (2, 0)) c ((53 + k) + 1)) (zc (L_ci4 t Zci4 c k) (c + ((53 + k) + 1))) H := by rw [← tC_s (n := (53 + k)) (x := (6, 0)) (show (6, 0) = kdC ((53 + k) + 1) from (show kdC ((53 + k) + 1) = (6, 0) from (by rw [show 53 + k + 1 = 54 + k by omega]; exact kdC_s hk)).symm)]; exact hm
          have hk_24 : tC (m1 t c (2, 0)) c ((53 + k) + 1) (c + ((53 + k) + 1)) = (6, 0) := ((tC_at (by omega) (by omega)).trans ((by rw [show 53 + k + 1 = 54 + k by omega]; exact kdC_s hk)))
          refine lv_dup hx hb dX2_init_218 rfl ?_
          refine k_callv (va_runIN (As := []) (rest := [.ref ((c + ((53 + k) + 1))), .int (nI k), .ref ((c + 10))]) ⟨hx, hb, hml, hown, hts⟩ (cm7_init l E (tC (m1 t c (2, 0)) c ((53 + k) + 1)) (zc (L_ci4 t Zci4 c k) (c + ((53 + k) + 1)))  ((c + ((53 + k) + 1)))  hk_24 ) (⟨va_cnB 0 hts (lw_meth q181) rfl rfl rfl (hs.2.2.1 _ q179 rfl) (hts _ q64) (by decide +kernel) ⟨Nat.le_of_ble_eq_true rfl, Nat.le_of_ble_eq_true rfl⟩, rfl, hts _ q180⟩) (k_preS hs hm hS) rfl rfl hl.1 rfl (lv_room (Nat.le_of_ble_eq_true rfl)) dX2_init_219 ⟨(show 53 + k + 1 + 0 ≤ 63 from by omega), (show 236 + 4 * k + 4 + 0 ≤ 276 from by omega)⟩) hS (fun u_25 H locs hw_25 hm_25 hS => ?_)
          replace hw_25 : (zc (L_ci4 t Zci4 c k) (c + ((53 + k) + 1))) = u_25 := Eq.symm hw_25
          subst hw_25
          have hm : mw E (tC (m1 t c (2, 0)) c ((53 + k) + 1)) ((zc (L_ci4 t Zci4 c k) (c + ((53 + k) + 1)))) H := hm_25
          refine k_aastS (j := 8) (ci := 5) hx hb hs hm hS (show tC (m1 t c (2, 0)) c ((53 + k) + 1) (c + 10) = (34, 4) from tC_at (by decide) (by omega)) (by decide) (fun _ => rfl) rfl (ct6 hk_24) (mt_ne hk_24 (by decide)) rfl (vi k hk (by decide)) dX2_init_222 (fun H locs hm hS => ?_)
          rw [show (nI k).toNatClampNeg = k from cl_nI (by omega)] at hm
          have hm : mw E (tC (m1 t c (2, 0)) c ((53 + k) + 1)) ((wR (zc (L_ci4 t Zci4 c k) (c + ((53 + k) + 1))) (c + 10) (va_up (aR (zc (L_ci4 t Zci4 c k) (c + ((53 + k) + 1))) (c + 10)) k (some (c + ((53 + k) + 1)))))) H := hm
          refine lv_iinc (v := nI (k + 1)) (lv' := [(1, _), (0, _)]) hx hb dX2_init_223 hl (k := 0) rfl (nI_succ k).symm (by decide) rfl (fun ls hl => ?_)
          refine lv_goto (tgt := 205) hx hb dX2_init_226 (by decide) ?_
          have hE : L_ci4 t Zci4 c (k + 1) = _ := (L_ci4_s t _ c k).trans (rfl)
          exact ih_18 (k + 1) (by omega) _ _ _ ⟨(by omega), (by rw [hE]; exact hm), hS, lv_sub hl [0, 1] rfl⟩
      · have hk : k < 6 := lp_lt (by decide) hI_16 c_17
        refine lv_aload_n hx hb dX2_init_184 rfl (lv_at hl 1 rfl) ?_
        refine gf_208 hx hb hts hown hs hm (tC_c.trans hc2) (hts _ q239) dX2_init_185 ?_
        refine lv_iload_n hx hb dX2_init_188 rfl (lv_at hl 0 rfl) ?_
        refine k_size (fun hsz_26 => ?_)
        have hsz_26 : H.size ≤ s.heap.size + (47 + k) := hsz_26
        have hlo_26 := tC_lt hm hcn2 (by omega)
        refine k_newO (ci := 4) (kd0 := 5) (N := 3) (fs := [.int 0, .int 0, .int 0]) hx hb hts in_X6 tyX6 tyX6_ok hown (hts _ q117) (hts _ q157) (hts _ q63) hs hm hS rfl (by decide +kernel) (fun q => by unfold ct; rw [m1_at]; simp only [gI_zc, gF_zc]) ((show 47 + k + 1 ≤ 63 from by omega)) ((show 218 + 3 * k + 3 ≤ 276 from by omega)) dX2_init_189 (fun q_26 H hqe_26 _ hq0_26 hm hS => ?_)
        have hqe_26 : q_26 = (c + ((47 + k) + 1)) := qe_of hqe_26 hsz_26 hz0 hlo_26
        subst hqe_26
        clear hsz_26 hlo_26
        have hm : mw E (tC (m1 t c (2, 0)) c ((47 + k) + 1)) (zc (L_ci3 t Zci3 c k) (c + ((47 + k) + 1))) H := by rw [← tC_s (n := (47 + k)) (x := (5, 0)) (show (5, 0) = kdC ((47 + k) + 1) from (show kdC ((47 + k) + 1) = (5, 0) from (by rw [show 47 + k + 1 = 48 + k by omega]; exact kdC_e hk)).symm)]; exact hm
        have hk_26 : tC (m1 t c (2, 0)) c ((47 + k) + 1) (c + ((47 + k) + 1)) = (5, 0) := ((tC_at (by omega) (by omega)).trans ((by rw [show 47 + k + 1 = 48 + k by omega]; exact kdC_e hk)))
        refine lv_dup hx hb dX2_init_192 rfl ?_
        refine k_callv (va_runIN (As := []) (rest := [.ref ((c + ((47 + k) + 1))), .int (nI k), .ref ((c + 9))]) ⟨hx, hb, hml, hown, hts⟩ (cm6_init l E (tC (m1 t c (2, 0)) c ((47 + k) + 1)) (zc (L_ci3 t Zci3 c k) (c + ((47 + k) + 1)))  ((c + ((47 + k) + 1)))  hk_26 ) (⟨va_cnB 0 hts (lw_meth q160) rfl rfl rfl (hs.2.2.1 _ q158 rfl) (hts _ q63) (by decide +kernel) ⟨Nat.le_of_ble_eq_true rfl, Nat.le_of_ble_eq_true rfl⟩, rfl, hts _ q159⟩) (k_preS hs hm hS) rfl rfl hl.1 rfl (lv_room (Nat.le_of_ble_eq_true rfl)) dX2_init_193 ⟨(show 47 + k + 1 + 0 ≤ 63 from by omega), (show 218 + 3 * k + 3 + 0 ≤ 276 from by omega)⟩) hS (fun u_27 H locs hw_27 hm_27 hS => ?_)
        replace hw_27 : (zc (L_ci3 t Zci3 c k) (c + ((47 + k) + 1))) = u_27 := Eq.symm hw_27
        subst hw_27
        have hm : mw E (tC (m1 t c (2, 0)) c ((47 + k) + 1)) ((zc (L_ci3 t Zci3 c k) (c + ((47 + k) + 1)))) H := hm_27
        refine k_aastS (j := 7) (ci := 4) hx hb hs hm hS (show tC (m1 t c (2, 0)) c ((47 + k) + 1) (c + 9) = (33, 6) from tC_at (by decide) (by omega)) (by decide) (fun _ => rfl) rfl (ct5 hk_26) (mt_ne hk_26 (by decide)) rfl (vi k hk (by decide)) dX2_init_196 (fun H locs hm hS => ?_)
        rw [show (nI k).toNatClampNeg = k from cl_nI (by omega)] at hm
        have hm : mw E (tC (m1 t c (2, 0)) c ((47 + k) + 1)) ((wR (zc (L_ci3 t Zci3 c k) (c + ((47 + k) + 1))) (c + 9) (va_up (aR (zc (L_ci3 t Zci3 c k) (c + ((47 + k) + 1))) (c + 9)) k (some (c + ((47 + k) + 1)))))) H := hm
        refine lv_iinc (v := nI (k + 1)) (lv' := [(1, _), (0, _)]) hx hb dX2_init_197 hl (k := 0) rfl (nI_succ k).symm (by decide) rfl (fun ls hl => ?_)
        refine lv_goto (tgt := 178) hx hb dX2_init_200 (by decide) ?_
        have hE : L_ci3 t Zci3 c (k + 1) = _ := (L_ci3_s t _ c k).trans (rfl)
        exact ih_16 (k + 1) (by omega) _ _ _ ⟨(by omega), (by rw [hE]; exact hm), hS, lv_sub hl [0, 1] rfl⟩
    · have hk : k < 18 := lp_lt (by decide) hI_14 c_15
      refine lv_aload_n hx hb dX2_init_144 rfl (lv_at hl 1 rfl) ?_
      refine gf_204 hx hb hts hown hs hm (tC_c.trans hc2) (hts _ q235) dX2_init_145 ?_
      refine lv_iload_n hx hb dX2_init_148 rfl (lv_at hl 0 rfl) ?_
      refine k_size (fun hsz_28 => ?_)
      have hsz_28 : H.size ≤ s.heap.size + (11 + 2 * k) := hsz_28
      have hlo_28 := tC_lt hm hcn2 (by omega)
      refine k_newO (ci := 2) (kd0 := 3) (N := 3) (fs := [.int 0, .float 0, .int 0]) hx hb hts in_X4 tyX4 tyX4_ok hown (hts _ q113) (hts _ q124) (hts _ q61) hs hm hS rfl (by decide +kernel) (fun q => by unfold ct; rw [m1_at]; simp only [gI_zc, gF_zc]) ((show 11 + 2 * k + 1 ≤ 63 from by omega)) ((show 110 + 6 * k + 3 ≤ 276 from by omega)) dX2_init_149 (fun q_28 H hqe_28 _ hq0_28 hm hS => ?_)
      have hqe_28 : q_28 = (c + ((11 + 2 * k) + 1)) := qe_of hqe_28 hsz_28 hz0 hlo_28
      subst hqe_28
      clear hsz_28 hlo_28
      have hm : mw E (tC (m1 t c (2, 0)) c ((11 + 2 * k) + 1)) (zc (L_ci2 t Zci2 c k) (c + ((11 + 2 * k) + 1))) H := by rw [← tC_s (n := (11 + 2 * k)) (x := (3, 0)) (show (3, 0) = kdC ((11 + 2 * k) + 1) from (show kdC ((11 + 2 * k) + 1) = (3, 0) from (by rw [show 11 + 2 * k + 1 = 12 + 2 * k by omega]; exact kdC_m hk)).symm)]; exact hm
      have hk_28 : tC (m1 t c (2, 0)) c ((11 + 2 * k) + 1) (c + ((11 + 2 * k) + 1)) = (3, 0) := ((tC_at (by omega) (by omega)).trans ((by rw [show 11 + 2 * k + 1 = 12 + 2 * k by omega]; exact kdC_m hk)))
      refine lv_dup hx hb dX2_init_152 rfl ?_
      refine k_callv (va_runIN (As := []) (rest := [.ref ((c + ((11 + 2 * k) + 1))), .int (nI k), .ref ((c + 5))]) ⟨hx, hb, hml, hown, hts⟩ (cm4_init l E (tC (m1 t c (2, 0)) c ((11 + 2 * k) + 1)) (zc (L_ci2 t Zci2 c k) (c + ((11 + 2 * k) + 1)))  ((c + ((11 + 2 * k) + 1)))  hk_28 ) (⟨va_cnB 0 hts (lw_meth q127) rfl rfl rfl (hs.2.2.1 _ q125 rfl) (hts _ q61) (by decide +kernel) ⟨Nat.le_of_ble_eq_true rfl, Nat.le_of_ble_eq_true rfl⟩, rfl, hts _ q126⟩) (k_preS hs hm hS) rfl rfl hl.1 rfl (lv_room (Nat.le_of_ble_eq_true rfl)) dX2_init_153 ⟨(show 11 + 2 * k + 1 + 0 ≤ 63 from by omega), (show 110 + 6 * k + 3 + 0 ≤ 276 from by omega)⟩) hS (fun u_29 H locs hw_29 hm_29 hS => ?_)
      replace hw_29 : (zc (L_ci2 t Zci2 c k) (c + ((11 + 2 * k) + 1))) = u_29 := Eq.symm hw_29
      subst hw_29
      have hm : mw E (tC (m1 t c (2, 0)) c ((11 + 2 * k) + 1)) ((zc (L_ci2 t Zci2 c k) (c + ((11 + 2 * k) + 1)))) H := hm_29
      refine k_aastO (j := 4) (ci := 2) hx hb hs hm hS (show tC (m1 t c (2, 0)) c ((11 + 2 * k) + 1) (c + 5) = (24, 18) from tC_at (by decide) (by omega)) (by decide) (fun _ => rfl) rfl (ct3 hk_28) (mt_ne hk_28 (by decide)) rfl (hs.2.2.1 _ q2131 rfl) (vi k hk (by decide)) dX2_init_156 (fun H locs hm hS => ?_)
      rw [show (nI k).toNatClampNeg = k from cl_nI (by omega)] at hm
      have hm : mw E (tC (m1 t c (2, 0)) c ((11 + 2 * k) + 1)) ((wR (zc (L_ci2 t Zci2 c k) (c + ((11 + 2 * k) + 1))) (c + 5) (va_up (aR (zc (L_ci2 t Zci2 c k) (c + ((11 + 2 * k) + 1))) (c + 5)) k (some (c + ((11 + 2 * k) + 1)))))) H := hm
      refine lv_aload_n hx hb dX2_init_157 rfl (lv_at hl 1 rfl) ?_
      refine gf_205 hx hb hts hown hs hm (tC_c.trans hc2) (hts _ q236) dX2_init_158 ?_
      refine lv_iload_n hx hb dX2_init_161 rfl (lv_at hl 0 rfl) ?_
      refine k_size (fun hsz_30 => ?_)
      have hsz_30 : H.size ≤ s.heap.size + (11 + 2 * k + 1) := hsz_30
      have hlo_30 := tC_lt hm hcn2 (by omega)
      refine k_newO (ci := 3) (kd0 := 4) (N := 3) (fs := [.int 0, .float 0, .int 0]) hx hb hts in_X5 tyX5 tyX5_ok hown (hts _ q115) (hts _ q148) (hts _ q62) hs hm hS rfl (by decide +kernel) (fun q => by unfold ct; rw [m1_at]; simp only [gI_zc, gF_zc]) ((show 11 + 2 * k + 1 + 1 ≤ 63 from by omega)) ((show 110 + 6 * k + 3 + 3 ≤ 276 from by omega)) dX2_init_162 (fun q_30 H hqe_30 _ hq0_30 hm hS => ?_)
      have hqe_30 : q_30 = (c + ((11 + 2 * k + 1) + 1)) := qe_of hqe_30 hsz_30 hz0 hlo_30
      subst hqe_30
      clear hsz_30 hlo_30
      have hm : mw E (tC (m1 t c (2, 0)) c ((11 + 2 * k + 1) + 1)) (zc (wR (zc (L_ci2 t Zci2 c k) (c + ((11 + 2 * k) + 1))) (c + 5) (va_up (aR (zc (L_ci2 t Zci2 c k) (c + ((11 + 2 * k) + 1))) (c + 5)) k (some (c + ((11 + 2 * k) + 1))))) (c + ((11 + 2 * k + 1) + 1))) H := by rw [← tC_s (n := (11 + 2 * k + 1)) (x := (4, 0)) (show (4, 0) = kdC ((11 + 2 * k + 1) + 1) from (show kdC ((11 + 2 * k + 1) + 1) = (4, 0) from (by rw [show 11 + 2 * k + 1 + 1 = 13 + 2 * k by omega]; exact kdC_b hk)).symm)]; exact hm
      have hk_30 : tC (m1 t c (2, 0)) c ((11 + 2 * k + 1) + 1) (c + ((11 + 2 * k + 1) + 1)) = (4, 0) := ((tC_at (by omega) (by omega)).trans ((by rw [show 11 + 2 * k + 1 + 1 = 13 + 2 * k by omega]; exact kdC_b hk)))
      refine lv_dup hx hb dX2_init_165 rfl ?_
      refine k_callv (va_runIN (As := []) (rest := [.ref ((c + ((11 + 2 * k + 1) + 1))), .int (nI k), .ref ((c + 6))]) ⟨hx, hb, hml, hown, hts⟩ (cm5_init l E (tC (m1 t c (2, 0)) c ((11 + 2 * k + 1) + 1)) (zc (wR (zc (L_ci2 t Zci2 c k) (c + ((11 + 2 * k) + 1))) (c + 5) (va_up (aR (zc (L_ci2 t Zci2 c k) (c + ((11 + 2 * k) + 1))) (c + 5)) k (some (c + ((11 + 2 * k) + 1))))) (c + ((11 + 2 * k + 1) + 1)))  ((c + ((11 + 2 * k + 1) + 1)))  hk_30 ) (⟨va_cnB 0 hts (lw_meth q151) rfl rfl rfl (hs.2.2.1 _ q149 rfl) (hts _ q62) (by decide +kernel) ⟨Nat.le_of_ble_eq_true rfl, Nat.le_of_ble_eq_true rfl⟩, rfl, hts _ q150⟩) (k_preS hs hm hS) rfl rfl hl.1 rfl (lv_room (Nat.le_of_ble_eq_true rfl)) dX2_init_166 ⟨(show 11 + 2 * k + 1 + 0 + 1 + 0 ≤ 63 from by omega), (show 110 + 6 * k + 3 + 0 + 3 + 0 ≤ 276 from by omega)⟩) hS (fun u_31 H locs hw_31 hm_31 hS => ?_)
      replace hw_31 : (zc (wR (zc (L_ci2 t Zci2 c k) (c + ((11 + 2 * k) + 1))) (c + 5) (va_up (aR (zc (L_ci2 t Zci2 c k) (c + ((11 + 2 * k) + 1))) (c + 5)) k (some (c + ((11 + 2 * k) + 1))))) (c + ((11 + 2 * k + 1) + 1))) = u_31 := Eq.symm hw_31
      subst hw_31
      have hm : mw E (tC (m1 t c (2, 0)) c ((11 + 2 * k + 1) + 1)) ((zc (wR (zc (L_ci2 t Zci2 c k) (c + ((11 + 2 * k) + 1))) (c + 5) (va_up (aR (zc (L_ci2 t Zci2 c k) (c + ((11 + 2 * k) + 1))) (c + 5)) k (some (c + ((11 + 2 * k) + 1))))) (c + ((11 + 2 * k + 1) + 1)))) H := hm_31
      refine k_aastO (j := 4) (ci := 3) hx hb hs hm hS (show tC (m1 t c (2, 0)) c ((11 + 2 * k + 1) + 1) (c + 6) = (24, 18) from tC_at (by decide) (by omega)) (by decide) (fun _ => rfl) rfl (ct4 hk_30) (mt_ne hk_30 (by decide)) rfl (hs.2.2.1 _ q2132 rfl) (vi k hk (by decide)) dX2_init_169 (fun H locs hm hS => ?_)
      rw [show (nI k).toNatClampNeg = k from cl_nI (by omega)] at hm
      have hm : mw E (tC (m1 t c (2, 0)) c ((11 + 2 * k + 1) + 1)) ((wR (zc (wR (zc (L_ci2 t Zci2 c k) (c + ((11 + 2 * k) + 1))) (c + 5) (va_up (aR (zc (L_ci2 t Zci2 c k) (c + ((11 + 2 * k) + 1))) (c + 5)) k (some (c + ((11 + 2 * k) + 1))))) (c + ((11 + 2 * k + 1) + 1))) (c + 6) (va_up (aR (zc (wR (zc (L_ci2 t Zci2 c k) (c + ((11 + 2 * k) + 1))) (c + 5) (va_up (aR (zc (L_ci2 t Zci2 c k) (c + ((11 + 2 * k) + 1))) (c + 5)) k (some (c + ((11 + 2 * k) + 1))))) (c + ((11 + 2 * k + 1) + 1))) (c + 6)) k (some (c + ((11 + 2 * k + 1) + 1)))))) H := hm
      refine lv_iinc (v := nI (k + 1)) (lv' := [(1, _), (0, _)]) hx hb dX2_init_170 hl (k := 0) rfl (nI_succ k).symm (by decide) rfl (fun ls hl => ?_)
      refine lv_goto (tgt := 138) hx hb dX2_init_173 (by decide) ?_
      have hE : L_ci2 t Zci2 c (k + 1) = _ := (L_ci2_s t _ c k).trans (rfl)
      exact ih_14 (k + 1) (by omega) _ _ _ ⟨(by omega), (by rw [hE]; exact hm), hS, lv_sub hl [0, 1] rfl⟩
  · have hk : k < 12 := lp_lt (by decide) hI_12 c_13
    refine lv_aload_n hx hb dX2_init_115 rfl (lv_at hl 1 rfl) ?_
    refine gf_200 hx hb hts hown hs hm (tC_c.trans hc2) (hts _ q227) dX2_init_116 ?_
    refine lv_iload_n hx hb dX2_init_119 rfl (lv_at hl 0 rfl) ?_
    refine lv_ldcf (v := 1106247680) hx hb hown (hts _ q123) dX2_init_120 ?_
    refine k_fast hx hb hs hm hS (show tC (m1 t c (2, 0)) c 11 (c + 1) = (21, 12) from tC_at (by decide) (by decide)) (ix.at (B := 12) (⟨k, hk, rfl⟩) (by decide)) dX2_init_122 (fun H locs hm hS => ?_)
    rw [show (nI k).toNatClampNeg = k from cl_nI (by omega)] at hm
    have hm : mw E (tC (m1 t c (2, 0)) c 11) ((wF (L_ci1 t Zci1 c k) (c + 1) (vf_upd (aF (L_ci1 t Zci1 c k) (c + 1)) k (1106247680 : UInt32)))) H := hm
    refine lv_aload_n hx hb dX2_init_123 rfl (lv_at hl 1 rfl) ?_
    refine gf_202 hx hb hts hown hs hm (tC_c.trans hc2) (hts _ q231) dX2_init_124 ?_
    refine lv_iload_n hx hb dX2_init_127 rfl (lv_at hl 0 rfl) ?_
    refine lv_iconst (v := (-1 : Int32)) hx hb dX2_init_128 (by decide) ?_
    refine k_iast hx hb hs hm hS (show tC (m1 t c (2, 0)) c 11 (c + 3) = (20, 12) from tC_at (by decide) (by decide)) (ix.at (B := 12) (⟨k, hk, rfl⟩) (by decide)) dX2_init_129 (fun H locs hm hS => ?_)
    rw [show (nI k).toNatClampNeg = k from cl_nI (by omega)] at hm
    have hm : mw E (tC (m1 t c (2, 0)) c 11) ((wI (wF (L_ci1 t Zci1 c k) (c + 1) (vf_upd (aF (L_ci1 t Zci1 c k) (c + 1)) k (1106247680 : UInt32))) (c + 3) (upd (aI (L_ci1 t Zci1 c k) (c + 3)) k (-1 : Int32)))) H := hm
    refine lv_iinc (v := nI (k + 1)) (lv' := [(1, _), (0, _)]) hx hb dX2_init_130 hl (k := 0) rfl (nI_succ k).symm (by decide) rfl (fun ls hl => ?_)
    refine lv_goto (tgt := 109) hx hb dX2_init_133 (by decide) ?_
    have hE : L_ci1 t Zci1 c (k + 1) = _ := (L_ci1_s t _ c k).trans (rfl)
    exact ih_12 (k + 1) (by omega) _ _ _ ⟨(by omega), (by rw [hE]; exact hm), hS, lv_sub hl [0, 1] rfl⟩
