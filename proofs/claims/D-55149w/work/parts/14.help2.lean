set_option maxRecDepth 100000
/-! floats by size: what is no NaN, and how great it can get -/
abbrev fD (x : UInt32) : FP.Core.Datum := FP.Core.decode FP.Core.b32 x.toNat
/-- x is a finite number of sign s, smaller than 2^n -/
def kd (s : Bool) (n : Int) (x : UInt32) : Prop := ∃ (c : Nat) (q : Int), fD x = .fin s c q ∧ c < 2 ^ 24 ∧ q + 24 ≤ n ∧ -149 ≤ q ∧ (q = -149 ∨ 2 ^ 23 ≤ c)
theorem fp_tails : FP.Core.b32.tails = 2 ^ 23 := by decide
theorem fp_exps : FP.Core.b32.exps = 2 ^ 8 := by decide
theorem fp_qmin : FP.Core.b32.qmin = -149 := by decide
theorem fp_qmax : FP.Core.b32.qmax = 104 := by decide
theorem fp_p : FP.Core.b32.p = 24 := rfl
theorem kd.up {s : Bool} {n m : Int} {x : UInt32} (h : kd s n x) (hm : n ≤ m) : kd s m x := by
  obtain ⟨c, q, h1, h2, h3, h4⟩ := h
  exact ⟨c, q, h1, h2, by omega, h4⟩
theorem fp_and (x : UInt32) : (x &&& 0x7fffffff).toNat = x.toNat % 2 ^ 31 := by
  rw [UInt32.toNat_and]
  show x.toNat &&& (2 ^ 31 - 1) = _
  exact Nat.and_two_pow_sub_one_eq_mod _ _
theorem fp_n32 {x : UInt32} (h : fD x ≠ .nan) : vf_n32 x := by
  unfold vf_n32
  rw [UInt32.le_iff_toNat_le, fp_and]
  show _ ≤ 2139095040
  refine Nat.not_lt.mp fun hx => h ?_
  unfold fD FP.Core.decode FP.Core.fieldE FP.Core.fieldT
  rw [fp_tails, fp_exps]
  have h1 : x.toNat / 2 ^ 23 % 2 ^ 8 = 2 ^ 8 - 1 := by omega
  rw [if_pos h1, if_neg (by omega)]
theorem kd.nan {s : Bool} {n : Int} {x : UInt32} (h : kd s n x) : vf_n32 x := by
  obtain ⟨c, q, h1, -⟩ := h
  exact fp_n32 (by rw [h1]; exact FP.Core.Datum.noConfusion)
theorem fp_asm (s : Bool) (e t : Nat) (he : e < 2 ^ 8) (ht : t < 2 ^ 23) : FP.Core.assemble FP.Core.b32 s e t < 2 ^ 32 ∧ FP.Core.fieldT FP.Core.b32 (FP.Core.assemble FP.Core.b32 s e t) = t ∧ FP.Core.fieldE FP.Core.b32 (FP.Core.assemble FP.Core.b32 s e t) = e ∧ FP.Core.fieldS FP.Core.b32 (FP.Core.assemble FP.Core.b32 s e t) = s := by
  unfold FP.Core.assemble FP.Core.fieldT FP.Core.fieldE FP.Core.fieldS
  rw [fp_tails, fp_exps]
  cases s
  · simp only [Bool.toNat_false, Nat.zero_mul, Nat.zero_add]
    refine ⟨by omega, by omega, by omega, ?_⟩
    have : (e * 2 ^ 23 + t) / 2 ^ 23 / 2 ^ 8 % 2 = 0 := by omega
    rw [this]; rfl
  · simp only [Bool.toNat_true, Nat.one_mul]
    refine ⟨by omega, by omega, by omega, ?_⟩
    have : ((2 ^ 8 + e) * 2 ^ 23 + t) / 2 ^ 23 / 2 ^ 8 % 2 = 1 := by omega
    rw [this]; rfl
/-- what was rounded to a number stays in its bounds in bits -/
theorem fp_enc {s : Bool} {c : Nat} {q n : Int} {x : UInt32} (hx : x = .ofNat (FP.Core.encode FP.Core.b32 (.fin s c q))) (hc : c < 2 ^ 24) (hq : -149 ≤ q) (hn : q + 24 ≤ n) (h1 : n ≤ 128) (h2 : -125 ≤ n) : kd s n x := by
  unfold FP.Core.encode at hx
  simp only [fp_tails, fp_qmin] at hx
  by_cases h : c < 2 ^ 23
  · rw [if_pos h] at hx
    obtain ⟨a1, a2, a3, a4⟩ := fp_asm s 0 c (by decide) h
    have hxn : x.toNat = FP.Core.assemble FP.Core.b32 s 0 c := by rw [hx]; exact UInt32.toNat_ofNat_of_lt' a1
    refine ⟨c, -149, ?_, hc, by omega, by omega, Or.inl rfl⟩
    unfold fD FP.Core.decode
    rw [hxn, a2, a3, a4, fp_qmin, if_neg (by rw [fp_exps]; decide), if_pos rfl]
  · rw [if_neg h] at hx
    obtain ⟨a1, a2, a3, a4⟩ := fp_asm s ((q - -149).toNat + 1) (c - 2 ^ 23) (by omega) (by omega)
    have hxn : x.toNat = FP.Core.assemble FP.Core.b32 s ((q - -149).toNat + 1) (c - 2 ^ 23) := by rw [hx]; exact UInt32.toNat_ofNat_of_lt' a1
    refine ⟨c, q, ?_, hc, hn, hq, Or.inr (by omega)⟩
    unfold fD FP.Core.decode
    rw [hxn, a2, a3, a4, fp_qmin, fp_tails, if_neg (by rw [fp_exps]; omega), if_neg (by omega)]
    have z1 : 2 ^ 23 + (c - 2 ^ 23) = c := by omega
    have z2 : (-149 : Int) + ((((q - -149).toNat + 1 : Nat) : Int) - 1) = q := by omega
    rw [z1, z2]
theorem fp_settle {s : Bool} {N : Nat} {q n : Int} (hq : -149 ≤ q) (hn : q + 25 ≤ n) (h1 : n ≤ 128) : ∃ (c : Nat) (r : Int), FP.Core.settle FP.Core.b32 s N q = .fin s c r ∧ c < 2 ^ 24 ∧ -149 ≤ r ∧ r + 24 ≤ n := by
  unfold FP.Core.settle FP.Core.bound
  rw [fp_p, fp_qmax, fp_tails]
  by_cases h : N < 2 ^ 24
  · rw [if_pos h, if_pos (by omega)]
    exact ⟨N, q, rfl, h, hq, by omega⟩
  · rw [if_neg h, if_pos (by omega)]
    exact ⟨2 ^ 23, q + 1, rfl, by decide, by omega, by omega⟩
theorem fp_lead (A B : Nat) : FP.Core.leading A B ≤ (A.log2 : Int) - (B.log2 : Int) := by
  unfold FP.Core.leading
  dsimp only
  split <;> omega
theorem fp_round {s : Bool} {A B : Nat} {e n : Int} (h : (A.log2 : Int) - (B.log2 : Int) + e + 2 ≤ n) (h1 : n ≤ 128) (h2 : -124 ≤ n) : ∃ (c : Nat) (r : Int), FP.Core.roundRatio FP.Core.b32 s A B e = .fin s c r ∧ c < 2 ^ 24 ∧ -149 ≤ r ∧ r + 24 ≤ n := by
  unfold FP.Core.roundRatio
  split
  · exact ⟨0, -149, by rw [fp_qmin], by decide, by omega, by omega⟩
  · unfold FP.Core.roundAt
    have hl := fp_lead A B
    refine fp_settle ?_ ?_ h1
    · unfold FP.Core.quantum
      rw [fp_qmin]
      omega
    · unfold FP.Core.quantum
      rw [fp_qmin, fp_p]
      omega
theorem fp_log {A k : Nat} (h : A < 2 ^ k) (hk : 0 < k) : A.log2 < k := by
  by_cases hA : A = 0
  · subst hA
    simpa using hk
  · exact (Nat.log2_lt hA).mpr h
theorem fp_two {a b : Nat} (h : a ≤ b) : 2 ^ a ≤ 2 ^ b := Nat.pow_le_pow_right (by decide) h
theorem fp_sumlog {s t : Bool} {c d : Nat} {q r e n : Int} (hc : c < 2 ^ 24) (hd : d < 2 ^ 24) (hq : q + 24 ≤ n) (hr : r + 24 ≤ n) (he : e = min q r) : ((FP.Core.sumUnits s c q t d r e).natAbs.log2 : Int) + e ≤ n := by
  have h1 : c * 2 ^ (q - e).toNat < 2 ^ (n - e).toNat := by
    have : c * 2 ^ (q - e).toNat < 2 ^ 24 * 2 ^ (q - e).toNat := Nat.mul_lt_mul_of_pos_right hc (Nat.two_pow_pos _)
    rw [← Nat.pow_add] at this
    exact Nat.lt_of_lt_of_le this (fp_two (by omega))
  have h2 : d * 2 ^ (r - e).toNat < 2 ^ (n - e).toNat := by
    have : d * 2 ^ (r - e).toNat < 2 ^ 24 * 2 ^ (r - e).toNat := Nat.mul_lt_mul_of_pos_right hd (Nat.two_pow_pos _)
    rw [← Nat.pow_add] at this
    exact Nat.lt_of_lt_of_le this (fp_two (by omega))
  have h3 : (FP.Core.sumUnits s c q t d r e).natAbs < 2 ^ ((n - e).toNat + 1) := by
    unfold FP.Core.sumUnits FP.Core.signed FP.Core.inUnits
    rw [Nat.pow_succ]
    generalize c * 2 ^ (q - e).toNat = u at *
    generalize d * 2 ^ (r - e).toNat = w at *
    generalize 2 ^ (n - e).toNat = z at *
    cases s <;> cases t <;> simp only [if_true, if_false, Bool.false_eq_true] <;> omega
  have := fp_log h3 (by omega)
  omega
theorem kd.addG {s t : Bool} {n : Int} {x y : UInt32} (hx : kd s n x) (hy : kd t n y) (h1 : n ≤ 126 := by decide) (h2 : -126 ≤ n := by decide) : ∃ u, kd u (n + 2) (FP.fadd x y) ∧ (s = t → u = s) := by
  obtain ⟨c, q, a1, a2, a3, a4, -⟩ := hx
  obtain ⟨d, r, b1, b2, b3, b4, -⟩ := hy
  have hl := fp_sumlog (s := s) (t := t) a2 b2 a3 b3 rfl
  obtain ⟨c', r', e1, e2, e3, e4⟩ := fp_round (s := FP.Core.sumSign s t (FP.Core.sumUnits s c q t d r (min q r))) (A := (FP.Core.sumUnits s c q t d r (min q r)).natAbs) (B := 1) (e := min q r) (n := n + 2) (by rw [show (1 : Nat).log2 = 0 from rfl]; omega) (by omega) (by omega)
  refine ⟨FP.Core.sumSign s t (FP.Core.sumUnits s c q t d r (min q r)), fp_enc (c := c') (q := r') ?_ e2 e3 e4 (by omega) (by omega), fun hst => ?_⟩
  · show FP.Core.fadd x y = _
    unfold FP.Core.fadd FP.Core.add
    rw [show FP.Core.decode FP.Core.b32 x.toNat = _ from a1, show FP.Core.decode FP.Core.b32 y.toNat = _ from b1]
    show UInt32.ofNat (FP.Core.encode FP.Core.b32 (FP.Core.roundRatio _ _ _ 1 _)) = _
    rw [e1]
  · subst hst
    unfold FP.Core.sumSign FP.Core.sumUnits FP.Core.signed
    cases s
    · simp only [if_false, Bool.false_eq_true]
      split
      · rfl
      · exact decide_eq_false (by omega)
    · simp only [if_true]
      split
      · rfl
      · rename_i h
        exact decide_eq_true (by omega)
theorem kd.add {n : Int} {x y : UInt32} (hx : kd false n x) (hy : kd false n y) (h1 : n ≤ 126 := by decide) (h2 : -126 ≤ n := by decide) : kd false (n + 2) (FP.fadd x y) := by
  obtain ⟨u, hu, he⟩ := hx.addG hy h1 h2
  rw [he rfl] at hu
  exact hu
theorem kd.subG {s t : Bool} {n : Int} {x y : UInt32} (hx : kd s n x) (hy : kd t n y) (h1 : n ≤ 126 := by decide) (h2 : -126 ≤ n := by decide) : ∃ u, kd u (n + 2) (FP.fsub x y) := by
  obtain ⟨c, q, a1, a2, a3, a4, -⟩ := hx
  obtain ⟨d, r, b1, b2, b3, b4, -⟩ := hy
  have hl := fp_sumlog (s := s) (t := !t) a2 b2 a3 b3 rfl
  obtain ⟨c', r', e1, e2, e3, e4⟩ := fp_round (s := FP.Core.sumSign s (!t) (FP.Core.sumUnits s c q (!t) d r (min q r))) (A := (FP.Core.sumUnits s c q (!t) d r (min q r)).natAbs) (B := 1) (e := min q r) (n := n + 2) (by rw [show (1 : Nat).log2 = 0 from rfl]; omega) (by omega) (by omega)
  refine ⟨FP.Core.sumSign s (!t) (FP.Core.sumUnits s c q (!t) d r (min q r)), fp_enc (c := c') (q := r') ?_ e2 e3 e4 (by omega) (by omega)⟩
  show FP.Core.fsub x y = _
  unfold FP.Core.fsub FP.Core.sub
  rw [show FP.Core.decode FP.Core.b32 x.toNat = _ from a1, show FP.Core.decode FP.Core.b32 y.toNat = _ from b1]
  show UInt32.ofNat (FP.Core.encode FP.Core.b32 (FP.Core.roundRatio _ _ _ 1 _)) = _
  rw [e1]
theorem kd.mul {s t : Bool} {n m : Int} {x y : UInt32} (hx : kd s n x) (hy : kd t m y) (h1 : n + m ≤ 127 := by decide) (h2 : -125 ≤ n + m := by decide) : kd (s != t) (n + m + 1) (FP.fmul x y) := by
  obtain ⟨c, q, a1, a2, a3, a4, -⟩ := hx
  obtain ⟨d, r, b1, b2, b3, b4, -⟩ := hy
  have hcd : c * d < 2 ^ 48 := by
    rcases Nat.eq_zero_or_pos d with h | h
    · subst h; simp
    · calc c * d < 2 ^ 24 * d := Nat.mul_lt_mul_of_pos_right a2 h
        _ ≤ 2 ^ 24 * 2 ^ 24 := Nat.mul_le_mul_left _ (by omega)
        _ = 2 ^ 48 := by decide
  have hl := fp_log hcd (by decide)
  obtain ⟨c', r', e1, e2, e3, e4⟩ := fp_round (s := s != t) (A := c * d) (B := 1) (e := q + r) (n := n + m + 1) (by rw [show (1 : Nat).log2 = 0 from rfl]; omega) (by omega) (by omega)
  refine fp_enc (c := c') (q := r') ?_ e2 e3 e4 (by omega) (by omega)
  show FP.Core.fmul x y = _
  unfold FP.Core.fmul FP.Core.mul
  rw [show FP.Core.decode FP.Core.b32 x.toNat = _ from a1, show FP.Core.decode FP.Core.b32 y.toNat = _ from b1]
  show UInt32.ofNat (FP.Core.encode FP.Core.b32 (FP.Core.roundRatio _ _ _ 1 _)) = _
  rw [e1]
theorem fp_lit {x : UInt32} {c : Nat} {q : Int} {s : Bool} (h : fD x = .fin s c q) (n : Int) (hc : c < 2 ^ 24 ∧ q + 24 ≤ n ∧ -149 ≤ q ∧ (q = -149 ∨ 2 ^ 23 ≤ c)) : kd s n x := ⟨c, q, h, hc⟩
theorem kd_100 : kd false 7 1120403456 := fp_lit (c := 13107200) (q := -17) (by decide +kernel) 7 (by decide)
theorem kd_08 : kd false 0 1061997773 := fp_lit (c := 13421773) (q := -24) (by decide +kernel) 0 (by decide)
theorem kd_025 : kd false 0 1048576000 := fp_lit (c := 8388608) (q := -25) (by decide +kernel) 0 (by decide)
theorem kd_05 : kd false 0 1056964608 := fp_lit (c := 8388608) (q := -24) (by decide +kernel) 0 (by decide)
theorem kd_0 : kd false (-125) FP.fconst0 := fp_lit (c := 0) (q := -149) (by decide +kernel) _ (by decide)
theorem kd_1 : kd false 1 FP.fconst1 := fp_lit (c := 8388608) (q := -23) (by decide +kernel) _ (by decide)
theorem kd_2 : kd false 2 FP.fconst2 := fp_lit (c := 8388608) (q := -22) (by decide +kernel) _ (by decide)
theorem kd_i2f {x : Int32} (h : ix 128 x) : kd false 7 (FP.i2f x) := by
  have key : ∀ k : Fin 128, ∃ (c : Nat) (q : Int), fD (FP.i2f (nI k.val)) = .fin false c q ∧ c < 2 ^ 24 ∧ q + 24 ≤ 7 ∧ -149 ≤ q ∧ (q = -149 ∨ 2 ^ 23 ≤ c) := by
    intro k
    have h1 : ∀ k : Fin 128, (match fD (FP.i2f (nI k.val)) with | .fin s c q => !s && decide (c < 2 ^ 24 ∧ q + 24 ≤ 7 ∧ -149 ≤ q ∧ (q = -149 ∨ 2 ^ 23 ≤ c)) | _ => false) = true := by decide +kernel
    have h2 := h1 k
    cases hd : fD (FP.i2f (nI k.val)) with
    | nan => rw [hd] at h2; cases h2
    | inf s => rw [hd] at h2; cases h2
    | fin s c q =>
      rw [hd] at h2
      cases s
      · exact ⟨c, q, rfl, of_decide_eq_true (by simpa using h2)⟩
      · cases h2
  obtain ⟨k, hk, rfl⟩ := h
  exact key ⟨k, hk⟩
theorem kd_012 : kd false 0 1039516303 := fp_lit (c := 16106127) (q := -27) (by decide +kernel) 0 (by decide)
theorem kd_006 : kd false 0 1031127695 := fp_lit (c := 16106127) (q := -28) (by decide +kernel) 0 (by decide)
theorem kd_002 : kd false 0 1017370378 := fp_lit (c := 10737418) (q := -29) (by decide +kernel) 0 (by decide)
theorem kd_25 : kd false 5 1103626240 := fp_lit (c := 13107200) (q := -19) (by decide +kernel) 5 (by decide)
theorem kd_50 : kd false 6 1112014848 := fp_lit (c := 13107200) (q := -18) (by decide +kernel) 6 (by decide)
theorem kd_175 : kd false 1 1071644672 := fp_lit (c := 14680064) (q := -23) (by decide +kernel) 1 (by decide)
theorem kd_25h : kd false 2 1075838976 := fp_lit (c := 10485760) (q := -22) (by decide +kernel) 2 (by decide)
theorem kd_90 : kd false 7 1119092736 := fp_lit (c := 11796480) (q := -17) (by decide +kernel) 7 (by decide)
theorem kd_12 : kd false 4 1094713344 := fp_lit (c := 12582912) (q := -20) (by decide +kernel) 4 (by decide)
theorem kd.div25 {x : UInt32} (hx : kd false 12 x) : kd false 9 (FP.fdiv x (FP.fadd x 1103626240)) := by
  sorry
/-! what holds of the numbers of a season -/
def wf (g : Nat → Int32) (f : Nat → UInt32) : Prop := ix 13 (g 1) ∧ ix 21 (g 2) ∧ ix 7 (g 51) ∧ ix 5 (g 80) ∧ ix 6 (g 96) ∧ (∀ k, k < 12 → ix 10 (g (3 + k))) ∧ (∀ k, k < 6 → g (52 + k) = -1 ∨ ix 12 (g (52 + k))) ∧ (∀ k, k < 4 → ix 7 (g (85 + k))) ∧ (∀ p, p < 12 → kd false 12 (f p)) ∧ (∀ p, p < 12 → kd false 7 (f (12 + p))) ∧ (∀ s, s < 4 → kd false 7 (f (24 + s)))
section WF
variable {g : Nat → Int32} {f : Nat → UInt32} {x : Int32}
theorem wf.wind (h : wf g f) : ix 13 (g 1) := h.1
theorem wf.rain (h : wf g f) : ix 21 (g 2) := h.2.1
theorem wf.mem (h : wf g f) : ix 7 (g 51) := h.2.2.1
theorem wf.shd (h : wf g f) : ix 5 (g 80) := h.2.2.2.1
theorem wf.prz (h : wf g f) : ix 6 (g 96) := h.2.2.2.2.1
theorem ix.cl {B : Nat} (K : Nat) (h : ix B x) (hB : K + B ≤ 2 ^ 30) : ∃ k, k < B ∧ (nI K + x).toNatClampNeg = K + k ∧ x = nI k := by
  obtain ⟨k, h1, rfl⟩ := h
  exact ⟨k, h1, cl_add K (by omega), rfl⟩
theorem wf.mol (h : wf g f) (hx : ix 12 x) : ix 10 (g ((3 : Int32) + x).toNatClampNeg) := by
  obtain ⟨k, h1, h2, -⟩ := ix.cl 3 hx (by decide)
  rw [show ((3 : Int32) + x).toNatClampNeg = 3 + k from h2]
  exact h.2.2.2.2.2.1 k h1
theorem wf.plot (h : wf g f) (hx : ix 6 x) (hn : ¬ g ((52 : Int32) + x).toNatClampNeg = -1) : ix 12 (g ((52 : Int32) + x).toNatClampNeg) := by
  obtain ⟨k, h1, h2, -⟩ := ix.cl 52 hx (by decide)
  rw [show ((52 : Int32) + x).toNatClampNeg = 52 + k from h2] at hn ⊢
  rcases h.2.2.2.2.2.2.1 k h1 with h3 | h3
  · exact absurd h3 hn
  · exact h3
theorem wf.rop (h : wf g f) (hx : ix 4 x) : ix 7 (g ((85 : Int32) + x).toNatClampNeg) := by
  obtain ⟨k, h1, h2, -⟩ := ix.cl 85 hx (by decide)
  rw [show ((85 : Int32) + x).toNatClampNeg = 85 + k from h2]
  exact h.2.2.2.2.2.2.2.1 k h1
theorem wf.wat (h : wf g f) (hx : ix 12 x) : kd false 12 (f ((0 : Int32) + x).toNatClampNeg) := by
  obtain ⟨k, h1, h2, -⟩ := ix.cl 0 hx (by decide)
  rw [show ((0 : Int32) + x).toNatClampNeg = k from by rw [show ((0 : Int32) + x).toNatClampNeg = 0 + k from h2, Nat.zero_add]]
  exact h.2.2.2.2.2.2.2.2.1 k h1
theorem wf.wgt (h : wf g f) (hx : ix 12 x) : kd false 7 (f ((12 : Int32) + x).toNatClampNeg) := by
  obtain ⟨k, h1, h2, -⟩ := ix.cl 12 hx (by decide)
  rw [show ((12 : Int32) + x).toNatClampNeg = 12 + k from h2]
  exact h.2.2.2.2.2.2.2.2.2.1 k h1
theorem wf.but (h : wf g f) (hx : ix 4 x) : kd false 7 (f ((24 : Int32) + x).toNatClampNeg) := by
  obtain ⟨k, h1, h2, -⟩ := ix.cl 24 hx (by decide)
  rw [show ((24 : Int32) + x).toNatClampNeg = 24 + k from h2]
  exact h.2.2.2.2.2.2.2.2.2.2 k h1
end WF
theorem ix.two {B C : Nat} {x y : Int32} (K m n : Nat) (hx : ix B x) (hy : ix C y) (hn : K + m * (B - 1) + C ≤ n) (hN : n ≤ 2 ^ 30) : vp_in ((nI K + nI m * x) + y) n := by
  obtain ⟨k, h1, rfl⟩ := hx
  obtain ⟨j, h2, rfl⟩ := hy
  have h3 : m * k ≤ m * (B - 1) := Nat.mul_le_mul_left _ (by omega)
  rw [pk_mul, nI_add, nI_add]
  exact vp_in_nI (by omega) (by omega)
