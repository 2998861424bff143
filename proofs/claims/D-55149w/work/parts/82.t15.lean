set_option maxRecDepth 100000
/-! doubles; the reference: accounts, undo, the snapshot -/
abbrev gD (x : UInt64) : FP.Core.Datum := FP.Core.decode FP.Core.b64 x.toNat
/-- x is a finite number of sign s, smaller than 2^n -/
def kD (s : Bool) (n : Int) (x : UInt64) : Prop := ∃ (c : Nat) (q : Int), gD x = .fin s c q ∧ c < 2 ^ 53 ∧ q + 53 ≤ n ∧ -1074 ≤ q ∧ (q = -1074 ∨ 2 ^ 52 ≤ c)
theorem fq_tails : FP.Core.b64.tails = 2 ^ 52 := by decide
theorem fq_exps : FP.Core.b64.exps = 2 ^ 11 := by decide
theorem fq_qmin : FP.Core.b64.qmin = -1074 := by decide
theorem fq_qmax : FP.Core.b64.qmax = 971 := by decide
theorem fq_p : FP.Core.b64.p = 53 := rfl
theorem kD.up {s : Bool} {n m : Int} {x : UInt64} (h : kD s n x) (hm : n ≤ m) : kD s m x := by
  obtain ⟨c, q, h1, h2, h3, h4⟩ := h
  exact ⟨c, q, h1, h2, by omega, h4⟩
theorem fq_and (x : UInt64) : (x &&& 0x7fffffffffffffff).toNat = x.toNat % 2 ^ 63 := by
  rw [UInt64.toNat_and]
  show x.toNat &&& (2 ^ 63 - 1) = _
  exact Nat.and_two_pow_sub_one_eq_mod _ _
theorem fq_n32 {x : UInt64} (h : gD x ≠ .nan) : vf_n64 x := by
  unfold vf_n64
  rw [UInt64.le_iff_toNat_le, fq_and]
  show _ ≤ 9218868437227405312
  refine Nat.not_lt.mp fun hx => h ?_
  unfold gD FP.Core.decode FP.Core.fieldE FP.Core.fieldT
  rw [fq_tails, fq_exps]
  have h1 : x.toNat / 2 ^ 52 % 2 ^ 11 = 2 ^ 11 - 1 := by omega
  rw [if_pos h1, if_neg (by omega)]
theorem kD.nan {s : Bool} {n : Int} {x : UInt64} (h : kD s n x) : vf_n64 x := by
  obtain ⟨c, q, h1, -⟩ := h
  exact fq_n32 (by rw [h1]; exact FP.Core.Datum.noConfusion)
theorem fq_asm (s : Bool) (e t : Nat) (he : e < 2 ^ 11) (ht : t < 2 ^ 52) : FP.Core.assemble FP.Core.b64 s e t < 2 ^ 64 ∧ FP.Core.fieldT FP.Core.b64 (FP.Core.assemble FP.Core.b64 s e t) = t ∧ FP.Core.fieldE FP.Core.b64 (FP.Core.assemble FP.Core.b64 s e t) = e ∧ FP.Core.fieldS FP.Core.b64 (FP.Core.assemble FP.Core.b64 s e t) = s := by
  unfold FP.Core.assemble FP.Core.fieldT FP.Core.fieldE FP.Core.fieldS
  rw [fq_tails, fq_exps]
  cases s
  · simp only [Bool.toNat_false, Nat.zero_mul, Nat.zero_add]
    refine ⟨by omega, by omega, by omega, ?_⟩
    have : (e * 2 ^ 52 + t) / 2 ^ 52 / 2 ^ 11 % 2 = 0 := by omega
    rw [this]; rfl
  · simp only [Bool.toNat_true, Nat.one_mul]
    refine ⟨by omega, by omega, by omega, ?_⟩
    have : ((2 ^ 11 + e) * 2 ^ 52 + t) / 2 ^ 52 / 2 ^ 11 % 2 = 1 := by omega
    rw [this]; rfl
/-- what was rounded to a number stays in its bounds in bits -/
theorem fq_enc {s : Bool} {c : Nat} {q n : Int} {x : UInt64} (hx : x = .ofNat (FP.Core.encode FP.Core.b64 (.fin s c q))) (hc : c < 2 ^ 53) (hq : -1074 ≤ q) (hn : q + 53 ≤ n) (h1 : n ≤ 1024) (h2 : -1021 ≤ n) : kD s n x := by
  unfold FP.Core.encode at hx
  simp only [fq_tails, fq_qmin] at hx
  by_cases h : c < 2 ^ 52
  · rw [if_pos h] at hx
    obtain ⟨a1, a2, a3, a4⟩ := fq_asm s 0 c (by decide) h
    have hxn : x.toNat = FP.Core.assemble FP.Core.b64 s 0 c := by rw [hx]; exact UInt64.toNat_ofNat_of_lt' a1
    refine ⟨c, -1074, ?_, hc, by omega, by omega, Or.inl rfl⟩
    unfold gD FP.Core.decode
    rw [hxn, a2, a3, a4, fq_qmin, if_neg (by rw [fq_exps]; decide), if_pos rfl]
  · rw [if_neg h] at hx
    obtain ⟨a1, a2, a3, a4⟩ := fq_asm s ((q - -1074).toNat + 1) (c - 2 ^ 52) (by omega) (by omega)
    have hxn : x.toNat = FP.Core.assemble FP.Core.b64 s ((q - -1074).toNat + 1) (c - 2 ^ 52) := by rw [hx]; exact UInt64.toNat_ofNat_of_lt' a1
    refine ⟨c, q, ?_, hc, hn, hq, Or.inr (by omega)⟩
    unfold gD FP.Core.decode
    rw [hxn, a2, a3, a4, fq_qmin, fq_tails, if_neg (by rw [fq_exps]; omega), if_neg (by omega)]
    have z1 : 2 ^ 52 + (c - 2 ^ 52) = c := by omega
    have z2 : (-1074 : Int) + ((((q - -1074).toNat + 1 : Nat) : Int) - 1) = q := by omega
    rw [z1, z2]
theorem fq_settle {s : Bool} {N : Nat} {q n : Int} (hq : -1074 ≤ q) (hn : q + 54 ≤ n) (h1 : n ≤ 1024) : ∃ (c : Nat) (r : Int), FP.Core.settle FP.Core.b64 s N q = .fin s c r ∧ c < 2 ^ 53 ∧ -1074 ≤ r ∧ r + 53 ≤ n := by
  unfold FP.Core.settle FP.Core.bound
  rw [fq_p, fq_qmax, fq_tails]
  by_cases h : N < 2 ^ 53
  · rw [if_pos h, if_pos (by omega)]
    exact ⟨N, q, rfl, h, hq, by omega⟩
  · rw [if_neg h, if_pos (by omega)]
    exact ⟨2 ^ 52, q + 1, rfl, by decide, by omega, by omega⟩
theorem fq_round {s : Bool} {A B : Nat} {e n : Int} (h : (A.log2 : Int) - (B.log2 : Int) + e + 2 ≤ n) (h1 : n ≤ 1024) (h2 : -1020 ≤ n) : ∃ (c : Nat) (r : Int), FP.Core.roundRatio FP.Core.b64 s A B e = .fin s c r ∧ c < 2 ^ 53 ∧ -1074 ≤ r ∧ r + 53 ≤ n := by
  unfold FP.Core.roundRatio
  split
  · exact ⟨0, -1074, by rw [fq_qmin], by decide, by omega, by omega⟩
  · unfold FP.Core.roundAt
    have hl := fp_lead A B
    refine fq_settle ?_ ?_ h1
    · unfold FP.Core.quantum
      rw [fq_qmin]
      omega
    · unfold FP.Core.quantum
      rw [fq_qmin, fq_p]
      omega
theorem fq_sumlog {s t : Bool} {c d : Nat} {q r e n : Int} (hc : c < 2 ^ 53) (hd : d < 2 ^ 53) (hq : q + 53 ≤ n) (hr : r + 53 ≤ n) (he : e = min q r) : ((FP.Core.sumUnits s c q t d r e).natAbs.log2 : Int) + e ≤ n := by
  have h1 : c * 2 ^ (q - e).toNat < 2 ^ (n - e).toNat := by
    have : c * 2 ^ (q - e).toNat < 2 ^ 53 * 2 ^ (q - e).toNat := Nat.mul_lt_mul_of_pos_right hc (Nat.two_pow_pos _)
    rw [← Nat.pow_add] at this
    exact Nat.lt_of_lt_of_le this (fp_two (by omega))
  have h2 : d * 2 ^ (r - e).toNat < 2 ^ (n - e).toNat := by
    have : d * 2 ^ (r - e).toNat < 2 ^ 53 * 2 ^ (r - e).toNat := Nat.mul_lt_mul_of_pos_right hd (Nat.two_pow_pos _)
    rw [← Nat.pow_add] at this
    exact Nat.lt_of_lt_of_le this (fp_two (by omega))
  have h3 : (FP.Core.sumUnits s c q t d r e).natAbs < 2 ^ ((n - e).toNat + 1) := by
    unfold FP.Core.sumUnits FP.Core.signed FP.Core.inUnits
    rw [Nat.pow_succ]
    generalize c * 2 ^ (q - e).toNat = u at *
    generalize d * 2 ^ (r - e).toNat = w at *
    generalize 2 ^ (n - e).toNat = z at *
    cases s <;> cases t <;> simp only [if_true, if_false, Bool.false_eq_true] <;> omega
  have := fp_log h3 (by omega)
  omega
theorem kD.addG {s t : Bool} {n : Int} {x y : UInt64} (hx : kD s n x) (hy : kD t n y) (h1 : n ≤ 1022 := by decide) (h2 : -1022 ≤ n := by decide) : ∃ u, kD u (n + 2) (FP.dadd x y) ∧ (s = t → u = s) := by
  obtain ⟨c, q, a1, a2, a3, a4, -⟩ := hx
  obtain ⟨d, r, b1, b2, b3, b4, -⟩ := hy
  have hl := fq_sumlog (s := s) (t := t) a2 b2 a3 b3 rfl
  obtain ⟨c', r', e1, e2, e3, e4⟩ := fq_round (s := FP.Core.sumSign s t (FP.Core.sumUnits s c q t d r (min q r))) (A := (FP.Core.sumUnits s c q t d r (min q r)).natAbs) (B := 1) (e := min q r) (n := n + 2) (by rw [show (1 : Nat).log2 = 0 from rfl]; omega) (by omega) (by omega)
  refine ⟨FP.Core.sumSign s t (FP.Core.sumUnits s c q t d r (min q r)), fq_enc (c := c') (q := r') ?_ e2 e3 e4 (by omega) (by omega), fun hst => ?_⟩
  · show FP.Core.dadd x y = _
    unfold FP.Core.dadd FP.Core.add
    rw [show FP.Core.decode FP.Core.b64 x.toNat = _ from a1, show FP.Core.decode FP.Core.b64 y.toNat = _ from b1]
    show UInt64.ofNat (FP.Core.encode FP.Core.b64 (FP.Core.roundRatio _ _ _ 1 _)) = _
    rw [e1]
  · subst hst
    unfold FP.Core.sumSign FP.Core.sumUnits FP.Core.signed
    cases s
    · simp only [if_false, Bool.false_eq_true]
      split
      · rfl
      · exact decide_eq_false (by omega)
    · simp only [if_true]
      split
      · rfl
      · rename_i h
        exact decide_eq_true (by omega)
theorem kD.add {n : Int} {x y : UInt64} (hx : kD false n x) (hy : kD false n y) (h1 : n ≤ 1022 := by decide) (h2 : -1022 ≤ n := by decide) : kD false (n + 2) (FP.dadd x y) := by
  obtain ⟨u, hu, he⟩ := hx.addG hy h1 h2
  rw [he rfl] at hu
  exact hu
theorem kD.subG {s t : Bool} {n : Int} {x y : UInt64} (hx : kD s n x) (hy : kD t n y) (h1 : n ≤ 1022 := by decide) (h2 : -1022 ≤ n := by decide) : ∃ u, kD u (n + 2) (FP.dsub x y) := by
  obtain ⟨c, q, a1, a2, a3, a4, -⟩ := hx
  obtain ⟨d, r, b1, b2, b3, b4, -⟩ := hy
  have hl := fq_sumlog (s := s) (t := !t) a2 b2 a3 b3 rfl
  obtain ⟨c', r', e1, e2, e3, e4⟩ := fq_round (s := FP.Core.sumSign s (!t) (FP.Core.sumUnits s c q (!t) d r (min q r))) (A := (FP.Core.sumUnits s c q (!t) d r (min q r)).natAbs) (B := 1) (e := min q r) (n := n + 2) (by rw [show (1 : Nat).log2 = 0 from rfl]; omega) (by omega) (by omega)
  refine ⟨FP.Core.sumSign s (!t) (FP.Core.sumUnits s c q (!t) d r (min q r)), fq_enc (c := c') (q := r') ?_ e2 e3 e4 (by omega) (by omega)⟩
  show FP.Core.dsub x y = _
  unfold FP.Core.dsub FP.Core.sub
  rw [show FP.Core.decode FP.Core.b64 x.toNat = _ from a1, show FP.Core.decode FP.Core.b64 y.toNat = _ from b1]
  show UInt64.ofNat (FP.Core.encode FP.Core.b64 (FP.Core.roundRatio _ _ _ 1 _)) = _
  rw [e1]
theorem kD_f2d {n : Int} {x : UInt32} (h : kd false n x) (h1 : n ≤ 128 := by decide) (h2 : -1000 ≤ n := by decide) : kD false (n + 1) (FP.f2d x) := by
  obtain ⟨c, q, a1, a2, a3, a4, -⟩ := h
  have hl : c.log2 < 24 := fp_log a2 (by decide)
  obtain ⟨c', r', e1, e2, e3, e4⟩ := fq_round (s := false) (A := c) (B := 1) (e := q) (n := n + 1) (by rw [show (1 : Nat).log2 = 0 from rfl]; omega) (by omega) (by omega)
  refine fq_enc (c := c') (q := r') ?_ e2 e3 e4 (by omega) (by omega)
  rw [show FP.f2d x = FP.Core.f2d x from if_neg (by
    have : FP.Core.fIsNaN x = false := decide_eq_false (by rw [show FP.Core.decode FP.Core.b32 x.toNat = _ from a1]; exact FP.Core.Datum.noConfusion)
    rw [this]
    decide)]
  unfold FP.Core.f2d FP.Core.convert
  rw [show FP.Core.decode FP.Core.b32 x.toNat = _ from a1]
  show UInt64.ofNat (FP.Core.encode FP.Core.b64 (FP.Core.roundRatio _ _ _ 1 _)) = _
  rw [e1]
theorem kD_0 : kD false (-1021) FP.dconst0 := ⟨0, -1074, by decide +kernel, by decide, by decide, by decide, .inl rfl⟩
theorem kD.div12 {n : Int} {x : UInt64} (h : kD false n x) (h1 : n ≤ 1000 := by decide) (h2 : -1000 ≤ n := by decide) : kD false n (FP.ddiv x (4622945017495814144 : UInt64)) := by
  obtain ⟨c, q, a1, a2, a3, a4, -⟩ := h
  have b1 : gD 4622945017495814144 = .fin false 6755399441055744 (-49) := by decide +kernel
  have hc : c.log2 < 53 := fp_log a2 (by decide)
  obtain ⟨c', r', e1, e2, e3, e4⟩ := fq_round (s := false != false) (A := c) (B := 6755399441055744) (e := q - -49) (n := n) (by rw [show (6755399441055744 : Nat).log2 = 52 by decide +kernel]; omega) (by omega) (by omega)
  refine fq_enc (c := c') (q := r') ?_ e2 e3 e4 (by omega) (by omega)
  show FP.Core.ddiv x _ = _
  unfold FP.Core.ddiv FP.Core.div
  rw [show FP.Core.decode FP.Core.b64 x.toNat = _ from a1, show FP.Core.decode FP.Core.b64 (4622945017495814144 : UInt64).toNat = _ from b1]
  show UInt64.ofNat (FP.Core.encode FP.Core.b64 (FP.Core.quotient _ _ _)) = _
  unfold FP.Core.quotient
  dsimp only
  rw [if_neg (by decide), e1]
  rfl
/-- the sum of the first k, as doubles -/
def sumW (f : Nat → UInt32) : Nat → UInt64
  | 0 => FP.dconst0
  | k + 1 => FP.dadd (sumW f k) (FP.f2d (f k))
  termination_by k => k
theorem sumW_0 (f : Nat → UInt32) : sumW f 0 = FP.dconst0 := by rw [sumW]
theorem sumW_s (f : Nat → UInt32) (k : Nat) : sumW f (k + 1) = FP.dadd (sumW f k) (FP.f2d (f k)) := by rw [sumW]
theorem kD_sum {f : Nat → UInt32} (h : ∀ k, k < 12 → kd false 12 (f k)) : ∀ k : Nat, k ≤ 12 → kD false (13 + 2 * (k : Int)) (sumW f k)
  | 0, _ => by rw [sumW_0]; exact kD_0.up (by decide)
  | k + 1, hk => by
    rw [sumW_s]
    exact (kD.add (n := 13 + 2 * (k : Int)) (kD_sum h k (by omega)) ((kD_f2d (h k (by omega))).up (by omega)) (by omega) (by omega)).up (by omega)
def cntK (g : Nat → Int32) : Nat → Int32
  | 0 => 0
  | k + 1 => cntK g k + (if g (27 + k) = -1 then 0 else 1)
def cntB (g : Nat → Int32) : Nat → Int32
  | 0 => 0
  | k + 1 => cntB g k + (if g (70 + k) ≤ 0 then 0 else 1)
theorem acc_a {x : Int32} (h : x = 0 ∨ x = 1 ∨ x = 2) : vp_in x 112 := by
  rcases h with rfl | rfl | rfl
  · exact vi 0 (by decide) (by decide)
  · exact vi 1 (by decide) (by decide)
  · exact vi 2 (by decide) (by decide)
theorem acc_b {x : Int32} (h : x = 7 ∨ x = 8) : vp_in (((93 : Int32) + x) - (7 : Int32)) 112 := by
  rcases h with rfl | rfl
  · exact vi 93 (by decide) (by decide)
  · exact vi 94 (by decide) (by decide)
theorem fdiv12 {k : Nat} (h : k ≤ 12) : vf_n32 (FP.fdiv (FP.i2f (nI k)) (1094713344 : UInt32)) := by
  have key : ∀ j, j < 13 → (FP.fdiv (FP.i2f (nI j)) (1094713344 : UInt32)) &&& 0x7fffffff ≤ 0x7f800000 := by decide +kernel
  exact key k (by omega)
theorem cntD_le (g : Nat → Int32) : ∀ k, ∃ j, j ≤ k ∧ cntD g k = nI j
  | 0 => ⟨0, Nat.le_refl _, rfl⟩
  | k + 1 => by
    obtain ⟨j, h1, h2⟩ := cntD_le g k
    rw [cntD, h2]
    split
    · exact ⟨j, by omega, by show nI j + nI 0 = _; rw [nI_add]; rfl⟩
    · exact ⟨j + 1, by omega, (nI_succ j).symm⟩
theorem dug_nant {v : tw} {r : Int32} (h : r = T_plotsDug v) : vf_n32 (FP.fdiv (FP.i2f r) (1094713344 : UInt32)) := by
  obtain ⟨j, h1, h2⟩ := cntD_le (t0 v) 12
  rw [h, show T_plotsDug v = nI j from h2]
  exact fdiv12 h1
def T_crops (v : tw) : Int32 := cntK (t0 v) 12
set_option maxHeartbeats 4000000 in
theorem tm_crops (l : Launch) (E : mE) (h : Nat) (v : tw)   : Met l yX10_crops (ws_ yX10_crops cX10_crops 3 (some .int)) ({ frames := 0, cells := 0, slots := 0, locals := 0 }) (va_Pc [.ref h] (tP E h v)) (va_Qi (fun (r : Int32) (u : tw) => r = T_crops v  ∧ u = v) (fun u U => tW E h u U.heap) (eA E)) 0 0 (eA E) := by
  refine Met.ofW (cc := cX10_crops) (maxL := 3) (ret := (some .int)) (by decide) rfl ?_
  intro p e s m args below meth c s₁ B hml hv
  obtain ⟨rfl, hs, hm⟩ := hv
  have hx := B.exec
  have hb := B.bytes
  have hr := B.returns
  have hts := atoms_spec (ws := ws_ yX10_crops cX10_crops 3 (some .int)) B.pre
  have hts : ∀ w ∈ lw_all, w.before _ s = true := fun w h => hts w (List.mem_cons_of_mem _ h)
  have hown : s.vm.findClass RX10 = some m.cls := findClass_of_methodNamed B.named
  have hlocks := B.notSynchronized
  have hS : va_S (eA E) s.heap s.heap [] := va_S.rf
  have hl := lv_entry ([.ref h]) (n := 3) (Nat.le_of_ble_eq_true rfl)
  rw [lg_entry_eq]
  generalize (lg_sl ([.ref h]) ++ List.replicate (3 - (lg_sl ([.ref h])).length) Slot.unset).toArray = ls at hl ⊢
  have hl : lv_has ls 3 [(0, .ref (h))] := hl
  refine lv_iconst (v := (0 : Int32)) hx hb dX10_crops_0 (by decide) ?_
  refine lv_istore_n (lv' := [(1, _), (0, _)]) hx hb dX10_crops_1 rfl hl (by decide) rfl (fun ls hl => ?_)
  refine lv_iconst (v := (0 : Int32)) hx hb dX10_crops_2 (by decide) ?_
  refine lv_istore_n (lv' := [(2, _), (1, _), (0, _)]) hx hb dX10_crops_3 rfl hl (by decide) rfl (fun ls hl => ?_)
  refine k_loop (fun k => 12 - k) (fun (k : Nat) H locs ls => (k ≤ 12) ∧ tW E h (v) H ∧ va_S (eA E) s.heap H locs ∧ lv_has ls 3 [(2, .int (nI k)), (1, .int (cntK (t0 v) k)), (0, .ref (h))]) (fun (k : Nat) ls => F0 m 4 ls []) (fun k => (0, 0)) (fun k ih_1 H locs ls hP => ?_) (0) ⟨(by omega), hm, hS, lv_sub hl [0, 1, 2] rfl⟩
  obtain ⟨hI_1, hm, hS, hl⟩ := hP
  refine lv_iload_n hx hb dX10_crops_4 rfl (lv_at hl 0 rfl) ?_
  refine lv_bipush (v := (12 : Int32)) hx hb dX10_crops_5 (by decide) ?_
  refine lv_icmp_ge (tgt := 37) hx hb dX10_crops_7 (by decide) (fun c_2 => ?_) (fun c_2 => ?_)
  · refine lv_iload_n hx hb dX10_crops_37 rfl (lv_at hl 1 rfl) ?_
    obtain rfl : k = 12 := lp_ge (by decide) hI_1 c_2
    exact W.iret (v := _) hx hb hr (fun t9 ht9 _ => ⟨⟨_, _, rfl, ⟨(rfl).symm, rfl⟩, hb9 ht9 hm⟩, hS.F ht9⟩) hS.2.2 dX10_crops_38
  · have hk : k < 12 := lp_lt (by decide) hI_1 c_2
    refine lv_iload_n hx hb dX10_crops_10 rfl (lv_at hl 1 rfl) ?_
    refine lv_aload_n hx hb dX10_crops_11 rfl (lv_at hl 2 rfl) ?_
    refine tg_0 hx hb hts hown hs hm (hts _ q1674) dX10_crops_12 ?_
    refine lv_bipush (v := (27 : Int32)) hx hb dX10_crops_15 (by decide) ?_
    refine lv_iload_n hx hb dX10_crops_17 rfl (lv_at hl 0 rfl) ?_
    refine lv_iadd hx hb dX10_crops_18 ?_
    refine tl_0 hx hb hs hm (ix.add 27 112 (⟨k, hk, rfl⟩) (by decide) (by decide)) dX10_crops_19 ?_
    refine lv_iconst (v := (-1 : Int32)) hx hb dX10_crops_20 (by decide) ?_
    refine k_join (fun (x4 : Int32) H locs ls => x4 = (if (t0 v (((27 : Int32) + nI k)).toNatClampNeg) = (-1 : Int32) then (0 : Int32) else (1 : Int32)) ∧ tW E h (v) H ∧ va_S (eA E) s.heap H locs ∧ lv_has ls 3 [(2, .int (nI k)), (1, .int (cntK (t0 v) k)), (0, .ref (h))]) (fun (x4 : Int32) ls => F0 m 29 ls [.int (x4), .int (cntK (t0 v) k)]) (fun x4 H locs ls hJ => ?_) (fun J4 => ?_)
    · obtain ⟨hX4, hm, hS, hl⟩ := hJ
      refine lv_iadd hx hb dX10_crops_29 ?_
      refine lv_istore_n (lv' := [(1, _), (2, _), (0, _)]) hx hb dX10_crops_30 rfl hl (by decide) rfl (fun ls hl => ?_)
      refine lv_iinc (v := nI (k + 1)) (lv' := [(2, _), (1, _), (0, _)]) hx hb dX10_crops_31 hl (k := 1) rfl (nI_succ k).symm (by decide) rfl (fun ls hl => ?_)
      refine lv_goto (tgt := 4) hx hb dX10_crops_34 (by decide) ?_
      exact ih_1 (k + 1) (by omega) _ _ _ ⟨(by omega), hm, hS, (by rw [show cntK (t0 v) (k + 1) = (cntK (t0 v) k + x4) from by rw [hX4, show ((27 : Int32) + nI k).toNatClampNeg = 27 + k from cl_add 27 (by omega)]; rfl]; exact lv_sub hl [0, 1, 2] rfl)⟩
    · refine lv_icmp_ne (tgt := 28) hx hb dX10_crops_21 (by decide) (fun c_3 => ?_) (fun c_3 => ?_)
      · refine lv_iconst (v := (1 : Int32)) hx hb dX10_crops_28 (by decide) ?_
        exact J4 ((1 : Int32)) _ _ _ ⟨((if_neg c_3).trans (rfl)).symm, hm, hS, lv_sub hl [0, 1, 2] rfl⟩
      · refine lv_iconst (v := (0 : Int32)) hx hb dX10_crops_24 (by decide) ?_
        refine lv_goto (tgt := 29) hx hb dX10_crops_25 (by decide) ?_
        exact J4 ((0 : Int32)) _ _ _ ⟨((if_pos c_3).trans (rfl)).symm, hm, hS, lv_sub hl [0, 1, 2] rfl⟩
def T_onBenches (v : tw) : Int32 := cntB (t0 v) 10
set_option maxHeartbeats 4000000 in
theorem tm_onBenches (l : Launch) (E : mE) (h : Nat) (v : tw)   : Met l yX10_onBenches (ws_ yX10_onBenches cX10_onBenches 3 (some .int)) ({ frames := 0, cells := 0, slots := 0, locals := 0 }) (va_Pc [.ref h] (tP E h v)) (va_Qi (fun (r : Int32) (u : tw) => r = T_onBenches v  ∧ u = v) (fun u U => tW E h u U.heap) (eA E)) 0 0 (eA E) := by
  refine Met.ofW (cc := cX10_onBenches) (maxL := 3) (ret := (some .int)) (by decide) rfl ?_
  intro p e s m args below meth c s₁ B hml hv
  obtain ⟨rfl, hs, hm⟩ := hv
  have hx := B.exec
  have hb := B.bytes
  have hr := B.returns
  have hts := atoms_spec (ws := ws_ yX10_onBenches cX10_onBenches 3 (some .int)) B.pre
  have hts : ∀ w ∈ lw_all, w.before _ s = true := fun w h => hts w (List.mem_cons_of_mem _ h)
  have hown : s.vm.findClass RX10 = some m.cls := findClass_of_methodNamed B.named
  have hlocks := B.notSynchronized
  have hS : va_S (eA E) s.heap s.heap [] := va_S.rf
  have hl := lv_entry ([.ref h]) (n := 3) (Nat.le_of_ble_eq_true rfl)
  rw [lg_entry_eq]
  generalize (lg_sl ([.ref h]) ++ List.replicate (3 - (lg_sl ([.ref h])).length) Slot.unset).toArray = ls at hl ⊢
  have hl : lv_has ls 3 [(0, .ref (h))] := hl
  refine lv_iconst (v := (0 : Int32)) hx hb dX10_onBenches_0 (by decide) ?_
  refine lv_istore_n (lv' := [(1, _), (0, _)]) hx hb dX10_onBenches_1 rfl hl (by decide) rfl (fun ls hl => ?_)
  refine lv_iconst (v := (0 : Int32)) hx hb dX10_onBenches_2 (by decide) ?_
  refine lv_istore_n (lv' := [(2, _), (1, _), (0, _)]) hx hb dX10_onBenches_3 rfl hl (by decide) rfl (fun ls hl => ?_)
  refine k_loop (fun k => 10 - k) (fun (k : Nat) H locs ls => (k ≤ 10) ∧ tW E h (v) H ∧ va_S (eA E) s.heap H locs ∧ lv_has ls 3 [(2, .int (nI k)), (1, .int (cntB (t0 v) k)), (0, .ref (h))]) (fun (k : Nat) ls => F0 m 4 ls []) (fun k => (0, 0)) (fun k ih_1 H locs ls hP => ?_) (0) ⟨(by omega), hm, hS, lv_sub hl [0, 1, 2] rfl⟩
  obtain ⟨hI_1, hm, hS, hl⟩ := hP
  refine lv_iload_n hx hb dX10_onBenches_4 rfl (lv_at hl 0 rfl) ?_
  refine lv_bipush (v := (10 : Int32)) hx hb dX10_onBenches_5 (by decide) ?_
  refine lv_icmp_ge (tgt := 36) hx hb dX10_onBenches_7 (by decide) (fun c_2 => ?_) (fun c_2 => ?_)
  · refine lv_iload_n hx hb dX10_onBenches_36 rfl (lv_at hl 1 rfl) ?_
    obtain rfl : k = 10 := lp_ge (by decide) hI_1 c_2
    exact W.iret (v := _) hx hb hr (fun t9 ht9 _ => ⟨⟨_, _, rfl, ⟨(rfl).symm, rfl⟩, hb9 ht9 hm⟩, hS.F ht9⟩) hS.2.2 dX10_onBenches_37
  · have hk : k < 10 := lp_lt (by decide) hI_1 c_2
    refine lv_iload_n hx hb dX10_onBenches_10 rfl (lv_at hl 1 rfl) ?_
    refine lv_aload_n hx hb dX10_onBenches_11 rfl (lv_at hl 2 rfl) ?_
    refine tg_0 hx hb hts hown hs hm (hts _ q1674) dX10_onBenches_12 ?_
    refine lv_bipush (v := (70 : Int32)) hx hb dX10_onBenches_15 (by decide) ?_
    refine lv_iload_n hx hb dX10_onBenches_17 rfl (lv_at hl 0 rfl) ?_
    refine lv_iadd hx hb dX10_onBenches_18 ?_
    refine tl_0 hx hb hs hm (ix.add 70 112 (⟨k, hk, rfl⟩) (by decide) (by decide)) dX10_onBenches_19 ?_
    refine k_join (fun (x4 : Int32) H locs ls => x4 = (if (t0 v (((70 : Int32) + nI k)).toNatClampNeg) ≤ 0 then (0 : Int32) else (1 : Int32)) ∧ tW E h (v) H ∧ va_S (eA E) s.heap H locs ∧ lv_has ls 3 [(2, .int (nI k)), (1, .int (cntB (t0 v) k)), (0, .ref (h))]) (fun (x4 : Int32) ls => F0 m 28 ls [.int (x4), .int (cntB (t0 v) k)]) (fun x4 H locs ls hJ => ?_) (fun J4 => ?_)
    · obtain ⟨hX4, hm, hS, hl⟩ := hJ
      refine lv_iadd hx hb dX10_onBenches_28 ?_
      refine lv_istore_n (lv' := [(1, _), (2, _), (0, _)]) hx hb dX10_onBenches_29 rfl hl (by decide) rfl (fun ls hl => ?_)
      refine lv_iinc (v := nI (k + 1)) (lv' := [(2, _), (1, _), (0, _)]) hx hb dX10_onBenches_30 hl (k := 1) rfl (nI_succ k).symm (by decide) rfl (fun ls hl => ?_)
      refine lv_goto (tgt := 4) hx hb dX10_onBenches_33 (by decide) ?_
      exact ih_1 (k + 1) (by omega) _ _ _ ⟨(by omega), hm, hS, (by rw [show cntB (t0 v) (k + 1) = (cntB (t0 v) k + x4) from by rw [hX4, show ((70 : Int32) + nI k).toNatClampNeg = 70 + k from cl_add 70 (by omega)]; rfl]; exact lv_sub hl [0, 1, 2] rfl)⟩
    · refine lv_if_le (tgt := 27) hx hb dX10_onBenches_20 (by decide) (fun c_3 => ?_) (fun c_3 => ?_)
      · refine lv_iconst (v := (0 : Int32)) hx hb dX10_onBenches_27 (by decide) ?_
        exact J4 ((0 : Int32)) _ _ _ ⟨((if_pos c_3).trans (rfl)).symm, hm, hS, lv_sub hl [0, 1, 2] rfl⟩
      · refine lv_iconst (v := (1 : Int32)) hx hb dX10_onBenches_23 (by decide) ?_
        refine lv_goto (tgt := 28) hx hb dX10_onBenches_24 (by decide) ?_
        exact J4 ((1 : Int32)) _ _ _ ⟨((if_neg c_3).trans (rfl)).symm, hm, hS, lv_sub hl [0, 1, 2] rfl⟩
def T_account (v : tw) (x : Int32) : Int32 × tw :=
  if x = (0 : Int32) then
    ((t0 v (x).toNatClampNeg), (u18 v (0 : Int32)))
  else
    if x = (1 : Int32) then
      ((t0 v (x).toNatClampNeg), (u18 v (0 : Int32)))
    else
      if x = (2 : Int32) then
        ((t0 v (x).toNatClampNeg), (u18 v (0 : Int32)))
      else
        if x = (3 : Int32) then
          ((t0 v ((51 : Int32)).toNatClampNeg), (u18 v (0 : Int32)))
        else
          if x = (4 : Int32) then
            let r_20 := T_plotsDug v ;
            (r_20, (u18 v (0 : Int32)))
          else
            if x = (5 : Int32) then
              let r_22 := T_crops v ;
              (r_22, (u18 v (0 : Int32)))
            else
              if x = (6 : Int32) then
                let r_24 := T_onBenches v ;
                (r_24, (u18 v (0 : Int32)))
              else
                if x = (7 : Int32) then
                  ((t0 v ((((93 : Int32) + x) - (7 : Int32))).toNatClampNeg), (u18 v (0 : Int32)))
                else
                  if x = (8 : Int32) then
                    ((t0 v ((((93 : Int32) + x) - (7 : Int32))).toNatClampNeg), (u18 v (0 : Int32)))
                  else
                    if x = (9 : Int32) then
                      ((t0 v ((80 : Int32)).toNatClampNeg), (u18 v (0 : Int32)))
                    else
                      if x = (10 : Int32) then
                        let r_29 := T_sum v ((89 : Int32)) ((t0 v ((80 : Int32)).toNatClampNeg));
                        (r_29, (u18 v (0 : Int32)))
                      else
                        if x = (11 : Int32) then
                          let r_31 := T_sum v ((3 : Int32)) ((12 : Int32));
                          (r_31, (u18 v (0 : Int32)))
                        else
                          if x = (12 : Int32) then
                            ((t0 v ((95 : Int32)).toNatClampNeg), (u18 v (0 : Int32)))
                          else
                            if x = (13 : Int32) then
                              ((t13 v), (u18 v (0 : Int32)))
                            else
                              if x = (14 : Int32) then
                                ((t6 v), (u18 v (0 : Int32)))
                              else
                                ((0 : Int32), (T_fails v (1 : Int32)).2)
set_option maxHeartbeats 4000000 in
theorem tm_account (l : Launch) (E : mE) (h : Nat) (v : tw) (x : Int32) (hw : wf (t0 v) (t1 v)) : Met l yX10_account (ws_ yX10_account cX10_account 2 (some .int)) ({ frames := 1, cells := 0, slots := 0, locals := 24 }) (va_Pc [.ref h, .int x] (tP E h v)) (va_Qi (fun (r : Int32) (u : tw) => r = (T_account v x).1 ∧ u = (T_account v x).2) (fun u U => tW E h u U.heap) (eA E)) 0 0 (eA E) := by
  refine Met.ofW (cc := cX10_account) (maxL := 2) (ret := (some .int)) (by decide) rfl ?_
  intro p e s m args below meth c s₁ B hml hv
  obtain ⟨rfl, hs, hm⟩ := hv
  have hx := B.exec
  have hb := B.bytes
  have hr := B.returns
  have hts := atoms_spec (ws := ws_ yX10_account cX10_account 2 (some .int)) B.pre
  have hts : ∀ w ∈ lw_all, w.before _ s = true := fun w h => hts w (List.mem_cons_of_mem _ h)
  have hown : s.vm.findClass RX10 = some m.cls := findClass_of_methodNamed B.named
  have hlocks := B.notSynchronized
  have hS : va_S (eA E) s.heap s.heap [] := va_S.rf
  have hl := lv_entry ([.ref h, .int x]) (n := 2) (Nat.le_of_ble_eq_true rfl)
  rw [lg_entry_eq]
  generalize (lg_sl ([.ref h, .int x]) ++ List.replicate (2 - (lg_sl ([.ref h, .int x])).length) Slot.unset).toArray = ls at hl ⊢
  have hl : lv_has ls 2 [(0, .ref (h)), (1, .int (x))] := hl
  refine lv_iload_n hx hb dX10_account_0 rfl (lv_at hl 1 rfl) ?_
  by_cases c_1 : x = (0 : Int32)
  · refine lv_tableIn (off := 75) (tgt := 76) hx hb dX10_account_1 (by rw [c_1]; decide) (by rw [c_1]; decide) (by rw [c_1]; rfl) (by decide) ?_
    refine lv_aload_n hx hb dX10_account_76 rfl (lv_at hl 0 rfl) ?_
    refine lv_aload_n hx hb dX10_account_77 rfl (lv_at hl 0 rfl) ?_
    refine tg_0 hx hb hts hown hs hm (hts _ q1674) dX10_account_78 ?_
    refine lv_iload_n hx hb dX10_account_81 rfl (lv_at hl 1 rfl) ?_
    refine tl_0 hx hb hs hm (acc_a (by first | exact .inl c_1 | exact .inr (.inl c_1) | exact .inr (.inr c_1))) dX10_account_82 ?_
    refine k_calli (va_runV (As := [.int ((t0 v (x).toNatClampNeg))]) (rest := []) ⟨hx, hb, hml, hown, hts⟩ (tm_done l E h v ((t0 v (x).toNatClampNeg)) ) (cwV 1 hts (lw_V q1770 q1772 qs24 q80 q1773) rfl rfl rfl (by decide +kernel) ⟨Nat.le_of_ble_eq_true rfl, Nat.le_of_ble_eq_true rfl⟩) (k_preVt hs hm hS) rfl rfl hl.1 rfl (lv_room (Nat.le_of_ble_eq_true rfl)) dX10_account_83 ⟨Nat.le_of_ble_eq_true rfl, Nat.le_of_ble_eq_true rfl⟩) hS (fun r_16 u_16 H9 locs hw_16 hm_16 hS => ?_)
    replace hw_16 : r_16 = (t0 v (x).toNatClampNeg) ∧ u_16 = (u18 v (0 : Int32)) := hw_16
    obtain ⟨hr_16, hw_16⟩ := hw_16
    replace hr_16 := hr_16.symm
    subst hr_16
    replace hw_16 := hw_16.symm
    subst hw_16
    have hm := hm_16
    exact W.iret (v := _) hx hb hr (fun t9 ht9 _ => ⟨⟨_, _, rfl, pp ((if_pos c_1).trans (rfl)), hb9 ht9 hm⟩, hS.F ht9⟩) hS.2.2 dX10_account_86
  · by_cases c_2 : x = (1 : Int32)
    · refine lv_tableIn (off := 75) (tgt := 76) hx hb dX10_account_1 (by rw [c_2]; decide) (by rw [c_2]; decide) (by rw [c_2]; rfl) (by decide) ?_
      refine lv_aload_n hx hb dX10_account_76 rfl (lv_at hl 0 rfl) ?_
      refine lv_aload_n hx hb dX10_account_77 rfl (lv_at hl 0 rfl) ?_
      refine tg_0 hx hb hts hown hs hm (hts _ q1674) dX10_account_78 ?_
      refine lv_iload_n hx hb dX10_account_81 rfl (lv_at hl 1 rfl) ?_
      refine tl_0 hx hb hs hm (acc_a (by first | exact .inl c_2 | exact .inr (.inl c_2) | exact .inr (.inr c_2))) dX10_account_82 ?_
      refine k_calli (va_runV (As := [.int ((t0 v (x).toNatClampNeg))]) (rest := []) ⟨hx, hb, hml, hown, hts⟩ (tm_done l E h v ((t0 v (x).toNatClampNeg)) ) (cwV 1 hts (lw_V q1770 q1772 qs24 q80 q1773) rfl rfl rfl (by decide +kernel) ⟨Nat.le_of_ble_eq_true rfl, Nat.le_of_ble_eq_true rfl⟩) (k_preVt hs hm hS) rfl rfl hl.1 rfl (lv_room (Nat.le_of_ble_eq_true rfl)) dX10_account_83 ⟨Nat.le_of_ble_eq_true rfl, Nat.le_of_ble_eq_true rfl⟩) hS (fun r_17 u_17 H9 locs hw_17 hm_17 hS => ?_)
      replace hw_17 : r_17 = (t0 v (x).toNatClampNeg) ∧ u_17 = (u18 v (0 : Int32)) := hw_17
      obtain ⟨hr_17, hw_17⟩ := hw_17
      replace hr_17 := hr_17.symm
      subst hr_17
      replace hw_17 := hw_17.symm
      subst hw_17
      have hm := hm_17
      exact W.iret (v := _) hx hb hr (fun t9 ht9 _ => ⟨⟨_, _, rfl, pp ((if_neg c_1).trans ((if_pos c_2).trans (rfl))), hb9 ht9 hm⟩, hS.F ht9⟩) hS.2.2 dX10_account_86
    · by_cases c_3 : x = (2 : Int32)
      · refine lv_tableIn (off := 75) (tgt := 76) hx hb dX10_account_1 (by rw [c_3]; decide) (by rw [c_3]; decide) (by rw [c_3]; rfl) (by decide) ?_
        refine lv_aload_n hx hb dX10_account_76 rfl (lv_at hl 0 rfl) ?_
        refine lv_aload_n hx hb dX10_account_77 rfl (lv_at hl 0 rfl) ?_
        refine tg_0 hx hb hts hown hs hm (hts _ q1674) dX10_account_78 ?_
        refine lv_iload_n hx hb dX10_account_81 rfl (lv_at hl 1 rfl) ?_
        refine tl_0 hx hb hs hm (acc_a (by first | exact .inl c_3 | exact .inr (.inl c_3) | exact .inr (.inr c_3))) dX10_account_82 ?_
        refine k_calli (va_runV (As := [.int ((t0 v (x).toNatClampNeg))]) (rest := []) ⟨hx, hb, hml, hown, hts⟩ (tm_done l E h v ((t0 v (x).toNatClampNeg)) ) (cwV 1 hts (lw_V q1770 q1772 qs24 q80 q1773) rfl rfl rfl (by decide +kernel) ⟨Nat.le_of_ble_eq_true rfl, Nat.le_of_ble_eq_true rfl⟩) (k_preVt hs hm hS) rfl rfl hl.1 rfl (lv_room (Nat.le_of_ble_eq_true rfl)) dX10_account_83 ⟨Nat.le_of_ble_eq_true rfl, Nat.le_of_ble_eq_true rfl⟩) hS (fun r_18 u_18 H9 locs hw_18 hm_18 hS => ?_)
        replace hw_18 : r_18 = (t0 v (x).toNatClampNeg) ∧ u_18 = (u18 v (0 : Int32)) := hw_18
        obtain ⟨hr_18, hw_18⟩ := hw_18
        replace hr_18 := hr_18.symm
        subst hr_18
        replace hw_18 := hw_18.symm
        subst hw_18
        have hm := hm_18
        exact W.iret (v := _) hx hb hr (fun t9 ht9 _ => ⟨⟨_, _, rfl, pp ((if_neg c_1).trans ((if_neg c_2).trans ((if_pos c_3).trans (rfl)))), hb9 ht9 hm⟩, hS.F ht9⟩) hS.2.2 dX10_account_86
      · by_cases c_4 : x = (3 : Int32)
        · refine lv_tableIn (off := 86) (tgt := 87) hx hb dX10_account_1 (by rw [c_4]; decide) (by rw [c_4]; decide) (by rw [c_4]; rfl) (by decide) ?_
          refine lv_aload_n hx hb dX10_account_87 rfl (lv_at hl 0 rfl) ?_
          refine lv_aload_n hx hb dX10_account_88 rfl (lv_at hl 0 rfl) ?_
          refine tg_0 hx hb hts hown hs hm (hts _ q1674) dX10_account_89 ?_
          refine lv_bipush (v := (51 : Int32)) hx hb dX10_account_92 (by decide) ?_
          refine tl_0 hx hb hs hm (vi 51 (by decide) (by decide)) dX10_account_94 ?_
          refine k_calli (va_runV (As := [.int ((t0 v ((51 : Int32)).toNatClampNeg))]) (rest := []) ⟨hx, hb, hml, hown, hts⟩ (tm_done l E h v ((t0 v ((51 : Int32)).toNatClampNeg)) ) (cwV 1 hts (lw_V q1770 q1772 qs24 q80 q1773) rfl rfl rfl (by decide +kernel) ⟨Nat.le_of_ble_eq_true rfl, Nat.le_of_ble_eq_true rfl⟩) (k_preVt hs hm hS) rfl rfl hl.1 rfl (lv_room (Nat.le_of_ble_eq_true rfl)) dX10_account_95 ⟨Nat.le_of_ble_eq_true rfl, Nat.le_of_ble_eq_true rfl⟩) hS (fun r_19 u_19 H9 locs hw_19 hm_19 hS => ?_)
          replace hw_19 : r_19 = (t0 v ((51 : Int32)).toNatClampNeg) ∧ u_19 = (u18 v (0 : Int32)) := hw_19
          obtain ⟨hr_19, hw_19⟩ := hw_19
          replace hr_19 := hr_19.symm
          subst hr_19
          replace hw_19 := hw_19.symm
          subst hw_19
          have hm := hm_19
          exact W.iret (v := _) hx hb hr (fun t9 ht9 _ => ⟨⟨_, _, rfl, pp ((if_neg c_1).trans ((if_neg c_2).trans ((if_neg c_3).trans ((if_pos c_4).trans (rfl))))), hb9 ht9 hm⟩, hS.F ht9⟩) hS.2.2 dX10_account_98
        · by_cases c_5 : x = (4 : Int32)
          · refine lv_tableIn (off := 98) (tgt := 99) hx hb dX10_account_1 (by rw [c_5]; decide) (by rw [c_5]; decide) (by rw [c_5]; rfl) (by decide) ?_
            refine lv_aload_n hx hb dX10_account_99 rfl (lv_at hl 0 rfl) ?_
            refine lv_aload_n hx hb dX10_account_100 rfl (lv_at hl 0 rfl) ?_
            refine k_calli (va_runV (As := []) (rest := [.ref (h)]) ⟨hx, hb, hml, hown, hts⟩ (tm_plotsDug l E h v  ) (cwV 0 hts (lw_V q1809 q1811 qs30 q80 q1812) rfl rfl rfl (by decide +kernel) ⟨Nat.le_of_ble_eq_true rfl, Nat.le_of_ble_eq_true rfl⟩) (k_preVt hs hm hS) rfl rfl hl.1 rfl (lv_room (Nat.le_of_ble_eq_true rfl)) dX10_account_101 ⟨Nat.le_of_ble_eq_true rfl, Nat.le_of_ble_eq_true rfl⟩) hS (fun r_20 u_20 H9 locs hw_20 hm_20 hS => ?_)
            obtain ⟨hr_20, hu_20⟩ := hw_20
            replace hu_20 := hu_20.symm
            subst hu_20
            have hm := hm_20
            refine k_calli (va_runV (As := [.int (r_20)]) (rest := []) ⟨hx, hb, hml, hown, hts⟩ (tm_done l E h v (r_20) ) (cwV 1 hts (lw_V q1770 q1772 qs24 q80 q1773) rfl rfl rfl (by decide +kernel) ⟨Nat.le_of_ble_eq_true rfl, Nat.le_of_ble_eq_true rfl⟩) (k_preVt hs hm hS) rfl rfl hl.1 rfl (lv_room (Nat.le_of_ble_eq_true rfl)) dX10_account_104 ⟨Nat.le_of_ble_eq_true rfl, Nat.le_of_ble_eq_true rfl⟩) hS (fun r_21 u_21 H9 locs hw_21 hm_21 hS => ?_)
            replace hw_21 : r_21 = r_20 ∧ u_21 = (u18 v (0 : Int32)) := hw_21
            obtain ⟨hr_21, hw_21⟩ := hw_21
            replace hr_21 := hr_21.symm
            subst hr_21
            replace hw_21 := hw_21.symm
            subst hw_21
            have hm := hm_21
            subst hr_20
            exact W.iret (v := _) hx hb hr (fun t9 ht9 _ => ⟨⟨_, _, rfl, pp ((if_neg c_1).trans ((if_neg c_2).trans ((if_neg c_3).trans ((if_neg c_4).trans ((if_pos c_5).trans (rfl)))))), hb9 ht9 hm⟩, hS.F ht9⟩) hS.2.2 dX10_account_107
          · by_cases c_6 : x = (5 : Int32)
            · refine lv_tableIn (off := 107) (tgt := 108) hx hb dX10_account_1 (by rw [c_6]; decide) (by rw [c_6]; decide) (by rw [c_6]; rfl) (by decide) ?_
              refine lv_aload_n hx hb dX10_account_108 rfl (lv_at hl 0 rfl) ?_
              refine lv_aload_n hx hb dX10_account_109 rfl (lv_at hl 0 rfl) ?_
              refine k_calli (va_runV (As := []) (rest := [.ref (h)]) ⟨hx, hb, hml, hown, hts⟩ (tm_crops l E h v  ) (cwV 0 hts (lw_V q2053 q2055 qs55 q80 q2056) rfl rfl rfl (by decide +kernel) ⟨Nat.le_of_ble_eq_true rfl, Nat.le_of_ble_eq_true rfl⟩) (k_preVt hs hm hS) rfl rfl hl.1 rfl (lv_room (Nat.le_of_ble_eq_true rfl)) dX10_account_110 ⟨Nat.le_of_ble_eq_true rfl, Nat.le_of_ble_eq_true rfl⟩) hS (fun r_22 u_22 H9 locs hw_22 hm_22 hS => ?_)
              obtain ⟨hr_22, hu_22⟩ := hw_22
              replace hu_22 := hu_22.symm
              subst hu_22
              have hm := hm_22
              refine k_calli (va_runV (As := [.int (r_22)]) (rest := []) ⟨hx, hb, hml, hown, hts⟩ (tm_done l E h v (r_22) ) (cwV 1 hts (lw_V q1770 q1772 qs24 q80 q1773) rfl rfl rfl (by decide +kernel) ⟨Nat.le_of_ble_eq_true rfl, Nat.le_of_ble_eq_true rfl⟩) (k_preVt hs hm hS) rfl rfl hl.1 rfl (lv_room (Nat.le_of_ble_eq_true rfl)) dX10_account_113 ⟨Nat.le_of_ble_eq_true rfl, Nat.le_of_ble_eq_true rfl⟩) hS (fun r_23 u_23 H9 locs hw_23 hm_23 hS => ?_)
              replace hw_23 : r_23 = r_22 ∧ u_23 = (u18 v (0 : Int32)) := hw_23
              obtain ⟨hr_23, hw_23⟩ := hw_23
              replace hr_23 := hr_23.symm
              subst hr_23
              replace hw_23 := hw_23.symm
              subst hw_23
              have hm := hm_23
              subst hr_22
              exact W.iret (v := _) hx hb hr (fun t9 ht9 _ => ⟨⟨_, _, rfl, pp ((if_neg c_1).trans ((if_neg c_2).trans ((if_neg c_3).trans ((if_neg c_4).trans ((if_neg c_5).trans ((if_pos c_6).trans (rfl))))))), hb9 ht9 hm⟩, hS.F ht9⟩) hS.2.2 dX10_account_116
            · by_cases c_7 : x = (6 : Int32)
              · refine lv_tableIn (off := 116) (tgt := 117) hx hb dX10_account_1 (by rw [c_7]; decide) (by rw [c_7]; decide) (by rw [c_7]; rfl) (by decide) ?_
                refine lv_aload_n hx hb dX10_account_117 rfl (lv_at hl 0 rfl) ?_
                refine lv_aload_n hx hb dX10_account_118 rfl (lv_at hl 0 rfl) ?_
                refine k_calli (va_runV (As := []) (rest := [.ref (h)]) ⟨hx, hb, hml, hown, hts⟩ (tm_onBenches l E h v  ) (cwV 0 hts (lw_V q2057 q2059 qs56 q80 q2060) rfl rfl rfl (by decide +kernel) ⟨Nat.le_of_ble_eq_true rfl, Nat.le_of_ble_eq_true rfl⟩) (k_preVt hs hm hS) rfl rfl hl.1 rfl (lv_room (Nat.le_of_ble_eq_true rfl)) dX10_account_119 ⟨Nat.le_of_ble_eq_true rfl, Nat.le_of_ble_eq_true rfl⟩) hS (fun r_24 u_24 H9 locs hw_24 hm_24 hS => ?_)
                obtain ⟨hr_24, hu_24⟩ := hw_24
                replace hu_24 := hu_24.symm
                subst hu_24
                have hm := hm_24
                refine k_calli (va_runV (As := [.int (r_24)]) (rest := []) ⟨hx, hb, hml, hown, hts⟩ (tm_done l E h v (r_24) ) (cwV 1 hts (lw_V q1770 q1772 qs24 q80 q1773) rfl rfl rfl (by decide +kernel) ⟨Nat.le_of_ble_eq_true rfl, Nat.le_of_ble_eq_true rfl⟩) (k_preVt hs hm hS) rfl rfl hl.1 rfl (lv_room (Nat.le_of_ble_eq_true rfl)) dX10_account_122 ⟨Nat.le_of_ble_eq_true rfl, Nat.le_of_ble_eq_true rfl⟩) hS (fun r_25 u_25 H9 locs hw_25 hm_25 hS => ?_)
                replace hw_25 : r_25 = r_24 ∧ u_25 = (u18 v (0 : Int32)) := hw_25
                obtain ⟨hr_25, hw_25⟩ := hw_25
                replace hr_25 := hr_25.symm
                subst hr_25
                replace hw_25 := hw_25.symm
                subst hw_25
                have hm := hm_25
                subst hr_24
                exact W.iret (v := _) hx hb hr (fun t9 ht9 _ => ⟨⟨_, _, rfl, pp ((if_neg c_1).trans ((if_neg c_2).trans ((if_neg c_3).trans ((if_neg c_4).trans ((if_neg c_5).trans ((if_neg c_6).trans ((if_pos c_7).trans (rfl)))))))), hb9 ht9 hm⟩, hS.F ht9⟩) hS.2.2 dX10_account_125
              · by_cases c_8 : x = (7 : Int32)
                · refine lv_tableIn (off := 125) (tgt := 126) hx hb dX10_account_1 (by rw [c_8]; decide) (by rw [c_8]; decide) (by rw [c_8]; rfl) (by decide) ?_
                  refine lv_aload_n hx hb dX10_account_126 rfl (lv_at hl 0 rfl) ?_
                  refine lv_aload_n hx hb dX10_account_127 rfl (lv_at hl 0 rfl) ?_
                  refine tg_0 hx hb hts hown hs hm (hts _ q1674) dX10_account_128 ?_
                  refine lv_bipush (v := (93 : Int32)) hx hb dX10_account_131 (by decide) ?_
                  refine lv_iload_n hx hb dX10_account_133 rfl (lv_at hl 1 rfl) ?_
                  refine lv_iadd hx hb dX10_account_134 ?_
                  refine lv_bipush (v := (7 : Int32)) hx hb dX10_account_135 (by decide) ?_
                  refine lv_isub hx hb dX10_account_137 ?_
                  refine tl_0 hx hb hs hm (acc_b (by first | exact .inl c_8 | exact .inr c_8)) dX10_account_138 ?_
                  refine k_calli (va_runV (As := [.int ((t0 v ((((93 : Int32) + x) - (7 : Int32))).toNatClampNeg))]) (rest := []) ⟨hx, hb, hml, hown, hts⟩ (tm_done l E h v ((t0 v ((((93 : Int32) + x) - (7 : Int32))).toNatClampNeg)) ) (cwV 1 hts (lw_V q1770 q1772 qs24 q80 q1773) rfl rfl rfl (by decide +kernel) ⟨Nat.le_of_ble_eq_true rfl, Nat.le_of_ble_eq_true rfl⟩) (k_preVt hs hm hS) rfl rfl hl.1 rfl (lv_room (Nat.le_of_ble_eq_true rfl)) dX10_account_139 ⟨Nat.le_of_ble_eq_true rfl, Nat.le_of_ble_eq_true rfl⟩) hS (fun r_26 u_26 H9 locs hw_26 hm_26 hS => ?_)
                  replace hw_26 : r_26 = (t0 v ((((93 : Int32) + x) - (7 : Int32))).toNatClampNeg) ∧ u_26 = (u18 v (0 : Int32)) := hw_26
                  obtain ⟨hr_26, hw_26⟩ := hw_26
                  replace hr_26 := hr_26.symm
                  subst hr_26
                  replace hw_26 := hw_26.symm
                  subst hw_26
                  have hm := hm_26
                  exact W.iret (v := _) hx hb hr (fun t9 ht9 _ => ⟨⟨_, _, rfl, pp ((if_neg c_1).trans ((if_neg c_2).trans ((if_neg c_3).trans ((if_neg c_4).trans ((if_neg c_5).trans ((if_neg c_6).trans ((if_neg c_7).trans ((if_pos c_8).trans (rfl))))))))), hb9 ht9 hm⟩, hS.F ht9⟩) hS.2.2 dX10_account_142
                · by_cases c_9 : x = (8 : Int32)
                  · refine lv_tableIn (off := 125) (tgt := 126) hx hb dX10_account_1 (by rw [c_9]; decide) (by rw [c_9]; decide) (by rw [c_9]; rfl) (by decide) ?_
                    refine lv_aload_n hx hb dX10_account_126 rfl (lv_at hl 0 rfl) ?_
                    refine lv_aload_n hx hb dX10_account_127 rfl (lv_at hl 0 rfl) ?_
                    refine tg_0 hx hb hts hown hs hm (hts _ q1674) dX10_account_128 ?_
                    refine lv_bipush (v := (93 : Int32)) hx hb dX10_account_131 (by decide) ?_
                    refine lv_iload_n hx hb dX10_account_133 rfl (lv_at hl 1 rfl) ?_
                    refine lv_iadd hx hb dX10_account_134 ?_
                    refine lv_bipush (v := (7 : Int32)) hx hb dX10_account_135 (by decide) ?_
                    refine lv_isub hx hb dX10_account_137 ?_
                    refine tl_0 hx hb hs hm (acc_b (by first | exact .inl c_9 | exact .inr c_9)) dX10_account_138 ?_
                    refine k_calli (va_runV (As := [.int ((t0 v ((((93 : Int32) + x) - (7 : Int32))).toNatClampNeg))]) (rest := []) ⟨hx, hb, hml, hown, hts⟩ (tm_done l E h v ((t0 v ((((93 : Int32) + x) - (7 : Int32))).toNatClampNeg)) ) (cwV 1 hts (lw_V q1770 q1772 qs24 q80 q1773) rfl rfl rfl (by decide +kernel) ⟨Nat.le_of_ble_eq_true rfl, Nat.le_of_ble_eq_true rfl⟩) (k_preVt hs hm hS) rfl rfl hl.1 rfl (lv_room (Nat.le_of_ble_eq_true rfl)) dX10_account_139 ⟨Nat.le_of_ble_eq_true rfl, Nat.le_of_ble_eq_true rfl⟩) hS (fun r_27 u_27 H9 locs hw_27 hm_27 hS => ?_)
                    replace hw_27 : r_27 = (t0 v ((((93 : Int32) + x) - (7 : Int32))).toNatClampNeg) ∧ u_27 = (u18 v (0 : Int32)) := hw_27
                    obtain ⟨hr_27, hw_27⟩ := hw_27
                    replace hr_27 := hr_27.symm
                    subst hr_27
                    replace hw_27 := hw_27.symm
                    subst hw_27
                    have hm := hm_27
                    exact W.iret (v := _) hx hb hr (fun t9 ht9 _ => ⟨⟨_, _, rfl, pp ((if_neg c_1).trans ((if_neg c_2).trans ((if_neg c_3).trans ((if_neg c_4).trans ((if_neg c_5).trans ((if_neg c_6).trans ((if_neg c_7).trans ((if_neg c_8).trans ((if_pos c_9).trans (rfl)))))))))), hb9 ht9 hm⟩, hS.F ht9⟩) hS.2.2 dX10_account_142
                  · by_cases c_10 : x = (9 : Int32)
                    · refine lv_tableIn (off := 142) (tgt := 143) hx hb dX10_account_1 (by rw [c_10]; decide) (by rw [c_10]; decide) (by rw [c_10]; rfl) (by decide) ?_
                      refine lv_aload_n hx hb dX10_account_143 rfl (lv_at hl 0 rfl) ?_
                      refine lv_aload_n hx hb dX10_account_144 rfl (lv_at hl 0 rfl) ?_
                      refine tg_0 hx hb hts hown hs hm (hts _ q1674) dX10_account_145 ?_
                      refine lv_bipush (v := (80 : Int32)) hx hb dX10_account_148 (by decide) ?_
                      refine tl_0 hx hb hs hm (vi 80 (by decide) (by decide)) dX10_account_150 ?_
                      refine k_calli (va_runV (As := [.int ((t0 v ((80 : Int32)).toNatClampNeg))]) (rest := []) ⟨hx, hb, hml, hown, hts⟩ (tm_done l E h v ((t0 v ((80 : Int32)).toNatClampNeg)) ) (cwV 1 hts (lw_V q1770 q1772 qs24 q80 q1773) rfl rfl rfl (by decide +kernel) ⟨Nat.le_of_ble_eq_true rfl, Nat.le_of_ble_eq_true rfl⟩) (k_preVt hs hm hS) rfl rfl hl.1 rfl (lv_room (Nat.le_of_ble_eq_true rfl)) dX10_account_151 ⟨Nat.le_of_ble_eq_true rfl, Nat.le_of_ble_eq_true rfl⟩) hS (fun r_28 u_28 H9 locs hw_28 hm_28 hS => ?_)
                      replace hw_28 : r_28 = (t0 v ((80 : Int32)).toNatClampNeg) ∧ u_28 = (u18 v (0 : Int32)) := hw_28
                      obtain ⟨hr_28, hw_28⟩ := hw_28
                      replace hr_28 := hr_28.symm
                      subst hr_28
                      replace hw_28 := hw_28.symm
                      subst hw_28
                      have hm := hm_28
                      exact W.iret (v := _) hx hb hr (fun t9 ht9 _ => ⟨⟨_, _, rfl, pp ((if_neg c_1).trans ((if_neg c_2).trans ((if_neg c_3).trans ((if_neg c_4).trans ((if_neg c_5).trans ((if_neg c_6).trans ((if_neg c_7).trans ((if_neg c_8).trans ((if_neg c_9).trans ((if_pos c_10).trans (rfl))))))))))), hb9 ht9 hm⟩, hS.F ht9⟩) hS.2.2 dX10_account_154
                    · by_cases c_11 : x = (10 : Int32)
                      · refine lv_tableIn (off := 154) (tgt := 155) hx hb dX10_account_1 (by rw [c_11]; decide) (by rw [c_11]; decide) (by rw [c_11]; rfl) (by decide) ?_
                        refine lv_aload_n hx hb dX10_account_155 rfl (lv_at hl 0 rfl) ?_
                        refine lv_aload_n hx hb dX10_account_156 rfl (lv_at hl 0 rfl) ?_
                        refine lv_bipush (v := (89 : Int32)) hx hb dX10_account_157 (by decide) ?_
                        refine lv_aload_n hx hb dX10_account_159 rfl (lv_at hl 0 rfl) ?_
                        refine tg_0 hx hb hts hown hs hm (hts _ q1674) dX10_account_160 ?_
                        refine lv_bipush (v := (80 : Int32)) hx hb dX10_account_163 (by decide) ?_
                        refine tl_0 hx hb hs hm (vi 80 (by decide) (by decide)) dX10_account_165 ?_
                        refine k_calli (va_runV (As := [.int ((89 : Int32)), .int ((t0 v ((80 : Int32)).toNatClampNeg))]) (rest := [.ref (h)]) ⟨hx, hb, hml, hown, hts⟩ (tm_sum l E h v ((89 : Int32)) ((t0 v ((80 : Int32)).toNatClampNeg)) 89 5 rfl (hw.shd) (by decide)) (cwV 2 hts (lw_V q1978 q1980 qs45 q80 q1981) rfl rfl rfl (by decide +kernel) ⟨Nat.le_of_ble_eq_true rfl, Nat.le_of_ble_eq_true rfl⟩) (k_preVt hs hm hS) rfl rfl hl.1 rfl (lv_room (Nat.le_of_ble_eq_true rfl)) dX10_account_166 ⟨Nat.le_of_ble_eq_true rfl, Nat.le_of_ble_eq_true rfl⟩) hS (fun r_29 u_29 H9 locs hw_29 hm_29 hS => ?_)
                        obtain ⟨hr_29, hu_29⟩ := hw_29
                        replace hu_29 := hu_29.symm
                        subst hu_29
                        have hm := hm_29
                        refine k_calli (va_runV (As := [.int (r_29)]) (rest := []) ⟨hx, hb, hml, hown, hts⟩ (tm_done l E h v (r_29) ) (cwV 1 hts (lw_V q1770 q1772 qs24 q80 q1773) rfl rfl rfl (by decide +kernel) ⟨Nat.le_of_ble_eq_true rfl, Nat.le_of_ble_eq_true rfl⟩) (k_preVt hs hm hS) rfl rfl hl.1 rfl (lv_room (Nat.le_of_ble_eq_true rfl)) dX10_account_169 ⟨Nat.le_of_ble_eq_true rfl, Nat.le_of_ble_eq_true rfl⟩) hS (fun r_30 u_30 H9 locs hw_30 hm_30 hS => ?_)
                        replace hw_30 : r_30 = r_29 ∧ u_30 = (u18 v (0 : Int32)) := hw_30
                        obtain ⟨hr_30, hw_30⟩ := hw_30
                        replace hr_30 := hr_30.symm
                        subst hr_30
                        replace hw_30 := hw_30.symm
                        subst hw_30
                        have hm := hm_30
                        subst hr_29
                        exact W.iret (v := _) hx hb hr (fun t9 ht9 _ => ⟨⟨_, _, rfl, pp ((if_neg c_1).trans ((if_neg c_2).trans ((if_neg c_3).trans ((if_neg c_4).trans ((if_neg c_5).trans ((if_neg c_6).trans ((if_neg c_7).trans ((if_neg c_8).trans ((if_neg c_9).trans ((if_neg c_10).trans ((if_pos c_11).trans (rfl)))))))))))), hb9 ht9 hm⟩, hS.F ht9⟩) hS.2.2 dX10_account_172
                      · by_cases c_12 : x = (11 : Int32)
                        · refine lv_tableIn (off := 172) (tgt := 173) hx hb dX10_account_1 (by rw [c_12]; decide) (by rw [c_12]; decide) (by rw [c_12]; rfl) (by decide) ?_
                          refine lv_aload_n hx hb dX10_account_173 rfl (lv_at hl 0 rfl) ?_
                          refine lv_aload_n hx hb dX10_account_174 rfl (lv_at hl 0 rfl) ?_
                          refine lv_iconst (v := (3 : Int32)) hx hb dX10_account_175 (by decide) ?_
                          refine lv_bipush (v := (12 : Int32)) hx hb dX10_account_176 (by decide) ?_
                          refine k_calli (va_runV (As := [.int ((3 : Int32)), .int ((12 : Int32))]) (rest := [.ref (h)]) ⟨hx, hb, hml, hown, hts⟩ (tm_sum l E h v ((3 : Int32)) ((12 : Int32)) 3 13 rfl ⟨12, by decide, rfl⟩ (by decide)) (cwV 2 hts (lw_V q1978 q1980 qs45 q80 q1981) rfl rfl rfl (by decide +kernel) ⟨Nat.le_of_ble_eq_true rfl, Nat.le_of_ble_eq_true rfl⟩) (k_preVt hs hm hS) rfl rfl hl.1 rfl (lv_room (Nat.le_of_ble_eq_true rfl)) dX10_account_178 ⟨Nat.le_of_ble_eq_true rfl, Nat.le_of_ble_eq_true rfl⟩) hS (fun r_31 u_31 H9 locs hw_31 hm_31 hS => ?_)
                          obtain ⟨hr_31, hu_31⟩ := hw_31
                          replace hu_31 := hu_31.symm
                          subst hu_31
                          have hm := hm_31
                          refine k_calli (va_runV (As := [.int (r_31)]) (rest := []) ⟨hx, hb, hml, hown, hts⟩ (tm_done l E h v (r_31) ) (cwV 1 hts (lw_V q1770 q1772 qs24 q80 q1773) rfl rfl rfl (by decide +kernel) ⟨Nat.le_of_ble_eq_true rfl, Nat.le_of_ble_eq_true rfl⟩) (k_preVt hs hm hS) rfl rfl hl.1 rfl (lv_room (Nat.le_of_ble_eq_true rfl)) dX10_account_181 ⟨Nat.le_of_ble_eq_true rfl, Nat.le_of_ble_eq_true rfl⟩) hS (fun r_32 u_32 H9 locs hw_32 hm_32 hS => ?_)
                          replace hw_32 : r_32 = r_31 ∧ u_32 = (u18 v (0 : Int32)) := hw_32
                          obtain ⟨hr_32, hw_32⟩ := hw_32
                          replace hr_32 := hr_32.symm
                          subst hr_32
                          replace hw_32 := hw_32.symm
                          subst hw_32
                          have hm := hm_32
                          subst hr_31
                          exact W.iret (v := _) hx hb hr (fun t9 ht9 _ => ⟨⟨_, _, rfl, pp ((if_neg c_1).trans ((if_neg c_2).trans ((if_neg c_3).trans ((if_neg c_4).trans ((if_neg c_5).trans ((if_neg c_6).trans ((if_neg c_7).trans ((if_neg c_8).trans ((if_neg c_9).trans ((if_neg c_10).trans ((if_neg c_11).trans ((if_pos c_12).trans (rfl))))))))))))), hb9 ht9 hm⟩, hS.F ht9⟩) hS.2.2 dX10_account_184
                        · by_cases c_13 : x = (12 : Int32)
                          · refine lv_tableIn (off := 184) (tgt := 185) hx hb dX10_account_1 (by rw [c_13]; decide) (by rw [c_13]; decide) (by rw [c_13]; rfl) (by decide) ?_
                            refine lv_aload_n hx hb dX10_account_185 rfl (lv_at hl 0 rfl) ?_
                            refine lv_aload_n hx hb dX10_account_186 rfl (lv_at hl 0 rfl) ?_
                            refine tg_0 hx hb hts hown hs hm (hts _ q1674) dX10_account_187 ?_
                            refine lv_bipush (v := (95 : Int32)) hx hb dX10_account_190 (by decide) ?_
                            refine tl_0 hx hb hs hm (vi 95 (by decide) (by decide)) dX10_account_192 ?_
                            refine k_calli (va_runV (As := [.int ((t0 v ((95 : Int32)).toNatClampNeg))]) (rest := []) ⟨hx, hb, hml, hown, hts⟩ (tm_done l E h v ((t0 v ((95 : Int32)).toNatClampNeg)) ) (cwV 1 hts (lw_V q1770 q1772 qs24 q80 q1773) rfl rfl rfl (by decide +kernel) ⟨Nat.le_of_ble_eq_true rfl, Nat.le_of_ble_eq_true rfl⟩) (k_preVt hs hm hS) rfl rfl hl.1 rfl (lv_room (Nat.le_of_ble_eq_true rfl)) dX10_account_193 ⟨Nat.le_of_ble_eq_true rfl, Nat.le_of_ble_eq_true rfl⟩) hS (fun r_33 u_33 H9 locs hw_33 hm_33 hS => ?_)
                            replace hw_33 : r_33 = (t0 v ((95 : Int32)).toNatClampNeg) ∧ u_33 = (u18 v (0 : Int32)) := hw_33
                            obtain ⟨hr_33, hw_33⟩ := hw_33
                            replace hr_33 := hr_33.symm
                            subst hr_33
                            replace hw_33 := hw_33.symm
                            subst hw_33
                            have hm := hm_33
                            exact W.iret (v := _) hx hb hr (fun t9 ht9 _ => ⟨⟨_, _, rfl, pp ((if_neg c_1).trans ((if_neg c_2).trans ((if_neg c_3).trans ((if_neg c_4).trans ((if_neg c_5).trans ((if_neg c_6).trans ((if_neg c_7).trans ((if_neg c_8).trans ((if_neg c_9).trans ((if_neg c_10).trans ((if_neg c_11).trans ((if_neg c_12).trans ((if_pos c_13).trans (rfl)))))))))))))), hb9 ht9 hm⟩, hS.F ht9⟩) hS.2.2 dX10_account_196
                          · by_cases c_14 : x = (13 : Int32)
                            · refine lv_tableIn (off := 196) (tgt := 197) hx hb dX10_account_1 (by rw [c_14]; decide) (by rw [c_14]; decide) (by rw [c_14]; rfl) (by decide) ?_
                              refine lv_aload_n hx hb dX10_account_197 rfl (lv_at hl 0 rfl) ?_
                              refine lv_aload_n hx hb dX10_account_198 rfl (lv_at hl 0 rfl) ?_
                              refine tg_13 hx hb hts hown hs hm (hts _ q1687) dX10_account_199 ?_
                              refine k_calli (va_runV (As := [.int ((t13 v))]) (rest := []) ⟨hx, hb, hml, hown, hts⟩ (tm_done l E h v ((t13 v)) ) (cwV 1 hts (lw_V q1770 q1772 qs24 q80 q1773) rfl rfl rfl (by decide +kernel) ⟨Nat.le_of_ble_eq_true rfl, Nat.le_of_ble_eq_true rfl⟩) (k_preVt hs hm hS) rfl rfl hl.1 rfl (lv_room (Nat.le_of_ble_eq_true rfl)) dX10_account_202 ⟨Nat.le_of_ble_eq_true rfl, Nat.le_of_ble_eq_true rfl⟩) hS (fun r_34 u_34 H9 locs hw_34 hm_34 hS => ?_)
                              replace hw_34 : r_34 = (t13 v) ∧ u_34 = (u18 v (0 : Int32)) := hw_34
                              obtain ⟨hr_34, hw_34⟩ := hw_34
                              replace hr_34 := hr_34.symm
                              subst hr_34
                              replace hw_34 := hw_34.symm
                              subst hw_34
                              have hm := hm_34
                              exact W.iret (v := _) hx hb hr (fun t9 ht9 _ => ⟨⟨_, _, rfl, pp ((if_neg c_1).trans ((if_neg c_2).trans ((if_neg c_3).trans ((if_neg c_4).trans ((if_neg c_5).trans ((if_neg c_6).trans ((if_neg c_7).trans ((if_neg c_8).trans ((if_neg c_9).trans ((if_neg c_10).trans ((if_neg c_11).trans ((if_neg c_12).trans ((if_neg c_13).trans ((if_pos c_14).trans (rfl))))))))))))))), hb9 ht9 hm⟩, hS.F ht9⟩) hS.2.2 dX10_account_205
                            · by_cases c_15 : x = (14 : Int32)
                              · refine lv_tableIn (off := 205) (tgt := 206) hx hb dX10_account_1 (by rw [c_15]; decide) (by rw [c_15]; decide) (by rw [c_15]; rfl) (by decide) ?_
                                refine lv_aload_n hx hb dX10_account_206 rfl (lv_at hl 0 rfl) ?_
                                refine lv_aload_n hx hb dX10_account_207 rfl (lv_at hl 0 rfl) ?_
                                refine tg_6 hx hb hts hown hs hm (hts _ q1680) dX10_account_208 ?_
                                refine k_calli (va_runV (As := [.int ((t6 v))]) (rest := []) ⟨hx, hb, hml, hown, hts⟩ (tm_done l E h v ((t6 v)) ) (cwV 1 hts (lw_V q1770 q1772 qs24 q80 q1773) rfl rfl rfl (by decide +kernel) ⟨Nat.le_of_ble_eq_true rfl, Nat.le_of_ble_eq_true rfl⟩) (k_preVt hs hm hS) rfl rfl hl.1 rfl (lv_room (Nat.le_of_ble_eq_true rfl)) dX10_account_211 ⟨Nat.le_of_ble_eq_true rfl, Nat.le_of_ble_eq_true rfl⟩) hS (fun r_35 u_35 H9 locs hw_35 hm_35 hS => ?_)
                                replace hw_35 : r_35 = (t6 v) ∧ u_35 = (u18 v (0 : Int32)) := hw_35
                                obtain ⟨hr_35, hw_35⟩ := hw_35
                                replace hr_35 := hr_35.symm
                                subst hr_35
                                replace hw_35 := hw_35.symm
                                subst hw_35
                                have hm := hm_35
                                exact W.iret (v := _) hx hb hr (fun t9 ht9 _ => ⟨⟨_, _, rfl, pp ((if_neg c_1).trans ((if_neg c_2).trans ((if_neg c_3).trans ((if_neg c_4).trans ((if_neg c_5).trans ((if_neg c_6).trans ((if_neg c_7).trans ((if_neg c_8).trans ((if_neg c_9).trans ((if_neg c_10).trans ((if_neg c_11).trans ((if_neg c_12).trans ((if_neg c_13).trans ((if_neg c_14).trans ((if_pos c_15).trans (rfl)))))))))))))))), hb9 ht9 hm⟩, hS.F ht9⟩) hS.2.2 dX10_account_214
                              · refine lv_tableOut (tgt := 215) hx hb dX10_account_1 (sw_out _ 15 (by decide) (k_sw15 c_1 c_2 c_3 c_4 c_5 c_6 c_7 c_8 c_9 c_10 c_11 c_12 c_13 c_14 c_15) rfl) (by decide) ?_
                                refine lv_aload_n hx hb dX10_account_215 rfl (lv_at hl 0 rfl) ?_
                                refine lv_iconst (v := (1 : Int32)) hx hb dX10_account_216 (by decide) ?_
                                refine k_calli (va_runV (As := [.int ((1 : Int32))]) (rest := []) ⟨hx, hb, hml, hown, hts⟩ (tm_fails l E h v ((1 : Int32)) ) (cwV 1 hts (lw_V q1766 q1768 qs23 q80 q1769) rfl rfl rfl (by decide +kernel) ⟨Nat.le_of_ble_eq_true rfl, Nat.le_of_ble_eq_true rfl⟩) (k_preVt hs hm hS) rfl rfl hl.1 rfl (lv_room (Nat.le_of_ble_eq_true rfl)) dX10_account_217 ⟨Nat.le_of_ble_eq_true rfl, Nat.le_of_ble_eq_true rfl⟩) hS (fun r_36 u_36 H9 locs hw_36 hm_36 hS => ?_)
                                replace hw_36 : r_36 = (0 : Int32) ∧ u_36 = (T_fails v (1 : Int32)).2 := hw_36
                                obtain ⟨hr_36, hw_36⟩ := hw_36
                                replace hr_36 := hr_36.symm
                                subst hr_36
                                replace hw_36 := hw_36.symm
                                subst hw_36
                                have hm := hm_36
                                exact W.iret (v := _) hx hb hr (fun t9 ht9 _ => ⟨⟨_, _, rfl, pp ((if_neg c_1).trans ((if_neg c_2).trans ((if_neg c_3).trans ((if_neg c_4).trans ((if_neg c_5).trans ((if_neg c_6).trans ((if_neg c_7).trans ((if_neg c_8).trans ((if_neg c_9).trans ((if_neg c_10).trans ((if_neg c_11).trans ((if_neg c_12).trans ((if_neg c_13).trans ((if_neg c_14).trans ((if_neg c_15).trans (rfl)))))))))))))))), hb9 ht9 hm⟩, hS.F ht9⟩) hS.2.2 dX10_account_220
def stepWM (v : tw) (k : Nat) (z : Int32) (j : Nat) : Int32 :=
  let x17 := if (t0 v (((52 : Int32) + nI j)).toNatClampNeg) = nI k then (1 : Int32) else (0 : Int32);
  (z + x17)
def wellM (v : tw) (k : Nat) : Nat → Int32
  | 0 => 0
  | j + 1 => stepWM v k (wellM v k j) j
  termination_by j => j
theorem wellM_0 (v : tw) (k : Nat) : wellM v k 0 = 0 := by rw [wellM]
theorem wellM_s (v : tw) (k j : Nat) : wellM v k (j + 1) = stepWM v k (wellM v k j) j := by rw [wellM]
def stepWP (v : tw) (z : Int32) (k : Nat) : Int32 :=
  let x8 := if z = 0 then (0 : Int32) else if (Op.cmpValue (FP.fcmp (t1 v (((0 : Int32) + nI k)).toNatClampNeg) FP.fconst0) .l) < 0 then (0 : Int32) else if 0 < (Op.cmpValue (FP.fcmp (t1 v (((0 : Int32) + nI k)).toNatClampNeg) (1120403456 : UInt32)) .g) then (0 : Int32) else (1 : Int32);
  let x12 := if x8 = 0 then (0 : Int32) else let x14 := if (t0 v (((15 : Int32) + nI k)).toNatClampNeg) = (-1 : Int32) then (0 : Int32) else (1 : Int32); if (wellM v k ((t0 v ((51 : Int32)).toNatClampNeg).toNatClampNeg)) = x14 then (1 : Int32) else (0 : Int32);
  x12
def wellP (v : tw) (b : Int32) : Nat → Int32
  | 0 => b
  | k + 1 => stepWP v (wellP v b k) k
  termination_by k => k
theorem wellP_0 (v : tw) (b : Int32) : wellP v b 0 = b := by rw [wellP]
theorem wellP_s (v : tw) (b : Int32) (k : Nat) : wellP v b (k + 1) = stepWP v (wellP v b k) k := by rw [wellP]
theorem wellP_z (v : tw) (b : Int32) (hb : b = 0 ∨ b = 1) : ∀ k, wellP v b k = 0 ∨ wellP v b k = 1
  | 0 => by rw [wellP_0]; exact hb
  | k + 1 => by
    rw [wellP_s]
    unfold stepWP
    dsimp only
    (repeat' split) <;> first | exact .inl rfl | exact .inr rfl
def T_isWell (v : tw)  : Int32 × tw :=
  let r_1 := T_onBenches (u18 v (0 : Int32)) ;
  let r_2 := T_crops (u18 v (0 : Int32)) ;
  let x4 := if (t0 v ((93 : Int32)).toNatClampNeg) = ((r_1 + r_2) + (t0 v ((94 : Int32)).toNatClampNeg)) then (1 : Int32) else (0 : Int32);
  ((wellP v x4 12), (u18 v (0 : Int32)))
set_option maxHeartbeats 4000000 in
theorem tm_isWell (l : Launch) (E : mE) (h : Nat) (v : tw)  (hw : wf (t0 v) (t1 v)) : Met l yX10_isWell (ws_ yX10_isWell cX10_isWell 5 (some .boolean)) ({ frames := 1, cells := 0, slots := 0, locals := 22 }) (va_Pc [.ref h] (tP E h v)) (va_Qi (fun (r : Int32) (u : tw) => r = (T_isWell v ).1 ∧ u = (T_isWell v ).2) (fun u U => tW E h u U.heap) (eA E)) 0 0 (eA E) := by
  refine Met.ofW (cc := cX10_isWell) (maxL := 5) (ret := (some .boolean)) (by decide) rfl ?_
  intro p e s m args below meth c s₁ B hml hv
  obtain ⟨rfl, hs, hm⟩ := hv
  have hx := B.exec
  have hb := B.bytes
  have hr := B.returns
  have hts := atoms_spec (ws := ws_ yX10_isWell cX10_isWell 5 (some .boolean)) B.pre
  have hts : ∀ w ∈ lw_all, w.before _ s = true := fun w h => hts w (List.mem_cons_of_mem _ h)
  have hown : s.vm.findClass RX10 = some m.cls := findClass_of_methodNamed B.named
  have hlocks := B.notSynchronized
  have hS : va_S (eA E) s.heap s.heap [] := va_S.rf
  have hl := lv_entry ([.ref h]) (n := 5) (Nat.le_of_ble_eq_true rfl)
  rw [lg_entry_eq]
  generalize (lg_sl ([.ref h]) ++ List.replicate (5 - (lg_sl ([.ref h])).length) Slot.unset).toArray = ls at hl ⊢
  have hl : lv_has ls 5 [(0, .ref (h))] := hl
  refine lv_aload_n hx hb dX10_isWell_0 rfl (lv_at hl 0 rfl) ?_
  refine lv_iconst (v := (0 : Int32)) hx hb dX10_isWell_1 (by decide) ?_
  refine tp_18 hx hb hts hown hs hm hS (hts _ q1692) dX10_isWell_2 (fun H locs hm hS => ?_)
  have hm : tW E h (u18 v (0 : Int32)) H := hm
  refine lv_aload_n hx hb dX10_isWell_5 rfl (lv_at hl 0 rfl) ?_
  refine tg_0 hx hb hts hown hs hm (hts _ q1674) dX10_isWell_6 ?_
  refine lv_bipush (v := (93 : Int32)) hx hb dX10_isWell_9 (by decide) ?_
  refine tl_0 hx hb hs hm (vi 93 (by decide) (by decide)) dX10_isWell_11 ?_
  refine lv_aload_n hx hb dX10_isWell_12 rfl (lv_at hl 0 rfl) ?_
  refine k_calli (va_runV (As := []) (rest := [.int ((t0 v ((93 : Int32)).toNatClampNeg))]) ⟨hx, hb, hml, hown, hts⟩ (tm_onBenches l E h (u18 v (0 : Int32))  ) (cwV 0 hts (lw_V q2057 q2059 qs56 q80 q2060) rfl rfl rfl (by decide +kernel) ⟨Nat.le_of_ble_eq_true rfl, Nat.le_of_ble_eq_true rfl⟩) (k_preVt hs hm hS) rfl rfl hl.1 rfl (lv_room (Nat.le_of_ble_eq_true rfl)) dX10_isWell_13 ⟨Nat.le_of_ble_eq_true rfl, Nat.le_of_ble_eq_true rfl⟩) hS (fun r_1 u_1 H9 locs hw_1 hm_1 hS => ?_)
  obtain ⟨hr_1, hu_1⟩ := hw_1
  replace hu_1 := hu_1.symm
  subst hu_1
  have hm := hm_1
  refine lv_aload_n hx hb dX10_isWell_16 rfl (lv_at hl 0 rfl) ?_
  refine k_calli (va_runV (As := []) (rest := [.int (r_1), .int ((t0 v ((93 : Int32)).toNatClampNeg))]) ⟨hx, hb, hml, hown, hts⟩ (tm_crops l E h (u18 v (0 : Int32))  ) (cwV 0 hts (lw_V q2053 q2055 qs55 q80 q2056) rfl rfl rfl (by decide +kernel) ⟨Nat.le_of_ble_eq_true rfl, Nat.le_of_ble_eq_true rfl⟩) (k_preVt hs hm hS) rfl rfl hl.1 rfl (lv_room (Nat.le_of_ble_eq_true rfl)) dX10_isWell_17 ⟨Nat.le_of_ble_eq_true rfl, Nat.le_of_ble_eq_true rfl⟩) hS (fun r_2 u_2 H9 locs hw_2 hm_2 hS => ?_)
  obtain ⟨hr_2, hu_2⟩ := hw_2
  replace hu_2 := hu_2.symm
  subst hu_2
  have hm := hm_2
  refine lv_iadd hx hb dX10_isWell_20 ?_
  refine lv_aload_n hx hb dX10_isWell_21 rfl (lv_at hl 0 rfl) ?_
  refine tg_0 hx hb hts hown hs hm (hts _ q1674) dX10_isWell_22 ?_
  refine lv_bipush (v := (94 : Int32)) hx hb dX10_isWell_25 (by decide) ?_
  refine tl_0 hx hb hs hm (vi 94 (by decide) (by decide)) dX10_isWell_27 ?_
  refine lv_iadd hx hb dX10_isWell_28 ?_
  refine k_join (fun (x4 : Int32) H locs ls => x4 = (if (t0 v ((93 : Int32)).toNatClampNeg) = ((r_1 + r_2) + (t0 v ((94 : Int32)).toNatClampNeg)) then (1 : Int32) else (0 : Int32)) ∧ tW E h ((u18 v (0 : Int32))) H ∧ va_S (eA E) s.heap H locs ∧ lv_has ls 5 [(0, .ref (h))]) (fun (x4 : Int32) ls => F0 m 37 ls [.int (x4)]) (fun x4 H locs ls hJ => ?_) (fun J4 => ?_)
  · obtain ⟨hX4, hm, hS, hl⟩ := hJ
    refine lv_istore_n (lv' := [(1, _), (0, _)]) hx hb dX10_isWell_37 rfl hl (by decide) rfl (fun ls hl => ?_)
    refine lv_iconst (v := (0 : Int32)) hx hb dX10_isWell_38 (by decide) ?_
    refine lv_istore_n (lv' := [(2, _), (1, _), (0, _)]) hx hb dX10_isWell_39 rfl hl (by decide) rfl (fun ls hl => ?_)
    refine k_loop (fun k => 12 - k) (fun (k : Nat) H locs ls => (k ≤ 12) ∧ tW E h ((u18 v (0 : Int32))) H ∧ va_S (eA E) s.heap H locs ∧ lv_has ls 5 [(2, .int (nI k)), (1, .int ((wellP v x4 k))), (0, .ref (h))]) (fun (k : Nat) ls => F0 m 40 ls []) (fun k => (0, 0)) (fun k ih_5 H locs ls hP => ?_) (0) ⟨(Nat.zero_le _), hm, hS, (by rw [wellP_0]; exact lv_sub hl [0, 1, 2] rfl)⟩
    obtain ⟨hI_5, hm, hS, hl⟩ := hP
    refine lv_iload_n hx hb dX10_isWell_40 rfl (lv_at hl 0 rfl) ?_
    refine lv_bipush (v := (12 : Int32)) hx hb dX10_isWell_41 (by decide) ?_
    refine lv_icmp_ge (tgt := 166) hx hb dX10_isWell_43 (by decide) (fun c_6 => ?_) (fun c_6 => ?_)
    · have hkN : k = 12 := lp_ge (by decide) hI_5 c_6
      replace hkN := hkN.symm
      subst hkN
      refine lv_iload_n hx hb dX10_isWell_166 rfl (lv_at hl 1 rfl) ?_
      subst hX4
      subst hr_2
      subst hr_1
      exact W.zret (v := _) hx hb hr (z01n (wellP_z v _ (by split <;> first | exact .inl rfl | exact .inr rfl) _)) (fun t9 ht9 _ => ⟨⟨_, _, rfl, pp (rfl), hb9 ht9 hm⟩, hS.F ht9⟩) hS.2.2 dX10_isWell_167
    · have hk : k < 12 := lp_lt (by decide) hI_5 c_6
      refine lv_iload_n hx hb dX10_isWell_46 rfl (lv_at hl 1 rfl) ?_
      refine k_join (fun (x8 : Int32) H locs ls => x8 = (if (wellP v x4 k) = 0 then (0 : Int32) else if (Op.cmpValue (FP.fcmp (t1 v (((0 : Int32) + nI k)).toNatClampNeg) FP.fconst0) .l) < 0 then (0 : Int32) else if 0 < (Op.cmpValue (FP.fcmp (t1 v (((0 : Int32) + nI k)).toNatClampNeg) (1120403456 : UInt32)) .g) then (0 : Int32) else (1 : Int32)) ∧ tW E h ((u18 v (0 : Int32))) H ∧ va_S (eA E) s.heap H locs ∧ lv_has ls 5 [(2, .int (nI k)), (1, .int ((wellP v x4 k))), (0, .ref (h))]) (fun (x8 : Int32) ls => F0 m 82 ls [.int (x8)]) (fun x8 H locs ls hJ => ?_) (fun J8 => ?_)
      · obtain ⟨hX8, hm, hS, hl⟩ := hJ
        refine lv_istore_n (lv' := [(1, _), (2, _), (0, _)]) hx hb dX10_isWell_82 rfl hl (by decide) rfl (fun ls hl => ?_)
        refine lv_iconst (v := (0 : Int32)) hx hb dX10_isWell_83 (by decide) ?_
        refine lv_istore_n (lv' := [(3, _), (1, _), (2, _), (0, _)]) hx hb dX10_isWell_84 rfl hl (by decide) rfl (fun ls hl => ?_)
        refine lv_iconst (v := (0 : Int32)) hx hb dX10_isWell_85 (by decide) ?_
        refine lv_istore (lv' := [(4, _), (3, _), (1, _), (2, _), (0, _)]) hx hb dX10_isWell_86 hl (by decide) rfl (fun ls hl => ?_)
        refine k_loop (fun j => (t0 v ((51 : Int32)).toNatClampNeg).toNatClampNeg - j) (fun (j : Nat) H locs ls => (j ≤ (t0 v ((51 : Int32)).toNatClampNeg).toNatClampNeg) ∧ tW E h ((u18 v (0 : Int32))) H ∧ va_S (eA E) s.heap H locs ∧ lv_has ls 5 [(4, .int (nI j)), (3, .int ((wellM v k j))), (1, .int (x8)), (2, .int (nI k)), (0, .ref (h))]) (fun (j : Nat) ls => F0 m 88 ls []) (fun j => (0, 0)) (fun j ih_9 H locs ls hP => ?_) (0) ⟨(Nat.zero_le _), hm, hS, (by rw [wellM_0]; exact lv_sub hl [0, 1, 2, 3, 4] rfl)⟩
        obtain ⟨hI_9, hm, hS, hl⟩ := hP
        refine lv_iload hx hb dX10_isWell_88 (lv_at hl 0 rfl) ?_
        refine lv_aload_n hx hb dX10_isWell_90 rfl (lv_at hl 4 rfl) ?_
        refine tg_0 hx hb hts hown hs hm (hts _ q1674) dX10_isWell_91 ?_
        refine lv_bipush (v := (51 : Int32)) hx hb dX10_isWell_94 (by decide) ?_
        refine tl_0 hx hb hs hm (vi 51 (by decide) (by decide)) dX10_isWell_96 ?_
        refine lv_icmp_ge (tgt := 128) hx hb dX10_isWell_97 (by decide) (fun c_10 => ?_) (fun c_10 => ?_)
        · have hkN : j = (t0 v ((51 : Int32)).toNatClampNeg).toNatClampNeg := lp_geI hw.mem (by decide) hI_9 c_10
          replace hkN := hkN.symm
          subst hkN
          refine lv_iload_n hx hb dX10_isWell_128 rfl (lv_at hl 2 rfl) ?_
          refine k_join (fun (x12 : Int32) H locs ls => x12 = (if x8 = 0 then (0 : Int32) else let x14 := if (t0 v (((15 : Int32) + nI k)).toNatClampNeg) = (-1 : Int32) then (0 : Int32) else (1 : Int32); if (wellM v k ((t0 v ((51 : Int32)).toNatClampNeg).toNatClampNeg)) = x14 then (1 : Int32) else (0 : Int32)) ∧ tW E h ((u18 v (0 : Int32))) H ∧ va_S (eA E) s.heap H locs ∧ lv_has ls 5 [(4, .int (nI ((t0 v ((51 : Int32)).toNatClampNeg).toNatClampNeg))), (3, .int ((wellM v k ((t0 v ((51 : Int32)).toNatClampNeg).toNatClampNeg)))), (1, .int (x8)), (2, .int (nI k)), (0, .ref (h))]) (fun (x12 : Int32) ls => F0 m 159 ls [.int (x12)]) (fun x12 H locs ls hJ => ?_) (fun J12 => ?_)
          · obtain ⟨hX12, hm, hS, hl⟩ := hJ
            refine lv_istore_n (lv' := [(1, _), (4, _), (3, _), (2, _), (0, _)]) hx hb dX10_isWell_159 rfl hl (by decide) rfl (fun ls hl => ?_)
            refine lv_iinc (v := nI (k + 1)) (lv' := [(2, _), (1, _), (4, _), (3, _), (0, _)]) hx hb dX10_isWell_160 hl (k := 3) rfl (nI_succ k).symm (by decide) rfl (fun ls hl => ?_)
            refine lv_goto (tgt := 40) hx hb dX10_isWell_163 (by decide) ?_
            subst hX12
            subst hX8
            have hE : wellP v x4 (k + 1) = _ := (wellP_s v _ k).trans (rfl)
            exact ih_5 (k + 1) (by omega) _ _ _ ⟨(by omega), hm, hS, (by rw [hE]; exact lv_sub hl [0, 1, 4] rfl)⟩
          · refine lv_if_eq (tgt := 158) hx hb dX10_isWell_129 (by decide) (fun c_11 => ?_) (fun c_11 => ?_)
            · refine lv_iconst (v := (0 : Int32)) hx hb dX10_isWell_158 (by decide) ?_
              exact J12 ((0 : Int32)) _ _ _ ⟨((if_pos c_11).trans (rfl)).symm, hm, hS, lv_sub hl [0, 1, 2, 3, 4] rfl⟩
            · refine lv_iload_n hx hb dX10_isWell_132 rfl (lv_at hl 1 rfl) ?_
              refine lv_aload_n hx hb dX10_isWell_133 rfl (lv_at hl 4 rfl) ?_
              refine tg_0 hx hb hts hown hs hm (hts _ q1674) dX10_isWell_134 ?_
              refine lv_bipush (v := (15 : Int32)) hx hb dX10_isWell_137 (by decide) ?_
              refine lv_iload_n hx hb dX10_isWell_139 rfl (lv_at hl 3 rfl) ?_
              refine lv_iadd hx hb dX10_isWell_140 ?_
              refine tl_0 hx hb hs hm (ix.add 15 112 (⟨k, hk, rfl⟩) (by decide) (by decide)) dX10_isWell_141 ?_
              refine lv_iconst (v := (-1 : Int32)) hx hb dX10_isWell_142 (by decide) ?_
              refine k_join (fun (x14 : Int32) H locs ls => x14 = (if (t0 v (((15 : Int32) + nI k)).toNatClampNeg) = (-1 : Int32) then (0 : Int32) else (1 : Int32)) ∧ tW E h ((u18 v (0 : Int32))) H ∧ va_S (eA E) s.heap H locs ∧ lv_has ls 5 [(4, .int (nI ((t0 v ((51 : Int32)).toNatClampNeg).toNatClampNeg))), (3, .int ((wellM v k ((t0 v ((51 : Int32)).toNatClampNeg).toNatClampNeg)))), (1, .int (x8)), (2, .int (nI k)), (0, .ref (h))]) (fun (x14 : Int32) ls => F0 m 151 ls [.int (x14), .int ((wellM v k ((t0 v ((51 : Int32)).toNatClampNeg).toNatClampNeg)))]) (fun x14 H locs ls hJ => ?_) (fun J14 => ?_)
              · obtain ⟨hX14, hm, hS, hl⟩ := hJ
                refine lv_icmp_ne (tgt := 158) hx hb dX10_isWell_151 (by decide) (fun c_15 => ?_) (fun c_15 => ?_)
                · refine lv_iconst (v := (0 : Int32)) hx hb dX10_isWell_158 (by decide) ?_
                  subst hX14
                  exact J12 (_) _ _ _ ⟨((if_neg c_11).trans ((if_neg c_15).trans (rfl))).symm, hm, hS, lv_sub hl [0, 1, 2, 3, 4] rfl⟩
                · refine lv_iconst (v := (1 : Int32)) hx hb dX10_isWell_154 (by decide) ?_
                  refine lv_goto (tgt := 159) hx hb dX10_isWell_155 (by decide) ?_
                  subst hX14
                  exact J12 (_) _ _ _ ⟨((if_neg c_11).trans ((if_pos c_15).trans (rfl))).symm, hm, hS, lv_sub hl [0, 1, 2, 3, 4] rfl⟩
              · refine lv_icmp_ne (tgt := 150) hx hb dX10_isWell_143 (by decide) (fun c_13 => ?_) (fun c_13 => ?_)
                · refine lv_iconst (v := (1 : Int32)) hx hb dX10_isWell_150 (by decide) ?_
                  exact J14 ((1 : Int32)) _ _ _ ⟨((if_neg c_13).trans (rfl)).symm, hm, hS, lv_sub hl [0, 1, 2, 3, 4] rfl⟩
                · refine lv_iconst (v := (0 : Int32)) hx hb dX10_isWell_146 (by decide) ?_
                  refine lv_goto (tgt := 151) hx hb dX10_isWell_147 (by decide) ?_
                  exact J14 ((0 : Int32)) _ _ _ ⟨((if_pos c_13).trans (rfl)).symm, hm, hS, lv_sub hl [0, 1, 2, 3, 4] rfl⟩
        · have hk : j < (t0 v ((51 : Int32)).toNatClampNeg).toNatClampNeg := lp_ltI hw.mem (by decide) hI_9 c_10
          have hk6 : j < 6 := Nat.lt_of_lt_of_le hk (Nat.le_of_lt_succ (hw.mem.nat (by decide)).1)
          refine lv_iload_n hx hb dX10_isWell_100 rfl (lv_at hl 1 rfl) ?_
          refine lv_aload_n hx hb dX10_isWell_101 rfl (lv_at hl 4 rfl) ?_
          refine tg_0 hx hb hts hown hs hm (hts _ q1674) dX10_isWell_102 ?_
          refine lv_bipush (v := (52 : Int32)) hx hb dX10_isWell_105 (by decide) ?_
          refine lv_iload hx hb dX10_isWell_107 (lv_at hl 0 rfl) ?_
          refine lv_iadd hx hb dX10_isWell_109 ?_
          refine tl_0 hx hb hs hm (ix.add 52 112 (⟨j, hk6, rfl⟩) (by decide) (by decide)) dX10_isWell_110 ?_
          refine lv_iload_n hx hb dX10_isWell_111 rfl (lv_at hl 3 rfl) ?_
          refine k_join (fun (x17 : Int32) H locs ls => x17 = (if (t0 v (((52 : Int32) + nI j)).toNatClampNeg) = nI k then (1 : Int32) else (0 : Int32)) ∧ tW E h ((u18 v (0 : Int32))) H ∧ va_S (eA E) s.heap H locs ∧ lv_has ls 5 [(4, .int (nI j)), (3, .int ((wellM v k j))), (1, .int (x8)), (2, .int (nI k)), (0, .ref (h))]) (fun (x17 : Int32) ls => F0 m 120 ls [.int (x17), .int ((wellM v k j))]) (fun x17 H locs ls hJ => ?_) (fun J17 => ?_)
          · obtain ⟨hX17, hm, hS, hl⟩ := hJ
            refine lv_iadd hx hb dX10_isWell_120 ?_
            refine lv_istore_n (lv' := [(3, _), (4, _), (1, _), (2, _), (0, _)]) hx hb dX10_isWell_121 rfl hl (by decide) rfl (fun ls hl => ?_)
            refine lv_iinc (v := nI (j + 1)) (lv' := [(4, _), (3, _), (1, _), (2, _), (0, _)]) hx hb dX10_isWell_122 hl (k := 1) rfl (nI_succ j).symm (by decide) rfl (fun ls hl => ?_)
            refine lv_goto (tgt := 88) hx hb dX10_isWell_125 (by decide) ?_
            subst hX17
            have hE : wellM v k (j + 1) = _ := (wellM_s v k j).trans (rfl)
            exact ih_9 (j + 1) (by omega) _ _ _ ⟨(by omega), hm, hS, (by rw [hE]; exact lv_sub hl [0, 1, 2, 3, 4] rfl)⟩
          · refine lv_icmp_ne (tgt := 119) hx hb dX10_isWell_112 (by decide) (fun c_16 => ?_) (fun c_16 => ?_)
            · refine lv_iconst (v := (0 : Int32)) hx hb dX10_isWell_119 (by decide) ?_
              exact J17 ((0 : Int32)) _ _ _ ⟨((if_neg c_16).trans (rfl)).symm, hm, hS, lv_sub hl [0, 1, 2, 3, 4] rfl⟩
            · refine lv_iconst (v := (1 : Int32)) hx hb dX10_isWell_115 (by decide) ?_
              refine lv_goto (tgt := 120) hx hb dX10_isWell_116 (by decide) ?_
              exact J17 ((1 : Int32)) _ _ _ ⟨((if_pos c_16).trans (rfl)).symm, hm, hS, lv_sub hl [0, 1, 2, 3, 4] rfl⟩
      · refine lv_if_eq (tgt := 81) hx hb dX10_isWell_47 (by decide) (fun c_7 => ?_) (fun c_7 => ?_)
        · refine lv_iconst (v := (0 : Int32)) hx hb dX10_isWell_81 (by decide) ?_
          exact J8 ((0 : Int32)) _ _ _ ⟨((if_pos c_7).trans (rfl)).symm, hm, hS, lv_sub hl [0, 1, 2] rfl⟩
        · refine lv_aload_n hx hb dX10_isWell_50 rfl (lv_at hl 2 rfl) ?_
          refine tg_1 hx hb hts hown hs hm (hts _ q1675) dX10_isWell_51 ?_
          refine lv_iconst (v := (0 : Int32)) hx hb dX10_isWell_54 (by decide) ?_
          refine lv_iload_n hx hb dX10_isWell_55 rfl (lv_at hl 0 rfl) ?_
          refine lv_iadd hx hb dX10_isWell_56 ?_
          refine tl_1 hx hb hs hm (ix.add 0 33 (⟨k, hk, rfl⟩) (by decide) (by decide)) dX10_isWell_57 ?_
          refine lv_fconst0 hx hb dX10_isWell_58 ?_
          refine lv_fcmp hx hb dX10_isWell_59 ?_
          refine lv_if_lt (tgt := 81) hx hb dX10_isWell_60 (by decide) (fun c_18 => ?_) (fun c_18 => ?_)
          · refine lv_iconst (v := (0 : Int32)) hx hb dX10_isWell_81 (by decide) ?_
            exact J8 ((0 : Int32)) _ _ _ ⟨((if_neg c_7).trans ((if_pos c_18).trans (rfl))).symm, hm, hS, lv_sub hl [0, 1, 2] rfl⟩
          · refine lv_aload_n hx hb dX10_isWell_63 rfl (lv_at hl 2 rfl) ?_
            refine tg_1 hx hb hts hown hs hm (hts _ q1675) dX10_isWell_64 ?_
            refine lv_iconst (v := (0 : Int32)) hx hb dX10_isWell_67 (by decide) ?_
            refine lv_iload_n hx hb dX10_isWell_68 rfl (lv_at hl 0 rfl) ?_
            refine lv_iadd hx hb dX10_isWell_69 ?_
            refine tl_1 hx hb hs hm (ix.add 0 33 (⟨k, hk, rfl⟩) (by decide) (by decide)) dX10_isWell_70 ?_
            refine lv_ldcf (v := 1120403456) hx hb hown (hts _ q1846) dX10_isWell_71 ?_
            refine lv_fcmp hx hb dX10_isWell_73 ?_
            refine lv_if_gt (tgt := 81) hx hb dX10_isWell_74 (by decide) (fun c_19 => ?_) (fun c_19 => ?_)
            · refine lv_iconst (v := (0 : Int32)) hx hb dX10_isWell_81 (by decide) ?_
              exact J8 ((0 : Int32)) _ _ _ ⟨((if_neg c_7).trans ((if_neg c_18).trans ((if_pos c_19).trans (rfl)))).symm, hm, hS, lv_sub hl [0, 1, 2] rfl⟩
            · refine lv_iconst (v := (1 : Int32)) hx hb dX10_isWell_77 (by decide) ?_
              refine lv_goto (tgt := 82) hx hb dX10_isWell_78 (by decide) ?_
              exact J8 ((1 : Int32)) _ _ _ ⟨((if_neg c_7).trans ((if_neg c_18).trans ((if_neg c_19).trans (rfl)))).symm, hm, hS, lv_sub hl [0, 1, 2] rfl⟩
  · refine lv_icmp_ne (tgt := 36) hx hb dX10_isWell_29 (by decide) (fun c_3 => ?_) (fun c_3 => ?_)
    · refine lv_iconst (v := (0 : Int32)) hx hb dX10_isWell_36 (by decide) ?_
      exact J4 ((0 : Int32)) _ _ _ ⟨((if_neg c_3).trans (rfl)).symm, hm, hS, lv_sub hl [0] rfl⟩
    · refine lv_iconst (v := (1 : Int32)) hx hb dX10_isWell_32 (by decide) ?_
      refine lv_goto (tgt := 37) hx hb dX10_isWell_33 (by decide) ?_
      exact J4 ((1 : Int32)) _ _ _ ⟨((if_pos c_3).trans (rfl)).symm, hm, hS, lv_sub hl [0] rfl⟩
def T_meanBits (v : tw) : Int64 × tw := (T_dbits (FP.ddiv (sumW (t1 v) 12) (4622945017495814144 : UInt64)), u18 v (0 : Int32))
set_option maxHeartbeats 4000000 in
theorem tm_meanBits (l : Launch) (E : mE) (h : Nat) (v : tw)  (hw : wf (t0 v) (t1 v)) : Met l yX10_meanBits (ws_ yX10_meanBits cX10_meanBits 4 (some .long)) ({ frames := 2, cells := 0, slots := 0, locals := 61 }) (va_Pc [.ref h] (tP E h v)) (va_Ql (fun (r : Int64) (u : tw) => r = (T_meanBits v ).1 ∧ u = (T_meanBits v ).2) (fun u U => tW E h u U.heap) (eA E)) 0 0 (eA E) := by
  refine Met.ofW (cc := cX10_meanBits) (maxL := 4) (ret := (some .long)) (by decide) rfl ?_
  intro p e s m args below meth c s₁ B hml hv
  obtain ⟨rfl, hs, hm⟩ := hv
  have hx := B.exec
  have hb := B.bytes
  have hr := B.returns
  have hts := atoms_spec (ws := ws_ yX10_meanBits cX10_meanBits 4 (some .long)) B.pre
  have hts : ∀ w ∈ lw_all, w.before _ s = true := fun w h => hts w (List.mem_cons_of_mem _ h)
  have hown : s.vm.findClass RX10 = some m.cls := findClass_of_methodNamed B.named
  have hlocks := B.notSynchronized
  have hS : va_S (eA E) s.heap s.heap [] := va_S.rf
  have hl := lv_entry ([.ref h]) (n := 4) (Nat.le_of_ble_eq_true rfl)
  rw [lg_entry_eq]
  generalize (lg_sl ([.ref h]) ++ List.replicate (4 - (lg_sl ([.ref h])).length) Slot.unset).toArray = ls at hl ⊢
  have hl : lv_has ls 4 [(0, .ref (h))] := hl
  refine lv_aload_n hx hb dX10_meanBits_0 rfl (lv_at hl 0 rfl) ?_
  refine lv_iconst (v := (0 : Int32)) hx hb dX10_meanBits_1 (by decide) ?_
  refine tp_18 hx hb hts hown hs hm hS (hts _ q1692) dX10_meanBits_2 (fun H locs hm hS => ?_)
  have hm : tW E h (u18 v (0 : Int32)) H := hm
  refine lv_dconst0 hx hb dX10_meanBits_5 ?_
  refine lv_dstore_n (lv' := [(1, _), (0, _)]) hx hb dX10_meanBits_6 rfl hl (by decide) rfl (fun ls hl => ?_)
  refine lv_iconst (v := (0 : Int32)) hx hb dX10_meanBits_7 (by decide) ?_
  refine lv_istore_n (lv' := [(3, _), (1, _), (0, _)]) hx hb dX10_meanBits_8 rfl hl (by decide) rfl (fun ls hl => ?_)
  refine k_loop (fun k => 12 - k) (fun (k : Nat) H locs ls => (k ≤ 12) ∧ tW E h ((u18 v (0 : Int32))) H ∧ va_S (eA E) s.heap H locs ∧ lv_has ls 4 [(3, .int (nI k)), (1, .double ((sumW (t1 v) k))), (0, .ref (h))]) (fun (k : Nat) ls => F0 m 9 ls []) (fun k => (0, 0)) (fun k ih_1 H locs ls hP => ?_) (0) ⟨(Nat.zero_le _), hm, hS, (by rw [sumW_0]; exact lv_sub hl [0, 1, 2] rfl)⟩
  obtain ⟨hI_1, hm, hS, hl⟩ := hP
  refine lv_iload_n hx hb dX10_meanBits_9 rfl (lv_at hl 0 rfl) ?_
  refine lv_bipush (v := (12 : Int32)) hx hb dX10_meanBits_10 (by decide) ?_
  refine lv_icmp_ge (tgt := 33) hx hb dX10_meanBits_12 (by decide) (fun c_2 => ?_) (fun c_2 => ?_)
  · have hkN : k = 12 := lp_ge (by decide) hI_1 c_2
    replace hkN := hkN.symm
    subst hkN
    refine lv_dload_n hx hb dX10_meanBits_33 rfl (lv_at hl 1 rfl) ?_
    refine lv_ldc2d (v := 4622945017495814144) hx hb hown (hts _ q2069) dX10_meanBits_34 ?_
    refine lv_ddiv hx hb dX10_meanBits_37 (kD.div12 (kD_sum (fun i hi => hw.2.2.2.2.2.2.2.2.1 i hi) 12 (by decide))).nan ?_
    refine k_calll (va_runS (As := [.double ((FP.ddiv (sumW (t1 v) 12) (4622945017495814144 : UInt64)))]) (rest := []) ⟨hx, hb, hml, hown, hts⟩ (jm_J24_doubleToLongBits l E ((FP.ddiv (sumW (t1 v) 12) (4622945017495814144 : UInt64))) _) (va_cwS 1 hts (lw_S q2070 q669 q96 q670) rfl rfl rfl (by decide +kernel) ⟨Nat.le_of_ble_eq_true rfl, Nat.le_of_ble_eq_true rfl⟩) (k_pure hs hS) rfl rfl hl.1 rfl (lv_room (Nat.le_of_ble_eq_true rfl)) dX10_meanBits_38 ⟨Nat.le_of_ble_eq_true rfl, Nat.le_of_ble_eq_true rfl⟩) hS (fun r_3 u_3 H9 locs hw_3 hm_3 hS => ?_)
    replace hm_3 : _ = H9 := Eq.symm hm_3
    subst hm_3
    have hr_3 := hw_3
    subst hr_3
    exact W.lret (v := _) hx hb hr (fun t9 ht9 _ => ⟨⟨_, _, rfl, pp (rfl), hb9 ht9 hm⟩, hS.F ht9⟩) hS.2.2 dX10_meanBits_41
  · have hk : k < 12 := lp_lt (by decide) hI_1 c_2
    refine lv_dload_n hx hb dX10_meanBits_15 rfl (lv_at hl 1 rfl) ?_
    refine lv_aload_n hx hb dX10_meanBits_16 rfl (lv_at hl 2 rfl) ?_
    refine tg_1 hx hb hts hown hs hm (hts _ q1675) dX10_meanBits_17 ?_
    refine lv_iconst (v := (0 : Int32)) hx hb dX10_meanBits_20 (by decide) ?_
    refine lv_iload_n hx hb dX10_meanBits_21 rfl (lv_at hl 0 rfl) ?_
    refine lv_iadd hx hb dX10_meanBits_22 ?_
    refine tl_1 hx hb hs hm (ix.add 0 33 (⟨k, hk, rfl⟩) (by decide) (by decide)) dX10_meanBits_23 ?_
    refine lv_f2d hx hb dX10_meanBits_24 (kD_f2d (hw.wat ⟨k, hk, rfl⟩)).nan ?_
    refine lv_dadd hx hb dX10_meanBits_25 (kD.add (n := 13 + 2 * (k : Int)) (kD_sum (fun i hi => hw.2.2.2.2.2.2.2.2.1 i hi) k (by omega)) ((kD_f2d (hw.wat ⟨k, hk, rfl⟩)).up (by omega)) (by omega) (by omega)).nan ?_
    refine lv_dstore_n (lv' := [(1, _), (3, _), (0, _)]) hx hb dX10_meanBits_26 rfl hl (by decide) rfl (fun ls hl => ?_)
    refine lv_iinc (v := nI (k + 1)) (lv' := [(3, _), (1, _), (0, _)]) hx hb dX10_meanBits_27 hl (k := 1) rfl (nI_succ k).symm (by decide) rfl (fun ls hl => ?_)
    refine lv_goto (tgt := 9) hx hb dX10_meanBits_30 (by decide) ?_
    exact ih_1 (k + 1) (by omega) _ _ _ ⟨(by omega), hm, hS, (by rw [show sumW (t1 v) (k + 1) = FP.dadd (sumW (t1 v) k) (FP.f2d (t1 v ((0 : Int32) + nI k).toNatClampNeg)) from by rw [sumW_s, show ((0 : Int32) + nI k).toNatClampNeg = k from by rw [show ((0 : Int32) + nI k).toNatClampNeg = 0 + k from cl_add 0 (by omega), Nat.zero_add]]]; exact lv_sub hl [0, 1, 2] rfl)⟩
def T_dug (v : tw)  : UInt32 × tw :=
  let r_1 := T_plotsDug (u18 v (0 : Int32)) ;
  ((FP.fdiv (FP.i2f r_1) (1094713344 : UInt32)), (u18 v (0 : Int32)))
set_option maxHeartbeats 4000000 in
theorem tm_dug (l : Launch) (E : mE) (h : Nat) (v : tw)   : Met l yX10_dug (ws_ yX10_dug cX10_dug 1 (some .float)) ({ frames := 1, cells := 0, slots := 0, locals := 22 }) (va_Pc [.ref h] (tP E h v)) (va_Qf (fun (r : UInt32) (u : tw) => r = (T_dug v ).1 ∧ u = (T_dug v ).2) (fun u U => tW E h u U.heap) (eA E)) 0 0 (eA E) := by
  refine Met.ofW (cc := cX10_dug) (maxL := 1) (ret := (some .float)) (by decide) rfl ?_
  intro p e s m args below meth c s₁ B hml hv
  obtain ⟨rfl, hs, hm⟩ := hv
  have hx := B.exec
  have hb := B.bytes
  have hr := B.returns
  have hts := atoms_spec (ws := ws_ yX10_dug cX10_dug 1 (some .float)) B.pre
  have hts : ∀ w ∈ lw_all, w.before _ s = true := fun w h => hts w (List.mem_cons_of_mem _ h)
  have hown : s.vm.findClass RX10 = some m.cls := findClass_of_methodNamed B.named
  have hlocks := B.notSynchronized
  have hS : va_S (eA E) s.heap s.heap [] := va_S.rf
  have hl := lv_entry ([.ref h]) (n := 1) (Nat.le_of_ble_eq_true rfl)
  rw [lg_entry_eq]
  generalize (lg_sl ([.ref h]) ++ List.replicate (1 - (lg_sl ([.ref h])).length) Slot.unset).toArray = ls at hl ⊢
  have hl : lv_has ls 1 [(0, .ref (h))] := hl
  refine lv_aload_n hx hb dX10_dug_0 rfl (lv_at hl 0 rfl) ?_
  refine lv_iconst (v := (0 : Int32)) hx hb dX10_dug_1 (by decide) ?_
  refine tp_18 hx hb hts hown hs hm hS (hts _ q1692) dX10_dug_2 (fun H locs hm hS => ?_)
  have hm : tW E h (u18 v (0 : Int32)) H := hm
  refine lv_aload_n hx hb dX10_dug_5 rfl (lv_at hl 0 rfl) ?_
  refine k_calli (va_runV (As := []) (rest := []) ⟨hx, hb, hml, hown, hts⟩ (tm_plotsDug l E h (u18 v (0 : Int32))  ) (cwV 0 hts (lw_V q1809 q1811 qs30 q80 q1812) rfl rfl rfl (by decide +kernel) ⟨Nat.le_of_ble_eq_true rfl, Nat.le_of_ble_eq_true rfl⟩) (k_preVt hs hm hS) rfl rfl hl.1 rfl (lv_room (Nat.le_of_ble_eq_true rfl)) dX10_dug_6 ⟨Nat.le_of_ble_eq_true rfl, Nat.le_of_ble_eq_true rfl⟩) hS (fun r_1 u_1 H9 locs hw_1 hm_1 hS => ?_)
  obtain ⟨hr_1, hu_1⟩ := hw_1
  replace hu_1 := hu_1.symm
  subst hu_1
  have hm := hm_1
  refine lv_i2f hx hb dX10_dug_9 ?_
  refine lv_ldcf (v := 1094713344) hx hb hown (hts _ q2075) dX10_dug_10 ?_
  refine lv_fdiv hx hb dX10_dug_12 (dug_nant hr_1) ?_
  subst hr_1
  exact W.fret (v := _) hx hb hr (fun t9 ht9 _ => ⟨⟨_, _, rfl, pp (rfl), hb9 ht9 hm⟩, hS.F ht9⟩) hS.2.2 dX10_dug_13
theorem undo_ix {x : Int32} (h9 : ix 9 x) (hn : ¬ x = 0) : ix 8 (x - (1 : Int32)) := by
  obtain ⟨k, h1, rfl⟩ := h9
  cases k with
  | zero => exact absurd rfl hn
  | succ k => exact ⟨k, by omega, nI_pred k⟩
def T_undo (v : tw)  : Int32 × tw :=
  if (t6 v) = 0 then
    ((0 : Int32), (T_fails v (1 : Int32)).2)
  else
    (((t6 v) - (1 : Int32)), (u18 (u1 (u0 (u6 v ((t6 v) - (1 : Int32))) (va_cpy (t4 v) (t0 v) ((t6 v - (1 : Int32)).toNatClampNeg * 112) (0) 112)) (va_cpy (t5 v) (t1 v) ((t6 v - (1 : Int32)).toNatClampNeg * 33) (0) 33)) (0 : Int32)))
set_option maxHeartbeats 4000000 in
theorem tm_undo (l : Launch) (E : mE) (h : Nat) (v : tw)  (h9 : ix 9 (t6 v)) : Met l yX10_undo (ws_ yX10_undo cX10_undo 1 (some .int)) ({ frames := 1, cells := 0, slots := 0, locals := 24 }) (va_Pc [.ref h] (tP E h v)) (va_Qi (fun (r : Int32) (u : tw) => r = (T_undo v ).1 ∧ u = (T_undo v ).2) (fun u U => tW E h u U.heap) (eA E)) 0 0 (eA E) := by
  refine Met.ofW (cc := cX10_undo) (maxL := 1) (ret := (some .int)) (by decide) rfl ?_
  intro p e s m args below meth c s₁ B hml hv
  obtain ⟨rfl, hs, hm⟩ := hv
  have hx := B.exec
  have hb := B.bytes
  have hr := B.returns
  have hts := atoms_spec (ws := ws_ yX10_undo cX10_undo 1 (some .int)) B.pre
  have hts : ∀ w ∈ lw_all, w.before _ s = true := fun w h => hts w (List.mem_cons_of_mem _ h)
  have hown : s.vm.findClass RX10 = some m.cls := findClass_of_methodNamed B.named
  have hlocks := B.notSynchronized
  have hS : va_S (eA E) s.heap s.heap [] := va_S.rf
  have hl := lv_entry ([.ref h]) (n := 1) (Nat.le_of_ble_eq_true rfl)
  rw [lg_entry_eq]
  generalize (lg_sl ([.ref h]) ++ List.replicate (1 - (lg_sl ([.ref h])).length) Slot.unset).toArray = ls at hl ⊢
  have hl : lv_has ls 1 [(0, .ref (h))] := hl
  refine lv_aload_n hx hb dX10_undo_0 rfl (lv_at hl 0 rfl) ?_
  refine tg_6 hx hb hts hown hs hm (hts _ q1680) dX10_undo_1 ?_
  refine lv_if_ne (tgt := 13) hx hb dX10_undo_4 (by decide) (fun c_1 => ?_) (fun c_1 => ?_)
  · have h8 := undo_ix h9 c_1
    obtain ⟨h8a, h8b⟩ := h8.nat (by decide)
    refine lv_aload_n hx hb dX10_undo_13 rfl (lv_at hl 0 rfl) ?_
    refine lv_dup hx hb dX10_undo_14 rfl ?_
    refine tg_6 hx hb hts hown hs hm (hts _ q1680) dX10_undo_15 ?_
    refine lv_iconst (v := (1 : Int32)) hx hb dX10_undo_18 (by decide) ?_
    refine lv_isub hx hb dX10_undo_19 ?_
    refine tp_6 hx hb hts hown hs hm hS (hts _ q1680) dX10_undo_20 (fun H locs hm hS => ?_)
    have hm : tW E h (u6 v ((t6 v) - (1 : Int32))) H := hm
    refine lv_aload_n hx hb dX10_undo_23 rfl (lv_at hl 0 rfl) ?_
    refine tg_4 hx hb hts hown hs hm (hts _ q1678) dX10_undo_24 ?_
    refine lv_aload_n hx hb dX10_undo_27 rfl (lv_at hl 0 rfl) ?_
    refine tg_6 hx hb hts hown hs hm (hts _ q1680) dX10_undo_28 ?_
    refine lv_bipush (v := (112 : Int32)) hx hb dX10_undo_31 (by decide) ?_
    refine lv_imul hx hb dX10_undo_33 ?_
    refine lv_aload_n hx hb dX10_undo_34 rfl (lv_at hl 0 rfl) ?_
    refine tg_0 hx hb hts hown hs hm (hts _ q1674) dX10_undo_35 ?_
    refine lv_iconst (v := (0 : Int32)) hx hb dX10_undo_38 (by decide) ?_
    refine W.eq (g2 := F0 m 39 ls ([.int (nI (0)), .ref (h + 1), .int (nI ((t6 v - (1 : Int32)).toNatClampNeg * 112)), .ref (h + 5)] ++ [])) (hist_fr h8 (by decide) (fun z => [.int (0 : Int32), .ref (h + 1), .int z, .ref (h + 5)])) ?_
    refine k_call2 5 1 hm rfl rfl (va_runS (As := [.ref (h + 5), .int (nI ((t6 v - (1 : Int32)).toNatClampNeg * 112)), .ref (h + 1), .int (nI (0))]) (rest := []) ⟨hx, hb, hml, hown, hts⟩ (tm_copy l E _ _ _ _ _ _ ((t6 v - (1 : Int32)).toNatClampNeg * 112) (0) (by have := h8a; omega) (by decide) (by decide) (by decide)) (va_cwS 4 hts (lw_S q1753 q1754 q80 q1755) rfl rfl rfl (by decide +kernel) ⟨Nat.le_of_ble_eq_true rfl, Nat.le_of_ble_eq_true rfl⟩) (k_pre2 (qa := 5) (qb := 1) hs hm rfl rfl (by decide)) rfl rfl hl.1 rfl (lv_room (Nat.le_of_ble_eq_true rfl)) dX10_undo_39 ⟨Nat.le_of_ble_eq_true rfl, Nat.le_of_ble_eq_true rfl⟩) hS (fun H locs hm hS => ?_)
    have hm := tW_set_0 hm
    have hm : tW E h (u0 (u6 v ((t6 v) - (1 : Int32))) (va_cpy (t4 v) (t0 v) ((t6 v - (1 : Int32)).toNatClampNeg * 112) (0) 112)) H := hm
    refine lv_aload_n hx hb dX10_undo_42 rfl (lv_at hl 0 rfl) ?_
    refine tg_5 hx hb hts hown hs hm (hts _ q1679) dX10_undo_43 ?_
    refine lv_aload_n hx hb dX10_undo_46 rfl (lv_at hl 0 rfl) ?_
    refine tg_6 hx hb hts hown hs hm (hts _ q1680) dX10_undo_47 ?_
    refine lv_bipush (v := (33 : Int32)) hx hb dX10_undo_50 (by decide) ?_
    refine lv_imul hx hb dX10_undo_52 ?_
    refine lv_aload_n hx hb dX10_undo_53 rfl (lv_at hl 0 rfl) ?_
    refine tg_1 hx hb hts hown hs hm (hts _ q1675) dX10_undo_54 ?_
    refine lv_iconst (v := (0 : Int32)) hx hb dX10_undo_57 (by decide) ?_
    refine W.eq (g2 := F0 m 58 ls ([.int (nI (0)), .ref (h + 2), .int (nI ((t6 v - (1 : Int32)).toNatClampNeg * 33)), .ref (h + 6)] ++ [])) (hist_fr h8 (by decide) (fun z => [.int (0 : Int32), .ref (h + 2), .int z, .ref (h + 6)])) ?_
    refine k_call2 6 2 hm rfl rfl (va_runS (As := [.ref (h + 6), .int (nI ((t6 v - (1 : Int32)).toNatClampNeg * 33)), .ref (h + 2), .int (nI (0))]) (rest := []) ⟨hx, hb, hml, hown, hts⟩ (tm_copyFloats l E _ _ _ _ _ _ ((t6 v - (1 : Int32)).toNatClampNeg * 33) (0) (by have := h8a; omega) (by decide) (by decide) (by decide)) (va_cwS 4 hts (lw_S q1756 q1757 q80 q1758) rfl rfl rfl (by decide +kernel) ⟨Nat.le_of_ble_eq_true rfl, Nat.le_of_ble_eq_true rfl⟩) (k_pre2 (qa := 6) (qb := 2) hs hm rfl rfl (by decide)) rfl rfl hl.1 rfl (lv_room (Nat.le_of_ble_eq_true rfl)) dX10_undo_58 ⟨Nat.le_of_ble_eq_true rfl, Nat.le_of_ble_eq_true rfl⟩) hS (fun H locs hm hS => ?_)
    have hm := tW_set_1 hm
    have hm : tW E h (u1 (u0 (u6 v ((t6 v) - (1 : Int32))) (va_cpy (t4 v) (t0 v) ((t6 v - (1 : Int32)).toNatClampNeg * 112) (0) 112)) (va_cpy (t5 v) (t1 v) ((t6 v - (1 : Int32)).toNatClampNeg * 33) (0) 33)) H := hm
    refine lv_aload_n hx hb dX10_undo_61 rfl (lv_at hl 0 rfl) ?_
    refine lv_aload_n hx hb dX10_undo_62 rfl (lv_at hl 0 rfl) ?_
    refine tg_6 hx hb hts hown hs hm (hts _ q1680) dX10_undo_63 ?_
    refine k_calli (va_runV (As := [.int (((t6 v) - (1 : Int32)))]) (rest := []) ⟨hx, hb, hml, hown, hts⟩ (tm_done l E h (u1 (u0 (u6 v ((t6 v) - (1 : Int32))) (va_cpy (t4 v) (t0 v) ((t6 v - (1 : Int32)).toNatClampNeg * 112) (0) 112)) (va_cpy (t5 v) (t1 v) ((t6 v - (1 : Int32)).toNatClampNeg * 33) (0) 33)) (((t6 v) - (1 : Int32))) ) (cwV 1 hts (lw_V q1770 q1772 qs24 q80 q1773) rfl rfl rfl (by decide +kernel) ⟨Nat.le_of_ble_eq_true rfl, Nat.le_of_ble_eq_true rfl⟩) (k_preVt hs hm hS) rfl rfl hl.1 rfl (lv_room (Nat.le_of_ble_eq_true rfl)) dX10_undo_66 ⟨Nat.le_of_ble_eq_true rfl, Nat.le_of_ble_eq_true rfl⟩) hS (fun r_4 u_4 H9 locs hw_4 hm_4 hS => ?_)
    replace hw_4 : r_4 = ((t6 v) - (1 : Int32)) ∧ u_4 = (u18 (u1 (u0 (u6 v ((t6 v) - (1 : Int32))) (va_cpy (t4 v) (t0 v) ((t6 v - (1 : Int32)).toNatClampNeg * 112) (0) 112)) (va_cpy (t5 v) (t1 v) ((t6 v - (1 : Int32)).toNatClampNeg * 33) (0) 33)) (0 : Int32)) := hw_4
    obtain ⟨hr_4, hw_4⟩ := hw_4
    replace hr_4 := hr_4.symm
    subst hr_4
    replace hw_4 := hw_4.symm
    subst hw_4
    have hm := hm_4
    exact W.iret (v := _) hx hb hr (fun t9 ht9 _ => ⟨⟨_, _, rfl, pp ((if_neg c_1).trans (rfl)), hb9 ht9 hm⟩, hS.F ht9⟩) hS.2.2 dX10_undo_69
  · refine lv_aload_n hx hb dX10_undo_7 rfl (lv_at hl 0 rfl) ?_
    refine lv_iconst (v := (1 : Int32)) hx hb dX10_undo_8 (by decide) ?_
    refine k_calli (va_runV (As := [.int ((1 : Int32))]) (rest := []) ⟨hx, hb, hml, hown, hts⟩ (tm_fails l E h v ((1 : Int32)) ) (cwV 1 hts (lw_V q1766 q1768 qs23 q80 q1769) rfl rfl rfl (by decide +kernel) ⟨Nat.le_of_ble_eq_true rfl, Nat.le_of_ble_eq_true rfl⟩) (k_preVt hs hm hS) rfl rfl hl.1 rfl (lv_room (Nat.le_of_ble_eq_true rfl)) dX10_undo_9 ⟨Nat.le_of_ble_eq_true rfl, Nat.le_of_ble_eq_true rfl⟩) hS (fun r_5 u_5 H9 locs hw_5 hm_5 hS => ?_)
    replace hw_5 : r_5 = (0 : Int32) ∧ u_5 = (T_fails v (1 : Int32)).2 := hw_5
    obtain ⟨hr_5, hw_5⟩ := hw_5
    replace hr_5 := hr_5.symm
    subst hr_5
    replace hw_5 := hw_5.symm
    subst hw_5
    have hm := hm_5
    exact W.iret (v := _) hx hb hr (fun t9 ht9 _ => ⟨⟨_, _, rfl, pp ((if_pos c_1).trans (rfl)), hb9 ht9 hm⟩, hS.F ht9⟩) hS.2.2 dX10_undo_12
def T_save (v : tw)  : Int32 × tw :=
  ((t0 v ((51 : Int32)).toNatClampNeg), (u18 (u9 (u8 (u7 v (va_cpy (t0 v) (t7 v) (0) (0) 112)) (va_cpy (t1 v) (t8 v) (0) (0) 33)) (1 : Int32)) (0 : Int32)))
set_option maxHeartbeats 4000000 in
theorem tm_save (l : Launch) (E : mE) (h : Nat) (v : tw)   : Met l yX10_save (ws_ yX10_save cX10_save 1 (some .int)) ({ frames := 1, cells := 0, slots := 0, locals := 24 }) (va_Pc [.ref h] (tP E h v)) (va_Qi (fun (r : Int32) (u : tw) => r = (T_save v ).1 ∧ u = (T_save v ).2) (fun u U => tW E h u U.heap) (eA E)) 0 0 (eA E) := by
  refine Met.ofW (cc := cX10_save) (maxL := 1) (ret := (some .int)) (by decide) rfl ?_
  intro p e s m args below meth c s₁ B hml hv
  obtain ⟨rfl, hs, hm⟩ := hv
  have hx := B.exec
  have hb := B.bytes
  have hr := B.returns
  have hts := atoms_spec (ws := ws_ yX10_save cX10_save 1 (some .int)) B.pre
  have hts : ∀ w ∈ lw_all, w.before _ s = true := fun w h => hts w (List.mem_cons_of_mem _ h)
  have hown : s.vm.findClass RX10 = some m.cls := findClass_of_methodNamed B.named
  have hlocks := B.notSynchronized
  have hS : va_S (eA E) s.heap s.heap [] := va_S.rf
  have hl := lv_entry ([.ref h]) (n := 1) (Nat.le_of_ble_eq_true rfl)
  rw [lg_entry_eq]
  generalize (lg_sl ([.ref h]) ++ List.replicate (1 - (lg_sl ([.ref h])).length) Slot.unset).toArray = ls at hl ⊢
  have hl : lv_has ls 1 [(0, .ref (h))] := hl
  refine lv_aload_n hx hb dX10_save_0 rfl (lv_at hl 0 rfl) ?_
  refine tg_0 hx hb hts hown hs hm (hts _ q1674) dX10_save_1 ?_
  refine lv_iconst (v := (0 : Int32)) hx hb dX10_save_4 (by decide) ?_
  refine lv_aload_n hx hb dX10_save_5 rfl (lv_at hl 0 rfl) ?_
  refine tg_7 hx hb hts hown hs hm (hts _ q1681) dX10_save_6 ?_
  refine lv_iconst (v := (0 : Int32)) hx hb dX10_save_9 (by decide) ?_
  refine k_call2 1 7 hm rfl rfl (va_runS (As := [.ref (h + 1), .int (nI (0)), .ref (h + 7), .int (nI (0))]) (rest := []) ⟨hx, hb, hml, hown, hts⟩ (tm_copy l E _ _ _ _ _ _ (0) (0) (by decide) (by decide) (by decide) (by decide)) (va_cwS 4 hts (lw_S q1753 q1754 q80 q1755) rfl rfl rfl (by decide +kernel) ⟨Nat.le_of_ble_eq_true rfl, Nat.le_of_ble_eq_true rfl⟩) (k_pre2 (qa := 1) (qb := 7) hs hm rfl rfl (by decide)) rfl rfl hl.1 rfl (lv_room (Nat.le_of_ble_eq_true rfl)) dX10_save_10 ⟨Nat.le_of_ble_eq_true rfl, Nat.le_of_ble_eq_true rfl⟩) hS (fun H locs hm hS => ?_)
  have hm := tW_set_7 hm
  have hm : tW E h (u7 v (va_cpy (t0 v) (t7 v) (0) (0) 112)) H := hm
  refine lv_aload_n hx hb dX10_save_13 rfl (lv_at hl 0 rfl) ?_
  refine tg_1 hx hb hts hown hs hm (hts _ q1675) dX10_save_14 ?_
  refine lv_iconst (v := (0 : Int32)) hx hb dX10_save_17 (by decide) ?_
  refine lv_aload_n hx hb dX10_save_18 rfl (lv_at hl 0 rfl) ?_
  refine tg_8 hx hb hts hown hs hm (hts _ q1682) dX10_save_19 ?_
  refine lv_iconst (v := (0 : Int32)) hx hb dX10_save_22 (by decide) ?_
  refine k_call2 2 8 hm rfl rfl (va_runS (As := [.ref (h + 2), .int (nI (0)), .ref (h + 8), .int (nI (0))]) (rest := []) ⟨hx, hb, hml, hown, hts⟩ (tm_copyFloats l E _ _ _ _ _ _ (0) (0) (by decide) (by decide) (by decide) (by decide)) (va_cwS 4 hts (lw_S q1756 q1757 q80 q1758) rfl rfl rfl (by decide +kernel) ⟨Nat.le_of_ble_eq_true rfl, Nat.le_of_ble_eq_true rfl⟩) (k_pre2 (qa := 2) (qb := 8) hs hm rfl rfl (by decide)) rfl rfl hl.1 rfl (lv_room (Nat.le_of_ble_eq_true rfl)) dX10_save_23 ⟨Nat.le_of_ble_eq_true rfl, Nat.le_of_ble_eq_true rfl⟩) hS (fun H locs hm hS => ?_)
  have hm := tW_set_8 hm
  have hm : tW E h (u8 (u7 v (va_cpy (t0 v) (t7 v) (0) (0) 112)) (va_cpy (t1 v) (t8 v) (0) (0) 33)) H := hm
  refine lv_aload_n hx hb dX10_save_26 rfl (lv_at hl 0 rfl) ?_
  refine lv_iconst (v := (1 : Int32)) hx hb dX10_save_27 (by decide) ?_
  refine tp_9 hx hb hts hown hs hm hS (hts _ q1683) rfl rfl dX10_save_28 (fun H locs hm hS => ?_)
  have hm : tW E h (u9 (u8 (u7 v (va_cpy (t0 v) (t7 v) (0) (0) 112)) (va_cpy (t1 v) (t8 v) (0) (0) 33)) (1 : Int32)) H := hm
  refine lv_aload_n hx hb dX10_save_31 rfl (lv_at hl 0 rfl) ?_
  refine lv_aload_n hx hb dX10_save_32 rfl (lv_at hl 0 rfl) ?_
  refine tg_0 hx hb hts hown hs hm (hts _ q1674) dX10_save_33 ?_
  refine lv_bipush (v := (51 : Int32)) hx hb dX10_save_36 (by decide) ?_
  refine tl_0 hx hb hs hm (vi 51 (by decide) (by decide)) dX10_save_38 ?_
  refine k_calli (va_runV (As := [.int ((t0 v ((51 : Int32)).toNatClampNeg))]) (rest := []) ⟨hx, hb, hml, hown, hts⟩ (tm_done l E h (u9 (u8 (u7 v (va_cpy (t0 v) (t7 v) (0) (0) 112)) (va_cpy (t1 v) (t8 v) (0) (0) 33)) (1 : Int32)) ((t0 v ((51 : Int32)).toNatClampNeg)) ) (cwV 1 hts (lw_V q1770 q1772 qs24 q80 q1773) rfl rfl rfl (by decide +kernel) ⟨Nat.le_of_ble_eq_true rfl, Nat.le_of_ble_eq_true rfl⟩) (k_preVt hs hm hS) rfl rfl hl.1 rfl (lv_room (Nat.le_of_ble_eq_true rfl)) dX10_save_39 ⟨Nat.le_of_ble_eq_true rfl, Nat.le_of_ble_eq_true rfl⟩) hS (fun r_3 u_3 H9 locs hw_3 hm_3 hS => ?_)
  replace hw_3 : r_3 = (t0 v ((51 : Int32)).toNatClampNeg) ∧ u_3 = (u18 (u9 (u8 (u7 v (va_cpy (t0 v) (t7 v) (0) (0) 112)) (va_cpy (t1 v) (t8 v) (0) (0) 33)) (1 : Int32)) (0 : Int32)) := hw_3
  obtain ⟨hr_3, hw_3⟩ := hw_3
  replace hr_3 := hr_3.symm
  subst hr_3
  replace hw_3 := hw_3.symm
  subst hw_3
  have hm := hm_3
  exact W.iret (v := _) hx hb hr (fun t9 ht9 _ => ⟨⟨_, _, rfl, pp (rfl), hb9 ht9 hm⟩, hS.F ht9⟩) hS.2.2 dX10_save_42
def T_restore (v : tw)  : Int32 × tw :=
  if (t9 v) = 0 then
    ((0 : Int32), (T_fails v (1 : Int32)).2)
  else
    (((va_cpy (t7 v) (t0 v) (0) (0) 112) ((51 : Int32)).toNatClampNeg), (u18 (u6 (u1 (u0 v (va_cpy (t7 v) (t0 v) (0) (0) 112)) (va_cpy (t8 v) (t1 v) (0) (0) 33)) (0 : Int32)) (0 : Int32)))
set_option maxHeartbeats 4000000 in
theorem tm_restore (l : Launch) (E : mE) (h : Nat) (v : tw)   : Met l yX10_restore (ws_ yX10_restore cX10_restore 1 (some .int)) ({ frames := 1, cells := 0, slots := 0, locals := 24 }) (va_Pc [.ref h] (tP E h v)) (va_Qi (fun (r : Int32) (u : tw) => r = (T_restore v ).1 ∧ u = (T_restore v ).2) (fun u U => tW E h u U.heap) (eA E)) 0 0 (eA E) := by
  refine Met.ofW (cc := cX10_restore) (maxL := 1) (ret := (some .int)) (by decide) rfl ?_
  intro p e s m args below meth c s₁ B hml hv
  obtain ⟨rfl, hs, hm⟩ := hv
  have hx := B.exec
  have hb := B.bytes
  have hr := B.returns
  have hts := atoms_spec (ws := ws_ yX10_restore cX10_restore 1 (some .int)) B.pre
  have hts : ∀ w ∈ lw_all, w.before _ s = true := fun w h => hts w (List.mem_cons_of_mem _ h)
  have hown : s.vm.findClass RX10 = some m.cls := findClass_of_methodNamed B.named
  have hlocks := B.notSynchronized
  have hS : va_S (eA E) s.heap s.heap [] := va_S.rf
  have hl := lv_entry ([.ref h]) (n := 1) (Nat.le_of_ble_eq_true rfl)
  rw [lg_entry_eq]
  generalize (lg_sl ([.ref h]) ++ List.replicate (1 - (lg_sl ([.ref h])).length) Slot.unset).toArray = ls at hl ⊢
  have hl : lv_has ls 1 [(0, .ref (h))] := hl
  refine lv_aload_n hx hb dX10_restore_0 rfl (lv_at hl 0 rfl) ?_
  refine tg_9 hx hb hts hown hs hm (hts _ q1683) dX10_restore_1 ?_
  refine lv_if_ne (tgt := 13) hx hb dX10_restore_4 (by decide) (fun c_1 => ?_) (fun c_1 => ?_)
  · refine lv_aload_n hx hb dX10_restore_13 rfl (lv_at hl 0 rfl) ?_
    refine tg_7 hx hb hts hown hs hm (hts _ q1681) dX10_restore_14 ?_
    refine lv_iconst (v := (0 : Int32)) hx hb dX10_restore_17 (by decide) ?_
    refine lv_aload_n hx hb dX10_restore_18 rfl (lv_at hl 0 rfl) ?_
    refine tg_0 hx hb hts hown hs hm (hts _ q1674) dX10_restore_19 ?_
    refine lv_iconst (v := (0 : Int32)) hx hb dX10_restore_22 (by decide) ?_
    refine k_call2 7 1 hm rfl rfl (va_runS (As := [.ref (h + 7), .int (nI (0)), .ref (h + 1), .int (nI (0))]) (rest := []) ⟨hx, hb, hml, hown, hts⟩ (tm_copy l E _ _ _ _ _ _ (0) (0) (by decide) (by decide) (by decide) (by decide)) (va_cwS 4 hts (lw_S q1753 q1754 q80 q1755) rfl rfl rfl (by decide +kernel) ⟨Nat.le_of_ble_eq_true rfl, Nat.le_of_ble_eq_true rfl⟩) (k_pre2 (qa := 7) (qb := 1) hs hm rfl rfl (by decide)) rfl rfl hl.1 rfl (lv_room (Nat.le_of_ble_eq_true rfl)) dX10_restore_23 ⟨Nat.le_of_ble_eq_true rfl, Nat.le_of_ble_eq_true rfl⟩) hS (fun H locs hm hS => ?_)
    have hm := tW_set_0 hm
    have hm : tW E h (u0 v (va_cpy (t7 v) (t0 v) (0) (0) 112)) H := hm
    refine lv_aload_n hx hb dX10_restore_26 rfl (lv_at hl 0 rfl) ?_
    refine tg_8 hx hb hts hown hs hm (hts _ q1682) dX10_restore_27 ?_
    refine lv_iconst (v := (0 : Int32)) hx hb dX10_restore_30 (by decide) ?_
    refine lv_aload_n hx hb dX10_restore_31 rfl (lv_at hl 0 rfl) ?_
    refine tg_1 hx hb hts hown hs hm (hts _ q1675) dX10_restore_32 ?_
    refine lv_iconst (v := (0 : Int32)) hx hb dX10_restore_35 (by decide) ?_
    refine k_call2 8 2 hm rfl rfl (va_runS (As := [.ref (h + 8), .int (nI (0)), .ref (h + 2), .int (nI (0))]) (rest := []) ⟨hx, hb, hml, hown, hts⟩ (tm_copyFloats l E _ _ _ _ _ _ (0) (0) (by decide) (by decide) (by decide) (by decide)) (va_cwS 4 hts (lw_S q1756 q1757 q80 q1758) rfl rfl rfl (by decide +kernel) ⟨Nat.le_of_ble_eq_true rfl, Nat.le_of_ble_eq_true rfl⟩) (k_pre2 (qa := 8) (qb := 2) hs hm rfl rfl (by decide)) rfl rfl hl.1 rfl (lv_room (Nat.le_of_ble_eq_true rfl)) dX10_restore_36 ⟨Nat.le_of_ble_eq_true rfl, Nat.le_of_ble_eq_true rfl⟩) hS (fun H locs hm hS => ?_)
    have hm := tW_set_1 hm
    have hm : tW E h (u1 (u0 v (va_cpy (t7 v) (t0 v) (0) (0) 112)) (va_cpy (t8 v) (t1 v) (0) (0) 33)) H := hm
    refine lv_aload_n hx hb dX10_restore_39 rfl (lv_at hl 0 rfl) ?_
    refine lv_iconst (v := (0 : Int32)) hx hb dX10_restore_40 (by decide) ?_
    refine tp_6 hx hb hts hown hs hm hS (hts _ q1680) dX10_restore_41 (fun H locs hm hS => ?_)
    have hm : tW E h (u6 (u1 (u0 v (va_cpy (t7 v) (t0 v) (0) (0) 112)) (va_cpy (t8 v) (t1 v) (0) (0) 33)) (0 : Int32)) H := hm
    refine lv_aload_n hx hb dX10_restore_44 rfl (lv_at hl 0 rfl) ?_
    refine lv_aload_n hx hb dX10_restore_45 rfl (lv_at hl 0 rfl) ?_
    refine tg_0 hx hb hts hown hs hm (hts _ q1674) dX10_restore_46 ?_
    refine lv_bipush (v := (51 : Int32)) hx hb dX10_restore_49 (by decide) ?_
    refine tl_0 hx hb hs hm (vi 51 (by decide) (by decide)) dX10_restore_51 ?_
    refine k_calli (va_runV (As := [.int (((va_cpy (t7 v) (t0 v) (0) (0) 112) ((51 : Int32)).toNatClampNeg))]) (rest := []) ⟨hx, hb, hml, hown, hts⟩ (tm_done l E h (u6 (u1 (u0 v (va_cpy (t7 v) (t0 v) (0) (0) 112)) (va_cpy (t8 v) (t1 v) (0) (0) 33)) (0 : Int32)) (((va_cpy (t7 v) (t0 v) (0) (0) 112) ((51 : Int32)).toNatClampNeg)) ) (cwV 1 hts (lw_V q1770 q1772 qs24 q80 q1773) rfl rfl rfl (by decide +kernel) ⟨Nat.le_of_ble_eq_true rfl, Nat.le_of_ble_eq_true rfl⟩) (k_preVt hs hm hS) rfl rfl hl.1 rfl (lv_room (Nat.le_of_ble_eq_true rfl)) dX10_restore_52 ⟨Nat.le_of_ble_eq_true rfl, Nat.le_of_ble_eq_true rfl⟩) hS (fun r_4 u_4 H9 locs hw_4 hm_4 hS => ?_)
    replace hw_4 : r_4 = ((va_cpy (t7 v) (t0 v) (0) (0) 112) ((51 : Int32)).toNatClampNeg) ∧ u_4 = (u18 (u6 (u1 (u0 v (va_cpy (t7 v) (t0 v) (0) (0) 112)) (va_cpy (t8 v) (t1 v) (0) (0) 33)) (0 : Int32)) (0 : Int32)) := hw_4
    obtain ⟨hr_4, hw_4⟩ := hw_4
    replace hr_4 := hr_4.symm
    subst hr_4
    replace hw_4 := hw_4.symm
    subst hw_4
    have hm := hm_4
    exact W.iret (v := _) hx hb hr (fun t9 ht9 _ => ⟨⟨_, _, rfl, pp ((if_neg c_1).trans (rfl)), hb9 ht9 hm⟩, hS.F ht9⟩) hS.2.2 dX10_restore_55
  · refine lv_aload_n hx hb dX10_restore_7 rfl (lv_at hl 0 rfl) ?_
    refine lv_iconst (v := (1 : Int32)) hx hb dX10_restore_8 (by decide) ?_
    refine k_calli (va_runV (As := [.int ((1 : Int32))]) (rest := []) ⟨hx, hb, hml, hown, hts⟩ (tm_fails l E h v ((1 : Int32)) ) (cwV 1 hts (lw_V q1766 q1768 qs23 q80 q1769) rfl rfl rfl (by decide +kernel) ⟨Nat.le_of_ble_eq_true rfl, Nat.le_of_ble_eq_true rfl⟩) (k_preVt hs hm hS) rfl rfl hl.1 rfl (lv_room (Nat.le_of_ble_eq_true rfl)) dX10_restore_9 ⟨Nat.le_of_ble_eq_true rfl, Nat.le_of_ble_eq_true rfl⟩) hS (fun r_5 u_5 H9 locs hw_5 hm_5 hS => ?_)
    replace hw_5 : r_5 = (0 : Int32) ∧ u_5 = (T_fails v (1 : Int32)).2 := hw_5
    obtain ⟨hr_5, hw_5⟩ := hw_5
    replace hr_5 := hr_5.symm
    subst hr_5
    replace hw_5 := hw_5.symm
    subst hw_5
    have hm := hm_5
    exact W.iret (v := _) hx hb hr (fun t9 ht9 _ => ⟨⟨_, _, rfl, pp ((if_pos c_1).trans (rfl)), hb9 ht9 hm⟩, hS.F ht9⟩) hS.2.2 dX10_restore_12
