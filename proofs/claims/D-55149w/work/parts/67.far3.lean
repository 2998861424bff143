set_option maxRecDepth 100000
/-! days stay in their cliff -/
section FP
variable {t : mt} {M N : mm} {c p : Nat} {z : Int32 × mm}
theorem S_day_aR (M z : mm) (k b : Nat) : aR (S_day t M c z k) b = aR z b := by
  unfold S_day
  dsimp only
  split <;> rfl
theorem day_aR (b : Nat) : ∀ k, aR (L_day t M c k) b = aR M b
  | 0 => by rw [L_day_0]
  | k + 1 => by rw [L_day_s, S_day_aR, day_aR b k]
theorem S_shd_aR (M : mm) (k b : Nat) : aR (S_shd t M c z k).2 b = aR z.2 b := by
  unfold S_shd
  dsimp only
  (repeat' split) <;> rfl
theorem shd_aR (b : Nat) : ∀ k, aR (L_shd t M c k).2 b = aR M b
  | 0 => by rw [L_shd_0]
  | k + 1 => by rw [L_shd_s, S_shd_aR, shd_aR b k]
theorem goes_aR (b : Nat) : aR (C2_goesBy t M c).2 b = aR M b := by
  unfold C2_goesBy
  split
  · exact (shd_aR b _).trans (day_aR b _)
  · exact (shd_aR b _).trans (day_aR b _)
theorem pass_aR (b : Nat) : ∀ k, aR (L_pass t M c k).2 b = aR M b
  | 0 => by rw [L_pass_0]
  | k + 1 => by
    rw [L_pass_s]
    exact (goes_aR b).trans (pass_aR b k)
def ownP (M : mm) (c : Nat) : Prop := ∀ k, k < 12 → ∀ p, aR M (c + 4) k = some p → marP c p ∨ beaP c p
theorem wfK.own (h : wfK M c) : ownP M c := fun k hk p hp => (h.2.2.1 k hk p hp).1
theorem far_Sday (hf : far c 64 M N) (ho : ownP N c) {k : Nat} (hk : k < 12) : far c 64 M (S_day t M c N k) := by
  unfold S_day
  dsimp only
  split
  · exact hf.wF (by omega)
  · rename_i h
    have hp : c + 12 ≤ (aR N (c + 4) k).getD 0 ∧ (aR N (c + 4) k).getD 0 < c + 48 := by
      cases e : aR N (c + 4) k with
      | none => exact absurd e h
      | some p => exact mar_in (ho k hk p e)
    exact (hf.wF (by omega)).sF (by omega)
theorem far_day (ho : ownP M c) : ∀ k, k ≤ 12 → far c 64 M (L_day t M c k)
  | 0, _ => by rw [L_day_0]; exact far.rf _ _ _
  | k + 1, h => by
    rw [L_day_s]
    exact far_Sday (far_day ho k (by omega)) (fun i hi p hp => ho i hi p (by rw [← day_aR (t := t) (M := M) (c := c) (c + 4) k]; exact hp)) (by omega)
theorem far_shd : ∀ k, k ≤ 4 → far c 64 M (L_shd t M c k).2
  | 0, _ => by rw [L_shd_0]; exact far.rf _ _ _
  | k + 1, h => by
    rw [L_shd_s]
    have f := far_shd k (by omega)
    unfold S_shd
    dsimp only
    (repeat' split) <;> first | exact f | exact f.sF (by omega) | exact (f.sI (by omega)).sF (by omega)
theorem far_goes (ho : ownP M c) (hn : ix 5 (gI (L_day t M c 12) 212 c)) : far c 64 M (C2_goesBy t M c).2 := by
  have hl := hn.nlt
  have f := (far_day (t := t) ho 12 (by decide)).tr (far_shd (t := t) (gI (L_day t M c 12) 212 c).toNatClampNeg (by omega))
  unfold C2_goesBy
  split
  · exact (f.wI (by omega)).sI (by omega)
  · exact f.sI (by omega)
theorem far_pass (hw : wfC t M c) (ho : ownP M c) : ∀ k, far c 64 M (L_pass t M c k).2
  | 0 => by rw [L_pass_0]; exact far.rf _ _ _
  | k + 1 => by
    rw [L_pass_s]
    exact (far_pass hw ho k).tr (far_goes (fun i hi p hp => ho i hi p (by rw [← pass_aR (t := t) (M := M) (c := c) (c + 4) k]; exact hp)) (wfC_day (wfC_pass hw k) 12 (by decide)).sh)
end FP
/-! checks -/
section CHK
variable {t : mt} {M : mm} {c : Nat} {x y hi : Int32} {B : Nat}
theorem in_ix (h : ¬ C1_in x 0 hi = 0) (hh : hi.toInt < B) (hB : B ≤ 2 ^ 30) : ix B x := by
  unfold C1_in at h
  by_cases c1 : x < 0
  · rw [if_pos c1] at h; exact absurd rfl h
  · rw [if_neg c1] at h
    by_cases c2 : hi < x
    · rw [if_pos c2] at h; exact absurd rfl h
    · exact ix.of c1 c2 hh hB
theorem cplot_ix (h : ¬ C1_isPlot x = 0) : ix 12 x := in_ix h (by decide) (by decide)
theorem in_01 (h : ¬ C1_in x 0 1 = 0) : x = 0 ∨ x = 1 := by
  obtain ⟨k, hk, rfl⟩ := in_ix (B := 2) h (by decide) (by decide)
  have : k = 0 ∨ k = 1 := by omega
  rcases this with rfl | rfl
  · exact .inl rfl
  · exact .inr rfl
theorem kind_01 (h : ¬ C1_isKind x = 0) : x = 0 ∨ x = 1 := in_01 h
theorem in_ltB {B k : Nat} (hk : k < B + 1) (hB : B + 1 ≤ 2 ^ 30) (h : ¬ C1_in x 0 (nI k - 1) = 0) : ix B x ∧ x.toNatClampNeg < k := by
  have e : (nI k - 1).toInt < k := by
    have := ix.pred (B := k) (n := nI k) ⟨k, by omega, rfl⟩ (by omega)
    exact this
  have h1 := in_ix (B := k) h e (by omega)
  exact ⟨h1.mono (by omega), h1.nlt (by omega)⟩
theorem cmem_ix (hn : ix 7 (gI M 211 c)) (h : ¬ C2_isMember t M c x = 0) : ix 6 x ∧ x.toNatClampNeg < (gI M 211 c).toNatClampNeg := by
  obtain ⟨k, hk, e⟩ := hn
  have h1 : ¬ C1_in x 0 (gI M 211 c - 1) = 0 := h
  rw [e] at h1
  have := in_ltB (B := 6) hk (by decide) h1
  rw [e, cl_nI (by omega)]
  exact this
theorem cshd_ix (hn : ix 5 (gI M 212 c)) (h : ¬ C2_isShed t M c x = 0) : ix 4 x ∧ x.toNatClampNeg < (gI M 212 c).toNatClampNeg := by
  obtain ⟨k, hk, e⟩ := hn
  have h1 : ¬ C1_in x 0 (gI M 212 c - 1) = 0 := h
  rw [e] at h1
  have := in_ltB (B := 4) hk (by decide) h1
  rw [e, cl_nI (by omega)]
  exact this
theorem cprz_ix (hn : ix 6 (gI M 213 c)) (h : ¬ C1_in x 0 (gI M 213 c - 1) = 0) : ix 5 x := by
  obtain ⟨k, hk, e⟩ := hn
  rw [e] at h
  exact (in_ltB (B := 5) hk (by decide) h).1
theorem cplace_ix (h : ¬ C1_isPlace x y = 0) : (x = 0 ∨ x = 1) ∧ ix 5 y := by
  unfold C1_isPlace at h
  dsimp only at h
  by_cases c1 : C1_in x 0 1 = 0
  · rw [if_pos c1] at h; exact absurd rfl h
  · rw [if_neg c1] at h
    by_cases c2 : C1_in y 0 4 = 0
    · rw [if_pos c2] at h; exact absurd rfl h
    · exact ⟨in_01 c1, in_ix c2 (by decide) (by decide)⟩
theorem and2 {a b x : Int32} (h : x = (if a = 0 then (0 : Int32) else if b = 0 then (0 : Int32) else (1 : Int32))) (hx : ¬ x = 0) : ¬ a = 0 ∧ ¬ b = 0 := by
  subst h
  refine ⟨fun e => hx (if_pos e), fun e => hx ?_⟩
  by_cases c1 : a = 0
  · exact if_pos c1
  · rw [if_neg c1, if_pos e]
end CHK
/-! keep leaves the cliff, the tried and the saved alone -/
section KF
variable {t : mt} {M : mm} {c : Nat} {K S : List Nat}
theorem far.wide {a n b m : Nat} {M N : mm} (h : far a n M N) (h1 : b ≤ a) (h2 : a + n ≤ b + m) : far b m M N := fun z hz => h z (by omega)
theorem eight_le {a q : Nat} (h : q ∈ eight a) : q ≤ a + 651 := by
  simp only [eight, List.mem_cons, List.not_mem_nil, or_false] at h
  omega
theorem keep_far (hA : layA t c) (hw : wfA M c K S) : far (c + 193) 522 M (C1_keep t M c) := by
  unfold C1_keep
  dsimp only
  split
  · rename_i h
    obtain ⟨⟨q, L, -, h1, h2, -⟩, h3⟩ := kp_g (t := t) hA hw rfl h rfl rfl
    rw [h2]
    have hk := h3 (c + 1) (by simp [cliffs])
    have := eight_le h1
    have := eight_ge h1
    exact (((far_poll1 (c + 195)).wide (by omega) (by omega)).tr ((far_take (h3 q (eight_c h1)) hk.n1 hk.n2 hk.n3).wide (by show c + 193 ≤ q; omega) (by show q + 64 ≤ _; omega))).tr ((far_add _ _).wide (by omega) (by omega))
  · rename_i h
    obtain ⟨⟨q, L, -, -, h1, h2, -⟩, h3⟩ := kp_f (t := t) hA hw rfl h rfl rfl
    rw [h2]
    have hk := h3 (c + 1) (by simp [cliffs])
    have := eight_le h1
    have := eight_ge h1
    exact (((far_poll1 (c + 193)).wide (by omega) (by omega)).tr ((far_take (h3 q (eight_c h1)) hk.n1 hk.n2 hk.n3).wide (by show c + 193 ≤ q; omega) (by show q + 64 ≤ _; omega))).tr ((far_add _ _).wide (by omega) (by omega))
theorem keep_w1 (hA : layA t c) (hw : wfA M c K S) : wfK (C1_keep t M c) (c + 1) := hw.w1.far (keep_far hA hw) (by omega)
theorem keep_w2 (hA : layA t c) (hw : wfA M c K S) : wfK (C1_keep t M c) (c + 65) := hw.w2.far (keep_far hA hw) (by omega)
theorem tryOn_far (hw : wfA M c K S) : far (c + 65) 64 M (C1_tryOn t M c).2 := far_take hw.w2 hw.w1.n1 hw.w1.n2 hw.w1.n3
/-- what happens to the tried cliff alone -/
theorem wfA.tried {N : mm} (h : wfA M c K S) (hf : far (c + 65) 64 M N) (hk : wfK N (c + 65)) : wfA N c K S := by
  refine ⟨fun z hz => ?_, h.2.1.far hf (by omega), h.2.2.1.far hf (by omega), h.2.2.2⟩
  by_cases e : z = c + 65
  · subst e; exact hk
  · have := cliffs_at hz
    exact (h.1 z hz).far hf (by
      simp only [cliffs, List.mem_cons, List.not_mem_nil, or_false] at hz
      omega)
theorem tryOn_wf (hw : wfA M c K S) (hT : wfK (C1_tryOn t M c).2 (c + 65)) : wfA (C1_tryOn t M c).2 c K S := hw.tried (tryOn_far hw) hT
end KF
theorem cin1_ix {x : Int32} (h : ¬ C1_in x 1 60 = 0) : ix 61 x := by
  unfold C1_in at h
  by_cases c1 : x < 1
  · rw [if_pos c1] at h; exact absurd rfl h
  · rw [if_neg c1] at h
    by_cases c2 : (60 : Int32) < x
    · rw [if_pos c2] at h; exact absurd rfl h
    · refine ix.of (hi := 60) (fun h9 => c1 ?_) c2 (by decide) (by decide)
      rw [i_lt] at h9 ⊢
      exact Int.lt_trans h9 (by decide)
/-! what 'take' makes of the numbers -/
theorem take_gI (t : mt) (M : mm) (c d : Nat) {f : Nat} (h1 : 211 ≤ f) (h2 : f ≤ 219) : gI (C2_take t M c d) f c = gI M f d := by
  have e : ∀ g, 211 ≤ g → g ≤ 219 → ∀ (u : mm), (∀ b, gI u g b = gI M g b) → gI (L_tkp t (L_tks t (L_tkm t u c d (gI M 211 d).toNatClampNeg) c d (gI M 212 d).toNatClampNeg) c d ((gI M 213 d).toNatClampNeg)) g d = gI M g d := fun g h1 h2 u hu => by
    rw [tkp_gI t _ c d g d (by omega), tks_gI t _ c d g d (by omega), tkm_gI t _ c d g d (by omega), hu]
  have e0 : ∀ g, 211 ≤ g → g ≤ 219 → ∀ b, gI (C2_takePlants t (wI (wI (wF M (c + 1) (va_cpy (aF M (d + 1)) (aF M (c + 1)) 0 0 12)) (c + 2) (va_cpy (aI M (d + 2)) (aI M (c + 2)) 0 0 12)) (c + 3) (va_cpy (aI (wI (wF M (c + 1) (va_cpy (aF M (d + 1)) (aF M (c + 1)) 0 0 12)) (c + 2) (va_cpy (aI M (d + 2)) (aI M (c + 2)) 0 0 12)) (d + 3)) (aI (wI (wF M (c + 1) (va_cpy (aF M (d + 1)) (aF M (c + 1)) 0 0 12)) (c + 2) (va_cpy (aI M (d + 2)) (aI M (c + 2)) 0 0 12)) (c + 3)) 0 0 12)) (c) (d)) g b = gI M g b := fun g h1 h2 b => by
    rw [tp_gI t _ c d (by unfold npF; omega) b]
    rfl
  unfold C2_take
  generalize C2_takePlants t _ c d = u at e0
  dsimp only
  have e1 := fun g h1 h2 => e g h1 h2 u (e0 g h1 h2)
  generalize L_tkp t _ c d _ = v at e1
  have e2 : ∀ g, 211 ≤ g → g ≤ 219 → gI v g d = gI M g d := e1
  have key : f = 211 ∨ f = 212 ∨ f = 213 ∨ f = 214 ∨ f = 215 ∨ f = 216 ∨ f = 217 ∨ f = 218 ∨ f = 219 := by omega
  rcases key with rfl | rfl | rfl | rfl | rfl | rfl | rfl | rfl | rfl
  all_goals
    rw [← e2 _ (by decide) (by decide)]
    by_cases hcd : d = c
    · subst hcd
      simp only [gI, sI, m2_at, m2_nf, ne_eq, Nat.reduceEqDiff, not_false_eq_true]
    · simp only [gI, sI, m2_at, m2_nf, ne_eq, Nat.reduceEqDiff, not_false_eq_true]
theorem cin90_ix {x : Int32} (h : ¬ C1_in x 1 90 = 0) : ix 91 x := by
  unfold C1_in at h
  by_cases c1 : x < 1
  · rw [if_pos c1] at h; exact absurd rfl h
  · rw [if_neg c1] at h
    by_cases c2 : (90 : Int32) < x
    · rw [if_pos c2] at h; exact absurd rfl h
    · refine ix.of (hi := 90) (fun h9 => c1 ?_) c2 (by decide) (by decide)
      rw [i_lt] at h9 ⊢
      exact Int.lt_trans h9 (by decide)
theorem nn2 {r : Option Nat} {x : Int32} (h : x = (if r = none then (0 : Int32) else (1 : Int32))) (hx : ¬ x = 0) : ¬ r = none := by
  subst h
  exact fun e => hx (if_pos e)
theorem bench_plO {t : mt} {M : mm} {c : Nat} {y z : Int32} (h : wfK M c) (hL : lay t c) (hz : ix 5 z) : plO t (aR M (C2_bench t M c y) z.toNatClampNeg) := by
  rcases bench_in (t := t) c M y with e | e
  · rw [e]; exact fun p hp => .inl (h.m7 hL _ hz.nlt p hp)
  · rw [e]; exact fun p hp => .inr (h.m8 hL _ hz.nlt p hp)
