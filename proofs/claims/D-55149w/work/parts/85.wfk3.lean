set_option maxRecDepth 100000
/-! days and orders leave what stands in a cliff; how many orders a text has -/
section WP
variable {t : mt} {M N : mm} {c d : Nat} {x : Int32}
theorem wfK_of (h : wfK M c) (hc : wfC t N c) (fg : ∀ f b, f ≠ 602 → f ≠ 216 → gI N f b = gI M f b) (fd : aI N (c + 3) = aI M (c + 3)) (fr : ∀ b, aR N b = aR M b) (fs : ∀ b, gI N 602 b = gI M 602 b ∨ gI N 602 b = 0) : wfK N c := by
  have f1 := fg 211 c (by decide) (by decide)
  have f2 := fg 212 c (by decide) (by decide)
  have f3 := fg 213 c (by decide) (by decide)
  refine ⟨⟨hc.1, hc.2.1, hc.2.2.1, by rw [f1]; exact h.n1, by rw [f3]; exact h.n3⟩, fun k hk => ⟨hc.2.2.2.1 k hk, hc.2.2.2.2.1 k hk, by rw [fd]; exact h.dg k hk⟩, fun k hk p hp => ⟨?_, hc.2.2.2.2.2.2.1 k hk p hp⟩, fun k hk p hp => ?_, fun k hk p hp => ?_, fun k hk hn => ⟨(hc.2.2.2.2.2.2.2 k hk hn).1, (hc.2.2.2.2.2.2.2 k hk hn).2, ?_⟩, fun k hk hn => ?_, fun k hk => ?_⟩
  · rw [fr] at hp; exact h.own k hk p hp
  · rw [fr] at hp; exact h.2.2.2.1 k hk p hp
  · rw [fr] at hp; exact h.2.2.2.2.1 k hk p hp
  · rw [f2] at hn
    rcases fs (c + 54 + k) with e | e
    · rw [e]; exact h.st k hk hn
    · exact .inl e
  · rw [f1] at hn
    rw [fg 500 _ (by decide) (by decide)]
    exact h.mp k hk hn
  · rw [fr]; exact h.2.2.2.2.2.2.2 k hk
theorem S_day_gI (M z : mm) (k f b : Nat) : gI (S_day t M c z k) f b = gI z f b := by
  unfold S_day
  dsimp only
  split <;> rfl
theorem day_gI (f b : Nat) : ∀ k, gI (L_day t M c k) f b = gI M f b
  | 0 => by rw [L_day_0]
  | k + 1 => by rw [L_day_s, S_day_gI, day_gI f b k]
theorem S_day_aI (M z : mm) (k b : Nat) : aI (S_day t M c z k) b = aI z b := by
  unfold S_day
  dsimp only
  split <;> rfl
theorem day_aI (b : Nat) : ∀ k, aI (L_day t M c k) b = aI M b
  | 0 => by rw [L_day_0]
  | k + 1 => by rw [L_day_s, S_day_aI, day_aI b k]
theorem S_shd_gI (M : mm) (z : Int32 × mm) (k f b : Nat) (hf : f ≠ 602) : gI (S_shd t M c z k).2 f b = gI z.2 f b := by
  unfold S_shd
  dsimp only
  (repeat' split) <;> first | rfl | exact m2_nf _ _ hf
theorem S_shd_602 (M : mm) (z : Int32 × mm) (k b : Nat) : gI (S_shd t M c z k).2 602 b = gI z.2 602 b ∨ gI (S_shd t M c z k).2 602 b = 0 := by
  have key : gI (C7_blowsOff t z.2 (c + 54 + k)) 602 b = gI z.2 602 b ∨ gI (C7_blowsOff t z.2 (c + 54 + k)) 602 b = 0 := by
    by_cases e : b = c + 54 + k
    · subst e; exact .inr (m2_at _ _ _ _)
    · exact .inl (m2_ne _ _ e)
  unfold S_shd
  dsimp only
  (repeat' split) <;> first | exact .inl rfl | exact key
theorem S_shd_aI (M : mm) (z : Int32 × mm) (k b : Nat) : aI (S_shd t M c z k).2 b = aI z.2 b := by
  unfold S_shd
  dsimp only
  (repeat' split) <;> rfl
theorem shd_gI (f b : Nat) (hf : f ≠ 602) : ∀ k, gI (L_shd t M c k).2 f b = gI M f b
  | 0 => by rw [L_shd_0]
  | k + 1 => by rw [L_shd_s, S_shd_gI _ _ _ _ _ hf, shd_gI f b hf k]
theorem shd_602 (b : Nat) : ∀ k, gI (L_shd t M c k).2 602 b = gI M 602 b ∨ gI (L_shd t M c k).2 602 b = 0
  | 0 => by rw [L_shd_0]; exact .inl rfl
  | k + 1 => by
    rw [L_shd_s]
    rcases S_shd_602 (t := t) (c := c) M (L_shd t M c k) k b with e | e
    · rcases shd_602 b k with e2 | e2
      · exact .inl (e.trans e2)
      · exact .inr (e.trans e2)
    · exact .inr e
theorem shd_aI (b : Nat) : ∀ k, aI (L_shd t M c k).2 b = aI M b
  | 0 => by rw [L_shd_0]
  | k + 1 => by rw [L_shd_s, S_shd_aI, shd_aI b k]
theorem goes_gI (f b : Nat) (hf : f ≠ 602) (hf2 : f ≠ 216) : gI (C2_goesBy t M c).2 f b = gI M f b := by
  unfold C2_goesBy
  split
  · exact (m2_nf _ _ hf2).trans ((shd_gI f b hf _).trans (day_gI f b _))
  · exact (m2_nf _ _ hf2).trans ((shd_gI f b hf _).trans (day_gI f b _))
theorem goes_602 (b : Nat) : gI (C2_goesBy t M c).2 602 b = gI M 602 b ∨ gI (C2_goesBy t M c).2 602 b = 0 := by
  have key : ∀ k, gI (L_shd t (L_day t M c 12) c k).2 602 b = gI M 602 b ∨ gI (L_shd t (L_day t M c 12) c k).2 602 b = 0 := fun k => by
    have h := shd_602 (t := t) (M := L_day t M c 12) (c := c) b k
    rw [day_gI 602 b 12] at h
    exact h
  have k2 : ∀ (u : mm) (w : Int32), gI (sI u 216 c w) 602 b = gI u 602 b := fun u w => gI_sI_f u c b w (by decide)
  unfold C2_goesBy
  split
  · exact (key _).elim (fun e => .inl ((k2 _ _).trans e)) (fun e => .inr ((k2 _ _).trans e))
  · exact (key _).elim (fun e => .inl ((k2 _ _).trans e)) (fun e => .inr ((k2 _ _).trans e))
theorem goes_aI (b : Nat) (hb : b ≠ c + 2) : aI (C2_goesBy t M c).2 b = aI M b := by
  unfold C2_goesBy
  split
  · exact (m1_ne _ _ hb).trans ((shd_aI b _).trans (day_aI b _))
  · exact (shd_aI b _).trans (day_aI b _)
theorem pass_gI (f b : Nat) (hf : f ≠ 602) (hf2 : f ≠ 216) : ∀ k, gI (L_pass t M c k).2 f b = gI M f b
  | 0 => by rw [L_pass_0]
  | k + 1 => by
    rw [L_pass_s]
    exact (goes_gI f b hf hf2).trans (pass_gI f b hf hf2 k)
theorem pass_602 (b : Nat) : ∀ k, gI (L_pass t M c k).2 602 b = gI M 602 b ∨ gI (L_pass t M c k).2 602 b = 0
  | 0 => by rw [L_pass_0]; exact .inl rfl
  | k + 1 => by
    rw [L_pass_s]
    rcases goes_602 (t := t) (M := (L_pass t M c k).2) (c := c) b with e | e
    · rcases pass_602 b k with e2 | e2
      · exact .inl (e.trans e2)
      · exact .inr (e.trans e2)
    · exact .inr e
theorem pass_aI (b : Nat) (hb : b ≠ c + 2) : ∀ k, aI (L_pass t M c k).2 b = aI M b
  | 0 => by rw [L_pass_0]
  | k + 1 => by
    rw [L_pass_s]
    exact (goes_aI b hb).trans (pass_aI b hb k)
theorem wfK.pass (h : wfK M c) (hL : lay t c) (k : Nat) : wfK (L_pass t M c k).2 c :=
  wfK_of h (wfC_pass (h.wfC hL) k) (fun f b hf hf2 => pass_gI f b hf hf2 k) (pass_aI _ (by omega) k) (fun b => pass_aR b k) (fun b => pass_602 b k)
theorem wfK_ite3 {A : Prop} [Decidable A] {σ τ υ : Type} {a b : σ × τ × υ × mm} (h1 : A → wfK a.2.2.2 c) (h2 : ¬ A → wfK b.2.2.2 c) : wfK (if A then a else b).2.2.2 c := by
  by_cases h : A
  · rw [if_pos h]; exact h1 h
  · rw [if_neg h]; exact h2 h
theorem wfK.does (hw : wfK M d) (hD : lay t d) (hi : ¬ C9_isRight t M c d x = 0) : wfK (C9_does t M c d x).2.2.2 d := by
  have hi0 := hi
  unfold C9_does
  dsimp only
  by_cases h1 : aI M (c + 1) x.toNatClampNeg = 99
  · rw [if_pos h1]; exact hw.count
  rw [if_neg h1]
  by_cases h2 : aI M (c + 1) x.toNatClampNeg = 100
  · rw [if_pos h2]
    exact wfK_ite3 (fun _ => hw.dig (cr_d hw hi h2).1 (cr_d hw hi h2).2) (fun _ => hw.dig (cr_d hw hi h2).1 (cr_d hw hi h2).2)
  rw [if_neg h2]
  by_cases h3 : aI M (c + 1) x.toNatClampNeg = 110
  · rw [if_pos h3]
    unfold C9_isRight at hi
    rw [if_neg h1, if_neg h2, if_pos h3] at hi
    exact hw.s215 (in_ix hi (by decide) (by decide))
  rw [if_neg h3]
  by_cases h4 : aI M (c + 1) x.toNatClampNeg = 114
  · rw [if_pos h4]
    exact wfK_ite3 (fun _ => hw.rest) (fun _ => hw.rest)
  rw [if_neg h4]
  by_cases h5 : aI M (c + 1) x.toNatClampNeg = 118
  · rw [if_pos h5]
    exact wfK_ite3 (fun _ => hw.vote) (fun _ => hw.vote)
  rw [if_neg h5]
  by_cases h6 : aI M (c + 1) x.toNatClampNeg = 119
  · rw [if_pos h6]
    unfold C9_isRight at hi
    rw [if_neg h1, if_neg h2, if_neg h3, if_neg (by rw [h6]; decide), if_pos h6] at hi
    exact hw.s214 (in_ix hi (by decide) (by decide))
  rw [if_neg h6]
  exact hw.pass hD _
end WP
theorem rdL_many {t : mt} {c n k : Nat} : ∀ (f : Nat) (M : mm) (m : Nat), rd t M c n k m 0 → (rdL t c f M).1 = 0 → ix 61 (gI (rdL t c f M).2.2 802 c)
  | 0, M, m, h, _ => by
    rw [rdL]
    exact ⟨m, by have := h.le; omega, h.2.2.1⟩
  | f + 1, M, m, h, h0 => by
    rw [rdL_s] at h0 ⊢
    by_cases c1 : (C9_order t M c).1 = 0
    · rw [if_pos c1] at h0 ⊢
      have h1 := corder_rd h (by decide) c1
      have h2 := (cskip_rd h1 (by decide) (x := (59 : Int32)) (by decide)).1
      by_cases c2 : (C9_skip t (C9_order t M c).2.2 c 59).1 = 0
      · rw [if_pos c2] at h0 ⊢
        by_cases c3 : CJ3_length t (C9_skip t (C9_order t M c).2.2 c 59).2 (c - 2) ≤ gI (C9_skip t (C9_order t M c).2.2 c 59).2 801 c
        · rw [if_pos c3]
          exact ⟨m + 1, by have := h2.le; omega, h2.2.2.1⟩
        · rw [if_neg c3] at h0
          exact absurd (show (1 : Int32) = 0 from h0) (by decide)
      · rw [if_neg c2] at h0 ⊢
        exact rdL_many f _ (m + 1) h2 h0
    · rw [if_neg c1] at h0
      exact absurd h0 c1
theorem read_many {t : mt} {M : mm} {c n k : Nat} (h : sbP t M (c - 2) n k) (hk : k ≤ 60) (h0 : (C9_read t M c).1 = 0) : ix 61 (gI (C9_read t M c).2.2 802 c) := rdL_many 61 _ 0 (rd_start h hk) h0
