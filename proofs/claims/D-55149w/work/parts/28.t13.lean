set_option maxRecDepth 100000
/-! the reference, method by method: what it computes (T_..), and that it does (tm_..) -/
theorem wf.gU {g : Nat → Int32} {f : Nat → UInt32} {i : Nat} {r : Int32} (h : wf g f) (a1 : i = 1 → ix 13 r) (a2 : i = 2 → ix 21 r) (a3 : i = 51 → ix 7 r) (a4 : i = 80 → ix 5 r) (a5 : i = 96 → ix 6 r) (a6 : 3 ≤ i → i < 15 → ix 10 r) (a7 : 52 ≤ i → i < 58 → r = -1 ∨ ix 12 r) (a8 : 85 ≤ i → i < 89 → ix 7 r) : wf (upd g i r) f := by
  obtain ⟨h1, h2, h3, h4, h5, h6, h7, h8, h9, h10, h11⟩ := h
  exact ⟨updk h1 (fun e => a1 e.symm), updk h2 (fun e => a2 e.symm), updk h3 (fun e => a3 e.symm), updk h4 (fun e => a4 e.symm), updk h5 (fun e => a5 e.symm), fun k hk => updk (h6 k hk) (fun e => a6 (by omega) (by omega)), fun k hk => updk (P := fun z => z = -1 ∨ ix 12 z) (h7 k hk) (fun e => a7 (by omega) (by omega)), fun k hk => updk (h8 k hk) (fun e => a8 (by omega) (by omega)), h9, h10, h11⟩
/-- a place that no fact speaks of -/
theorem wf.free {g : Nat → Int32} {f : Nat → UInt32} {i : Nat} {r : Int32} (h : wf g f) (hi : i = 0 ∨ (15 ≤ i ∧ i < 51) ∨ (58 ≤ i ∧ i < 80) ∨ (81 ≤ i ∧ i < 85) ∨ (89 ≤ i ∧ i < 96) ∨ 97 ≤ i) : wf (upd g i r) f :=
  h.gU (fun e => by omega) (fun e => by omega) (fun e => by omega) (fun e => by omega) (fun e => by omega) (fun a b => by omega) (fun a b => by omega) (fun a b => by omega)
theorem wf.plotU {g : Nat → Int32} {f : Nat → UInt32} {i : Nat} {r : Int32} (h : wf g f) (hi : 52 ≤ i) (hi2 : i < 58) (hr : r = -1 ∨ ix 12 r) : wf (upd g i r) f :=
  h.gU (fun e => by omega) (fun e => by omega) (fun e => by omega) (fun e => by omega) (fun e => by omega) (fun a b => by omega) (fun _ _ => hr) (fun a b => by omega)
theorem wf_blows {v : tw} {x : Int32} (hw : wf (t0 v) (t1 v)) : wf (t0 (T_blows v x).2) (t1 (T_blows v x).2) := by
  unfold T_blows
  dsimp only
  split
  · exact hw
  · rename_i c
    exact hw.gU (fun _ => Tin_ix (hi := 12) rfl c (by decide) (by decide)) (fun e => absurd e (by decide)) (fun e => absurd e (by decide)) (fun e => absurd e (by decide)) (fun e => absurd e (by decide)) (fun a _ => absurd a (by decide)) (fun a _ => absurd a (by decide)) (fun a _ => absurd a (by decide))
theorem wf_rains {v : tw} {x : Int32} (hw : wf (t0 v) (t1 v)) : wf (t0 (T_rains v x).2) (t1 (T_rains v x).2) := by
  unfold T_rains
  dsimp only
  split
  · exact hw
  · rename_i c
    exact hw.gU (fun e => absurd e (by decide)) (fun _ => Tin_ix (hi := 20) rfl c (by decide) (by decide)) (fun e => absurd e (by decide)) (fun e => absurd e (by decide)) (fun e => absurd e (by decide)) (fun a _ => absurd a (by decide)) (fun a _ => absurd a (by decide)) (fun a _ => absurd a (by decide))
theorem wf_digs {v : tw} {x y : Int32} (hw : wf (t0 v) (t1 v)) : wf (t0 (T_digs v x y).2) (t1 (T_digs v x y).2) := by
  unfold T_digs
  dsimp only
  split
  · exact hw
  · rename_i c1
    split
    · exact hw
    · rename_i c2
      split
      · split
        · obtain ⟨k, h1, h2, -⟩ := (mem_ix rfl c1 hw).cl 52 (by decide)
          obtain ⟨j, h3, h4, -⟩ := (plot_ix rfl c2).cl 15 (by decide)
          refine wf.free (i := ((15 : Int32) + y).toNatClampNeg) (f := t1 v) (wf.plotU (i := ((52 : Int32) + x).toNatClampNeg) hw ?_ ?_ (Or.inr (plot_ix rfl c2))) ?_
          · rw [show ((52 : Int32) + x).toNatClampNeg = _ from h2]; omega
          · rw [show ((52 : Int32) + x).toNatClampNeg = _ from h2]; omega
          · rw [show ((15 : Int32) + y).toNatClampNeg = _ from h4]; omega
        · exact hw
      · exact hw
theorem wf_rests {v : tw} {x : Int32} (hw : wf (t0 v) (t1 v)) : wf (t0 (T_rests v x).2) (t1 (T_rests v x).2) := by
  unfold T_rests
  dsimp only
  split
  · exact hw
  · rename_i c1
    split
    · exact hw
    · rename_i c2
      obtain ⟨k, h1, h2, -⟩ := (mem_ix rfl c1 hw).cl 52 (by decide)
      obtain ⟨j, h3, h4, -⟩ := (hw.plot (mem_ix rfl c1 hw) c2).cl 15 (by decide)
      refine wf.free (i := ((15 : Int32) + (t0 v (((52 : Int32) + x)).toNatClampNeg)).toNatClampNeg) (f := t1 v) (wf.plotU (i := ((52 : Int32) + x).toNatClampNeg) hw ?_ ?_ (Or.inl rfl)) ?_
      · rw [show ((52 : Int32) + x).toNatClampNeg = _ from h2]; omega
      · rw [show ((52 : Int32) + x).toNatClampNeg = _ from h2]; omega
      · rw [show ((15 : Int32) + (t0 v (((52 : Int32) + x)).toNatClampNeg)).toNatClampNeg = _ from h4]; omega
theorem wf_votes {v : tw} {x y : Int32} (hw : wf (t0 v) (t1 v)) : wf (t0 (T_votes v x y).2) (t1 (T_votes v x y).2) := by
  unfold T_votes
  dsimp only
  split
  · exact hw
  · rename_i c1
    obtain ⟨k, h1, h2, -⟩ := (mem_ix rfl c1 hw).cl 58 (by decide)
    refine wf.free (i := ((58 : Int32) + x).toNatClampNeg) (f := t1 v) hw ?_
    rw [show ((58 : Int32) + x).toNatClampNeg = _ from h2]; omega
theorem wf_passes {v : tw} {x : Int32} (hw : wf (t0 v) (t1 v)) : wf (t0 (T_passes v x).2) (t1 (T_passes v x).2) := by
  unfold T_passes
  dsimp only
  split
  · exact hw
  · exact wf_daysP hw _
theorem wf.gM {g : Nat → Int32} {f : Nat → UInt32} {i : Nat} {r : Int32} (h : wf g f) (hi : 3 ≤ i) (hi2 : i < 15) (hr : ix 10 r) : wf (upd g i r) f :=
  h.gU (fun e => by omega) (fun e => by omega) (fun e => by omega) (fun e => by omega) (fun e => by omega) (fun _ _ => hr) (fun a b => by omega) (fun a b => by omega)
theorem less_ix {n x : Int32} {B : Nat} (h : ix B x) (hB : B ≤ 100) (hn : n = 0 ∨ n = x ∨ (n = 2 ∧ (2 : Int32) ≤ x)) : ix B (x - n) := by
  obtain ⟨k, h1, rfl⟩ := h
  rcases hn with rfl | rfl | ⟨rfl, h2⟩
  · rw [Int32.sub_zero]; exact ⟨k, h1, rfl⟩
  · rw [Int32.sub_self]; exact ⟨0, by omega, rfl⟩
  · have h3 : 2 ≤ k := (nI_leI (a := 2) (by omega) (by omega)).mp h2
    obtain ⟨j, rfl⟩ : ∃ j, k = j + 2 := ⟨k - 2, by omega⟩
    refine ⟨j, by omega, ?_⟩
    rw [show nI (j + 2) = nI j + nI 2 from (nI_add j 2).symm]
    exact Int32.add_sub_cancel _ _
theorem wf_trap {g : Nat → Int32} {f : Nat → UInt32} {t : Int32} (hw : wf g f) : ∀ k, k ≤ 12 → wf (trapG g t k) f
  | 0, _ => hw
  | k + 1, hk => by
    unfold trapG
    split
    · exact wf_trap hw k (by omega)
    · have h1 := wf_trap (t := t) hw k (by omega)
      have e3 : ((3 : Int32) + nI k).toNatClampNeg = 3 + k := cl_add 3 (by omega)
      refine h1.gM (by rw [e3]; omega) (by rw [e3]; omega) (less_ix (h1.mol ⟨k, by omega, rfl⟩) (by decide) ?_)
      unfold lessOf
      split
      · exact Or.inl rfl
      · split
        · exact Or.inr (Or.inr ⟨rfl, by assumption⟩)
        · exact Or.inr (Or.inl rfl)
theorem wf_zero {g : Nat → Int32} {f : Nat → UInt32} (hw : wf g f) : ∀ k, k ≤ 20 → wf (zeroV g k) f
  | 0, _ => by rw [zero_0]; exact hw
  | k + 1, hk => by
    rw [zero_s g k (by omega)]
    have e : ((58 : Int32) + nI k).toNatClampNeg = 58 + k := cl_add 58 (by omega)
    exact (wf_zero hw k (by omega)).free (by rw [e]; omega)
theorem wf_counts {v : tw} (hw : wf (t0 v) (t1 v)) : wf (t0 (T_counts v).2) (t1 (T_counts v).2) := by
  obtain ⟨x3, z, e⟩ : ∃ (x3 z : Int32), t0 (T_counts v).2 = upd (zeroV (trapG (t0 v) x3 12) ((trapG (t0 v) x3 12 ((51 : Int32)).toNatClampNeg).toNatClampNeg)) ((95 : Int32)).toNatClampNeg z := ⟨_, _, rfl⟩
  have h1 := wf_trap (t := x3) hw 12 (by decide)
  have h2 := (h1.mem.nat (by decide)).1
  rw [e, show t1 (T_counts v).2 = t1 v from rfl]
  exact wf.free (wf_zero h1 _ (Nat.le_of_lt (Nat.lt_of_lt_of_le h2 (by decide)))) (by decide)
theorem wf_does {v : tw} {x : Int32} (hw : wf (t0 v) (t1 v)) : wf (t0 (T_does v x).2) (t1 (T_does v x).2) := by
  unfold T_does
  dsimp only
  (repeat' split) <;> first | with_reducible exact wf_digs hw | with_reducible exact wf_rests hw | with_reducible exact wf_blows hw | with_reducible exact wf_rains hw | with_reducible exact wf_votes hw | with_reducible exact wf_counts hw | with_reducible exact wf_passes hw
theorem t6_does (v : tw) (x : Int32) : t6 (T_does v x).2 = t6 v := by
  unfold T_does
  dsimp only
  (repeat' split) <;> first | with_reducible exact t6_digs _ _ _ | with_reducible exact t6_rests _ _ | with_reducible exact t6_blows _ _ | with_reducible exact t6_rains _ _ | with_reducible exact t6_votes _ _ _ | with_reducible exact t6_counts _ | with_reducible exact t6_passes _ _
