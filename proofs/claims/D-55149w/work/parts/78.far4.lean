set_option maxRecDepth 100000
/-! what the reader reads stays in the reader -/
theorem far_ite2 {A : Prop} [Decidable A] {c n : Nat} {M : mm} {σ τ : Type} {a b : σ × τ × mm} (h1 : A → far c n M a.2.2) (h2 : ¬ A → far c n M b.2.2) : far c n M (if A then a else b).2.2 := by
  by_cases h : A
  · rw [if_pos h]; exact h1 h
  · rw [if_neg h]; exact h2 h
theorem far_ite3 {A : Prop} [Decidable A] {c n : Nat} {M : mm} {σ τ υ : Type} {a b : σ × τ × υ × mm} (h1 : A → far c n M a.2.2.2) (h2 : ¬ A → far c n M b.2.2.2) : far c n M (if A then a else b).2.2.2 := by
  by_cases h : A
  · rw [if_pos h]; exact h1 h
  · rw [if_neg h]; exact h2 h
section FR
variable {t : mt} {M N : mm} {c f : Nat} {x : Int32}
theorem far_skip : far c 4 M (C9_skip t M c x).2 := by
  rw [C9_skip_eq]
  unfold C9_skip0
  dsimp only
  split
  · exact (far.rf c 4 M).sI (by omega)
  · exact far.rf c 4 M
theorem far_digit : far c 4 M (C9_digit t M c).2.2.2 := by
  rw [C9_digit_eq]
  unfold C9_digit0
  dsimp only
  split
  · exact far.rf c 4 M
  · exact (far.rf c 4 M).sI (by omega)
theorem far_must : far c 4 M (C9_must t M c x).2.2 := by
  rw [C9_must_eq]
  unfold C9_must0
  dsimp only
  split
  · exact far_skip
  · exact far_skip
theorem far_number : far c 4 M (C9_number t M c).2.2.2 := by
  rw [C9_number_eq]
  unfold C9_number0
  dsimp only
  refine far_ite3 (fun _ => far_ite3 (fun _ => ?_) (fun _ => far_ite3 (fun _ => ?_) (fun _ => ?_))) (fun _ => ?_)
  · exact far_digit
  · exact far_digit.tr far_digit
  · exact far_digit.tr far_digit
  · exact far_digit
theorem far_isNum : far c 4 M (C9_isNumber t M c x).2.2.2 := by
  rw [C9_isNumber_eq]
  unfold C9_isNumber0
  dsimp only
  split
  · exact far_skip
  · have h : far c 4 M (wI (C9_skip t M c x).2 (c + 1) (upd (aI (C9_skip t M c x).2 (c + 1)) ((gI (C9_skip t M c x).2 802 c)).toNatClampNeg (vp_nar .char x))) := far_skip.wI (by omega)
    split
    · exact (h.tr far_number).wI (by omega)
    · exact h.tr far_number
theorem far_order : far c 4 M (C9_order t M c).2.2 := by
  rw [C9_order_eq]
  unfold C9_order0
  dsimp only
  by_cases e1 : (C9_skip t M c 100).1 = 0
  · rw [if_pos e1]
    have f1 : far c 4 M ((C9_skip t M c 100).2) := far_skip
    generalize (C9_skip t M c 100).2 = u1 at f1 ⊢
    by_cases e2 : (C9_skip t u1 c 114).1 = 0
    · rw [if_pos e2]
      have f2 : far c 4 M ((C9_skip t u1 c 114).2) := f1.tr far_skip
      generalize (C9_skip t u1 c 114).2 = u2 at f2 ⊢
      by_cases e3 : (C9_skip t u2 c 118).1 = 0
      · rw [if_pos e3]
        have f3 : far c 4 M ((C9_skip t u2 c 118).2) := f2.tr far_skip
        generalize (C9_skip t u2 c 118).2 = u3 at f3 ⊢
        by_cases e4 : (C9_skip t u3 c 99).1 = 0
        · rw [if_pos e4]
          have f4 : far c 4 M ((C9_skip t u3 c 99).2) := f3.tr far_skip
          generalize (C9_skip t u3 c 99).2 = u4 at f4 ⊢
          by_cases g5 : (C9_isNumber t u4 c 119).1 = 0
          · rw [if_pos g5]
            by_cases e5 : (C9_isNumber t u4 c 119).2.2.1 = 0
            · rw [if_pos e5]
              have f5 : far c 4 M ((C9_isNumber t u4 c 119).2.2.2) := f4.tr far_isNum
              generalize (C9_isNumber t u4 c 119).2.2.2 = u5 at f5 ⊢
              by_cases g6 : (C9_isNumber t u5 c 110).1 = 0
              · rw [if_pos g6]
                by_cases e6 : (C9_isNumber t u5 c 110).2.2.1 = 0
                · rw [if_pos e6]
                  have f6 : far c 4 M ((C9_isNumber t u5 c 110).2.2.2) := f5.tr far_isNum
                  generalize (C9_isNumber t u5 c 110).2.2.2 = u6 at f6 ⊢
                  by_cases g7 : (C9_must t u6 c 112).1 = 0
                  · rw [if_pos g7]
                    have f7 : far c 4 M ((C9_must t u6 c 112).2.2) := f6.tr far_must
                    generalize (C9_must t u6 c 112).2.2 = u7 at f7 ⊢
                    have f8 : far c 4 M (wI u7 (c + 1) (upd (aI u7 (c + 1)) ((gI u7 802 c)).toNatClampNeg (vp_nar .char (112 : Int32)))) := f7.wI (by omega)
                    generalize wI u7 (c + 1) (upd (aI u7 (c + 1)) ((gI u7 802 c)).toNatClampNeg (vp_nar .char (112 : Int32))) = u8 at f8 ⊢
                    by_cases g8 : (C9_number t u8 c).1 = 0
                    · rw [if_pos g8]
                      exact ((f8.tr far_number).wI (by omega)).sI (by omega)
                    · rw [if_neg g8]
                      exact f8.tr far_number
                  · rw [if_neg g7]
                    exact f6.tr far_must
                · rw [if_neg e6]
                  exact (f5.tr far_isNum).sI (by omega)
              · rw [if_neg g6]
                exact f5.tr far_isNum
            · rw [if_neg e5]
              exact (f4.tr far_isNum).sI (by omega)
          · rw [if_neg g5]
            exact f4.tr far_isNum
        · rw [if_neg e4]
          have f4 : far c 4 M ((C9_skip t u3 c 99).2) := f3.tr far_skip
          generalize (C9_skip t u3 c 99).2 = u4 at f4 ⊢
          exact (f4.wI (by omega)).sI (by omega)
      · rw [if_neg e3]
        have f3 : far c 4 M ((C9_skip t u2 c 118).2) := f2.tr far_skip
        generalize (C9_skip t u2 c 118).2 = u3 at f3 ⊢
        have f4 : far c 4 M (wI u3 (c + 1) (upd (aI u3 (c + 1)) ((gI u3 802 c)).toNatClampNeg (vp_nar .char (118 : Int32)))) := f3.wI (by omega)
        generalize wI u3 (c + 1) (upd (aI u3 (c + 1)) ((gI u3 802 c)).toNatClampNeg (vp_nar .char (118 : Int32))) = u4 at f4 ⊢
        by_cases g5 : (C9_digit t u4 c).1 = 0
        · rw [if_pos g5]
          have f5 : far c 4 M ((C9_digit t u4 c).2.2.2) := f4.tr far_digit
          generalize (C9_digit t u4 c).2.2.2 = u5 at f5 ⊢
          have f6 : far c 4 M (wI u5 (c + 2) (upd (aI u5 (c + 2)) ((gI u3 802 c)).toNatClampNeg (C9_digit t u4 c).2.2.1)) := f5.wI (by omega)
          generalize wI u5 (c + 2) (upd (aI u5 (c + 2)) ((gI u3 802 c)).toNatClampNeg (C9_digit t u4 c).2.2.1) = u6 at f6 ⊢
          generalize (if (C9_skip t u6 c 45).1 = 0 then (1 : Int32) else (0 : Int32)) = x7
          have f7 : far c 4 M ((C9_skip t u6 c 45).2) := f6.tr far_skip
          generalize (C9_skip t u6 c 45).2 = u7 at f7 ⊢
          by_cases e8 : (upd (aI u7 (c + 3)) ((gI u5 802 c)).toNatClampNeg x7) ((gI u7 802 c)).toNatClampNeg = (1 : Int32)
          · rw [if_pos e8]
            have f8 : far c 4 M (wI u7 (c + 3) (upd (aI u7 (c + 3)) ((gI u5 802 c)).toNatClampNeg x7)) := f7.wI (by omega)
            generalize wI u7 (c + 3) (upd (aI u7 (c + 3)) ((gI u5 802 c)).toNatClampNeg x7) = u8 at f8 ⊢
            by_cases g9 : (C9_must t u8 c 43).1 = 0
            · rw [if_pos g9]
              exact (f8.tr far_must).sI (by omega)
            · rw [if_neg g9]
              exact f8.tr far_must
          · rw [if_neg e8]
            exact (f7.wI (by omega)).sI (by omega)
        · rw [if_neg g5]
          exact f4.tr far_digit
    · rw [if_neg e2]
      have f2 : far c 4 M ((C9_skip t u1 c 114).2) := f1.tr far_skip
      generalize (C9_skip t u1 c 114).2 = u2 at f2 ⊢
      have f4 : far c 4 M (wI u2 (c + 1) (upd (aI u2 (c + 1)) ((gI u2 802 c)).toNatClampNeg (vp_nar .char (114 : Int32)))) := f2.wI (by omega)
      generalize wI u2 (c + 1) (upd (aI u2 (c + 1)) ((gI u2 802 c)).toNatClampNeg (vp_nar .char (114 : Int32))) = u4 at f4 ⊢
      by_cases g5 : (C9_digit t u4 c).1 = 0
      · rw [if_pos g5]
        exact ((f4.tr far_digit).wI (by omega)).sI (by omega)
      · rw [if_neg g5]
        exact f4.tr far_digit
  · rw [if_neg e1]
    have f1 : far c 4 M ((C9_skip t M c 100).2) := far_skip
    generalize (C9_skip t M c 100).2 = u1 at f1 ⊢
    have f4 : far c 4 M (wI u1 (c + 1) (upd (aI u1 (c + 1)) ((gI u1 802 c)).toNatClampNeg (vp_nar .char (100 : Int32)))) := f1.wI (by omega)
    generalize wI u1 (c + 1) (upd (aI u1 (c + 1)) ((gI u1 802 c)).toNatClampNeg (vp_nar .char (100 : Int32))) = u4 at f4 ⊢
    by_cases g5 : (C9_digit t u4 c).1 = 0
    · rw [if_pos g5]
      have f5 : far c 4 M ((C9_digit t u4 c).2.2.2) := f4.tr far_digit
      generalize (C9_digit t u4 c).2.2.2 = u5 at f5 ⊢
      have f6 : far c 4 M (wI u5 (c + 2) (upd (aI u5 (c + 2)) ((gI u1 802 c)).toNatClampNeg (C9_digit t u4 c).2.2.1)) := f5.wI (by omega)
      generalize wI u5 (c + 2) (upd (aI u5 (c + 2)) ((gI u1 802 c)).toNatClampNeg (C9_digit t u4 c).2.2.1) = u6 at f6 ⊢
      by_cases g6 : (C9_must t u6 c 64).1 = 0
      · rw [if_pos g6]
        have f7 : far c 4 M ((C9_must t u6 c 64).2.2) := f6.tr far_must
        generalize (C9_must t u6 c 64).2.2 = u7 at f7 ⊢
        by_cases g7 : (C9_number t u7 c).1 = 0
        · rw [if_pos g7]
          exact ((f7.tr far_number).wI (by omega)).sI (by omega)
        · rw [if_neg g7]
          exact f7.tr far_number
      · rw [if_neg g6]
        exact f6.tr far_must
    · rw [if_neg g5]
      exact f4.tr far_digit
theorem far_rdL : ∀ f M, far c 4 M (rdL t c f M).2.2
  | 0, M => by rw [rdL]; exact far.rf _ _ _
  | f + 1, M => by
    rw [rdL_s]
    by_cases e : (C9_order t M c).1 = 0
    · rw [if_pos e]
      by_cases e1 : (C9_skip t (C9_order t M c).2.2 c 59).1 = 0
      · rw [if_pos e1]
        by_cases e2 : CJ3_length t (C9_skip t (C9_order t M c).2.2 c 59).2 (c - 2) ≤ gI (C9_skip t (C9_order t M c).2.2 c 59).2 801 c
        · rw [if_pos e2]; exact far_order.tr far_skip
        · rw [if_neg e2]; exact far_order.tr far_skip
      · rw [if_neg e1]
        exact (far_order.tr far_skip).tr (far_rdL f _)
    · rw [if_neg e]
      exact far_order
theorem far_read : far c 4 M (C9_read t M c).2.2 := (((far.rf c 4 M).sI (by omega)).sI (by omega)).tr (far_rdL 61 _)
/-- the whole stands as before if nothing but the reader, the builder and the whole's own numbers change -/
theorem wfA.own {a : Nat} {K S : List Nat} (h : wfA M a K S) (hf : far a 1 M N) : wfA N a K S :=
  ⟨fun z hz => (h.1 z hz).far hf (by have := cliffs_at hz; omega), h.2.1.far hf (by omega), h.2.2.1.far hf (by omega), h.2.2.2⟩
theorem wfA.rdr {a : Nat} {K S : List Nat} (h : wfA M a K S) (hf : far (a + 197) 6 M N) : wfA N a K S :=
  ⟨fun z hz => (h.1 z hz).far hf (by have := cliffs_at hz; omega), h.2.1.far hf (by omega), h.2.2.1.far hf (by omega), h.2.2.2⟩
end FR
