set_option maxRecDepth 100000
/-! CliffPlots.read, its first half: the text is read -/
theorem sbP.far {t : mt} {M N : mm} {b n k a m : Nat} (h : sbP t M b n k) (hf : far a m M N) (hb : b < a ∨ a + m ≤ b) : sbP t N b n k := by
  obtain ⟨g1, g2, g3, g4, g5⟩ := h
  obtain ⟨f1, -, f3, -⟩ := hf b hb
  refine ⟨g1, by rw [f3]; exact g2, g3, by rw [f1]; exact g4, by rw [f1]; exact g5⟩
/-- the memory when the text has been read: where it is wrong is kept -/
def C1_rdA (t : mt) (M : mm) (c : Nat) : mm := if (C9_read t (sI M 108 c (-1 : Int32)) (c + 199)).1 = 0 then (C9_read t (sI M 108 c (-1 : Int32)) (c + 199)).2.2 else sI (C9_read t (sI M 108 c (-1 : Int32)) (c + 199)).2.2 108 c (C9_read t (sI M 108 c (-1 : Int32)) (c + 199)).2.1
section RA
variable {t : mt} {M : mm} {c n k : Nat} {K S : List Nat}
theorem rdA_0 (h : (C9_read t (sI M 108 c (-1 : Int32)) (c + 199)).1 = 0) : (C9_read t (sI M 108 c (-1 : Int32)) (c + 199)).2.2 = C1_rdA t M c := (if_pos h).symm
theorem rdA_1 (h : ¬ (C9_read t (sI M 108 c (-1 : Int32)) (c + 199)).1 = 0) : sI (C9_read t (sI M 108 c (-1 : Int32)) (c + 199)).2.2 108 c (C9_read t (sI M 108 c (-1 : Int32)) (c + 199)).2.1 = C1_rdA t M c := (if_neg h).symm
theorem rdA_wf (hw : wfA M c K S) : wfA (C1_rdA t M c) c K S := by
  have h1 : wfA (sI M 108 c (-1 : Int32)) c K S := hw.own ((far.rf c 1 M).sI (by omega))
  have h2 := h1.rdr ((far_read (t := t) (M := sI M 108 c (-1 : Int32)) (c := c + 199)).wide (b := c + 197) (m := 6) (by omega) (by omega))
  by_cases h : (C9_read t (sI M 108 c (-1 : Int32)) (c + 199)).1 = 0
  · rw [← rdA_0 h]; exact h2
  · rw [← rdA_1 h]; exact h2.own ((far.rf c 1 _).sI (by omega))
theorem rdA_sb (h : sbP t M (c + 197) n k) : sbP t (C1_rdA t M c) (c + 197) n k := by
  have h1 : sbP t (sI M 108 c (-1 : Int32)) (c + 197) n k := h.far ((far.rf c 1 M).sI (by omega)) (by omega)
  have h2 := h1.far (far_read (t := t) (M := sI M 108 c (-1 : Int32)) (c := c + 199)) (by omega)
  by_cases h : (C9_read t (sI M 108 c (-1 : Int32)) (c + 199)).1 = 0
  · rw [← rdA_0 h]; exact h2
  · rw [← rdA_1 h]; exact h2.far ((far.rf c 1 _).sI (by omega)) (by omega)
/-- .. and the builder is empty again -/
theorem setL_far (b : Nat) (x : Int32) : far b 1 M (CJ3_setLength t M b x) := by
  unfold CJ3_setLength CJ2_setLength
  dsimp only
  (repeat' split) <;> first | exact (far.rf b 1 M).sI (by omega) | exact ((far.rf b 1 M).sI (by omega)).sI (by omega)
theorem setL_wf (hw : wfA M c K S) (x : Int32) : wfA (CJ3_setLength t M (c + 197) x) c K S := hw.rdr ((setL_far (c + 197) x).wide (by omega) (by omega))
end RA
section FD
variable {t : mt} {M : mm} {c d : Nat} {x : Int32}
theorem far_does (hw : wfK M d) (hD : lay t d) (hi : ¬ C9_isRight t M c d x = 0) : far d 64 M (C9_does t M c d x).2.2.2 := by
  unfold C9_does
  dsimp only
  by_cases h1 : aI M (c + 1) x.toNatClampNeg = 99
  · rw [if_pos h1]; exact far_count hw.n1
  rw [if_neg h1]
  by_cases h2 : aI M (c + 1) x.toNatClampNeg = 100
  · rw [if_pos h2]
    exact far_ite3 (fun _ => far_dig (cr_d hw hi h2).1) (fun _ => far_dig (cr_d hw hi h2).1)
  rw [if_neg h2]
  by_cases h3 : aI M (c + 1) x.toNatClampNeg = 110
  · rw [if_pos h3]; exact (far.rf d 64 M).sI (by omega)
  rw [if_neg h3]
  by_cases h4 : aI M (c + 1) x.toNatClampNeg = 114
  · rw [if_pos h4]
    exact far_ite3 (fun _ => far_rest (cr_r hw hi h4).1) (fun _ => far_rest (cr_r hw hi h4).1)
  rw [if_neg h4]
  by_cases h5 : aI M (c + 1) x.toNatClampNeg = 118
  · rw [if_pos h5]
    exact far_ite3 (fun _ => far_vote (cr_v hw hi h5)) (fun _ => far_vote (cr_v hw hi h5))
  rw [if_neg h5]
  by_cases h6 : aI M (c + 1) x.toNatClampNeg = 119
  · rw [if_pos h6]; exact (far.rf d 64 M).sI (by omega)
  rw [if_neg h6]
  exact far_pass (hw.wfC hD) hw.own _
end FD
