set_option maxRecDepth 100000
/-! the reference, method by method: what it computes (T_..), and that it does (tm_..) -/
/-- only the two rows of the season changed -/
def sr (v w : tw) : Prop := w = u1 (u0 v (t0 w)) (t1 w)
theorem sr.rf (v : tw) : sr v v := rfl
theorem sr.mk {v w : tw} {g : Nat → Int32} {f : Nat → UInt32} (h : w = u1 (u0 v g) f) : sr v w := by subst h; rfl
theorem sr.tr {a b c : tw} (h1 : sr a b) (h2 : sr b c) : sr a c := by
  unfold sr at *
  rw [h1] at h2
  exact h2
theorem sr.t6 {v w : tw} (h : sr v w) : t6 w = t6 v := by rw [h]; rfl
theorem sr_grows (v : tw) (x : Int32) : sr v (T_grows v x) := sr.mk (g := t0 v) (f := t1 (T_grows v x)) rfl
theorem sr_moves (v : tw) : sr v (T_movesMoles v) := sr.mk (g := t0 (T_movesMoles v)) (f := t1 v) rfl
theorem sr_stepP (v : tw) (k : Nat) : sr v (stepP v k) := by
  have h1 : sr v (u1 v (vf_upd (t1 v) ((0 : Int32) + nI k).toNatClampNeg (T_wetter v (t1 v ((0 : Int32) + nI k).toNatClampNeg)))) := rfl
  unfold stepP
  dsimp only
  split
  · exact h1
  · exact h1.tr (sr_grows _ _)
theorem sr_dayP (v : tw) : ∀ k, sr v (dayP v k)
  | 0 => by rw [dayP_0]; exact sr.rf v
  | k + 1 => by rw [dayP_s]; exact (sr_dayP v k).tr (sr_stepP _ k)
theorem sr_stepS (z : Int32 × tw) (k : Nat) : sr z.2 (stepS z k).2 := by
  obtain ⟨x15, x17, h1⟩ : ∃ (x15 : Int32) (x17 : UInt32), (stepS z k).2 = u1 (u0 z.2 (upd (t0 z.2) ((89 : Int32) + nI k).toNatClampNeg x15)) (vf_upd (t1 z.2) ((24 : Int32) + nI k).toNatClampNeg x17) := ⟨_, _, rfl⟩
  exact sr.mk h1
theorem sr_shedP (v : tw) : ∀ k, sr v (shedP v k).2
  | 0 => by rw [shedP_0]; exact sr.rf v
  | k + 1 => by rw [shedP_s]; exact (sr_shedP v k).tr (sr_stepS _ k)
theorem goesDay_eq (v : tw) : ∃ w, (w = (shedP (dayP v 12) (t0 (dayP v 12) ((80 : Int32)).toNatClampNeg).toNatClampNeg).2 ∨ w = T_movesMoles (shedP (dayP v 12) (t0 (dayP v 12) ((80 : Int32)).toNatClampNeg).toNatClampNeg).2) ∧ (T_goesDay v).2 = u0 w (upd (t0 w) ((0 : Int32)).toNatClampNeg (t0 w ((0 : Int32)).toNatClampNeg + (1 : Int32))) := by
  refine ⟨_, ?_, rfl⟩
  split
  · exact Or.inr rfl
  · exact Or.inl rfl
theorem sr_goesDay (v : tw) : sr v (T_goesDay v).2 := by
  obtain ⟨w, hw, e⟩ := goesDay_eq v
  have h1 : sr v w := by
    rcases hw with hw | hw
    · rw [hw]; exact (sr_dayP v 12).tr (sr_shedP _ _)
    · rw [hw]; exact ((sr_dayP v 12).tr (sr_shedP _ _)).tr (sr_moves _)
  rw [e]
  exact h1.tr (sr.mk (f := t1 w) rfl)
theorem wf.g0 {g : Nat → Int32} {f : Nat → UInt32} {r : Int32} (h : wf g f) : wf (upd g 0 r) f := by
  obtain ⟨h1, h2, h3, h4, h5, h6, h7, h8, h9, h10, h11⟩ := h
  exact ⟨updk h1 (fun e => by omega), updk h2 (fun e => by omega), updk h3 (fun e => by omega), updk h4 (fun e => by omega), updk h5 (fun e => by omega), fun k hk => updk (h6 k hk) (fun e => by omega), fun k hk => updk (P := fun z => z = -1 ∨ ix 12 z) (h7 k hk) (fun e => by omega), fun k hk => updk (h8 k hk) (fun e => by omega), h9, h10, h11⟩
theorem wf.mv {g g' : Nat → Int32} {f : Nat → UInt32} (h : wf g f) (ho : ∀ j, (j < 3 ∨ 15 ≤ j) → g' j = g j) (hm : ∀ k, k < 12 → ix 10 (g' (3 + k))) : wf g' f := by
  obtain ⟨h1, h2, h3, h4, h5, h6, h7, h8, h9, h10, h11⟩ := h
  exact ⟨by rw [ho _ (by omega)]; exact h1, by rw [ho _ (by omega)]; exact h2, by rw [ho _ (by omega)]; exact h3, by rw [ho _ (by omega)]; exact h4, by rw [ho _ (by omega)]; exact h5, hm, fun k hk => by rw [ho _ (by omega)]; exact h7 k hk, fun k hk => by rw [ho _ (by omega)]; exact h8 k hk, h9, h10, h11⟩
theorem moles_eq (v : tw) (j : Nat) : t0 (T_movesMoles v) j = if j = 3 then t0 v 14 else if 3 < j ∧ j ≤ 14 then t0 v (j - 1) else t0 v j := by
  show upd (mvF (t0 v) 0) ((3 : Int32) + nI 0).toNatClampNeg (t0 v ((14 : Int32)).toNatClampNeg) j = _
  rw [show ((3 : Int32) + nI 0).toNatClampNeg = 3 by decide, show ((14 : Int32)).toNatClampNeg = 14 by decide]
  unfold upd mvF
  rfl
theorem wf_moves {v : tw} (hw : wf (t0 v) (t1 v)) : wf (t0 (T_movesMoles v)) (t1 (T_movesMoles v)) := by
  refine wf.mv (g := t0 v) (f := t1 v) hw (fun j hj => ?_) (fun k hk => ?_)
  · rw [moles_eq, if_neg (by omega), if_neg (by omega)]
  · rw [moles_eq]
    have hm := hw.2.2.2.2.2.1
    by_cases h : k = 0
    · rw [if_pos (by omega)]; exact hm 11 (by decide)
    · rw [if_neg (by omega), if_pos (by omega), show 3 + k - 1 = 3 + (k - 1) by omega]
      exact hm (k - 1) (by omega)
theorem wf_goesDay {v : tw} (hw : wf (t0 v) (t1 v)) : wf (t0 (T_goesDay v).2) (t1 (T_goesDay v).2) := by
  obtain ⟨w, hw1, e⟩ := goesDay_eq v
  have h1 := wf_dayP hw 12 (by decide)
  have h2 := wf_shedP h1 _ (Nat.le_of_lt_succ (h1.shd.nat (by decide)).1)
  have h3 : wf (t0 w) (t1 w) := by
    rcases hw1 with h | h
    · rw [h]; exact h2
    · rw [h]; exact wf_moves h2
  rw [e]
  exact h3.g0
def stepD (z : Int32 × tw) : Int32 × tw := ((z.1 + (T_goesDay z.2).1), (T_goesDay z.2).2)
def daysP (v : tw) : Nat → Int32 × tw
  | 0 => (0, v)
  | k + 1 => stepD (daysP v k)
  termination_by k => k
theorem daysP_0 (v : tw) : daysP v 0 = (0, v) := by rw [daysP]
theorem daysP_s (v : tw) (k : Nat) : daysP v (k + 1) = stepD (daysP v k) := by rw [daysP]
theorem wf_daysP {v : tw} (hw : wf (t0 v) (t1 v)) : ∀ k, wf (t0 (daysP v k).2) (t1 (daysP v k).2)
  | 0 => by rw [daysP_0]; exact hw
  | k + 1 => by rw [daysP_s]; exact wf_goesDay (wf_daysP hw k)
theorem sr_daysP (v : tw) : ∀ k, sr v (daysP v k).2
  | 0 => by rw [daysP_0]; exact sr.rf v
  | k + 1 => by rw [daysP_s]; exact (sr_daysP v k).tr (sr_goesDay _)
def T_passes (v : tw) (x : Int32) : Int32 × tw :=
  let r_1 := T_in (x) ((1 : Int32)) ((60 : Int32));
  if r_1 = 0 then
    ((0 : Int32), (T_fails v (1 : Int32)).2)
  else
    ((daysP v (x.toNatClampNeg)).1, (u18 (daysP v (x.toNatClampNeg)).2 (0 : Int32)))
set_option maxHeartbeats 4000000 in
theorem tm_passes (l : Launch) (E : mE) (h : Nat) (v : tw) (x : Int32) (hw : wf (t0 v) (t1 v)) : Met l yX10_passes (ws_ yX10_passes cX10_passes 4 (some .int)) ({ frames := 3, cells := 0, slots := 0, locals := 69 }) (va_Pc [.ref h, .int x] (tP E h v)) (va_Qi (fun (r : Int32) (u : tw) => r = (T_passes v x).1 ∧ u = (T_passes v x).2) (fun u U => tW E h u U.heap) (eA E)) 0 0 (eA E) := by
  refine Met.ofW (cc := cX10_passes) (maxL := 4) (ret := (some .int)) (by decide) rfl ?_
  intro p e s m args below meth c s₁ B hml hv
  obtain ⟨rfl, hs, hm⟩ := hv
  have hx := B.exec
  have hb := B.bytes
  have hr := B.returns
  have hts := atoms_spec (ws := ws_ yX10_passes cX10_passes 4 (some .int)) B.pre
  have hts : ∀ w ∈ lw_all, w.before _ s = true := fun w h => hts w (List.mem_cons_of_mem _ h)
  have hown : s.vm.findClass RX10 = some m.cls := findClass_of_methodNamed B.named
  have hlocks := B.notSynchronized
  have hS : va_S (eA E) s.heap s.heap [] := va_S.rf
  have hl := lv_entry ([.ref h, .int x]) (n := 4) (Nat.le_of_ble_eq_true rfl)
  rw [lg_entry_eq]
  generalize (lg_sl ([.ref h, .int x]) ++ List.replicate (4 - (lg_sl ([.ref h, .int x])).length) Slot.unset).toArray = ls at hl ⊢
  have hl : lv_has ls 4 [(0, .ref (h)), (1, .int (x))] := hl
  refine lv_iload_n hx hb dX10_passes_0 rfl (lv_at hl 1 rfl) ?_
  refine lv_iconst (v := (1 : Int32)) hx hb dX10_passes_1 (by decide) ?_
  refine lv_bipush (v := (60 : Int32)) hx hb dX10_passes_2 (by decide) ?_
  refine k_calli (va_runS (As := [.int (x), .int ((1 : Int32)), .int ((60 : Int32))]) (rest := []) ⟨hx, hb, hml, hown, hts⟩ (tm_in l E (x) ((1 : Int32)) ((60 : Int32)) _) (va_cwS 3 hts (lw_S q1763 q1764 q80 q1765) rfl rfl rfl (by decide +kernel) ⟨Nat.le_of_ble_eq_true rfl, Nat.le_of_ble_eq_true rfl⟩) (k_pure hs hS) rfl rfl hl.1 rfl (lv_room (Nat.le_of_ble_eq_true rfl)) dX10_passes_4 ⟨Nat.le_of_ble_eq_true rfl, Nat.le_of_ble_eq_true rfl⟩) hS (fun r_1 u_1 H9 locs hw_1 hm_1 hS => ?_)
  replace hm_1 : _ = H9 := Eq.symm hm_1
  subst hm_1
  have hr_1 := hw_1
  refine lv_if_ne (tgt := 16) hx hb dX10_passes_7 (by decide) (fun c_2 => ?_) (fun c_2 => ?_)
  · have hx61 : ix 61 x := Tin_ix1 hr_1 c_2 (by decide) (by decide) (by decide)
    refine lv_iconst (v := (0 : Int32)) hx hb dX10_passes_16 (by decide) ?_
    refine lv_istore_n (lv' := [(2, _), (0, _), (1, _)]) hx hb dX10_passes_17 rfl hl (by decide) rfl (fun ls hl => ?_)
    refine lv_iconst (v := (0 : Int32)) hx hb dX10_passes_18 (by decide) ?_
    refine lv_istore_n (lv' := [(3, _), (2, _), (0, _), (1, _)]) hx hb dX10_passes_19 rfl hl (by decide) rfl (fun ls hl => ?_)
    refine k_loop (fun k => x.toNatClampNeg - k) (fun (k : Nat) H locs ls => (k ≤ x.toNatClampNeg) ∧ tW E h ((daysP v k).2) H ∧ va_S (eA E) s.heap H locs ∧ lv_has ls 4 [(3, .int (nI k)), (2, .int ((daysP v k).1)), (0, .ref (h)), (1, .int (x))]) (fun (k : Nat) ls => F0 m 20 ls []) (fun k => (0, 0)) (fun k ih_3 H locs ls hP => ?_) (0) ⟨(Nat.zero_le _), (by rw [daysP_0]; exact hm), hS, (by rw [daysP_0]; exact lv_sub hl [0, 1, 2, 3] rfl)⟩
    obtain ⟨hI_3, hm, hS, hl⟩ := hP
    refine lv_iload_n hx hb dX10_passes_20 rfl (lv_at hl 0 rfl) ?_
    refine lv_iload_n hx hb dX10_passes_21 rfl (lv_at hl 3 rfl) ?_
    refine lv_icmp_ge (tgt := 38) hx hb dX10_passes_22 (by decide) (fun c_4 => ?_) (fun c_4 => ?_)
    · have hkN : k = x.toNatClampNeg := lp_geI hx61 (by decide) hI_3 c_4
      replace hkN := hkN.symm
      subst hkN
      refine lv_aload_n hx hb dX10_passes_38 rfl (lv_at hl 2 rfl) ?_
      refine lv_iload_n hx hb dX10_passes_39 rfl (lv_at hl 1 rfl) ?_
      refine k_calli (va_runV (As := [.int ((daysP v (x.toNatClampNeg)).1)]) (rest := []) ⟨hx, hb, hml, hown, hts⟩ (tm_done l E h (daysP v (x.toNatClampNeg)).2 ((daysP v (x.toNatClampNeg)).1) ) (cwV 1 hts (lw_V q1770 q1772 qs24 q80 q1773) rfl rfl rfl (by decide +kernel) ⟨Nat.le_of_ble_eq_true rfl, Nat.le_of_ble_eq_true rfl⟩) (k_preVt hs hm hS) rfl rfl hl.1 rfl (lv_room (Nat.le_of_ble_eq_true rfl)) dX10_passes_40 ⟨Nat.le_of_ble_eq_true rfl, Nat.le_of_ble_eq_true rfl⟩) hS (fun r_5 u_5 H9 locs hw_5 hm_5 hS => ?_)
      replace hw_5 : r_5 = (daysP v (x.toNatClampNeg)).1 ∧ u_5 = (u18 (daysP v (x.toNatClampNeg)).2 (0 : Int32)) := hw_5
      obtain ⟨hr_5, hw_5⟩ := hw_5
      replace hr_5 := hr_5.symm
      subst hr_5
      replace hw_5 := hw_5.symm
      subst hw_5
      have hm := hm_5
      subst hr_1
      exact W.iret (v := _) hx hb hr (fun t9 ht9 _ => ⟨⟨_, _, rfl, pp ((if_neg c_2).trans (rfl)), hb9 ht9 hm⟩, hS.F ht9⟩) hS.2.2 dX10_passes_43
    · have hk : k < x.toNatClampNeg := lp_ltI hx61 (by decide) hI_3 c_4
      refine lv_iload_n hx hb dX10_passes_25 rfl (lv_at hl 1 rfl) ?_
      refine lv_aload_n hx hb dX10_passes_26 rfl (lv_at hl 2 rfl) ?_
      refine k_calli (va_runV (As := []) (rest := [.int ((daysP v k).1)]) ⟨hx, hb, hml, hown, hts⟩ (tm_goesDay l E h (daysP v k).2  (wf_daysP hw k)) (cwV 0 hts (lw_V q1864 q1866 qs35 q80 q1867) rfl rfl rfl (by decide +kernel) ⟨Nat.le_of_ble_eq_true rfl, Nat.le_of_ble_eq_true rfl⟩) (k_preVt hs hm hS) rfl rfl hl.1 rfl (lv_room (Nat.le_of_ble_eq_true rfl)) dX10_passes_27 ⟨Nat.le_of_ble_eq_true rfl, Nat.le_of_ble_eq_true rfl⟩) hS (fun r_6 u_6 H9 locs hw_6 hm_6 hS => ?_)
      obtain ⟨hr_6, hu_6⟩ := hw_6
      have hm := hm_6
      refine lv_iadd hx hb dX10_passes_30 ?_
      refine lv_istore_n (lv' := [(2, _), (3, _), (0, _), (1, _)]) hx hb dX10_passes_31 rfl hl (by decide) rfl (fun ls hl => ?_)
      refine lv_iinc (v := nI (k + 1)) (lv' := [(3, _), (2, _), (0, _), (1, _)]) hx hb dX10_passes_32 hl (k := 1) rfl (nI_succ k).symm (by decide) rfl (fun ls hl => ?_)
      refine lv_goto (tgt := 20) hx hb dX10_passes_35 (by decide) ?_
      exact ih_3 (k + 1) (by omega) _ _ _ ⟨(by omega), (by rw [show (daysP v (k + 1)).2 = u_6 from by rw [daysP_s, hu_6]; rfl]; exact hm), hS, (by rw [show (daysP v (k + 1)).1 = (daysP v k).1 + r_6 from by rw [daysP_s, hr_6]; rfl]; exact lv_sub hl [0, 1, 2, 3] rfl)⟩
  · refine lv_aload_n hx hb dX10_passes_10 rfl (lv_at hl 0 rfl) ?_
    refine lv_iconst (v := (1 : Int32)) hx hb dX10_passes_11 (by decide) ?_
    refine k_calli (va_runV (As := [.int ((1 : Int32))]) (rest := []) ⟨hx, hb, hml, hown, hts⟩ (tm_fails l E h v ((1 : Int32)) ) (cwV 1 hts (lw_V q1766 q1768 qs23 q80 q1769) rfl rfl rfl (by decide +kernel) ⟨Nat.le_of_ble_eq_true rfl, Nat.le_of_ble_eq_true rfl⟩) (k_preVt hs hm hS) rfl rfl hl.1 rfl (lv_room (Nat.le_of_ble_eq_true rfl)) dX10_passes_12 ⟨Nat.le_of_ble_eq_true rfl, Nat.le_of_ble_eq_true rfl⟩) hS (fun r_7 u_7 H9 locs hw_7 hm_7 hS => ?_)
    replace hw_7 : r_7 = (0 : Int32) ∧ u_7 = (T_fails v (1 : Int32)).2 := hw_7
    obtain ⟨hr_7, hw_7⟩ := hw_7
    replace hr_7 := hr_7.symm
    subst hr_7
    replace hw_7 := hw_7.symm
    subst hw_7
    have hm := hm_7
    subst hr_1
    exact W.iret (v := _) hx hb hr (fun t9 ht9 _ => ⟨⟨_, _, rfl, pp ((if_pos c_2).trans (rfl)), hb9 ht9 hm⟩, hS.F ht9⟩) hS.2.2 dX10_passes_15
def T_weightIn (v : tw) (x : Int32) (y : Int32) : Int32 × tw :=
  let r_1 := T_isPlot (x);
  if r_1 = 0 then
    ((0 : Int32), (T_fails v (1 : Int32)).2)
  else
    let r_3 := T_in (y) ((0 : Int32)) ((60 : Int32));
    if r_3 = 0 then
      ((0 : Int32), (T_fails v (2 : Int32)).2)
    else
      if (t0 v (((27 : Int32) + x)).toNatClampNeg) = (-1 : Int32) then
        ((0 : Int32), (T_fails v (3 : Int32)).2)
      else
        let r_10 := T_fbits ((t1 (daysP (T_laysAside v) (y.toNatClampNeg)).2 (((12 : Int32) + x)).toNatClampNeg));
        (r_10, (u18 (T_laysBack (daysP (T_laysAside v) (y.toNatClampNeg)).2) (0 : Int32)))
set_option maxHeartbeats 4000000 in
theorem tm_weightIn (l : Launch) (E : mE) (h : Nat) (v : tw) (x : Int32) (y : Int32) (hw : wf (t0 v) (t1 v)) : Met l yX10_weightIn (ws_ yX10_weightIn cX10_weightIn 4 (some .int)) ({ frames := 3, cells := 0, slots := 0, locals := 69 }) (va_Pc [.ref h, .int x, .int y] (tP E h v)) (va_Qi (fun (r : Int32) (u : tw) => r = (T_weightIn v x y).1 ∧ u = (T_weightIn v x y).2) (fun u U => tW E h u U.heap) (eA E)) 0 0 (eA E) := by
  refine Met.ofW (cc := cX10_weightIn) (maxL := 4) (ret := (some .int)) (by decide) rfl ?_
  intro p e s m args below meth c s₁ B hml hv
  obtain ⟨rfl, hs, hm⟩ := hv
  have hx := B.exec
  have hb := B.bytes
  have hr := B.returns
  have hts := atoms_spec (ws := ws_ yX10_weightIn cX10_weightIn 4 (some .int)) B.pre
  have hts : ∀ w ∈ lw_all, w.before _ s = true := fun w h => hts w (List.mem_cons_of_mem _ h)
  have hown : s.vm.findClass RX10 = some m.cls := findClass_of_methodNamed B.named
  have hlocks := B.notSynchronized
  have hS : va_S (eA E) s.heap s.heap [] := va_S.rf
  have hl := lv_entry ([.ref h, .int x, .int y]) (n := 4) (Nat.le_of_ble_eq_true rfl)
  rw [lg_entry_eq]
  generalize (lg_sl ([.ref h, .int x, .int y]) ++ List.replicate (4 - (lg_sl ([.ref h, .int x, .int y])).length) Slot.unset).toArray = ls at hl ⊢
  have hl : lv_has ls 4 [(0, .ref (h)), (1, .int (x)), (2, .int (y))] := hl
  refine lv_iload_n hx hb dX10_weightIn_0 rfl (lv_at hl 1 rfl) ?_
  refine k_calli (va_runS (As := [.int (x)]) (rest := []) ⟨hx, hb, hml, hown, hts⟩ (tm_isPlot l E (x) _) (va_cwS 1 hts (lw_S q1806 q1807 q80 q1808) rfl rfl rfl (by decide +kernel) ⟨Nat.le_of_ble_eq_true rfl, Nat.le_of_ble_eq_true rfl⟩) (k_pure hs hS) rfl rfl hl.1 rfl (lv_room (Nat.le_of_ble_eq_true rfl)) dX10_weightIn_1 ⟨Nat.le_of_ble_eq_true rfl, Nat.le_of_ble_eq_true rfl⟩) hS (fun r_1 u_1 H9 locs hw_1 hm_1 hS => ?_)
  replace hm_1 : _ = H9 := Eq.symm hm_1
  subst hm_1
  have hr_1 := hw_1
  refine lv_if_ne (tgt := 13) hx hb dX10_weightIn_4 (by decide) (fun c_2 => ?_) (fun c_2 => ?_)
  · have hx12 := plot_ix hr_1 c_2
    refine lv_iload_n hx hb dX10_weightIn_13 rfl (lv_at hl 2 rfl) ?_
    refine lv_iconst (v := (0 : Int32)) hx hb dX10_weightIn_14 (by decide) ?_
    refine lv_bipush (v := (60 : Int32)) hx hb dX10_weightIn_15 (by decide) ?_
    refine k_calli (va_runS (As := [.int (y), .int ((0 : Int32)), .int ((60 : Int32))]) (rest := []) ⟨hx, hb, hml, hown, hts⟩ (tm_in l E (y) ((0 : Int32)) ((60 : Int32)) _) (va_cwS 3 hts (lw_S q1763 q1764 q80 q1765) rfl rfl rfl (by decide +kernel) ⟨Nat.le_of_ble_eq_true rfl, Nat.le_of_ble_eq_true rfl⟩) (k_pure hs hS) rfl rfl hl.1 rfl (lv_room (Nat.le_of_ble_eq_true rfl)) dX10_weightIn_17 ⟨Nat.le_of_ble_eq_true rfl, Nat.le_of_ble_eq_true rfl⟩) hS (fun r_3 u_3 H9 locs hw_3 hm_3 hS => ?_)
    replace hm_3 : _ = H9 := Eq.symm hm_3
    subst hm_3
    have hr_3 := hw_3
    refine lv_if_ne (tgt := 29) hx hb dX10_weightIn_20 (by decide) (fun c_4 => ?_) (fun c_4 => ?_)
    · have hy61 : ix 61 y := Tin_ix hr_3 c_4 (by decide) (by decide)
      refine lv_aload_n hx hb dX10_weightIn_29 rfl (lv_at hl 0 rfl) ?_
      refine tg_0 hx hb hts hown hs hm (hts _ q1674) dX10_weightIn_30 ?_
      refine lv_bipush (v := (27 : Int32)) hx hb dX10_weightIn_33 (by decide) ?_
      refine lv_iload_n hx hb dX10_weightIn_35 rfl (lv_at hl 1 rfl) ?_
      refine lv_iadd hx hb dX10_weightIn_36 ?_
      refine tl_0 hx hb hs hm (ix.add 27 112 (hx12) (by decide) (by decide)) dX10_weightIn_37 ?_
      refine lv_iconst (v := (-1 : Int32)) hx hb dX10_weightIn_38 (by decide) ?_
      refine lv_icmp_ne (tgt := 48) hx hb dX10_weightIn_39 (by decide) (fun c_5 => ?_) (fun c_5 => ?_)
      · refine lv_aload_n hx hb dX10_weightIn_48 rfl (lv_at hl 0 rfl) ?_
        refine k_callv (va_runV (As := []) (rest := []) ⟨hx, hb, hml, hown, hts⟩ (tm_laysAside l E h v  ) (cwV 0 hts (lw_V q1860 q1862 qs34 q80 q1863) rfl rfl rfl (by decide +kernel) ⟨Nat.le_of_ble_eq_true rfl, Nat.le_of_ble_eq_true rfl⟩) (k_preVt hs hm hS) rfl rfl hl.1 rfl (lv_room (Nat.le_of_ble_eq_true rfl)) dX10_weightIn_49 ⟨Nat.le_of_ble_eq_true rfl, Nat.le_of_ble_eq_true rfl⟩) hS (fun u_6 H9 locs hw_6 hm_6 hS => ?_)
        replace hw_6 : u_6 = (T_laysAside v) := hw_6
        replace hw_6 := hw_6.symm
        subst hw_6
        have hm := hm_6
        refine lv_iconst (v := (0 : Int32)) hx hb dX10_weightIn_52 (by decide) ?_
        refine lv_istore_n (lv' := [(3, _), (0, _), (1, _), (2, _)]) hx hb dX10_weightIn_53 rfl hl (by decide) rfl (fun ls hl => ?_)
        refine k_loop (fun k => y.toNatClampNeg - k) (fun (k : Nat) H locs ls => (k ≤ y.toNatClampNeg) ∧ tW E h ((daysP (T_laysAside v) k).2) H ∧ va_S (eA E) s.heap H locs ∧ lv_has ls 4 [(3, .int (nI k)), (0, .ref (h)), (1, .int (x)), (2, .int (y))]) (fun (k : Nat) ls => F0 m 54 ls []) (fun k => (0, 0)) (fun k ih_7 H locs ls hP => ?_) (0) ⟨(Nat.zero_le _), (by rw [daysP_0]; exact hm), hS, lv_sub hl [0, 1, 2, 3] rfl⟩
        obtain ⟨hI_7, hm, hS, hl⟩ := hP
        refine lv_iload_n hx hb dX10_weightIn_54 rfl (lv_at hl 0 rfl) ?_
        refine lv_iload_n hx hb dX10_weightIn_55 rfl (lv_at hl 3 rfl) ?_
        refine lv_icmp_ge (tgt := 70) hx hb dX10_weightIn_56 (by decide) (fun c_8 => ?_) (fun c_8 => ?_)
        · have hkN : k = y.toNatClampNeg := lp_geI hy61 (by decide) hI_7 c_8
          replace hkN := hkN.symm
          subst hkN
          refine lv_aload_n hx hb dX10_weightIn_70 rfl (lv_at hl 1 rfl) ?_
          refine tg_1 hx hb hts hown hs hm (hts _ q1675) dX10_weightIn_71 ?_
          refine lv_bipush (v := (12 : Int32)) hx hb dX10_weightIn_74 (by decide) ?_
          refine lv_iload_n hx hb dX10_weightIn_76 rfl (lv_at hl 2 rfl) ?_
          refine lv_iadd hx hb dX10_weightIn_77 ?_
          refine tl_1 hx hb hs hm (ix.add 12 33 (hx12) (by decide) (by decide)) dX10_weightIn_78 ?_
          refine lv_fstore_n (lv' := [(3, _), (0, _), (1, _), (2, _)]) hx hb dX10_weightIn_79 rfl hl (by decide) rfl (fun ls hl => ?_)
          refine lv_aload_n hx hb dX10_weightIn_80 rfl (lv_at hl 1 rfl) ?_
          refine k_callv (va_runV (As := []) (rest := []) ⟨hx, hb, hml, hown, hts⟩ (tm_laysBack l E h (daysP (T_laysAside v) (y.toNatClampNeg)).2  ) (cwV 0 hts (lw_V q1888 q1890 qs39 q80 q1891) rfl rfl rfl (by decide +kernel) ⟨Nat.le_of_ble_eq_true rfl, Nat.le_of_ble_eq_true rfl⟩) (k_preVt hs hm hS) rfl rfl hl.1 rfl (lv_room (Nat.le_of_ble_eq_true rfl)) dX10_weightIn_81 ⟨Nat.le_of_ble_eq_true rfl, Nat.le_of_ble_eq_true rfl⟩) hS (fun u_9 H9 locs hw_9 hm_9 hS => ?_)
          replace hw_9 : u_9 = (T_laysBack (daysP (T_laysAside v) (y.toNatClampNeg)).2) := hw_9
          replace hw_9 := hw_9.symm
          subst hw_9
          have hm := hm_9
          refine lv_aload_n hx hb dX10_weightIn_84 rfl (lv_at hl 1 rfl) ?_
          refine lv_fload_n hx hb dX10_weightIn_85 rfl (lv_at hl 0 rfl) ?_
          refine k_calli (va_runS (As := [.float ((t1 (daysP (T_laysAside v) (y.toNatClampNeg)).2 (((12 : Int32) + x)).toNatClampNeg))]) (rest := [.ref (h)]) ⟨hx, hb, hml, hown, hts⟩ (jm_J16_floatToIntBits l E ((t1 (daysP (T_laysAside v) (y.toNatClampNeg)).2 (((12 : Int32) + x)).toNatClampNeg)) _) (va_cwS 1 hts (lw_S q1855 q931 q87 q932) rfl rfl rfl (by decide +kernel) ⟨Nat.le_of_ble_eq_true rfl, Nat.le_of_ble_eq_true rfl⟩) (k_pure hs hS) rfl rfl hl.1 rfl (lv_room (Nat.le_of_ble_eq_true rfl)) dX10_weightIn_86 ⟨Nat.le_of_ble_eq_true rfl, Nat.le_of_ble_eq_true rfl⟩) hS (fun r_10 u_10 H9 locs hw_10 hm_10 hS => ?_)
          replace hm_10 : _ = H9 := Eq.symm hm_10
          subst hm_10
          have hr_10 := hw_10
          refine k_calli (va_runV (As := [.int (r_10)]) (rest := []) ⟨hx, hb, hml, hown, hts⟩ (tm_done l E h (T_laysBack (daysP (T_laysAside v) (y.toNatClampNeg)).2) (r_10) ) (cwV 1 hts (lw_V q1770 q1772 qs24 q80 q1773) rfl rfl rfl (by decide +kernel) ⟨Nat.le_of_ble_eq_true rfl, Nat.le_of_ble_eq_true rfl⟩) (k_preVt hs hm hS) rfl rfl hl.1 rfl (lv_room (Nat.le_of_ble_eq_true rfl)) dX10_weightIn_89 ⟨Nat.le_of_ble_eq_true rfl, Nat.le_of_ble_eq_true rfl⟩) hS (fun r_11 u_11 H9 locs hw_11 hm_11 hS => ?_)
          replace hw_11 : r_11 = r_10 ∧ u_11 = (u18 (T_laysBack (daysP (T_laysAside v) (y.toNatClampNeg)).2) (0 : Int32)) := hw_11
          obtain ⟨hr_11, hw_11⟩ := hw_11
          replace hr_11 := hr_11.symm
          subst hr_11
          replace hw_11 := hw_11.symm
          subst hw_11
          have hm := hm_11
          subst hr_10
          subst hr_3
          subst hr_1
          exact W.iret (v := _) hx hb hr (fun t9 ht9 _ => ⟨⟨_, _, rfl, pp ((if_neg c_2).trans ((if_neg c_4).trans ((if_neg c_5).trans (rfl)))), hb9 ht9 hm⟩, hS.F ht9⟩) hS.2.2 dX10_weightIn_92
        · have hk : k < y.toNatClampNeg := lp_ltI hy61 (by decide) hI_7 c_8
          refine lv_aload_n hx hb dX10_weightIn_59 rfl (lv_at hl 1 rfl) ?_
          refine k_calli (va_runV (As := []) (rest := []) ⟨hx, hb, hml, hown, hts⟩ (tm_goesDay l E h (daysP (T_laysAside v) k).2  (wf_daysP (v := T_laysAside v) hw k)) (cwV 0 hts (lw_V q1864 q1866 qs35 q80 q1867) rfl rfl rfl (by decide +kernel) ⟨Nat.le_of_ble_eq_true rfl, Nat.le_of_ble_eq_true rfl⟩) (k_preVt hs hm hS) rfl rfl hl.1 rfl (lv_room (Nat.le_of_ble_eq_true rfl)) dX10_weightIn_60 ⟨Nat.le_of_ble_eq_true rfl, Nat.le_of_ble_eq_true rfl⟩) hS (fun r_12 u_12 H9 locs hw_12 hm_12 hS => ?_)
          obtain ⟨hr_12, hu_12⟩ := hw_12
          have hm := hm_12
          refine lv_pop hx hb dX10_weightIn_63 rfl ?_
          refine lv_iinc (v := nI (k + 1)) (lv' := [(3, _), (0, _), (1, _), (2, _)]) hx hb dX10_weightIn_64 hl (k := 0) rfl (nI_succ k).symm (by decide) rfl (fun ls hl => ?_)
          refine lv_goto (tgt := 54) hx hb dX10_weightIn_67 (by decide) ?_
          exact ih_7 (k + 1) (by omega) _ _ _ ⟨(by omega), (by rw [show (daysP (T_laysAside v) (k + 1)).2 = u_12 from by rw [daysP_s, hu_12]; rfl]; exact hm), hS, lv_sub hl [0, 1, 2, 3] rfl⟩
      · refine lv_aload_n hx hb dX10_weightIn_42 rfl (lv_at hl 0 rfl) ?_
        refine lv_iconst (v := (3 : Int32)) hx hb dX10_weightIn_43 (by decide) ?_
        refine k_calli (va_runV (As := [.int ((3 : Int32))]) (rest := []) ⟨hx, hb, hml, hown, hts⟩ (tm_fails l E h v ((3 : Int32)) ) (cwV 1 hts (lw_V q1766 q1768 qs23 q80 q1769) rfl rfl rfl (by decide +kernel) ⟨Nat.le_of_ble_eq_true rfl, Nat.le_of_ble_eq_true rfl⟩) (k_preVt hs hm hS) rfl rfl hl.1 rfl (lv_room (Nat.le_of_ble_eq_true rfl)) dX10_weightIn_44 ⟨Nat.le_of_ble_eq_true rfl, Nat.le_of_ble_eq_true rfl⟩) hS (fun r_13 u_13 H9 locs hw_13 hm_13 hS => ?_)
        replace hw_13 : r_13 = (0 : Int32) ∧ u_13 = (T_fails v (3 : Int32)).2 := hw_13
        obtain ⟨hr_13, hw_13⟩ := hw_13
        replace hr_13 := hr_13.symm
        subst hr_13
        replace hw_13 := hw_13.symm
        subst hw_13
        have hm := hm_13
        subst hr_3
        subst hr_1
        exact W.iret (v := _) hx hb hr (fun t9 ht9 _ => ⟨⟨_, _, rfl, pp ((if_neg c_2).trans ((if_neg c_4).trans ((if_pos c_5).trans (rfl)))), hb9 ht9 hm⟩, hS.F ht9⟩) hS.2.2 dX10_weightIn_47
    · refine lv_aload_n hx hb dX10_weightIn_23 rfl (lv_at hl 0 rfl) ?_
      refine lv_iconst (v := (2 : Int32)) hx hb dX10_weightIn_24 (by decide) ?_
      refine k_calli (va_runV (As := [.int ((2 : Int32))]) (rest := []) ⟨hx, hb, hml, hown, hts⟩ (tm_fails l E h v ((2 : Int32)) ) (cwV 1 hts (lw_V q1766 q1768 qs23 q80 q1769) rfl rfl rfl (by decide +kernel) ⟨Nat.le_of_ble_eq_true rfl, Nat.le_of_ble_eq_true rfl⟩) (k_preVt hs hm hS) rfl rfl hl.1 rfl (lv_room (Nat.le_of_ble_eq_true rfl)) dX10_weightIn_25 ⟨Nat.le_of_ble_eq_true rfl, Nat.le_of_ble_eq_true rfl⟩) hS (fun r_14 u_14 H9 locs hw_14 hm_14 hS => ?_)
      replace hw_14 : r_14 = (0 : Int32) ∧ u_14 = (T_fails v (2 : Int32)).2 := hw_14
      obtain ⟨hr_14, hw_14⟩ := hw_14
      replace hr_14 := hr_14.symm
      subst hr_14
      replace hw_14 := hw_14.symm
      subst hw_14
      have hm := hm_14
      subst hr_3
      subst hr_1
      exact W.iret (v := _) hx hb hr (fun t9 ht9 _ => ⟨⟨_, _, rfl, pp ((if_neg c_2).trans ((if_pos c_4).trans (rfl))), hb9 ht9 hm⟩, hS.F ht9⟩) hS.2.2 dX10_weightIn_28
  · refine lv_aload_n hx hb dX10_weightIn_7 rfl (lv_at hl 0 rfl) ?_
    refine lv_iconst (v := (1 : Int32)) hx hb dX10_weightIn_8 (by decide) ?_
    refine k_calli (va_runV (As := [.int ((1 : Int32))]) (rest := []) ⟨hx, hb, hml, hown, hts⟩ (tm_fails l E h v ((1 : Int32)) ) (cwV 1 hts (lw_V q1766 q1768 qs23 q80 q1769) rfl rfl rfl (by decide +kernel) ⟨Nat.le_of_ble_eq_true rfl, Nat.le_of_ble_eq_true rfl⟩) (k_preVt hs hm hS) rfl rfl hl.1 rfl (lv_room (Nat.le_of_ble_eq_true rfl)) dX10_weightIn_9 ⟨Nat.le_of_ble_eq_true rfl, Nat.le_of_ble_eq_true rfl⟩) hS (fun r_15 u_15 H9 locs hw_15 hm_15 hS => ?_)
    replace hw_15 : r_15 = (0 : Int32) ∧ u_15 = (T_fails v (1 : Int32)).2 := hw_15
    obtain ⟨hr_15, hw_15⟩ := hw_15
    replace hr_15 := hr_15.symm
    subst hr_15
    replace hw_15 := hw_15.symm
    subst hw_15
    have hm := hm_15
    subst hr_1
    exact W.iret (v := _) hx hb hr (fun t9 ht9 _ => ⟨⟨_, _, rfl, pp ((if_pos c_2).trans (rfl)), hb9 ht9 hm⟩, hS.F ht9⟩) hS.2.2 dX10_weightIn_12
def T_waterAgain (v : tw) (x : Int32) (y : Int32) : Int32 × tw :=
  let r_1 := T_isPlot (x);
  if r_1 = 0 then
    ((0 : Int32), (T_fails v (1 : Int32)).2)
  else
    let r_3 := T_in (y) ((0 : Int32)) ((60 : Int32));
    if r_3 = 0 then
      ((0 : Int32), (T_fails v (2 : Int32)).2)
    else
      let r_9 := T_fbits ((t1 (daysP (T_laysAside v) (y.toNatClampNeg)).2 (((0 : Int32) + x)).toNatClampNeg));
      (r_9, (u18 (T_laysBack (daysP (T_laysAside v) (y.toNatClampNeg)).2) (0 : Int32)))
set_option maxHeartbeats 4000000 in
theorem tm_waterAgain (l : Launch) (E : mE) (h : Nat) (v : tw) (x : Int32) (y : Int32) (hw : wf (t0 v) (t1 v)) : Met l yX10_waterAgain (ws_ yX10_waterAgain cX10_waterAgain 4 (some .int)) ({ frames := 3, cells := 0, slots := 0, locals := 69 }) (va_Pc [.ref h, .int x, .int y] (tP E h v)) (va_Qi (fun (r : Int32) (u : tw) => r = (T_waterAgain v x y).1 ∧ u = (T_waterAgain v x y).2) (fun u U => tW E h u U.heap) (eA E)) 0 0 (eA E) := by
  refine Met.ofW (cc := cX10_waterAgain) (maxL := 4) (ret := (some .int)) (by decide) rfl ?_
  intro p e s m args below meth c s₁ B hml hv
  obtain ⟨rfl, hs, hm⟩ := hv
  have hx := B.exec
  have hb := B.bytes
  have hr := B.returns
  have hts := atoms_spec (ws := ws_ yX10_waterAgain cX10_waterAgain 4 (some .int)) B.pre
  have hts : ∀ w ∈ lw_all, w.before _ s = true := fun w h => hts w (List.mem_cons_of_mem _ h)
  have hown : s.vm.findClass RX10 = some m.cls := findClass_of_methodNamed B.named
  have hlocks := B.notSynchronized
  have hS : va_S (eA E) s.heap s.heap [] := va_S.rf
  have hl := lv_entry ([.ref h, .int x, .int y]) (n := 4) (Nat.le_of_ble_eq_true rfl)
  rw [lg_entry_eq]
  generalize (lg_sl ([.ref h, .int x, .int y]) ++ List.replicate (4 - (lg_sl ([.ref h, .int x, .int y])).length) Slot.unset).toArray = ls at hl ⊢
  have hl : lv_has ls 4 [(0, .ref (h)), (1, .int (x)), (2, .int (y))] := hl
  refine lv_iload_n hx hb dX10_waterAgain_0 rfl (lv_at hl 1 rfl) ?_
  refine k_calli (va_runS (As := [.int (x)]) (rest := []) ⟨hx, hb, hml, hown, hts⟩ (tm_isPlot l E (x) _) (va_cwS 1 hts (lw_S q1806 q1807 q80 q1808) rfl rfl rfl (by decide +kernel) ⟨Nat.le_of_ble_eq_true rfl, Nat.le_of_ble_eq_true rfl⟩) (k_pure hs hS) rfl rfl hl.1 rfl (lv_room (Nat.le_of_ble_eq_true rfl)) dX10_waterAgain_1 ⟨Nat.le_of_ble_eq_true rfl, Nat.le_of_ble_eq_true rfl⟩) hS (fun r_1 u_1 H9 locs hw_1 hm_1 hS => ?_)
  replace hm_1 : _ = H9 := Eq.symm hm_1
  subst hm_1
  have hr_1 := hw_1
  refine lv_if_ne (tgt := 13) hx hb dX10_waterAgain_4 (by decide) (fun c_2 => ?_) (fun c_2 => ?_)
  · have hx12 := plot_ix hr_1 c_2
    refine lv_iload_n hx hb dX10_waterAgain_13 rfl (lv_at hl 2 rfl) ?_
    refine lv_iconst (v := (0 : Int32)) hx hb dX10_waterAgain_14 (by decide) ?_
    refine lv_bipush (v := (60 : Int32)) hx hb dX10_waterAgain_15 (by decide) ?_
    refine k_calli (va_runS (As := [.int (y), .int ((0 : Int32)), .int ((60 : Int32))]) (rest := []) ⟨hx, hb, hml, hown, hts⟩ (tm_in l E (y) ((0 : Int32)) ((60 : Int32)) _) (va_cwS 3 hts (lw_S q1763 q1764 q80 q1765) rfl rfl rfl (by decide +kernel) ⟨Nat.le_of_ble_eq_true rfl, Nat.le_of_ble_eq_true rfl⟩) (k_pure hs hS) rfl rfl hl.1 rfl (lv_room (Nat.le_of_ble_eq_true rfl)) dX10_waterAgain_17 ⟨Nat.le_of_ble_eq_true rfl, Nat.le_of_ble_eq_true rfl⟩) hS (fun r_3 u_3 H9 locs hw_3 hm_3 hS => ?_)
    replace hm_3 : _ = H9 := Eq.symm hm_3
    subst hm_3
    have hr_3 := hw_3
    refine lv_if_ne (tgt := 29) hx hb dX10_waterAgain_20 (by decide) (fun c_4 => ?_) (fun c_4 => ?_)
    · have hy61 : ix 61 y := Tin_ix hr_3 c_4 (by decide) (by decide)
      refine lv_aload_n hx hb dX10_waterAgain_29 rfl (lv_at hl 0 rfl) ?_
      refine k_callv (va_runV (As := []) (rest := []) ⟨hx, hb, hml, hown, hts⟩ (tm_laysAside l E h v  ) (cwV 0 hts (lw_V q1860 q1862 qs34 q80 q1863) rfl rfl rfl (by decide +kernel) ⟨Nat.le_of_ble_eq_true rfl, Nat.le_of_ble_eq_true rfl⟩) (k_preVt hs hm hS) rfl rfl hl.1 rfl (lv_room (Nat.le_of_ble_eq_true rfl)) dX10_waterAgain_30 ⟨Nat.le_of_ble_eq_true rfl, Nat.le_of_ble_eq_true rfl⟩) hS (fun u_5 H9 locs hw_5 hm_5 hS => ?_)
      replace hw_5 : u_5 = (T_laysAside v) := hw_5
      replace hw_5 := hw_5.symm
      subst hw_5
      have hm := hm_5
      refine lv_iconst (v := (0 : Int32)) hx hb dX10_waterAgain_33 (by decide) ?_
      refine lv_istore_n (lv' := [(3, _), (0, _), (1, _), (2, _)]) hx hb dX10_waterAgain_34 rfl hl (by decide) rfl (fun ls hl => ?_)
      refine k_loop (fun k => y.toNatClampNeg - k) (fun (k : Nat) H locs ls => (k ≤ y.toNatClampNeg) ∧ tW E h ((daysP (T_laysAside v) k).2) H ∧ va_S (eA E) s.heap H locs ∧ lv_has ls 4 [(3, .int (nI k)), (0, .ref (h)), (1, .int (x)), (2, .int (y))]) (fun (k : Nat) ls => F0 m 35 ls []) (fun k => (0, 0)) (fun k ih_6 H locs ls hP => ?_) (0) ⟨(Nat.zero_le _), (by rw [daysP_0]; exact hm), hS, lv_sub hl [0, 1, 2, 3] rfl⟩
      obtain ⟨hI_6, hm, hS, hl⟩ := hP
      refine lv_iload_n hx hb dX10_waterAgain_35 rfl (lv_at hl 0 rfl) ?_
      refine lv_iload_n hx hb dX10_waterAgain_36 rfl (lv_at hl 3 rfl) ?_
      refine lv_icmp_ge (tgt := 51) hx hb dX10_waterAgain_37 (by decide) (fun c_7 => ?_) (fun c_7 => ?_)
      · have hkN : k = y.toNatClampNeg := lp_geI hy61 (by decide) hI_6 c_7
        replace hkN := hkN.symm
        subst hkN
        refine lv_aload_n hx hb dX10_waterAgain_51 rfl (lv_at hl 1 rfl) ?_
        refine tg_1 hx hb hts hown hs hm (hts _ q1675) dX10_waterAgain_52 ?_
        refine lv_iconst (v := (0 : Int32)) hx hb dX10_waterAgain_55 (by decide) ?_
        refine lv_iload_n hx hb dX10_waterAgain_56 rfl (lv_at hl 2 rfl) ?_
        refine lv_iadd hx hb dX10_waterAgain_57 ?_
        refine tl_1 hx hb hs hm (ix.add 0 33 (hx12) (by decide) (by decide)) dX10_waterAgain_58 ?_
        refine lv_fstore_n (lv' := [(3, _), (0, _), (1, _), (2, _)]) hx hb dX10_waterAgain_59 rfl hl (by decide) rfl (fun ls hl => ?_)
        refine lv_aload_n hx hb dX10_waterAgain_60 rfl (lv_at hl 1 rfl) ?_
        refine k_callv (va_runV (As := []) (rest := []) ⟨hx, hb, hml, hown, hts⟩ (tm_laysBack l E h (daysP (T_laysAside v) (y.toNatClampNeg)).2  ) (cwV 0 hts (lw_V q1888 q1890 qs39 q80 q1891) rfl rfl rfl (by decide +kernel) ⟨Nat.le_of_ble_eq_true rfl, Nat.le_of_ble_eq_true rfl⟩) (k_preVt hs hm hS) rfl rfl hl.1 rfl (lv_room (Nat.le_of_ble_eq_true rfl)) dX10_waterAgain_61 ⟨Nat.le_of_ble_eq_true rfl, Nat.le_of_ble_eq_true rfl⟩) hS (fun u_8 H9 locs hw_8 hm_8 hS => ?_)
        replace hw_8 : u_8 = (T_laysBack (daysP (T_laysAside v) (y.toNatClampNeg)).2) := hw_8
        replace hw_8 := hw_8.symm
        subst hw_8
        have hm := hm_8
        refine lv_aload_n hx hb dX10_waterAgain_64 rfl (lv_at hl 1 rfl) ?_
        refine lv_fload_n hx hb dX10_waterAgain_65 rfl (lv_at hl 0 rfl) ?_
        refine k_calli (va_runS (As := [.float ((t1 (daysP (T_laysAside v) (y.toNatClampNeg)).2 (((0 : Int32) + x)).toNatClampNeg))]) (rest := [.ref (h)]) ⟨hx, hb, hml, hown, hts⟩ (jm_J16_floatToIntBits l E ((t1 (daysP (T_laysAside v) (y.toNatClampNeg)).2 (((0 : Int32) + x)).toNatClampNeg)) _) (va_cwS 1 hts (lw_S q1855 q931 q87 q932) rfl rfl rfl (by decide +kernel) ⟨Nat.le_of_ble_eq_true rfl, Nat.le_of_ble_eq_true rfl⟩) (k_pure hs hS) rfl rfl hl.1 rfl (lv_room (Nat.le_of_ble_eq_true rfl)) dX10_waterAgain_66 ⟨Nat.le_of_ble_eq_true rfl, Nat.le_of_ble_eq_true rfl⟩) hS (fun r_9 u_9 H9 locs hw_9 hm_9 hS => ?_)
        replace hm_9 : _ = H9 := Eq.symm hm_9
        subst hm_9
        have hr_9 := hw_9
        refine k_calli (va_runV (As := [.int (r_9)]) (rest := []) ⟨hx, hb, hml, hown, hts⟩ (tm_done l E h (T_laysBack (daysP (T_laysAside v) (y.toNatClampNeg)).2) (r_9) ) (cwV 1 hts (lw_V q1770 q1772 qs24 q80 q1773) rfl rfl rfl (by decide +kernel) ⟨Nat.le_of_ble_eq_true rfl, Nat.le_of_ble_eq_true rfl⟩) (k_preVt hs hm hS) rfl rfl hl.1 rfl (lv_room (Nat.le_of_ble_eq_true rfl)) dX10_waterAgain_69 ⟨Nat.le_of_ble_eq_true rfl, Nat.le_of_ble_eq_true rfl⟩) hS (fun r_10 u_10 H9 locs hw_10 hm_10 hS => ?_)
        replace hw_10 : r_10 = r_9 ∧ u_10 = (u18 (T_laysBack (daysP (T_laysAside v) (y.toNatClampNeg)).2) (0 : Int32)) := hw_10
        obtain ⟨hr_10, hw_10⟩ := hw_10
        replace hr_10 := hr_10.symm
        subst hr_10
        replace hw_10 := hw_10.symm
        subst hw_10
        have hm := hm_10
        subst hr_9
        subst hr_3
        subst hr_1
        exact W.iret (v := _) hx hb hr (fun t9 ht9 _ => ⟨⟨_, _, rfl, pp ((if_neg c_2).trans ((if_neg c_4).trans (rfl))), hb9 ht9 hm⟩, hS.F ht9⟩) hS.2.2 dX10_waterAgain_72
      · have hk : k < y.toNatClampNeg := lp_ltI hy61 (by decide) hI_6 c_7
        refine lv_aload_n hx hb dX10_waterAgain_40 rfl (lv_at hl 1 rfl) ?_
        refine k_calli (va_runV (As := []) (rest := []) ⟨hx, hb, hml, hown, hts⟩ (tm_goesDay l E h (daysP (T_laysAside v) k).2  (wf_daysP (v := T_laysAside v) hw k)) (cwV 0 hts (lw_V q1864 q1866 qs35 q80 q1867) rfl rfl rfl (by decide +kernel) ⟨Nat.le_of_ble_eq_true rfl, Nat.le_of_ble_eq_true rfl⟩) (k_preVt hs hm hS) rfl rfl hl.1 rfl (lv_room (Nat.le_of_ble_eq_true rfl)) dX10_waterAgain_41 ⟨Nat.le_of_ble_eq_true rfl, Nat.le_of_ble_eq_true rfl⟩) hS (fun r_11 u_11 H9 locs hw_11 hm_11 hS => ?_)
        obtain ⟨hr_11, hu_11⟩ := hw_11
        have hm := hm_11
        refine lv_pop hx hb dX10_waterAgain_44 rfl ?_
        refine lv_iinc (v := nI (k + 1)) (lv' := [(3, _), (0, _), (1, _), (2, _)]) hx hb dX10_waterAgain_45 hl (k := 0) rfl (nI_succ k).symm (by decide) rfl (fun ls hl => ?_)
        refine lv_goto (tgt := 35) hx hb dX10_waterAgain_48 (by decide) ?_
        exact ih_6 (k + 1) (by omega) _ _ _ ⟨(by omega), (by rw [show (daysP (T_laysAside v) (k + 1)).2 = u_11 from by rw [daysP_s, hu_11]; rfl]; exact hm), hS, lv_sub hl [0, 1, 2, 3] rfl⟩
    · refine lv_aload_n hx hb dX10_waterAgain_23 rfl (lv_at hl 0 rfl) ?_
      refine lv_iconst (v := (2 : Int32)) hx hb dX10_waterAgain_24 (by decide) ?_
      refine k_calli (va_runV (As := [.int ((2 : Int32))]) (rest := []) ⟨hx, hb, hml, hown, hts⟩ (tm_fails l E h v ((2 : Int32)) ) (cwV 1 hts (lw_V q1766 q1768 qs23 q80 q1769) rfl rfl rfl (by decide +kernel) ⟨Nat.le_of_ble_eq_true rfl, Nat.le_of_ble_eq_true rfl⟩) (k_preVt hs hm hS) rfl rfl hl.1 rfl (lv_room (Nat.le_of_ble_eq_true rfl)) dX10_waterAgain_25 ⟨Nat.le_of_ble_eq_true rfl, Nat.le_of_ble_eq_true rfl⟩) hS (fun r_12 u_12 H9 locs hw_12 hm_12 hS => ?_)
      replace hw_12 : r_12 = (0 : Int32) ∧ u_12 = (T_fails v (2 : Int32)).2 := hw_12
      obtain ⟨hr_12, hw_12⟩ := hw_12
      replace hr_12 := hr_12.symm
      subst hr_12
      replace hw_12 := hw_12.symm
      subst hw_12
      have hm := hm_12
      subst hr_3
      subst hr_1
      exact W.iret (v := _) hx hb hr (fun t9 ht9 _ => ⟨⟨_, _, rfl, pp ((if_neg c_2).trans ((if_pos c_4).trans (rfl))), hb9 ht9 hm⟩, hS.F ht9⟩) hS.2.2 dX10_waterAgain_28
  · refine lv_aload_n hx hb dX10_waterAgain_7 rfl (lv_at hl 0 rfl) ?_
    refine lv_iconst (v := (1 : Int32)) hx hb dX10_waterAgain_8 (by decide) ?_
    refine k_calli (va_runV (As := [.int ((1 : Int32))]) (rest := []) ⟨hx, hb, hml, hown, hts⟩ (tm_fails l E h v ((1 : Int32)) ) (cwV 1 hts (lw_V q1766 q1768 qs23 q80 q1769) rfl rfl rfl (by decide +kernel) ⟨Nat.le_of_ble_eq_true rfl, Nat.le_of_ble_eq_true rfl⟩) (k_preVt hs hm hS) rfl rfl hl.1 rfl (lv_room (Nat.le_of_ble_eq_true rfl)) dX10_waterAgain_9 ⟨Nat.le_of_ble_eq_true rfl, Nat.le_of_ble_eq_true rfl⟩) hS (fun r_13 u_13 H9 locs hw_13 hm_13 hS => ?_)
    replace hw_13 : r_13 = (0 : Int32) ∧ u_13 = (T_fails v (1 : Int32)).2 := hw_13
    obtain ⟨hr_13, hw_13⟩ := hw_13
    replace hr_13 := hr_13.symm
    subst hr_13
    replace hw_13 := hw_13.symm
    subst hw_13
    have hm := hm_13
    subst hr_1
    exact W.iret (v := _) hx hb hr (fun t9 ht9 _ => ⟨⟨_, _, rfl, pp ((if_pos c_2).trans (rfl)), hb9 ht9 hm⟩, hS.F ht9⟩) hS.2.2 dX10_waterAgain_12
theorem t6_blows (v : tw) (x : Int32) : t6 (T_blows v x).2 = t6 v := by
  unfold T_blows
  try dsimp only
  (repeat' split) <;> rfl
theorem t6_rains (v : tw) (x : Int32) : t6 (T_rains v x).2 = t6 v := by
  unfold T_rains
  try dsimp only
  (repeat' split) <;> rfl
theorem t6_digs (v : tw) (x : Int32) (y : Int32) : t6 (T_digs v x y).2 = t6 v := by
  unfold T_digs
  try dsimp only
  (repeat' split) <;> rfl
theorem t6_rests (v : tw) (x : Int32) : t6 (T_rests v x).2 = t6 v := by
  unfold T_rests
  try dsimp only
  (repeat' split) <;> rfl
theorem t6_votes (v : tw) (x : Int32) (y : Int32) : t6 (T_votes v x y).2 = t6 v := by
  unfold T_votes
  try dsimp only
  (repeat' split) <;> rfl
theorem t6_counts (v : tw) : t6 (T_counts v ).2 = t6 v := by
  unfold T_counts
  try dsimp only
  (repeat' split) <;> rfl
theorem t6_passes (v : tw) (x : Int32) : t6 (T_passes v x).2 = t6 v := by
  unfold T_passes
  dsimp only
  split
  · rfl
  · exact (sr_daysP v _).t6
def T_wind (v : tw) (x : Int32) : Int32 × tw :=
  let r_2 := (T_blows (T_looksBack v) (x)).1;
  let u_2 := (T_blows (T_looksBack v) (x)).2;
  let r_3 := (T_kept u_2 (r_2)).1;
  let u_3 := (T_kept u_2 (r_2)).2;
  (r_3, u_3)
set_option maxHeartbeats 4000000 in
theorem tm_wind (l : Launch) (E : mE) (h : Nat) (v : tw) (x : Int32) (hw : wf (t0 v) (t1 v)) (h9 : ix 9 (t6 v)) : Met l yX10_wind (ws_ yX10_wind cX10_wind 2 (some .int)) ({ frames := 2, cells := 0, slots := 0, locals := 46 }) (va_Pc [.ref h, .int x] (tP E h v)) (va_Qi (fun (r : Int32) (u : tw) => r = (T_wind v x).1 ∧ u = (T_wind v x).2) (fun u U => tW E h u U.heap) (eA E)) 0 0 (eA E) := by
  refine Met.ofW (cc := cX10_wind) (maxL := 2) (ret := (some .int)) (by decide) rfl ?_
  intro p e s m args below meth c s₁ B hml hv
  obtain ⟨rfl, hs, hm⟩ := hv
  have hx := B.exec
  have hb := B.bytes
  have hr := B.returns
  have hts := atoms_spec (ws := ws_ yX10_wind cX10_wind 2 (some .int)) B.pre
  have hts : ∀ w ∈ lw_all, w.before _ s = true := fun w h => hts w (List.mem_cons_of_mem _ h)
  have hown : s.vm.findClass RX10 = some m.cls := findClass_of_methodNamed B.named
  have hlocks := B.notSynchronized
  have hS : va_S (eA E) s.heap s.heap [] := va_S.rf
  have hl := lv_entry ([.ref h, .int x]) (n := 2) (Nat.le_of_ble_eq_true rfl)
  rw [lg_entry_eq]
  generalize (lg_sl ([.ref h, .int x]) ++ List.replicate (2 - (lg_sl ([.ref h, .int x])).length) Slot.unset).toArray = ls at hl ⊢
  have hl : lv_has ls 2 [(0, .ref (h)), (1, .int (x))] := hl
  refine lv_aload_n hx hb dX10_wind_0 rfl (lv_at hl 0 rfl) ?_
  refine k_callv (va_runV (As := []) (rest := []) ⟨hx, hb, hml, hown, hts⟩ (tm_looksBack l E h v  ) (cwV 0 hts (lw_V q1749 q1751 qs21 q80 q1752) rfl rfl rfl (by decide +kernel) ⟨Nat.le_of_ble_eq_true rfl, Nat.le_of_ble_eq_true rfl⟩) (k_preVt hs hm hS) rfl rfl hl.1 rfl (lv_room (Nat.le_of_ble_eq_true rfl)) dX10_wind_1 ⟨Nat.le_of_ble_eq_true rfl, Nat.le_of_ble_eq_true rfl⟩) hS (fun u_1 H9 locs hw_1 hm_1 hS => ?_)
  replace hw_1 : u_1 = (T_looksBack v) := hw_1
  replace hw_1 := hw_1.symm
  subst hw_1
  have hm := hm_1
  refine lv_aload_n hx hb dX10_wind_4 rfl (lv_at hl 0 rfl) ?_
  refine lv_aload_n hx hb dX10_wind_5 rfl (lv_at hl 0 rfl) ?_
  refine lv_iload_n hx hb dX10_wind_6 rfl (lv_at hl 1 rfl) ?_
  refine k_calli (va_runV (As := [.int (x)]) (rest := [.ref (h)]) ⟨hx, hb, hml, hown, hts⟩ (tm_blows l E h (T_looksBack v) (x) ) (cwV 1 hts (lw_V q1759 q1761 qs22 q80 q1762) rfl rfl rfl (by decide +kernel) ⟨Nat.le_of_ble_eq_true rfl, Nat.le_of_ble_eq_true rfl⟩) (k_preVt hs hm hS) rfl rfl hl.1 rfl (lv_room (Nat.le_of_ble_eq_true rfl)) dX10_wind_7 ⟨Nat.le_of_ble_eq_true rfl, Nat.le_of_ble_eq_true rfl⟩) hS (fun r_2 u_2 H9 locs hw_2 hm_2 hS => ?_)
  obtain ⟨hr_2, hu_2⟩ := hw_2
  have hm := hm_2
  refine k_calli (va_runV (As := [.int (r_2)]) (rest := []) ⟨hx, hb, hml, hown, hts⟩ (tm_kept l E h u_2 (r_2) (by rw [hu_2, t6_blows]; exact i9_looksBack h9)) (cwV 1 hts (lw_V q1774 q1776 qs25 q80 q1777) rfl rfl rfl (by decide +kernel) ⟨Nat.le_of_ble_eq_true rfl, Nat.le_of_ble_eq_true rfl⟩) (k_preVt hs hm hS) rfl rfl hl.1 rfl (lv_room (Nat.le_of_ble_eq_true rfl)) dX10_wind_10 ⟨Nat.le_of_ble_eq_true rfl, Nat.le_of_ble_eq_true rfl⟩) hS (fun r_3 u_3 H9 locs hw_3 hm_3 hS => ?_)
  obtain ⟨hr_3, hu_3⟩ := hw_3
  have hm := hm_3
  subst hu_3
  subst hr_3
  subst hu_2
  subst hr_2
  exact W.iret (v := _) hx hb hr (fun t9 ht9 _ => ⟨⟨_, _, rfl, pp (rfl), hb9 ht9 hm⟩, hS.F ht9⟩) hS.2.2 dX10_wind_13
def T_rain (v : tw) (x : Int32) : Int32 × tw :=
  let r_2 := (T_rains (T_looksBack v) (x)).1;
  let u_2 := (T_rains (T_looksBack v) (x)).2;
  let r_3 := (T_kept u_2 (r_2)).1;
  let u_3 := (T_kept u_2 (r_2)).2;
  (r_3, u_3)
set_option maxHeartbeats 4000000 in
theorem tm_rain (l : Launch) (E : mE) (h : Nat) (v : tw) (x : Int32) (hw : wf (t0 v) (t1 v)) (h9 : ix 9 (t6 v)) : Met l yX10_rain (ws_ yX10_rain cX10_rain 2 (some .int)) ({ frames := 2, cells := 0, slots := 0, locals := 46 }) (va_Pc [.ref h, .int x] (tP E h v)) (va_Qi (fun (r : Int32) (u : tw) => r = (T_rain v x).1 ∧ u = (T_rain v x).2) (fun u U => tW E h u U.heap) (eA E)) 0 0 (eA E) := by
  refine Met.ofW (cc := cX10_rain) (maxL := 2) (ret := (some .int)) (by decide) rfl ?_
  intro p e s m args below meth c s₁ B hml hv
  obtain ⟨rfl, hs, hm⟩ := hv
  have hx := B.exec
  have hb := B.bytes
  have hr := B.returns
  have hts := atoms_spec (ws := ws_ yX10_rain cX10_rain 2 (some .int)) B.pre
  have hts : ∀ w ∈ lw_all, w.before _ s = true := fun w h => hts w (List.mem_cons_of_mem _ h)
  have hown : s.vm.findClass RX10 = some m.cls := findClass_of_methodNamed B.named
  have hlocks := B.notSynchronized
  have hS : va_S (eA E) s.heap s.heap [] := va_S.rf
  have hl := lv_entry ([.ref h, .int x]) (n := 2) (Nat.le_of_ble_eq_true rfl)
  rw [lg_entry_eq]
  generalize (lg_sl ([.ref h, .int x]) ++ List.replicate (2 - (lg_sl ([.ref h, .int x])).length) Slot.unset).toArray = ls at hl ⊢
  have hl : lv_has ls 2 [(0, .ref (h)), (1, .int (x))] := hl
  refine lv_aload_n hx hb dX10_rain_0 rfl (lv_at hl 0 rfl) ?_
  refine k_callv (va_runV (As := []) (rest := []) ⟨hx, hb, hml, hown, hts⟩ (tm_looksBack l E h v  ) (cwV 0 hts (lw_V q1749 q1751 qs21 q80 q1752) rfl rfl rfl (by decide +kernel) ⟨Nat.le_of_ble_eq_true rfl, Nat.le_of_ble_eq_true rfl⟩) (k_preVt hs hm hS) rfl rfl hl.1 rfl (lv_room (Nat.le_of_ble_eq_true rfl)) dX10_rain_1 ⟨Nat.le_of_ble_eq_true rfl, Nat.le_of_ble_eq_true rfl⟩) hS (fun u_1 H9 locs hw_1 hm_1 hS => ?_)
  replace hw_1 : u_1 = (T_looksBack v) := hw_1
  replace hw_1 := hw_1.symm
  subst hw_1
  have hm := hm_1
  refine lv_aload_n hx hb dX10_rain_4 rfl (lv_at hl 0 rfl) ?_
  refine lv_aload_n hx hb dX10_rain_5 rfl (lv_at hl 0 rfl) ?_
  refine lv_iload_n hx hb dX10_rain_6 rfl (lv_at hl 1 rfl) ?_
  refine k_calli (va_runV (As := [.int (x)]) (rest := [.ref (h)]) ⟨hx, hb, hml, hown, hts⟩ (tm_rains l E h (T_looksBack v) (x) ) (cwV 1 hts (lw_V q1782 q1784 qs26 q80 q1785) rfl rfl rfl (by decide +kernel) ⟨Nat.le_of_ble_eq_true rfl, Nat.le_of_ble_eq_true rfl⟩) (k_preVt hs hm hS) rfl rfl hl.1 rfl (lv_room (Nat.le_of_ble_eq_true rfl)) dX10_rain_7 ⟨Nat.le_of_ble_eq_true rfl, Nat.le_of_ble_eq_true rfl⟩) hS (fun r_2 u_2 H9 locs hw_2 hm_2 hS => ?_)
  obtain ⟨hr_2, hu_2⟩ := hw_2
  have hm := hm_2
  refine k_calli (va_runV (As := [.int (r_2)]) (rest := []) ⟨hx, hb, hml, hown, hts⟩ (tm_kept l E h u_2 (r_2) (by rw [hu_2, t6_rains]; exact i9_looksBack h9)) (cwV 1 hts (lw_V q1774 q1776 qs25 q80 q1777) rfl rfl rfl (by decide +kernel) ⟨Nat.le_of_ble_eq_true rfl, Nat.le_of_ble_eq_true rfl⟩) (k_preVt hs hm hS) rfl rfl hl.1 rfl (lv_room (Nat.le_of_ble_eq_true rfl)) dX10_rain_10 ⟨Nat.le_of_ble_eq_true rfl, Nat.le_of_ble_eq_true rfl⟩) hS (fun r_3 u_3 H9 locs hw_3 hm_3 hS => ?_)
  obtain ⟨hr_3, hu_3⟩ := hw_3
  have hm := hm_3
  subst hu_3
  subst hr_3
  subst hu_2
  subst hr_2
  exact W.iret (v := _) hx hb hr (fun t9 ht9 _ => ⟨⟨_, _, rfl, pp (rfl), hb9 ht9 hm⟩, hS.F ht9⟩) hS.2.2 dX10_rain_13
def T_dig (v : tw) (x : Int32) (y : Int32) : Int32 × tw :=
  let r_2 := (T_digs (T_looksBack v) (x) (y)).1;
  let u_2 := (T_digs (T_looksBack v) (x) (y)).2;
  let r_3 := (T_kept u_2 (r_2)).1;
  let u_3 := (T_kept u_2 (r_2)).2;
  (r_3, u_3)
set_option maxHeartbeats 4000000 in
theorem tm_dig (l : Launch) (E : mE) (h : Nat) (v : tw) (x : Int32) (y : Int32) (hw : wf (t0 v) (t1 v)) (h9 : ix 9 (t6 v)) : Met l yX10_dig (ws_ yX10_dig cX10_dig 3 (some .int)) ({ frames := 3, cells := 0, slots := 0, locals := 65 }) (va_Pc [.ref h, .int x, .int y] (tP E h v)) (va_Qi (fun (r : Int32) (u : tw) => r = (T_dig v x y).1 ∧ u = (T_dig v x y).2) (fun u U => tW E h u U.heap) (eA E)) 0 0 (eA E) := by
  refine Met.ofW (cc := cX10_dig) (maxL := 3) (ret := (some .int)) (by decide) rfl ?_
  intro p e s m args below meth c s₁ B hml hv
  obtain ⟨rfl, hs, hm⟩ := hv
  have hx := B.exec
  have hb := B.bytes
  have hr := B.returns
  have hts := atoms_spec (ws := ws_ yX10_dig cX10_dig 3 (some .int)) B.pre
  have hts : ∀ w ∈ lw_all, w.before _ s = true := fun w h => hts w (List.mem_cons_of_mem _ h)
  have hown : s.vm.findClass RX10 = some m.cls := findClass_of_methodNamed B.named
  have hlocks := B.notSynchronized
  have hS : va_S (eA E) s.heap s.heap [] := va_S.rf
  have hl := lv_entry ([.ref h, .int x, .int y]) (n := 3) (Nat.le_of_ble_eq_true rfl)
  rw [lg_entry_eq]
  generalize (lg_sl ([.ref h, .int x, .int y]) ++ List.replicate (3 - (lg_sl ([.ref h, .int x, .int y])).length) Slot.unset).toArray = ls at hl ⊢
  have hl : lv_has ls 3 [(0, .ref (h)), (1, .int (x)), (2, .int (y))] := hl
  refine lv_aload_n hx hb dX10_dig_0 rfl (lv_at hl 0 rfl) ?_
  refine k_callv (va_runV (As := []) (rest := []) ⟨hx, hb, hml, hown, hts⟩ (tm_looksBack l E h v  ) (cwV 0 hts (lw_V q1749 q1751 qs21 q80 q1752) rfl rfl rfl (by decide +kernel) ⟨Nat.le_of_ble_eq_true rfl, Nat.le_of_ble_eq_true rfl⟩) (k_preVt hs hm hS) rfl rfl hl.1 rfl (lv_room (Nat.le_of_ble_eq_true rfl)) dX10_dig_1 ⟨Nat.le_of_ble_eq_true rfl, Nat.le_of_ble_eq_true rfl⟩) hS (fun u_1 H9 locs hw_1 hm_1 hS => ?_)
  replace hw_1 : u_1 = (T_looksBack v) := hw_1
  replace hw_1 := hw_1.symm
  subst hw_1
  have hm := hm_1
  refine lv_aload_n hx hb dX10_dig_4 rfl (lv_at hl 0 rfl) ?_
  refine lv_aload_n hx hb dX10_dig_5 rfl (lv_at hl 0 rfl) ?_
  refine lv_iload_n hx hb dX10_dig_6 rfl (lv_at hl 1 rfl) ?_
  refine lv_iload_n hx hb dX10_dig_7 rfl (lv_at hl 2 rfl) ?_
  refine k_calli (va_runV (As := [.int (x), .int (y)]) (rest := [.ref (h)]) ⟨hx, hb, hml, hown, hts⟩ (tm_digs l E h (T_looksBack v) (x) (y) hw) (cwV 2 hts (lw_V q1798 q1800 qs28 q80 q1801) rfl rfl rfl (by decide +kernel) ⟨Nat.le_of_ble_eq_true rfl, Nat.le_of_ble_eq_true rfl⟩) (k_preVt hs hm hS) rfl rfl hl.1 rfl (lv_room (Nat.le_of_ble_eq_true rfl)) dX10_dig_8 ⟨Nat.le_of_ble_eq_true rfl, Nat.le_of_ble_eq_true rfl⟩) hS (fun r_2 u_2 H9 locs hw_2 hm_2 hS => ?_)
  obtain ⟨hr_2, hu_2⟩ := hw_2
  have hm := hm_2
  refine k_calli (va_runV (As := [.int (r_2)]) (rest := []) ⟨hx, hb, hml, hown, hts⟩ (tm_kept l E h u_2 (r_2) (by rw [hu_2, t6_digs]; exact i9_looksBack h9)) (cwV 1 hts (lw_V q1774 q1776 qs25 q80 q1777) rfl rfl rfl (by decide +kernel) ⟨Nat.le_of_ble_eq_true rfl, Nat.le_of_ble_eq_true rfl⟩) (k_preVt hs hm hS) rfl rfl hl.1 rfl (lv_room (Nat.le_of_ble_eq_true rfl)) dX10_dig_11 ⟨Nat.le_of_ble_eq_true rfl, Nat.le_of_ble_eq_true rfl⟩) hS (fun r_3 u_3 H9 locs hw_3 hm_3 hS => ?_)
  obtain ⟨hr_3, hu_3⟩ := hw_3
  have hm := hm_3
  subst hu_3
  subst hr_3
  subst hu_2
  subst hr_2
  exact W.iret (v := _) hx hb hr (fun t9 ht9 _ => ⟨⟨_, _, rfl, pp (rfl), hb9 ht9 hm⟩, hS.F ht9⟩) hS.2.2 dX10_dig_14
def T_rest (v : tw) (x : Int32) : Int32 × tw :=
  let r_2 := (T_rests (T_looksBack v) (x)).1;
  let u_2 := (T_rests (T_looksBack v) (x)).2;
  let r_3 := (T_kept u_2 (r_2)).1;
  let u_3 := (T_kept u_2 (r_2)).2;
  (r_3, u_3)
set_option maxHeartbeats 4000000 in
theorem tm_rest (l : Launch) (E : mE) (h : Nat) (v : tw) (x : Int32) (hw : wf (t0 v) (t1 v)) (h9 : ix 9 (t6 v)) : Met l yX10_rest (ws_ yX10_rest cX10_rest 2 (some .int)) ({ frames := 3, cells := 0, slots := 0, locals := 65 }) (va_Pc [.ref h, .int x] (tP E h v)) (va_Qi (fun (r : Int32) (u : tw) => r = (T_rest v x).1 ∧ u = (T_rest v x).2) (fun u U => tW E h u U.heap) (eA E)) 0 0 (eA E) := by
  refine Met.ofW (cc := cX10_rest) (maxL := 2) (ret := (some .int)) (by decide) rfl ?_
  intro p e s m args below meth c s₁ B hml hv
  obtain ⟨rfl, hs, hm⟩ := hv
  have hx := B.exec
  have hb := B.bytes
  have hr := B.returns
  have hts := atoms_spec (ws := ws_ yX10_rest cX10_rest 2 (some .int)) B.pre
  have hts : ∀ w ∈ lw_all, w.before _ s = true := fun w h => hts w (List.mem_cons_of_mem _ h)
  have hown : s.vm.findClass RX10 = some m.cls := findClass_of_methodNamed B.named
  have hlocks := B.notSynchronized
  have hS : va_S (eA E) s.heap s.heap [] := va_S.rf
  have hl := lv_entry ([.ref h, .int x]) (n := 2) (Nat.le_of_ble_eq_true rfl)
  rw [lg_entry_eq]
  generalize (lg_sl ([.ref h, .int x]) ++ List.replicate (2 - (lg_sl ([.ref h, .int x])).length) Slot.unset).toArray = ls at hl ⊢
  have hl : lv_has ls 2 [(0, .ref (h)), (1, .int (x))] := hl
  refine lv_aload_n hx hb dX10_rest_0 rfl (lv_at hl 0 rfl) ?_
  refine k_callv (va_runV (As := []) (rest := []) ⟨hx, hb, hml, hown, hts⟩ (tm_looksBack l E h v  ) (cwV 0 hts (lw_V q1749 q1751 qs21 q80 q1752) rfl rfl rfl (by decide +kernel) ⟨Nat.le_of_ble_eq_true rfl, Nat.le_of_ble_eq_true rfl⟩) (k_preVt hs hm hS) rfl rfl hl.1 rfl (lv_room (Nat.le_of_ble_eq_true rfl)) dX10_rest_1 ⟨Nat.le_of_ble_eq_true rfl, Nat.le_of_ble_eq_true rfl⟩) hS (fun u_1 H9 locs hw_1 hm_1 hS => ?_)
  replace hw_1 : u_1 = (T_looksBack v) := hw_1
  replace hw_1 := hw_1.symm
  subst hw_1
  have hm := hm_1
  refine lv_aload_n hx hb dX10_rest_4 rfl (lv_at hl 0 rfl) ?_
  refine lv_aload_n hx hb dX10_rest_5 rfl (lv_at hl 0 rfl) ?_
  refine lv_iload_n hx hb dX10_rest_6 rfl (lv_at hl 1 rfl) ?_
  refine k_calli (va_runV (As := [.int (x)]) (rest := [.ref (h)]) ⟨hx, hb, hml, hown, hts⟩ (tm_rests l E h (T_looksBack v) (x) hw) (cwV 1 hts (lw_V q1817 q1819 qs31 q80 q1820) rfl rfl rfl (by decide +kernel) ⟨Nat.le_of_ble_eq_true rfl, Nat.le_of_ble_eq_true rfl⟩) (k_preVt hs hm hS) rfl rfl hl.1 rfl (lv_room (Nat.le_of_ble_eq_true rfl)) dX10_rest_7 ⟨Nat.le_of_ble_eq_true rfl, Nat.le_of_ble_eq_true rfl⟩) hS (fun r_2 u_2 H9 locs hw_2 hm_2 hS => ?_)
  obtain ⟨hr_2, hu_2⟩ := hw_2
  have hm := hm_2
  refine k_calli (va_runV (As := [.int (r_2)]) (rest := []) ⟨hx, hb, hml, hown, hts⟩ (tm_kept l E h u_2 (r_2) (by rw [hu_2, t6_rests]; exact i9_looksBack h9)) (cwV 1 hts (lw_V q1774 q1776 qs25 q80 q1777) rfl rfl rfl (by decide +kernel) ⟨Nat.le_of_ble_eq_true rfl, Nat.le_of_ble_eq_true rfl⟩) (k_preVt hs hm hS) rfl rfl hl.1 rfl (lv_room (Nat.le_of_ble_eq_true rfl)) dX10_rest_10 ⟨Nat.le_of_ble_eq_true rfl, Nat.le_of_ble_eq_true rfl⟩) hS (fun r_3 u_3 H9 locs hw_3 hm_3 hS => ?_)
  obtain ⟨hr_3, hu_3⟩ := hw_3
  have hm := hm_3
  subst hu_3
  subst hr_3
  subst hu_2
  subst hr_2
  exact W.iret (v := _) hx hb hr (fun t9 ht9 _ => ⟨⟨_, _, rfl, pp (rfl), hb9 ht9 hm⟩, hS.F ht9⟩) hS.2.2 dX10_rest_13
def T_vote (v : tw) (x : Int32) (y : Int32) : Int32 × tw :=
  let r_2 := (T_votes (T_looksBack v) (x) (y)).1;
  let u_2 := (T_votes (T_looksBack v) (x) (y)).2;
  let r_3 := (T_kept u_2 (r_2)).1;
  let u_3 := (T_kept u_2 (r_2)).2;
  (r_3, u_3)
set_option maxHeartbeats 4000000 in
theorem tm_vote (l : Launch) (E : mE) (h : Nat) (v : tw) (x : Int32) (y : Int32) (hw : wf (t0 v) (t1 v)) (h9 : ix 9 (t6 v)) : Met l yX10_vote (ws_ yX10_vote cX10_vote 3 (some .int)) ({ frames := 3, cells := 0, slots := 0, locals := 65 }) (va_Pc [.ref h, .int x, .int y] (tP E h v)) (va_Qi (fun (r : Int32) (u : tw) => r = (T_vote v x y).1 ∧ u = (T_vote v x y).2) (fun u U => tW E h u U.heap) (eA E)) 0 0 (eA E) := by
  refine Met.ofW (cc := cX10_vote) (maxL := 3) (ret := (some .int)) (by decide) rfl ?_
  intro p e s m args below meth c s₁ B hml hv
  obtain ⟨rfl, hs, hm⟩ := hv
  have hx := B.exec
  have hb := B.bytes
  have hr := B.returns
  have hts := atoms_spec (ws := ws_ yX10_vote cX10_vote 3 (some .int)) B.pre
  have hts : ∀ w ∈ lw_all, w.before _ s = true := fun w h => hts w (List.mem_cons_of_mem _ h)
  have hown : s.vm.findClass RX10 = some m.cls := findClass_of_methodNamed B.named
  have hlocks := B.notSynchronized
  have hS : va_S (eA E) s.heap s.heap [] := va_S.rf
  have hl := lv_entry ([.ref h, .int x, .int y]) (n := 3) (Nat.le_of_ble_eq_true rfl)
  rw [lg_entry_eq]
  generalize (lg_sl ([.ref h, .int x, .int y]) ++ List.replicate (3 - (lg_sl ([.ref h, .int x, .int y])).length) Slot.unset).toArray = ls at hl ⊢
  have hl : lv_has ls 3 [(0, .ref (h)), (1, .int (x)), (2, .int (y))] := hl
  refine lv_aload_n hx hb dX10_vote_0 rfl (lv_at hl 0 rfl) ?_
  refine k_callv (va_runV (As := []) (rest := []) ⟨hx, hb, hml, hown, hts⟩ (tm_looksBack l E h v  ) (cwV 0 hts (lw_V q1749 q1751 qs21 q80 q1752) rfl rfl rfl (by decide +kernel) ⟨Nat.le_of_ble_eq_true rfl, Nat.le_of_ble_eq_true rfl⟩) (k_preVt hs hm hS) rfl rfl hl.1 rfl (lv_room (Nat.le_of_ble_eq_true rfl)) dX10_vote_1 ⟨Nat.le_of_ble_eq_true rfl, Nat.le_of_ble_eq_true rfl⟩) hS (fun u_1 H9 locs hw_1 hm_1 hS => ?_)
  replace hw_1 : u_1 = (T_looksBack v) := hw_1
  replace hw_1 := hw_1.symm
  subst hw_1
  have hm := hm_1
  refine lv_aload_n hx hb dX10_vote_4 rfl (lv_at hl 0 rfl) ?_
  refine lv_aload_n hx hb dX10_vote_5 rfl (lv_at hl 0 rfl) ?_
  refine lv_iload_n hx hb dX10_vote_6 rfl (lv_at hl 1 rfl) ?_
  refine lv_iload_n hx hb dX10_vote_7 rfl (lv_at hl 2 rfl) ?_
  refine k_calli (va_runV (As := [.int (x), .int (y)]) (rest := [.ref (h)]) ⟨hx, hb, hml, hown, hts⟩ (tm_votes l E h (T_looksBack v) (x) (y) hw) (cwV 2 hts (lw_V q1974 q1976 qs44 q80 q1977) rfl rfl rfl (by decide +kernel) ⟨Nat.le_of_ble_eq_true rfl, Nat.le_of_ble_eq_true rfl⟩) (k_preVt hs hm hS) rfl rfl hl.1 rfl (lv_room (Nat.le_of_ble_eq_true rfl)) dX10_vote_8 ⟨Nat.le_of_ble_eq_true rfl, Nat.le_of_ble_eq_true rfl⟩) hS (fun r_2 u_2 H9 locs hw_2 hm_2 hS => ?_)
  obtain ⟨hr_2, hu_2⟩ := hw_2
  have hm := hm_2
  refine k_calli (va_runV (As := [.int (r_2)]) (rest := []) ⟨hx, hb, hml, hown, hts⟩ (tm_kept l E h u_2 (r_2) (by rw [hu_2, t6_votes]; exact i9_looksBack h9)) (cwV 1 hts (lw_V q1774 q1776 qs25 q80 q1777) rfl rfl rfl (by decide +kernel) ⟨Nat.le_of_ble_eq_true rfl, Nat.le_of_ble_eq_true rfl⟩) (k_preVt hs hm hS) rfl rfl hl.1 rfl (lv_room (Nat.le_of_ble_eq_true rfl)) dX10_vote_11 ⟨Nat.le_of_ble_eq_true rfl, Nat.le_of_ble_eq_true rfl⟩) hS (fun r_3 u_3 H9 locs hw_3 hm_3 hS => ?_)
  obtain ⟨hr_3, hu_3⟩ := hw_3
  have hm := hm_3
  subst hu_3
  subst hr_3
  subst hu_2
  subst hr_2
  exact W.iret (v := _) hx hb hr (fun t9 ht9 _ => ⟨⟨_, _, rfl, pp (rfl), hb9 ht9 hm⟩, hS.F ht9⟩) hS.2.2 dX10_vote_14
def T_count (v : tw)  : Int32 × tw :=
  let r_2 := (T_counts (T_looksBack v) ).1;
  let u_2 := (T_counts (T_looksBack v) ).2;
  let r_3 := (T_kept u_2 (r_2)).1;
  let u_3 := (T_kept u_2 (r_2)).2;
  (r_3, u_3)
set_option maxHeartbeats 4000000 in
theorem tm_count (l : Launch) (E : mE) (h : Nat) (v : tw)  (hw : wf (t0 v) (t1 v)) (h9 : ix 9 (t6 v)) : Met l yX10_count (ws_ yX10_count cX10_count 1 (some .int)) ({ frames := 2, cells := 0, slots := 0, locals := 48 }) (va_Pc [.ref h] (tP E h v)) (va_Qi (fun (r : Int32) (u : tw) => r = (T_count v ).1 ∧ u = (T_count v ).2) (fun u U => tW E h u U.heap) (eA E)) 0 0 (eA E) := by
  refine Met.ofW (cc := cX10_count) (maxL := 1) (ret := (some .int)) (by decide) rfl ?_
  intro p e s m args below meth c s₁ B hml hv
  obtain ⟨rfl, hs, hm⟩ := hv
  have hx := B.exec
  have hb := B.bytes
  have hr := B.returns
  have hts := atoms_spec (ws := ws_ yX10_count cX10_count 1 (some .int)) B.pre
  have hts : ∀ w ∈ lw_all, w.before _ s = true := fun w h => hts w (List.mem_cons_of_mem _ h)
  have hown : s.vm.findClass RX10 = some m.cls := findClass_of_methodNamed B.named
  have hlocks := B.notSynchronized
  have hS : va_S (eA E) s.heap s.heap [] := va_S.rf
  have hl := lv_entry ([.ref h]) (n := 1) (Nat.le_of_ble_eq_true rfl)
  rw [lg_entry_eq]
  generalize (lg_sl ([.ref h]) ++ List.replicate (1 - (lg_sl ([.ref h])).length) Slot.unset).toArray = ls at hl ⊢
  have hl : lv_has ls 1 [(0, .ref (h))] := hl
  refine lv_aload_n hx hb dX10_count_0 rfl (lv_at hl 0 rfl) ?_
  refine k_callv (va_runV (As := []) (rest := []) ⟨hx, hb, hml, hown, hts⟩ (tm_looksBack l E h v  ) (cwV 0 hts (lw_V q1749 q1751 qs21 q80 q1752) rfl rfl rfl (by decide +kernel) ⟨Nat.le_of_ble_eq_true rfl, Nat.le_of_ble_eq_true rfl⟩) (k_preVt hs hm hS) rfl rfl hl.1 rfl (lv_room (Nat.le_of_ble_eq_true rfl)) dX10_count_1 ⟨Nat.le_of_ble_eq_true rfl, Nat.le_of_ble_eq_true rfl⟩) hS (fun u_1 H9 locs hw_1 hm_1 hS => ?_)
  replace hw_1 : u_1 = (T_looksBack v) := hw_1
  replace hw_1 := hw_1.symm
  subst hw_1
  have hm := hm_1
  refine lv_aload_n hx hb dX10_count_4 rfl (lv_at hl 0 rfl) ?_
  refine lv_aload_n hx hb dX10_count_5 rfl (lv_at hl 0 rfl) ?_
  refine k_calli (va_runV (As := []) (rest := [.ref (h)]) ⟨hx, hb, hml, hown, hts⟩ (tm_counts l E h (T_looksBack v)  hw) (cwV 0 hts (lw_V q1986 q1988 qs46 q80 q1989) rfl rfl rfl (by decide +kernel) ⟨Nat.le_of_ble_eq_true rfl, Nat.le_of_ble_eq_true rfl⟩) (k_preVt hs hm hS) rfl rfl hl.1 rfl (lv_room (Nat.le_of_ble_eq_true rfl)) dX10_count_6 ⟨Nat.le_of_ble_eq_true rfl, Nat.le_of_ble_eq_true rfl⟩) hS (fun r_2 u_2 H9 locs hw_2 hm_2 hS => ?_)
  obtain ⟨hr_2, hu_2⟩ := hw_2
  have hm := hm_2
  refine k_calli (va_runV (As := [.int (r_2)]) (rest := []) ⟨hx, hb, hml, hown, hts⟩ (tm_kept l E h u_2 (r_2) (by rw [hu_2, t6_counts]; exact i9_looksBack h9)) (cwV 1 hts (lw_V q1774 q1776 qs25 q80 q1777) rfl rfl rfl (by decide +kernel) ⟨Nat.le_of_ble_eq_true rfl, Nat.le_of_ble_eq_true rfl⟩) (k_preVt hs hm hS) rfl rfl hl.1 rfl (lv_room (Nat.le_of_ble_eq_true rfl)) dX10_count_9 ⟨Nat.le_of_ble_eq_true rfl, Nat.le_of_ble_eq_true rfl⟩) hS (fun r_3 u_3 H9 locs hw_3 hm_3 hS => ?_)
  obtain ⟨hr_3, hu_3⟩ := hw_3
  have hm := hm_3
  subst hu_3
  subst hr_3
  subst hu_2
  subst hr_2
  exact W.iret (v := _) hx hb hr (fun t9 ht9 _ => ⟨⟨_, _, rfl, pp (rfl), hb9 ht9 hm⟩, hS.F ht9⟩) hS.2.2 dX10_count_12
def T_pass (v : tw) (x : Int32) : Int32 × tw :=
  let r_2 := (T_passes (T_looksBack v) (x)).1;
  let u_2 := (T_passes (T_looksBack v) (x)).2;
  let r_3 := (T_kept u_2 (r_2)).1;
  let u_3 := (T_kept u_2 (r_2)).2;
  (r_3, u_3)
set_option maxHeartbeats 4000000 in
theorem tm_pass (l : Launch) (E : mE) (h : Nat) (v : tw) (x : Int32) (hw : wf (t0 v) (t1 v)) (h9 : ix 9 (t6 v)) : Met l yX10_pass (ws_ yX10_pass cX10_pass 2 (some .int)) ({ frames := 4, cells := 0, slots := 0, locals := 92 }) (va_Pc [.ref h, .int x] (tP E h v)) (va_Qi (fun (r : Int32) (u : tw) => r = (T_pass v x).1 ∧ u = (T_pass v x).2) (fun u U => tW E h u U.heap) (eA E)) 0 0 (eA E) := by
  refine Met.ofW (cc := cX10_pass) (maxL := 2) (ret := (some .int)) (by decide) rfl ?_
  intro p e s m args below meth c s₁ B hml hv
  obtain ⟨rfl, hs, hm⟩ := hv
  have hx := B.exec
  have hb := B.bytes
  have hr := B.returns
  have hts := atoms_spec (ws := ws_ yX10_pass cX10_pass 2 (some .int)) B.pre
  have hts : ∀ w ∈ lw_all, w.before _ s = true := fun w h => hts w (List.mem_cons_of_mem _ h)
  have hown : s.vm.findClass RX10 = some m.cls := findClass_of_methodNamed B.named
  have hlocks := B.notSynchronized
  have hS : va_S (eA E) s.heap s.heap [] := va_S.rf
  have hl := lv_entry ([.ref h, .int x]) (n := 2) (Nat.le_of_ble_eq_true rfl)
  rw [lg_entry_eq]
  generalize (lg_sl ([.ref h, .int x]) ++ List.replicate (2 - (lg_sl ([.ref h, .int x])).length) Slot.unset).toArray = ls at hl ⊢
  have hl : lv_has ls 2 [(0, .ref (h)), (1, .int (x))] := hl
  refine lv_aload_n hx hb dX10_pass_0 rfl (lv_at hl 0 rfl) ?_
  refine k_callv (va_runV (As := []) (rest := []) ⟨hx, hb, hml, hown, hts⟩ (tm_looksBack l E h v  ) (cwV 0 hts (lw_V q1749 q1751 qs21 q80 q1752) rfl rfl rfl (by decide +kernel) ⟨Nat.le_of_ble_eq_true rfl, Nat.le_of_ble_eq_true rfl⟩) (k_preVt hs hm hS) rfl rfl hl.1 rfl (lv_room (Nat.le_of_ble_eq_true rfl)) dX10_pass_1 ⟨Nat.le_of_ble_eq_true rfl, Nat.le_of_ble_eq_true rfl⟩) hS (fun u_1 H9 locs hw_1 hm_1 hS => ?_)
  replace hw_1 : u_1 = (T_looksBack v) := hw_1
  replace hw_1 := hw_1.symm
  subst hw_1
  have hm := hm_1
  refine lv_aload_n hx hb dX10_pass_4 rfl (lv_at hl 0 rfl) ?_
  refine lv_aload_n hx hb dX10_pass_5 rfl (lv_at hl 0 rfl) ?_
  refine lv_iload_n hx hb dX10_pass_6 rfl (lv_at hl 1 rfl) ?_
  refine k_calli (va_runV (As := [.int (x)]) (rest := [.ref (h)]) ⟨hx, hb, hml, hown, hts⟩ (tm_passes l E h (T_looksBack v) (x) hw) (cwV 1 hts (lw_V q1998 q2000 qs47 q80 q2001) rfl rfl rfl (by decide +kernel) ⟨Nat.le_of_ble_eq_true rfl, Nat.le_of_ble_eq_true rfl⟩) (k_preVt hs hm hS) rfl rfl hl.1 rfl (lv_room (Nat.le_of_ble_eq_true rfl)) dX10_pass_7 ⟨Nat.le_of_ble_eq_true rfl, Nat.le_of_ble_eq_true rfl⟩) hS (fun r_2 u_2 H9 locs hw_2 hm_2 hS => ?_)
  obtain ⟨hr_2, hu_2⟩ := hw_2
  have hm := hm_2
  refine k_calli (va_runV (As := [.int (r_2)]) (rest := []) ⟨hx, hb, hml, hown, hts⟩ (tm_kept l E h u_2 (r_2) (by rw [hu_2, t6_passes]; exact i9_looksBack h9)) (cwV 1 hts (lw_V q1774 q1776 qs25 q80 q1777) rfl rfl rfl (by decide +kernel) ⟨Nat.le_of_ble_eq_true rfl, Nat.le_of_ble_eq_true rfl⟩) (k_preVt hs hm hS) rfl rfl hl.1 rfl (lv_room (Nat.le_of_ble_eq_true rfl)) dX10_pass_10 ⟨Nat.le_of_ble_eq_true rfl, Nat.le_of_ble_eq_true rfl⟩) hS (fun r_3 u_3 H9 locs hw_3 hm_3 hS => ?_)
  obtain ⟨hr_3, hu_3⟩ := hw_3
  have hm := hm_3
  subst hu_3
  subst hr_3
  subst hu_2
  subst hr_2
  exact W.iret (v := _) hx hb hr (fun t9 ht9 _ => ⟨⟨_, _, rfl, pp (rfl), hb9 ht9 hm⟩, hS.F ht9⟩) hS.2.2 dX10_pass_13
def T_sign (v : tw) (x : Int32) : Int32 × tw :=
  let r_1 := T_isPlot (x);
  let x3 := if r_1 = 0 then (1 : Int32) else (0 : Int32);
  if x3 = 0 then
    if (t0 v (((27 : Int32) + x)).toNatClampNeg) = (-1 : Int32) then
      let r_6 := T_shedOn (u18 v x3) (x);
      if r_6 = (-1 : Int32) then
        if (t0 v (((15 : Int32) + x)).toNatClampNeg) = (-1 : Int32) then
          ((46 : Int32), (u18 v x3))
        else
          ((100 : Int32), (u18 v x3))
      else
        ((83 : Int32), (u18 v x3))
    else
      if (t0 v (((27 : Int32) + x)).toNatClampNeg) = 0 then
        ((77 : Int32), (u18 v x3))
      else
        ((66 : Int32), (u18 v x3))
  else
    ((0 : Int32), (u18 v x3))
set_option maxHeartbeats 4000000 in
theorem tm_sign (l : Launch) (E : mE) (h : Nat) (v : tw) (x : Int32) (hw : wf (t0 v) (t1 v)) : Met l yX10_sign (ws_ yX10_sign cX10_sign 3 (some .char)) ({ frames := 2, cells := 0, slots := 0, locals := 42 }) (va_Pc [.ref h, .int x] (tP E h v)) (va_Qi (fun (r : Int32) (u : tw) => r = (T_sign v x).1 ∧ u = (T_sign v x).2) (fun u U => tW E h u U.heap) (eA E)) 0 0 (eA E) := by
  refine Met.ofW (cc := cX10_sign) (maxL := 3) (ret := (some .char)) (by decide) rfl ?_
  intro p e s m args below meth c s₁ B hml hv
  obtain ⟨rfl, hs, hm⟩ := hv
  have hx := B.exec
  have hb := B.bytes
  have hr := B.returns
  have hts := atoms_spec (ws := ws_ yX10_sign cX10_sign 3 (some .char)) B.pre
  have hts : ∀ w ∈ lw_all, w.before _ s = true := fun w h => hts w (List.mem_cons_of_mem _ h)
  have hown : s.vm.findClass RX10 = some m.cls := findClass_of_methodNamed B.named
  have hlocks := B.notSynchronized
  have hS : va_S (eA E) s.heap s.heap [] := va_S.rf
  have hl := lv_entry ([.ref h, .int x]) (n := 3) (Nat.le_of_ble_eq_true rfl)
  rw [lg_entry_eq]
  generalize (lg_sl ([.ref h, .int x]) ++ List.replicate (3 - (lg_sl ([.ref h, .int x])).length) Slot.unset).toArray = ls at hl ⊢
  have hl : lv_has ls 3 [(0, .ref (h)), (1, .int (x))] := hl
  refine lv_aload_n hx hb dX10_sign_0 rfl (lv_at hl 0 rfl) ?_
  refine lv_iload_n hx hb dX10_sign_1 rfl (lv_at hl 1 rfl) ?_
  refine k_calli (va_runS (As := [.int (x)]) (rest := [.ref (h)]) ⟨hx, hb, hml, hown, hts⟩ (tm_isPlot l E (x) _) (va_cwS 1 hts (lw_S q1806 q1807 q80 q1808) rfl rfl rfl (by decide +kernel) ⟨Nat.le_of_ble_eq_true rfl, Nat.le_of_ble_eq_true rfl⟩) (k_pure hs hS) rfl rfl hl.1 rfl (lv_room (Nat.le_of_ble_eq_true rfl)) dX10_sign_2 ⟨Nat.le_of_ble_eq_true rfl, Nat.le_of_ble_eq_true rfl⟩) hS (fun r_1 u_1 H9 locs hw_1 hm_1 hS => ?_)
  replace hm_1 : _ = H9 := Eq.symm hm_1
  subst hm_1
  have hr_1 := hw_1
  refine k_join (fun (x3 : Int32) H locs ls => x3 = (if r_1 = 0 then (1 : Int32) else (0 : Int32)) ∧ tW E h (v) H ∧ va_S (eA E) s.heap H locs ∧ lv_has ls 3 [(0, .ref (h)), (1, .int (x))]) (fun (x3 : Int32) ls => F0 m 13 ls [.int (x3), .ref (h)]) (fun x3 H locs ls hJ => ?_) (fun J3 => ?_)
  · obtain ⟨hX3, hm, hS, hl⟩ := hJ
    refine tp_18 hx hb hts hown hs hm hS (hts _ q1692) dX10_sign_13 (fun H locs hm hS => ?_)
    have hm : tW E h (u18 v x3) H := hm
    refine lv_aload_n hx hb dX10_sign_16 rfl (lv_at hl 0 rfl) ?_
    refine tg_18 hx hb hts hown hs hm (hts _ q1692) dX10_sign_17 ?_
    refine lv_if_eq (tgt := 25) hx hb dX10_sign_20 (by decide) (fun c_4 => ?_) (fun c_4 => ?_)
    · have hx12 : ix 12 x := plot_ix hr_1 (fun z => by rw [if_pos z] at hX3; exact absurd (hX3.symm.trans c_4) (by decide))
      refine lv_aload_n hx hb dX10_sign_25 rfl (lv_at hl 0 rfl) ?_
      refine tg_0 hx hb hts hown hs hm (hts _ q1674) dX10_sign_26 ?_
      refine lv_bipush (v := (27 : Int32)) hx hb dX10_sign_29 (by decide) ?_
      refine lv_iload_n hx hb dX10_sign_31 rfl (lv_at hl 1 rfl) ?_
      refine lv_iadd hx hb dX10_sign_32 ?_
      refine tl_0 hx hb hs hm (ix.add 27 112 (hx12) (by decide) (by decide)) dX10_sign_33 ?_
      refine lv_istore_n (lv' := [(2, _), (0, _), (1, _)]) hx hb dX10_sign_34 rfl hl (by decide) rfl (fun ls hl => ?_)
      refine lv_iload_n hx hb dX10_sign_35 rfl (lv_at hl 0 rfl) ?_
      refine lv_iconst (v := (-1 : Int32)) hx hb dX10_sign_36 (by decide) ?_
      refine lv_icmp_eq (tgt := 52) hx hb dX10_sign_37 (by decide) (fun c_5 => ?_) (fun c_5 => ?_)
      · refine lv_aload_n hx hb dX10_sign_52 rfl (lv_at hl 1 rfl) ?_
        refine lv_iload_n hx hb dX10_sign_53 rfl (lv_at hl 2 rfl) ?_
        refine k_calli (va_runV (As := [.int (x)]) (rest := []) ⟨hx, hb, hml, hown, hts⟩ (tm_shedOn l E h (u18 v x3) (x) hw) (cwV 1 hts (lw_V q1829 q1831 qs32 q80 q1832) rfl rfl rfl (by decide +kernel) ⟨Nat.le_of_ble_eq_true rfl, Nat.le_of_ble_eq_true rfl⟩) (k_preVt hs hm hS) rfl rfl hl.1 rfl (lv_room (Nat.le_of_ble_eq_true rfl)) dX10_sign_54 ⟨Nat.le_of_ble_eq_true rfl, Nat.le_of_ble_eq_true rfl⟩) hS (fun r_6 u_6 H9 locs hw_6 hm_6 hS => ?_)
        obtain ⟨hr_6, hu_6⟩ := hw_6
        replace hu_6 := hu_6.symm
        subst hu_6
        have hm := hm_6
        refine lv_iconst (v := (-1 : Int32)) hx hb dX10_sign_57 (by decide) ?_
        refine lv_icmp_eq (tgt := 66) hx hb dX10_sign_58 (by decide) (fun c_7 => ?_) (fun c_7 => ?_)
        · refine lv_aload_n hx hb dX10_sign_66 rfl (lv_at hl 1 rfl) ?_
          refine tg_0 hx hb hts hown hs hm (hts _ q1674) dX10_sign_67 ?_
          refine lv_bipush (v := (15 : Int32)) hx hb dX10_sign_70 (by decide) ?_
          refine lv_iload_n hx hb dX10_sign_72 rfl (lv_at hl 2 rfl) ?_
          refine lv_iadd hx hb dX10_sign_73 ?_
          refine tl_0 hx hb hs hm (ix.add 15 112 (hx12) (by decide) (by decide)) dX10_sign_74 ?_
          refine lv_iconst (v := (-1 : Int32)) hx hb dX10_sign_75 (by decide) ?_
          refine lv_icmp_eq (tgt := 84) hx hb dX10_sign_76 (by decide) (fun c_8 => ?_) (fun c_8 => ?_)
          · refine lv_bipush (v := (46 : Int32)) hx hb dX10_sign_84 (by decide) ?_
            subst hr_6
            subst hX3
            subst hr_1
            exact W.zret (v := _) hx hb hr rfl (fun t9 ht9 _ => ⟨⟨_, _, rfl, pp ((if_pos c_4).trans ((if_pos c_5).trans ((if_pos c_7).trans ((if_pos c_8).trans (rfl))))), hb9 ht9 hm⟩, hS.F ht9⟩) hS.2.2 dX10_sign_86
          · refine lv_bipush (v := (100 : Int32)) hx hb dX10_sign_79 (by decide) ?_
            refine lv_goto (tgt := 86) hx hb dX10_sign_81 (by decide) ?_
            subst hr_6
            subst hX3
            subst hr_1
            exact W.zret (v := _) hx hb hr rfl (fun t9 ht9 _ => ⟨⟨_, _, rfl, pp ((if_pos c_4).trans ((if_pos c_5).trans ((if_pos c_7).trans ((if_neg c_8).trans (rfl))))), hb9 ht9 hm⟩, hS.F ht9⟩) hS.2.2 dX10_sign_86
        · refine lv_bipush (v := (83 : Int32)) hx hb dX10_sign_61 (by decide) ?_
          refine lv_goto (tgt := 86) hx hb dX10_sign_63 (by decide) ?_
          subst hr_6
          subst hX3
          subst hr_1
          exact W.zret (v := _) hx hb hr rfl (fun t9 ht9 _ => ⟨⟨_, _, rfl, pp ((if_pos c_4).trans ((if_pos c_5).trans ((if_neg c_7).trans (rfl)))), hb9 ht9 hm⟩, hS.F ht9⟩) hS.2.2 dX10_sign_86
      · refine lv_iload_n hx hb dX10_sign_40 rfl (lv_at hl 0 rfl) ?_
        refine lv_if_ne (tgt := 49) hx hb dX10_sign_41 (by decide) (fun c_9 => ?_) (fun c_9 => ?_)
        · refine lv_bipush (v := (66 : Int32)) hx hb dX10_sign_49 (by decide) ?_
          subst hX3
          subst hr_1
          exact W.zret (v := _) hx hb hr rfl (fun t9 ht9 _ => ⟨⟨_, _, rfl, pp ((if_pos c_4).trans ((if_neg c_5).trans ((if_neg c_9).trans (rfl)))), hb9 ht9 hm⟩, hS.F ht9⟩) hS.2.2 dX10_sign_51
        · refine lv_bipush (v := (77 : Int32)) hx hb dX10_sign_44 (by decide) ?_
          refine lv_goto (tgt := 51) hx hb dX10_sign_46 (by decide) ?_
          subst hX3
          subst hr_1
          exact W.zret (v := _) hx hb hr rfl (fun t9 ht9 _ => ⟨⟨_, _, rfl, pp ((if_pos c_4).trans ((if_neg c_5).trans ((if_pos c_9).trans (rfl)))), hb9 ht9 hm⟩, hS.F ht9⟩) hS.2.2 dX10_sign_51
    · refine lv_iconst (v := (0 : Int32)) hx hb dX10_sign_23 (by decide) ?_
      subst hX3
      subst hr_1
      exact W.zret (v := _) hx hb hr rfl (fun t9 ht9 _ => ⟨⟨_, _, rfl, pp ((if_neg c_4).trans (rfl)), hb9 ht9 hm⟩, hS.F ht9⟩) hS.2.2 dX10_sign_24
  · refine lv_if_eq (tgt := 12) hx hb dX10_sign_5 (by decide) (fun c_2 => ?_) (fun c_2 => ?_)
    · refine lv_iconst (v := (1 : Int32)) hx hb dX10_sign_12 (by decide) ?_
      exact J3 ((1 : Int32)) _ _ _ ⟨((if_pos c_2).trans (rfl)).symm, hm, hS, lv_sub hl [0, 1] rfl⟩
    · refine lv_iconst (v := (0 : Int32)) hx hb dX10_sign_8 (by decide) ?_
      refine lv_goto (tgt := 13) hx hb dX10_sign_9 (by decide) ?_
      exact J3 ((0 : Int32)) _ _ _ ⟨((if_neg c_2).trans (rfl)).symm, hm, hS, lv_sub hl [0, 1] rfl⟩
