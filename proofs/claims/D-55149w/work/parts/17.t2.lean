set_option maxRecDepth 100000
/-! the reference, method by method: what it computes (T_..), and that it does (tm_..) -/
def T_plotsDug (v : tw) : Int32 := cntD (t0 v) 12
set_option maxHeartbeats 4000000 in
theorem tm_plotsDug (l : Launch) (E : mE) (h : Nat) (v : tw)   : Met l yX10_plotsDug (ws_ yX10_plotsDug cX10_plotsDug 3 (some .int)) ({ frames := 0, cells := 0, slots := 0, locals := 0 }) (va_Pc [.ref h] (tP E h v)) (va_Qi (fun (r : Int32) (u : tw) => r = T_plotsDug v  ∧ u = v) (fun u U => tW E h u U.heap) (eA E)) 0 0 (eA E) := by
  refine Met.ofW (cc := cX10_plotsDug) (maxL := 3) (ret := (some .int)) (by decide) rfl ?_
  intro p e s m args below meth c s₁ B hml hv
  obtain ⟨rfl, hs, hm⟩ := hv
  have hx := B.exec
  have hb := B.bytes
  have hr := B.returns
  have hts := atoms_spec (ws := ws_ yX10_plotsDug cX10_plotsDug 3 (some .int)) B.pre
  have hts : ∀ w ∈ lw_all, w.before _ s = true := fun w h => hts w (List.mem_cons_of_mem _ h)
  have hown : s.vm.findClass RX10 = some m.cls := findClass_of_methodNamed B.named
  have hlocks := B.notSynchronized
  have hS : va_S (eA E) s.heap s.heap [] := va_S.rf
  have hl := lv_entry ([.ref h]) (n := 3) (Nat.le_of_ble_eq_true rfl)
  rw [lg_entry_eq]
  generalize (lg_sl ([.ref h]) ++ List.replicate (3 - (lg_sl ([.ref h])).length) Slot.unset).toArray = ls at hl ⊢
  have hl : lv_has ls 3 [(0, .ref (h))] := hl
  refine lv_iconst (v := (0 : Int32)) hx hb dX10_plotsDug_0 (by decide) ?_
  refine lv_istore_n (lv' := [(1, _), (0, _)]) hx hb dX10_plotsDug_1 rfl hl (by decide) rfl (fun ls hl => ?_)
  refine lv_iconst (v := (0 : Int32)) hx hb dX10_plotsDug_2 (by decide) ?_
  refine lv_istore_n (lv' := [(2, _), (1, _), (0, _)]) hx hb dX10_plotsDug_3 rfl hl (by decide) rfl (fun ls hl => ?_)
  refine k_loop (fun k => 12 - k) (fun (k : Nat) H locs ls => (k ≤ 12) ∧ tW E h (v) H ∧ va_S (eA E) s.heap H locs ∧ lv_has ls 3 [(2, .int (nI k)), (1, .int (cntD (t0 v) k)), (0, .ref (h))]) (fun (k : Nat) ls => F0 m 4 ls []) (fun k => (0, 0)) (fun k ih_1 H locs ls hP => ?_) (0) ⟨(by omega), hm, hS, lv_sub hl [0, 1, 2] rfl⟩
  obtain ⟨hI_1, hm, hS, hl⟩ := hP
  refine lv_iload_n hx hb dX10_plotsDug_4 rfl (lv_at hl 0 rfl) ?_
  refine lv_bipush (v := (12 : Int32)) hx hb dX10_plotsDug_5 (by decide) ?_
  refine lv_icmp_ge (tgt := 37) hx hb dX10_plotsDug_7 (by decide) (fun c_2 => ?_) (fun c_2 => ?_)
  · refine lv_iload_n hx hb dX10_plotsDug_37 rfl (lv_at hl 1 rfl) ?_
    obtain rfl : k = 12 := lp_ge (by decide) hI_1 c_2
    exact W.iret (v := _) hx hb hr (fun t9 ht9 _ => ⟨⟨_, _, rfl, ⟨(rfl).symm, rfl⟩, hb9 ht9 hm⟩, hS.F ht9⟩) hS.2.2 dX10_plotsDug_38
  · have hk : k < 12 := lp_lt (by decide) hI_1 c_2
    refine lv_iload_n hx hb dX10_plotsDug_10 rfl (lv_at hl 1 rfl) ?_
    refine lv_aload_n hx hb dX10_plotsDug_11 rfl (lv_at hl 2 rfl) ?_
    refine tg_0 hx hb hts hown hs hm (hts _ q1674) dX10_plotsDug_12 ?_
    refine lv_bipush (v := (15 : Int32)) hx hb dX10_plotsDug_15 (by decide) ?_
    refine lv_iload_n hx hb dX10_plotsDug_17 rfl (lv_at hl 0 rfl) ?_
    refine lv_iadd hx hb dX10_plotsDug_18 ?_
    refine tl_0 hx hb hs hm (ix.add 15 112 (⟨k, hk, rfl⟩) (by decide) (by decide)) dX10_plotsDug_19 ?_
    refine lv_iconst (v := (-1 : Int32)) hx hb dX10_plotsDug_20 (by decide) ?_
    refine k_join (fun (x4 : Int32) H locs ls => x4 = (if (t0 v (((15 : Int32) + nI k)).toNatClampNeg) = (-1 : Int32) then (0 : Int32) else (1 : Int32)) ∧ tW E h (v) H ∧ va_S (eA E) s.heap H locs ∧ lv_has ls 3 [(2, .int (nI k)), (1, .int (cntD (t0 v) k)), (0, .ref (h))]) (fun (x4 : Int32) ls => F0 m 29 ls [.int (x4), .int (cntD (t0 v) k)]) (fun x4 H locs ls hJ => ?_) (fun J4 => ?_)
    · obtain ⟨hX4, hm, hS, hl⟩ := hJ
      refine lv_iadd hx hb dX10_plotsDug_29 ?_
      refine lv_istore_n (lv' := [(1, _), (2, _), (0, _)]) hx hb dX10_plotsDug_30 rfl hl (by decide) rfl (fun ls hl => ?_)
      refine lv_iinc (v := nI (k + 1)) (lv' := [(2, _), (1, _), (0, _)]) hx hb dX10_plotsDug_31 hl (k := 1) rfl (nI_succ k).symm (by decide) rfl (fun ls hl => ?_)
      refine lv_goto (tgt := 4) hx hb dX10_plotsDug_34 (by decide) ?_
      exact ih_1 (k + 1) (by omega) _ _ _ ⟨(by omega), hm, hS, (by rw [show cntD (t0 v) (k + 1) = (cntD (t0 v) k + x4) from by rw [hX4, show ((15 : Int32) + nI k).toNatClampNeg = 15 + k from cl_add 15 (by omega)]; rfl]; exact lv_sub hl [0, 1, 2] rfl)⟩
    · refine lv_icmp_ne (tgt := 28) hx hb dX10_plotsDug_21 (by decide) (fun c_3 => ?_) (fun c_3 => ?_)
      · refine lv_iconst (v := (1 : Int32)) hx hb dX10_plotsDug_28 (by decide) ?_
        exact J4 ((1 : Int32)) _ _ _ ⟨((if_neg c_3).trans (rfl)).symm, hm, hS, lv_sub hl [0, 1, 2] rfl⟩
      · refine lv_iconst (v := (0 : Int32)) hx hb dX10_plotsDug_24 (by decide) ?_
        refine lv_goto (tgt := 29) hx hb dX10_plotsDug_25 (by decide) ?_
        exact J4 ((0 : Int32)) _ _ _ ⟨((if_pos c_3).trans (rfl)).symm, hm, hS, lv_sub hl [0, 1, 2] rfl⟩
def T_digs (v : tw) (x : Int32) (y : Int32) : Int32 × tw :=
  let r_1 := T_isMember v (x);
  if r_1 = 0 then
    ((0 : Int32), (T_fails v (1 : Int32)).2)
  else
    let r_4 := T_isPlot (y);
    if r_4 = 0 then
      ((0 : Int32), (T_fails v (1 : Int32)).2)
    else
      if (t0 v (((52 : Int32) + x)).toNatClampNeg) = (-1 : Int32) then
        if (t0 v (((15 : Int32) + y)).toNatClampNeg) = (-1 : Int32) then
          let r_8 := T_plotsDug (u0 v (upd (upd (t0 v) (((52 : Int32) + x)).toNatClampNeg y) (((15 : Int32) + y)).toNatClampNeg x)) ;
          (r_8, (u18 (u0 v (upd (upd (t0 v) (((52 : Int32) + x)).toNatClampNeg y) (((15 : Int32) + y)).toNatClampNeg x)) (0 : Int32)))
        else
          ((0 : Int32), (T_refused v (3 : Int32) (t0 v (((15 : Int32) + y)).toNatClampNeg) (2 : Int32)).2)
      else
        ((0 : Int32), (T_refused v (2 : Int32) (t0 v (((52 : Int32) + x)).toNatClampNeg) (2 : Int32)).2)
set_option maxHeartbeats 4000000 in
theorem tm_digs (l : Launch) (E : mE) (h : Nat) (v : tw) (x : Int32) (y : Int32) (hw : wf (t0 v) (t1 v)) : Met l yX10_digs (ws_ yX10_digs cX10_digs 3 (some .int)) ({ frames := 2, cells := 0, slots := 0, locals := 43 }) (va_Pc [.ref h, .int x, .int y] (tP E h v)) (va_Qi (fun (r : Int32) (u : tw) => r = (T_digs v x y).1 ∧ u = (T_digs v x y).2) (fun u U => tW E h u U.heap) (eA E)) 0 0 (eA E) := by
  refine Met.ofW (cc := cX10_digs) (maxL := 3) (ret := (some .int)) (by decide) rfl ?_
  intro p e s m args below meth c s₁ B hml hv
  obtain ⟨rfl, hs, hm⟩ := hv
  have hx := B.exec
  have hb := B.bytes
  have hr := B.returns
  have hts := atoms_spec (ws := ws_ yX10_digs cX10_digs 3 (some .int)) B.pre
  have hts : ∀ w ∈ lw_all, w.before _ s = true := fun w h => hts w (List.mem_cons_of_mem _ h)
  have hown : s.vm.findClass RX10 = some m.cls := findClass_of_methodNamed B.named
  have hlocks := B.notSynchronized
  have hS : va_S (eA E) s.heap s.heap [] := va_S.rf
  have hl := lv_entry ([.ref h, .int x, .int y]) (n := 3) (Nat.le_of_ble_eq_true rfl)
  rw [lg_entry_eq]
  generalize (lg_sl ([.ref h, .int x, .int y]) ++ List.replicate (3 - (lg_sl ([.ref h, .int x, .int y])).length) Slot.unset).toArray = ls at hl ⊢
  have hl : lv_has ls 3 [(0, .ref (h)), (1, .int (x)), (2, .int (y))] := hl
  refine lv_aload_n hx hb dX10_digs_0 rfl (lv_at hl 0 rfl) ?_
  refine lv_iload_n hx hb dX10_digs_1 rfl (lv_at hl 1 rfl) ?_
  refine k_calli (va_runV (As := [.int (x)]) (rest := []) ⟨hx, hb, hml, hown, hts⟩ (tm_isMember l E h v (x) ) (cwV 1 hts (lw_V q1802 q1804 qs29 q80 q1805) rfl rfl rfl (by decide +kernel) ⟨Nat.le_of_ble_eq_true rfl, Nat.le_of_ble_eq_true rfl⟩) (k_preVt hs hm hS) rfl rfl hl.1 rfl (lv_room (Nat.le_of_ble_eq_true rfl)) dX10_digs_2 ⟨Nat.le_of_ble_eq_true rfl, Nat.le_of_ble_eq_true rfl⟩) hS (fun r_1 u_1 H9 locs hw_1 hm_1 hS => ?_)
  obtain ⟨hr_1, hu_1⟩ := hw_1
  replace hu_1 := hu_1.symm
  subst hu_1
  have hm := hm_1
  refine lv_if_eq (tgt := 15) hx hb dX10_digs_5 (by decide) (fun c_2 => ?_) (fun c_2 => ?_)
  · refine lv_aload_n hx hb dX10_digs_15 rfl (lv_at hl 0 rfl) ?_
    refine lv_iconst (v := (1 : Int32)) hx hb dX10_digs_16 (by decide) ?_
    refine k_calli (va_runV (As := [.int ((1 : Int32))]) (rest := []) ⟨hx, hb, hml, hown, hts⟩ (tm_fails l E h v ((1 : Int32)) ) (cwV 1 hts (lw_V q1766 q1768 qs23 q80 q1769) rfl rfl rfl (by decide +kernel) ⟨Nat.le_of_ble_eq_true rfl, Nat.le_of_ble_eq_true rfl⟩) (k_preVt hs hm hS) rfl rfl hl.1 rfl (lv_room (Nat.le_of_ble_eq_true rfl)) dX10_digs_17 ⟨Nat.le_of_ble_eq_true rfl, Nat.le_of_ble_eq_true rfl⟩) hS (fun r_3 u_3 H9 locs hw_3 hm_3 hS => ?_)
    replace hw_3 : r_3 = (0 : Int32) ∧ u_3 = (T_fails v (1 : Int32)).2 := hw_3
    obtain ⟨hr_3, hw_3⟩ := hw_3
    replace hr_3 := hr_3.symm
    subst hr_3
    replace hw_3 := hw_3.symm
    subst hw_3
    have hm := hm_3
    subst hr_1
    exact W.iret (v := _) hx hb hr (fun t9 ht9 _ => ⟨⟨_, _, rfl, pp ((if_pos c_2).trans (rfl)), hb9 ht9 hm⟩, hS.F ht9⟩) hS.2.2 dX10_digs_20
  · refine lv_iload_n hx hb dX10_digs_8 rfl (lv_at hl 2 rfl) ?_
    refine k_calli (va_runS (As := [.int (y)]) (rest := []) ⟨hx, hb, hml, hown, hts⟩ (tm_isPlot l E (y) _) (va_cwS 1 hts (lw_S q1806 q1807 q80 q1808) rfl rfl rfl (by decide +kernel) ⟨Nat.le_of_ble_eq_true rfl, Nat.le_of_ble_eq_true rfl⟩) (k_pure hs hS) rfl rfl hl.1 rfl (lv_room (Nat.le_of_ble_eq_true rfl)) dX10_digs_9 ⟨Nat.le_of_ble_eq_true rfl, Nat.le_of_ble_eq_true rfl⟩) hS (fun r_4 u_4 H9 locs hw_4 hm_4 hS => ?_)
    replace hm_4 : _ = H9 := Eq.symm hm_4
    subst hm_4
    have hr_4 := hw_4
    refine lv_if_ne (tgt := 21) hx hb dX10_digs_12 (by decide) (fun c_5 => ?_) (fun c_5 => ?_)
    · have hx6 := mem_ix hr_1 c_2 hw
      have hy12 := plot_ix hr_4 c_5
      refine lv_aload_n hx hb dX10_digs_21 rfl (lv_at hl 0 rfl) ?_
      refine tg_0 hx hb hts hown hs hm (hts _ q1674) dX10_digs_22 ?_
      refine lv_bipush (v := (52 : Int32)) hx hb dX10_digs_25 (by decide) ?_
      refine lv_iload_n hx hb dX10_digs_27 rfl (lv_at hl 1 rfl) ?_
      refine lv_iadd hx hb dX10_digs_28 ?_
      refine tl_0 hx hb hs hm (ix.add 52 112 (hx6) (by decide) (by decide)) dX10_digs_29 ?_
      refine lv_iconst (v := (-1 : Int32)) hx hb dX10_digs_30 (by decide) ?_
      refine lv_icmp_eq (tgt := 50) hx hb dX10_digs_31 (by decide) (fun c_6 => ?_) (fun c_6 => ?_)
      · refine lv_aload_n hx hb dX10_digs_50 rfl (lv_at hl 0 rfl) ?_
        refine tg_0 hx hb hts hown hs hm (hts _ q1674) dX10_digs_51 ?_
        refine lv_bipush (v := (15 : Int32)) hx hb dX10_digs_54 (by decide) ?_
        refine lv_iload_n hx hb dX10_digs_56 rfl (lv_at hl 2 rfl) ?_
        refine lv_iadd hx hb dX10_digs_57 ?_
        refine tl_0 hx hb hs hm (ix.add 15 112 (hy12) (by decide) (by decide)) dX10_digs_58 ?_
        refine lv_iconst (v := (-1 : Int32)) hx hb dX10_digs_59 (by decide) ?_
        refine lv_icmp_eq (tgt := 79) hx hb dX10_digs_60 (by decide) (fun c_7 => ?_) (fun c_7 => ?_)
        · refine lv_aload_n hx hb dX10_digs_79 rfl (lv_at hl 0 rfl) ?_
          refine tg_0 hx hb hts hown hs hm (hts _ q1674) dX10_digs_80 ?_
          refine lv_bipush (v := (52 : Int32)) hx hb dX10_digs_83 (by decide) ?_
          refine lv_iload_n hx hb dX10_digs_85 rfl (lv_at hl 1 rfl) ?_
          refine lv_iadd hx hb dX10_digs_86 ?_
          refine lv_iload_n hx hb dX10_digs_87 rfl (lv_at hl 2 rfl) ?_
          refine ts_0 hx hb hs hm hS (ix.add 52 112 (hx6) (by decide) (by decide)) dX10_digs_88 (fun H locs hm hS => ?_)
          have hm : tW E h (u0 v (upd (t0 v) (((52 : Int32) + x)).toNatClampNeg y)) H := hm
          refine lv_aload_n hx hb dX10_digs_89 rfl (lv_at hl 0 rfl) ?_
          refine tg_0 hx hb hts hown hs hm (hts _ q1674) dX10_digs_90 ?_
          refine lv_bipush (v := (15 : Int32)) hx hb dX10_digs_93 (by decide) ?_
          refine lv_iload_n hx hb dX10_digs_95 rfl (lv_at hl 2 rfl) ?_
          refine lv_iadd hx hb dX10_digs_96 ?_
          refine lv_iload_n hx hb dX10_digs_97 rfl (lv_at hl 1 rfl) ?_
          refine ts_0 hx hb hs hm hS (ix.add 15 112 (hy12) (by decide) (by decide)) dX10_digs_98 (fun H locs hm hS => ?_)
          have hm : tW E h (u0 v (upd (upd (t0 v) (((52 : Int32) + x)).toNatClampNeg y) (((15 : Int32) + y)).toNatClampNeg x)) H := hm
          refine lv_aload_n hx hb dX10_digs_99 rfl (lv_at hl 0 rfl) ?_
          refine lv_aload_n hx hb dX10_digs_100 rfl (lv_at hl 0 rfl) ?_
          refine k_calli (va_runV (As := []) (rest := [.ref (h)]) ⟨hx, hb, hml, hown, hts⟩ (tm_plotsDug l E h (u0 v (upd (upd (t0 v) (((52 : Int32) + x)).toNatClampNeg y) (((15 : Int32) + y)).toNatClampNeg x))  ) (cwV 0 hts (lw_V q1809 q1811 qs30 q80 q1812) rfl rfl rfl (by decide +kernel) ⟨Nat.le_of_ble_eq_true rfl, Nat.le_of_ble_eq_true rfl⟩) (k_preVt hs hm hS) rfl rfl hl.1 rfl (lv_room (Nat.le_of_ble_eq_true rfl)) dX10_digs_101 ⟨Nat.le_of_ble_eq_true rfl, Nat.le_of_ble_eq_true rfl⟩) hS (fun r_8 u_8 H9 locs hw_8 hm_8 hS => ?_)
          obtain ⟨hr_8, hu_8⟩ := hw_8
          replace hu_8 := hu_8.symm
          subst hu_8
          have hm := hm_8
          refine k_calli (va_runV (As := [.int (r_8)]) (rest := []) ⟨hx, hb, hml, hown, hts⟩ (tm_done l E h (u0 v (upd (upd (t0 v) (((52 : Int32) + x)).toNatClampNeg y) (((15 : Int32) + y)).toNatClampNeg x)) (r_8) ) (cwV 1 hts (lw_V q1770 q1772 qs24 q80 q1773) rfl rfl rfl (by decide +kernel) ⟨Nat.le_of_ble_eq_true rfl, Nat.le_of_ble_eq_true rfl⟩) (k_preVt hs hm hS) rfl rfl hl.1 rfl (lv_room (Nat.le_of_ble_eq_true rfl)) dX10_digs_104 ⟨Nat.le_of_ble_eq_true rfl, Nat.le_of_ble_eq_true rfl⟩) hS (fun r_9 u_9 H9 locs hw_9 hm_9 hS => ?_)
          replace hw_9 : r_9 = r_8 ∧ u_9 = (u18 (u0 v (upd (upd (t0 v) (((52 : Int32) + x)).toNatClampNeg y) (((15 : Int32) + y)).toNatClampNeg x)) (0 : Int32)) := hw_9
          obtain ⟨hr_9, hw_9⟩ := hw_9
          replace hr_9 := hr_9.symm
          subst hr_9
          replace hw_9 := hw_9.symm
          subst hw_9
          have hm := hm_9
          subst hr_8
          subst hr_4
          subst hr_1
          exact W.iret (v := _) hx hb hr (fun t9 ht9 _ => ⟨⟨_, _, rfl, pp ((if_neg c_2).trans ((if_neg c_5).trans ((if_pos c_6).trans ((if_pos c_7).trans (rfl))))), hb9 ht9 hm⟩, hS.F ht9⟩) hS.2.2 dX10_digs_107
        · refine lv_aload_n hx hb dX10_digs_63 rfl (lv_at hl 0 rfl) ?_
          refine lv_iconst (v := (3 : Int32)) hx hb dX10_digs_64 (by decide) ?_
          refine lv_aload_n hx hb dX10_digs_65 rfl (lv_at hl 0 rfl) ?_
          refine tg_0 hx hb hts hown hs hm (hts _ q1674) dX10_digs_66 ?_
          refine lv_bipush (v := (15 : Int32)) hx hb dX10_digs_69 (by decide) ?_
          refine lv_iload_n hx hb dX10_digs_71 rfl (lv_at hl 2 rfl) ?_
          refine lv_iadd hx hb dX10_digs_72 ?_
          refine tl_0 hx hb hs hm (ix.add 15 112 (hy12) (by decide) (by decide)) dX10_digs_73 ?_
          refine lv_iconst (v := (2 : Int32)) hx hb dX10_digs_74 (by decide) ?_
          refine k_calli (va_runV (As := [.int ((3 : Int32)), .int ((t0 v (((15 : Int32) + y)).toNatClampNeg)), .int ((2 : Int32))]) (rest := []) ⟨hx, hb, hml, hown, hts⟩ (tm_refused l E h v ((3 : Int32)) ((t0 v (((15 : Int32) + y)).toNatClampNeg)) ((2 : Int32)) ) (cwV 3 hts (lw_V q1790 q1792 qs27 q80 q1793) rfl rfl rfl (by decide +kernel) ⟨Nat.le_of_ble_eq_true rfl, Nat.le_of_ble_eq_true rfl⟩) (k_preVt hs hm hS) rfl rfl hl.1 rfl (lv_room (Nat.le_of_ble_eq_true rfl)) dX10_digs_75 ⟨Nat.le_of_ble_eq_true rfl, Nat.le_of_ble_eq_true rfl⟩) hS (fun r_10 u_10 H9 locs hw_10 hm_10 hS => ?_)
          replace hw_10 : r_10 = (0 : Int32) ∧ u_10 = (T_refused v (3 : Int32) (t0 v (((15 : Int32) + y)).toNatClampNeg) (2 : Int32)).2 := hw_10
          obtain ⟨hr_10, hw_10⟩ := hw_10
          replace hr_10 := hr_10.symm
          subst hr_10
          replace hw_10 := hw_10.symm
          subst hw_10
          have hm := hm_10
          subst hr_4
          subst hr_1
          exact W.iret (v := _) hx hb hr (fun t9 ht9 _ => ⟨⟨_, _, rfl, pp ((if_neg c_2).trans ((if_neg c_5).trans ((if_pos c_6).trans ((if_neg c_7).trans (rfl))))), hb9 ht9 hm⟩, hS.F ht9⟩) hS.2.2 dX10_digs_78
      · refine lv_aload_n hx hb dX10_digs_34 rfl (lv_at hl 0 rfl) ?_
        refine lv_iconst (v := (2 : Int32)) hx hb dX10_digs_35 (by decide) ?_
        refine lv_aload_n hx hb dX10_digs_36 rfl (lv_at hl 0 rfl) ?_
        refine tg_0 hx hb hts hown hs hm (hts _ q1674) dX10_digs_37 ?_
        refine lv_bipush (v := (52 : Int32)) hx hb dX10_digs_40 (by decide) ?_
        refine lv_iload_n hx hb dX10_digs_42 rfl (lv_at hl 1 rfl) ?_
        refine lv_iadd hx hb dX10_digs_43 ?_
        refine tl_0 hx hb hs hm (ix.add 52 112 (hx6) (by decide) (by decide)) dX10_digs_44 ?_
        refine lv_iconst (v := (2 : Int32)) hx hb dX10_digs_45 (by decide) ?_
        refine k_calli (va_runV (As := [.int ((2 : Int32)), .int ((t0 v (((52 : Int32) + x)).toNatClampNeg)), .int ((2 : Int32))]) (rest := []) ⟨hx, hb, hml, hown, hts⟩ (tm_refused l E h v ((2 : Int32)) ((t0 v (((52 : Int32) + x)).toNatClampNeg)) ((2 : Int32)) ) (cwV 3 hts (lw_V q1790 q1792 qs27 q80 q1793) rfl rfl rfl (by decide +kernel) ⟨Nat.le_of_ble_eq_true rfl, Nat.le_of_ble_eq_true rfl⟩) (k_preVt hs hm hS) rfl rfl hl.1 rfl (lv_room (Nat.le_of_ble_eq_true rfl)) dX10_digs_46 ⟨Nat.le_of_ble_eq_true rfl, Nat.le_of_ble_eq_true rfl⟩) hS (fun r_11 u_11 H9 locs hw_11 hm_11 hS => ?_)
        replace hw_11 : r_11 = (0 : Int32) ∧ u_11 = (T_refused v (2 : Int32) (t0 v (((52 : Int32) + x)).toNatClampNeg) (2 : Int32)).2 := hw_11
        obtain ⟨hr_11, hw_11⟩ := hw_11
        replace hr_11 := hr_11.symm
        subst hr_11
        replace hw_11 := hw_11.symm
        subst hw_11
        have hm := hm_11
        subst hr_4
        subst hr_1
        exact W.iret (v := _) hx hb hr (fun t9 ht9 _ => ⟨⟨_, _, rfl, pp ((if_neg c_2).trans ((if_neg c_5).trans ((if_neg c_6).trans (rfl)))), hb9 ht9 hm⟩, hS.F ht9⟩) hS.2.2 dX10_digs_49
    · refine lv_aload_n hx hb dX10_digs_15 rfl (lv_at hl 0 rfl) ?_
      refine lv_iconst (v := (1 : Int32)) hx hb dX10_digs_16 (by decide) ?_
      refine k_calli (va_runV (As := [.int ((1 : Int32))]) (rest := []) ⟨hx, hb, hml, hown, hts⟩ (tm_fails l E h v ((1 : Int32)) ) (cwV 1 hts (lw_V q1766 q1768 qs23 q80 q1769) rfl rfl rfl (by decide +kernel) ⟨Nat.le_of_ble_eq_true rfl, Nat.le_of_ble_eq_true rfl⟩) (k_preVt hs hm hS) rfl rfl hl.1 rfl (lv_room (Nat.le_of_ble_eq_true rfl)) dX10_digs_17 ⟨Nat.le_of_ble_eq_true rfl, Nat.le_of_ble_eq_true rfl⟩) hS (fun r_12 u_12 H9 locs hw_12 hm_12 hS => ?_)
      replace hw_12 : r_12 = (0 : Int32) ∧ u_12 = (T_fails v (1 : Int32)).2 := hw_12
      obtain ⟨hr_12, hw_12⟩ := hw_12
      replace hr_12 := hr_12.symm
      subst hr_12
      replace hw_12 := hw_12.symm
      subst hw_12
      have hm := hm_12
      subst hr_4
      subst hr_1
      exact W.iret (v := _) hx hb hr (fun t9 ht9 _ => ⟨⟨_, _, rfl, pp ((if_neg c_2).trans ((if_pos c_5).trans (rfl))), hb9 ht9 hm⟩, hS.F ht9⟩) hS.2.2 dX10_digs_20
def T_rests (v : tw) (x : Int32) : Int32 × tw :=
  let r_1 := T_isMember v (x);
  if r_1 = 0 then
    ((0 : Int32), (T_fails v (1 : Int32)).2)
  else
    if (t0 v (((52 : Int32) + x)).toNatClampNeg) = (-1 : Int32) then
      ((0 : Int32), (T_refused v (4 : Int32) x (2 : Int32)).2)
    else
      ((t0 v (((52 : Int32) + x)).toNatClampNeg), (u18 (u0 v (upd (upd (t0 v) (((52 : Int32) + x)).toNatClampNeg (-1 : Int32)) (((15 : Int32) + (t0 v (((52 : Int32) + x)).toNatClampNeg))).toNatClampNeg (-1 : Int32))) (0 : Int32)))
set_option maxHeartbeats 4000000 in
theorem tm_rests (l : Launch) (E : mE) (h : Nat) (v : tw) (x : Int32) (hw : wf (t0 v) (t1 v)) : Met l yX10_rests (ws_ yX10_rests cX10_rests 3 (some .int)) ({ frames := 2, cells := 0, slots := 0, locals := 43 }) (va_Pc [.ref h, .int x] (tP E h v)) (va_Qi (fun (r : Int32) (u : tw) => r = (T_rests v x).1 ∧ u = (T_rests v x).2) (fun u U => tW E h u U.heap) (eA E)) 0 0 (eA E) := by
  refine Met.ofW (cc := cX10_rests) (maxL := 3) (ret := (some .int)) (by decide) rfl ?_
  intro p e s m args below meth c s₁ B hml hv
  obtain ⟨rfl, hs, hm⟩ := hv
  have hx := B.exec
  have hb := B.bytes
  have hr := B.returns
  have hts := atoms_spec (ws := ws_ yX10_rests cX10_rests 3 (some .int)) B.pre
  have hts : ∀ w ∈ lw_all, w.before _ s = true := fun w h => hts w (List.mem_cons_of_mem _ h)
  have hown : s.vm.findClass RX10 = some m.cls := findClass_of_methodNamed B.named
  have hlocks := B.notSynchronized
  have hS : va_S (eA E) s.heap s.heap [] := va_S.rf
  have hl := lv_entry ([.ref h, .int x]) (n := 3) (Nat.le_of_ble_eq_true rfl)
  rw [lg_entry_eq]
  generalize (lg_sl ([.ref h, .int x]) ++ List.replicate (3 - (lg_sl ([.ref h, .int x])).length) Slot.unset).toArray = ls at hl ⊢
  have hl : lv_has ls 3 [(0, .ref (h)), (1, .int (x))] := hl
  refine lv_aload_n hx hb dX10_rests_0 rfl (lv_at hl 0 rfl) ?_
  refine lv_iload_n hx hb dX10_rests_1 rfl (lv_at hl 1 rfl) ?_
  refine k_calli (va_runV (As := [.int (x)]) (rest := []) ⟨hx, hb, hml, hown, hts⟩ (tm_isMember l E h v (x) ) (cwV 1 hts (lw_V q1802 q1804 qs29 q80 q1805) rfl rfl rfl (by decide +kernel) ⟨Nat.le_of_ble_eq_true rfl, Nat.le_of_ble_eq_true rfl⟩) (k_preVt hs hm hS) rfl rfl hl.1 rfl (lv_room (Nat.le_of_ble_eq_true rfl)) dX10_rests_2 ⟨Nat.le_of_ble_eq_true rfl, Nat.le_of_ble_eq_true rfl⟩) hS (fun r_1 u_1 H9 locs hw_1 hm_1 hS => ?_)
  obtain ⟨hr_1, hu_1⟩ := hw_1
  replace hu_1 := hu_1.symm
  subst hu_1
  have hm := hm_1
  refine lv_if_ne (tgt := 14) hx hb dX10_rests_5 (by decide) (fun c_2 => ?_) (fun c_2 => ?_)
  · have hx6 := mem_ix hr_1 c_2 hw
    refine lv_aload_n hx hb dX10_rests_14 rfl (lv_at hl 0 rfl) ?_
    refine tg_0 hx hb hts hown hs hm (hts _ q1674) dX10_rests_15 ?_
    refine lv_bipush (v := (52 : Int32)) hx hb dX10_rests_18 (by decide) ?_
    refine lv_iload_n hx hb dX10_rests_20 rfl (lv_at hl 1 rfl) ?_
    refine lv_iadd hx hb dX10_rests_21 ?_
    refine tl_0 hx hb hs hm (ix.add 52 112 (hx6) (by decide) (by decide)) dX10_rests_22 ?_
    refine lv_istore_n (lv' := [(2, _), (0, _), (1, _)]) hx hb dX10_rests_23 rfl hl (by decide) rfl (fun ls hl => ?_)
    refine lv_iload_n hx hb dX10_rests_24 rfl (lv_at hl 0 rfl) ?_
    refine lv_iconst (v := (-1 : Int32)) hx hb dX10_rests_25 (by decide) ?_
    refine lv_icmp_ne (tgt := 37) hx hb dX10_rests_26 (by decide) (fun c_3 => ?_) (fun c_3 => ?_)
    · have hp12 := hw.plot hx6 c_3
      refine lv_aload_n hx hb dX10_rests_37 rfl (lv_at hl 1 rfl) ?_
      refine tg_0 hx hb hts hown hs hm (hts _ q1674) dX10_rests_38 ?_
      refine lv_bipush (v := (52 : Int32)) hx hb dX10_rests_41 (by decide) ?_
      refine lv_iload_n hx hb dX10_rests_43 rfl (lv_at hl 2 rfl) ?_
      refine lv_iadd hx hb dX10_rests_44 ?_
      refine lv_iconst (v := (-1 : Int32)) hx hb dX10_rests_45 (by decide) ?_
      refine ts_0 hx hb hs hm hS (ix.add 52 112 (hx6) (by decide) (by decide)) dX10_rests_46 (fun H locs hm hS => ?_)
      have hm : tW E h (u0 v (upd (t0 v) (((52 : Int32) + x)).toNatClampNeg (-1 : Int32))) H := hm
      refine lv_aload_n hx hb dX10_rests_47 rfl (lv_at hl 1 rfl) ?_
      refine tg_0 hx hb hts hown hs hm (hts _ q1674) dX10_rests_48 ?_
      refine lv_bipush (v := (15 : Int32)) hx hb dX10_rests_51 (by decide) ?_
      refine lv_iload_n hx hb dX10_rests_53 rfl (lv_at hl 0 rfl) ?_
      refine lv_iadd hx hb dX10_rests_54 ?_
      refine lv_iconst (v := (-1 : Int32)) hx hb dX10_rests_55 (by decide) ?_
      refine ts_0 hx hb hs hm hS (ix.add 15 112 (hp12) (by decide) (by decide)) dX10_rests_56 (fun H locs hm hS => ?_)
      have hm : tW E h (u0 v (upd (upd (t0 v) (((52 : Int32) + x)).toNatClampNeg (-1 : Int32)) (((15 : Int32) + (t0 v (((52 : Int32) + x)).toNatClampNeg))).toNatClampNeg (-1 : Int32))) H := hm
      refine lv_aload_n hx hb dX10_rests_57 rfl (lv_at hl 1 rfl) ?_
      refine lv_iload_n hx hb dX10_rests_58 rfl (lv_at hl 0 rfl) ?_
      refine k_calli (va_runV (As := [.int ((t0 v (((52 : Int32) + x)).toNatClampNeg))]) (rest := []) ⟨hx, hb, hml, hown, hts⟩ (tm_done l E h (u0 v (upd (upd (t0 v) (((52 : Int32) + x)).toNatClampNeg (-1 : Int32)) (((15 : Int32) + (t0 v (((52 : Int32) + x)).toNatClampNeg))).toNatClampNeg (-1 : Int32))) ((t0 v (((52 : Int32) + x)).toNatClampNeg)) ) (cwV 1 hts (lw_V q1770 q1772 qs24 q80 q1773) rfl rfl rfl (by decide +kernel) ⟨Nat.le_of_ble_eq_true rfl, Nat.le_of_ble_eq_true rfl⟩) (k_preVt hs hm hS) rfl rfl hl.1 rfl (lv_room (Nat.le_of_ble_eq_true rfl)) dX10_rests_59 ⟨Nat.le_of_ble_eq_true rfl, Nat.le_of_ble_eq_true rfl⟩) hS (fun r_4 u_4 H9 locs hw_4 hm_4 hS => ?_)
      replace hw_4 : r_4 = (t0 v (((52 : Int32) + x)).toNatClampNeg) ∧ u_4 = (u18 (u0 v (upd (upd (t0 v) (((52 : Int32) + x)).toNatClampNeg (-1 : Int32)) (((15 : Int32) + (t0 v (((52 : Int32) + x)).toNatClampNeg))).toNatClampNeg (-1 : Int32))) (0 : Int32)) := hw_4
      obtain ⟨hr_4, hw_4⟩ := hw_4
      replace hr_4 := hr_4.symm
      subst hr_4
      replace hw_4 := hw_4.symm
      subst hw_4
      have hm := hm_4
      subst hr_1
      exact W.iret (v := _) hx hb hr (fun t9 ht9 _ => ⟨⟨_, _, rfl, pp ((if_neg c_2).trans ((if_neg c_3).trans (rfl))), hb9 ht9 hm⟩, hS.F ht9⟩) hS.2.2 dX10_rests_62
    · refine lv_aload_n hx hb dX10_rests_29 rfl (lv_at hl 1 rfl) ?_
      refine lv_iconst (v := (4 : Int32)) hx hb dX10_rests_30 (by decide) ?_
      refine lv_iload_n hx hb dX10_rests_31 rfl (lv_at hl 2 rfl) ?_
      refine lv_iconst (v := (2 : Int32)) hx hb dX10_rests_32 (by decide) ?_
      refine k_calli (va_runV (As := [.int ((4 : Int32)), .int (x), .int ((2 : Int32))]) (rest := []) ⟨hx, hb, hml, hown, hts⟩ (tm_refused l E h v ((4 : Int32)) (x) ((2 : Int32)) ) (cwV 3 hts (lw_V q1790 q1792 qs27 q80 q1793) rfl rfl rfl (by decide +kernel) ⟨Nat.le_of_ble_eq_true rfl, Nat.le_of_ble_eq_true rfl⟩) (k_preVt hs hm hS) rfl rfl hl.1 rfl (lv_room (Nat.le_of_ble_eq_true rfl)) dX10_rests_33 ⟨Nat.le_of_ble_eq_true rfl, Nat.le_of_ble_eq_true rfl⟩) hS (fun r_5 u_5 H9 locs hw_5 hm_5 hS => ?_)
      replace hw_5 : r_5 = (0 : Int32) ∧ u_5 = (T_refused v (4 : Int32) x (2 : Int32)).2 := hw_5
      obtain ⟨hr_5, hw_5⟩ := hw_5
      replace hr_5 := hr_5.symm
      subst hr_5
      replace hw_5 := hw_5.symm
      subst hw_5
      have hm := hm_5
      subst hr_1
      exact W.iret (v := _) hx hb hr (fun t9 ht9 _ => ⟨⟨_, _, rfl, pp ((if_neg c_2).trans ((if_pos c_3).trans (rfl))), hb9 ht9 hm⟩, hS.F ht9⟩) hS.2.2 dX10_rests_36
  · refine lv_aload_n hx hb dX10_rests_8 rfl (lv_at hl 0 rfl) ?_
    refine lv_iconst (v := (1 : Int32)) hx hb dX10_rests_9 (by decide) ?_
    refine k_calli (va_runV (As := [.int ((1 : Int32))]) (rest := []) ⟨hx, hb, hml, hown, hts⟩ (tm_fails l E h v ((1 : Int32)) ) (cwV 1 hts (lw_V q1766 q1768 qs23 q80 q1769) rfl rfl rfl (by decide +kernel) ⟨Nat.le_of_ble_eq_true rfl, Nat.le_of_ble_eq_true rfl⟩) (k_preVt hs hm hS) rfl rfl hl.1 rfl (lv_room (Nat.le_of_ble_eq_true rfl)) dX10_rests_10 ⟨Nat.le_of_ble_eq_true rfl, Nat.le_of_ble_eq_true rfl⟩) hS (fun r_6 u_6 H9 locs hw_6 hm_6 hS => ?_)
    replace hw_6 : r_6 = (0 : Int32) ∧ u_6 = (T_fails v (1 : Int32)).2 := hw_6
    obtain ⟨hr_6, hw_6⟩ := hw_6
    replace hr_6 := hr_6.symm
    subst hr_6
    replace hw_6 := hw_6.symm
    subst hw_6
    have hm := hm_6
    subst hr_1
    exact W.iret (v := _) hx hb hr (fun t9 ht9 _ => ⟨⟨_, _, rfl, pp ((if_pos c_2).trans (rfl)), hb9 ht9 hm⟩, hS.F ht9⟩) hS.2.2 dX10_rests_13
def T_memberOf (v : tw) (x : Int32) (y : Int32) : Int32 × tw :=
  let r_1 := T_isMember v (x);
  if r_1 = 0 then
    ((0 : Int32), (T_fails v (1 : Int32)).2)
  else
    let r_3 := T_in (y) ((0 : Int32)) ((2 : Int32));
    if r_3 = 0 then
      ((0 : Int32), (T_fails v (2 : Int32)).2)
    else
      ((t0 v ((((52 : Int32) + ((6 : Int32) * y)) + x)).toNatClampNeg), (u18 v (0 : Int32)))
set_option maxHeartbeats 4000000 in
theorem tm_memberOf (l : Launch) (E : mE) (h : Nat) (v : tw) (x : Int32) (y : Int32) (hw : wf (t0 v) (t1 v)) : Met l yX10_memberOf (ws_ yX10_memberOf cX10_memberOf 3 (some .int)) ({ frames := 2, cells := 0, slots := 0, locals := 43 }) (va_Pc [.ref h, .int x, .int y] (tP E h v)) (va_Qi (fun (r : Int32) (u : tw) => r = (T_memberOf v x y).1 ∧ u = (T_memberOf v x y).2) (fun u U => tW E h u U.heap) (eA E)) 0 0 (eA E) := by
  refine Met.ofW (cc := cX10_memberOf) (maxL := 3) (ret := (some .int)) (by decide) rfl ?_
  intro p e s m args below meth c s₁ B hml hv
  obtain ⟨rfl, hs, hm⟩ := hv
  have hx := B.exec
  have hb := B.bytes
  have hr := B.returns
  have hts := atoms_spec (ws := ws_ yX10_memberOf cX10_memberOf 3 (some .int)) B.pre
  have hts : ∀ w ∈ lw_all, w.before _ s = true := fun w h => hts w (List.mem_cons_of_mem _ h)
  have hown : s.vm.findClass RX10 = some m.cls := findClass_of_methodNamed B.named
  have hlocks := B.notSynchronized
  have hS : va_S (eA E) s.heap s.heap [] := va_S.rf
  have hl := lv_entry ([.ref h, .int x, .int y]) (n := 3) (Nat.le_of_ble_eq_true rfl)
  rw [lg_entry_eq]
  generalize (lg_sl ([.ref h, .int x, .int y]) ++ List.replicate (3 - (lg_sl ([.ref h, .int x, .int y])).length) Slot.unset).toArray = ls at hl ⊢
  have hl : lv_has ls 3 [(0, .ref (h)), (1, .int (x)), (2, .int (y))] := hl
  refine lv_aload_n hx hb dX10_memberOf_0 rfl (lv_at hl 0 rfl) ?_
  refine lv_iload_n hx hb dX10_memberOf_1 rfl (lv_at hl 1 rfl) ?_
  refine k_calli (va_runV (As := [.int (x)]) (rest := []) ⟨hx, hb, hml, hown, hts⟩ (tm_isMember l E h v (x) ) (cwV 1 hts (lw_V q1802 q1804 qs29 q80 q1805) rfl rfl rfl (by decide +kernel) ⟨Nat.le_of_ble_eq_true rfl, Nat.le_of_ble_eq_true rfl⟩) (k_preVt hs hm hS) rfl rfl hl.1 rfl (lv_room (Nat.le_of_ble_eq_true rfl)) dX10_memberOf_2 ⟨Nat.le_of_ble_eq_true rfl, Nat.le_of_ble_eq_true rfl⟩) hS (fun r_1 u_1 H9 locs hw_1 hm_1 hS => ?_)
  obtain ⟨hr_1, hu_1⟩ := hw_1
  replace hu_1 := hu_1.symm
  subst hu_1
  have hm := hm_1
  refine lv_if_ne (tgt := 14) hx hb dX10_memberOf_5 (by decide) (fun c_2 => ?_) (fun c_2 => ?_)
  · have hx6 := mem_ix hr_1 c_2 hw
    refine lv_iload_n hx hb dX10_memberOf_14 rfl (lv_at hl 2 rfl) ?_
    refine lv_iconst (v := (0 : Int32)) hx hb dX10_memberOf_15 (by decide) ?_
    refine lv_iconst (v := (2 : Int32)) hx hb dX10_memberOf_16 (by decide) ?_
    refine k_calli (va_runS (As := [.int (y), .int ((0 : Int32)), .int ((2 : Int32))]) (rest := []) ⟨hx, hb, hml, hown, hts⟩ (tm_in l E (y) ((0 : Int32)) ((2 : Int32)) _) (va_cwS 3 hts (lw_S q1763 q1764 q80 q1765) rfl rfl rfl (by decide +kernel) ⟨Nat.le_of_ble_eq_true rfl, Nat.le_of_ble_eq_true rfl⟩) (k_pure hs hS) rfl rfl hl.1 rfl (lv_room (Nat.le_of_ble_eq_true rfl)) dX10_memberOf_17 ⟨Nat.le_of_ble_eq_true rfl, Nat.le_of_ble_eq_true rfl⟩) hS (fun r_3 u_3 H9 locs hw_3 hm_3 hS => ?_)
    replace hm_3 : _ = H9 := Eq.symm hm_3
    subst hm_3
    have hr_3 := hw_3
    refine lv_if_eq (tgt := 44) hx hb dX10_memberOf_20 (by decide) (fun c_4 => ?_) (fun c_4 => ?_)
    · refine lv_aload_n hx hb dX10_memberOf_44 rfl (lv_at hl 0 rfl) ?_
      refine lv_iconst (v := (2 : Int32)) hx hb dX10_memberOf_45 (by decide) ?_
      refine k_calli (va_runV (As := [.int ((2 : Int32))]) (rest := []) ⟨hx, hb, hml, hown, hts⟩ (tm_fails l E h v ((2 : Int32)) ) (cwV 1 hts (lw_V q1766 q1768 qs23 q80 q1769) rfl rfl rfl (by decide +kernel) ⟨Nat.le_of_ble_eq_true rfl, Nat.le_of_ble_eq_true rfl⟩) (k_preVt hs hm hS) rfl rfl hl.1 rfl (lv_room (Nat.le_of_ble_eq_true rfl)) dX10_memberOf_46 ⟨Nat.le_of_ble_eq_true rfl, Nat.le_of_ble_eq_true rfl⟩) hS (fun r_5 u_5 H9 locs hw_5 hm_5 hS => ?_)
      replace hw_5 : r_5 = (0 : Int32) ∧ u_5 = (T_fails v (2 : Int32)).2 := hw_5
      obtain ⟨hr_5, hw_5⟩ := hw_5
      replace hr_5 := hr_5.symm
      subst hr_5
      replace hw_5 := hw_5.symm
      subst hw_5
      have hm := hm_5
      subst hr_3
      subst hr_1
      exact W.iret (v := _) hx hb hr (fun t9 ht9 _ => ⟨⟨_, _, rfl, pp ((if_neg c_2).trans ((if_pos c_4).trans (rfl))), hb9 ht9 hm⟩, hS.F ht9⟩) hS.2.2 dX10_memberOf_49
    · have hy3 : ix 3 y := Tin_ix hr_3 c_4 (by decide) (by decide)
      refine lv_aload_n hx hb dX10_memberOf_23 rfl (lv_at hl 0 rfl) ?_
      refine lv_aload_n hx hb dX10_memberOf_24 rfl (lv_at hl 0 rfl) ?_
      refine tg_0 hx hb hts hown hs hm (hts _ q1674) dX10_memberOf_25 ?_
      refine lv_bipush (v := (52 : Int32)) hx hb dX10_memberOf_28 (by decide) ?_
      refine lv_bipush (v := (6 : Int32)) hx hb dX10_memberOf_30 (by decide) ?_
      refine lv_iload_n hx hb dX10_memberOf_32 rfl (lv_at hl 2 rfl) ?_
      refine lv_imul hx hb dX10_memberOf_33 ?_
      refine lv_iadd hx hb dX10_memberOf_34 ?_
      refine lv_iload_n hx hb dX10_memberOf_35 rfl (lv_at hl 1 rfl) ?_
      refine lv_iadd hx hb dX10_memberOf_36 ?_
      refine tl_0 hx hb hs hm (ix.two 52 6 112 (hy3) (hx6) (by decide) (by decide)) dX10_memberOf_37 ?_
      refine k_calli (va_runV (As := [.int ((t0 v ((((52 : Int32) + ((6 : Int32) * y)) + x)).toNatClampNeg))]) (rest := []) ⟨hx, hb, hml, hown, hts⟩ (tm_done l E h v ((t0 v ((((52 : Int32) + ((6 : Int32) * y)) + x)).toNatClampNeg)) ) (cwV 1 hts (lw_V q1770 q1772 qs24 q80 q1773) rfl rfl rfl (by decide +kernel) ⟨Nat.le_of_ble_eq_true rfl, Nat.le_of_ble_eq_true rfl⟩) (k_preVt hs hm hS) rfl rfl hl.1 rfl (lv_room (Nat.le_of_ble_eq_true rfl)) dX10_memberOf_38 ⟨Nat.le_of_ble_eq_true rfl, Nat.le_of_ble_eq_true rfl⟩) hS (fun r_6 u_6 H9 locs hw_6 hm_6 hS => ?_)
      replace hw_6 : r_6 = (t0 v ((((52 : Int32) + ((6 : Int32) * y)) + x)).toNatClampNeg) ∧ u_6 = (u18 v (0 : Int32)) := hw_6
      obtain ⟨hr_6, hw_6⟩ := hw_6
      replace hr_6 := hr_6.symm
      subst hr_6
      replace hw_6 := hw_6.symm
      subst hw_6
      have hm := hm_6
      refine lv_goto (tgt := 49) hx hb dX10_memberOf_41 (by decide) ?_
      subst hr_3
      subst hr_1
      exact W.iret (v := _) hx hb hr (fun t9 ht9 _ => ⟨⟨_, _, rfl, pp ((if_neg c_2).trans ((if_neg c_4).trans (rfl))), hb9 ht9 hm⟩, hS.F ht9⟩) hS.2.2 dX10_memberOf_49
  · refine lv_aload_n hx hb dX10_memberOf_8 rfl (lv_at hl 0 rfl) ?_
    refine lv_iconst (v := (1 : Int32)) hx hb dX10_memberOf_9 (by decide) ?_
    refine k_calli (va_runV (As := [.int ((1 : Int32))]) (rest := []) ⟨hx, hb, hml, hown, hts⟩ (tm_fails l E h v ((1 : Int32)) ) (cwV 1 hts (lw_V q1766 q1768 qs23 q80 q1769) rfl rfl rfl (by decide +kernel) ⟨Nat.le_of_ble_eq_true rfl, Nat.le_of_ble_eq_true rfl⟩) (k_preVt hs hm hS) rfl rfl hl.1 rfl (lv_room (Nat.le_of_ble_eq_true rfl)) dX10_memberOf_10 ⟨Nat.le_of_ble_eq_true rfl, Nat.le_of_ble_eq_true rfl⟩) hS (fun r_7 u_7 H9 locs hw_7 hm_7 hS => ?_)
    replace hw_7 : r_7 = (0 : Int32) ∧ u_7 = (T_fails v (1 : Int32)).2 := hw_7
    obtain ⟨hr_7, hw_7⟩ := hw_7
    replace hr_7 := hr_7.symm
    subst hr_7
    replace hw_7 := hw_7.symm
    subst hw_7
    have hm := hm_7
    subst hr_1
    exact W.iret (v := _) hx hb hr (fun t9 ht9 _ => ⟨⟨_, _, rfl, pp ((if_pos c_2).trans (rfl)), hb9 ht9 hm⟩, hS.F ht9⟩) hS.2.2 dX10_memberOf_13
