set_option maxRecDepth 100000
/-! CliffPlots: what is asked -/
def C1_memberOf (t : mt) (M : mm) (c : Nat) (x : Int32) (y : Int32) : Int32 × Int32 × mm :=
  let r_1 := C2_isMember t M ((c + 1)) (x);
  let r_3 := C1_in (y) ((0 : Int32)) ((2 : Int32));
  if r_1 = 0 then
    ((3 : Int32), (0 : Int32), M)
  else
    let r_3 := C1_in (y) ((0 : Int32)) ((2 : Int32));
    if r_3 = 0 then
      ((1 : Int32), (0 : Int32), M)
    else
      if y = 0 then
        ((0 : Int32), (gI M 500 ((c + 1) + 48 + (x).toNatClampNeg)), M)
      else
        if y = (1 : Int32) then
          ((0 : Int32), (gI M 501 ((c + 1) + 48 + (x).toNatClampNeg)), M)
        else
          ((0 : Int32), (gI M 502 ((c + 1) + 48 + (x).toNatClampNeg)), M)
set_option maxHeartbeats 4000000 in
theorem cm1_memberOf (l : Launch) (E : mE) (hl9 : l.stackTraces = false) (t : mt) (M : mm) (c : Nat) (x : Int32) (y : Int32) (hA : layA t c) (K S : List Nat) (hw : wfA M c K S) : vx_Met l yX1_memberOf (ws_ yX1_memberOf cX1_memberOf 4 (some .int)) ({ frames := 7, cells := 2, slots := 12, locals := 140 }) (va_Pc [.ref c, .int x, .int y] (wP E t M)) (va_Qi (fun (r : Int32) (u : mm) => (C1_memberOf t M c x y).1 = 0 ∧ r = (C1_memberOf t M c x y).2.1 ∧ u = (C1_memberOf t M c x y).2.2) (fun u U => mw E t u U.heap) (eA E)) (vx_X (fun (u : mm) => ¬ (C1_memberOf t M c x y).1 = 0 ∧ u = (C1_memberOf t M c x y).2.2) (fun En q u U => XS E t (C1_memberOf t M c x y).1 En q u U.heap) (eA E)) 2 12 (eA E) := by
  refine vx_ofW (cc := cX1_memberOf) (maxL := 4) (ret := (some .int)) (by decide) rfl ?_
  intro p e s m args below meth c0 s₁ B hml hno hv
  obtain ⟨rfl, hs, hm⟩ := hv
  have hx := B.exec
  have hb := B.bytes
  have hr := B.returns
  have hts := atoms_spec (ws := ws_ yX1_memberOf cX1_memberOf 4 (some .int)) B.pre
  have hts : ∀ w ∈ lw_all, w.before _ s = true := fun w h => hts w (List.mem_cons_of_mem _ h)
  have hown : s.vm.findClass RX1 = some m.cls := findClass_of_methodNamed B.named
  have hlocks := B.notSynchronized
  have hout : ∀ pc : Nat, ∀ x ∈ c0.exceptionTable.toList, covers x pc = false := fun _ x h => (hno x h).elim
  have hS : va_S (eA E) s.heap s.heap [] := va_S.rf
  have hl := lv_entry ([.ref c, .int x, .int y]) (n := 4) (Nat.le_of_ble_eq_true rfl)
  rw [lg_entry_eq]
  generalize (lg_sl ([.ref c, .int x, .int y]) ++ List.replicate (4 - (lg_sl ([.ref c, .int x, .int y])).length) Slot.unset).toArray = ls at hl ⊢
  have hl : lv_has ls 4 [(0, .ref (c)), (1, .int (x)), (2, .int (y))] := hl
  refine lv_aload_n hx hb dX1_memberOf_0 rfl (lv_at hl 0 rfl) ?_
  refine gf_100 hx hb hts hown hs hm hA.z (hts _ q519) dX1_memberOf_1 ?_
  refine lv_iload_n hx hb dX1_memberOf_4 rfl (lv_at hl 1 rfl) ?_
  refine k_calli (va_runV (As := [.int (x)]) (rest := []) ⟨hx, hb, hml, hown, hts⟩ (cm2_isMember l E t M  ((c + 1)) (x) hA.c1 ) (cwV 1 hts (lw_V q833 q834 q835 q59 q836) rfl rfl rfl (by decide +kernel) ⟨Nat.le_of_ble_eq_true rfl, Nat.le_of_ble_eq_true rfl⟩) (k_preV hs hm hS (mw.recv hs hm (mt_ne (lay.z hA.c1) (by decide)) (ct2 (lay.z hA.c1)) rfl)) rfl rfl hl.1 rfl (lv_room (Nat.le_of_ble_eq_true rfl)) dX1_memberOf_5 ⟨Nat.le_of_ble_eq_true rfl, Nat.le_of_ble_eq_true rfl⟩) hS (fun r_1 u_1 H locs hw_1 hm_1 hS => ?_)
  obtain ⟨hr_1, hu_1⟩ := hw_1
  replace hu_1 := hu_1.symm
  subst hu_1
  have hm := hm_1
  refine kx_callv (BX := fun En q u H => XS E t 3 En q u H) (vx_runS (As := [.int (r_1)]) (rest := []) ⟨hx, hb, hml, hown, hts⟩ (cm1_checkIndex l E hl9 t M  (r_1) ) (va_cwS 1 hts (lw_S q841 q842 q58 q843) rfl rfl rfl (by decide +kernel) ⟨Nat.le_of_ble_eq_true rfl, Nat.le_of_ble_eq_true rfl⟩) (k_preS hs hm hS) rfl rfl hl.1 rfl (lv_room (Nat.le_of_ble_eq_true rfl)) dX1_memberOf_8 ⟨Nat.le_of_ble_eq_true rfl, Nat.le_of_ble_eq_true rfl⟩) hS (fun En_2 ce_2 q_2 u9_2 H locs hp_2 hB_2 hS h1_2 h2_2 h3_2 => ?_) (fun u_2 H locs hw_2 hm_2 hS => ?_)
  · obtain ⟨c_2, hu9_2⟩ := hp_2
    replace hu9_2 := hu9_2.symm
    subst hu9_2
    subst hr_1
    have e9 : C1_memberOf t M c x y = _ := (if_pos c_2).trans (rfl)
    exact kx_out (BX := fun En q u H => XS E t (C1_memberOf t M c x y).1 En q u H) (u := _) (fun x h => (hno x h).elim) hlocks (xs_leaf e9 (by decide) hB_2).1 (xs_leaf e9 (by decide) hB_2).2 hS h1_2 h2_2 h3_2 (Nat.le_of_ble_eq_true rfl) (Nat.le_of_ble_eq_true rfl)
  · obtain ⟨c_2, hu_2⟩ := hw_2
    replace hu_2 := hu_2.symm
    subst hu_2
    have hm := hm_2
    have hp1 := cmem_ix hw.w1.n1 (hr_1 ▸ c_2)
    refine lv_iload_n hx hb dX1_memberOf_11 rfl (lv_at hl 2 rfl) ?_
    refine lv_iconst (v := (0 : Int32)) hx hb dX1_memberOf_12 (by decide) ?_
    refine lv_iconst (v := (2 : Int32)) hx hb dX1_memberOf_13 (by decide) ?_
    refine k_calli (va_runS (As := [.int (y), .int ((0 : Int32)), .int ((2 : Int32))]) (rest := []) ⟨hx, hb, hml, hown, hts⟩ (cm1_in l E (y) ((0 : Int32)) ((2 : Int32)) _) (va_cwS 3 hts (lw_S q699 q700 q58 q701) rfl rfl rfl (by decide +kernel) ⟨Nat.le_of_ble_eq_true rfl, Nat.le_of_ble_eq_true rfl⟩) (k_pure hs hS) rfl rfl hl.1 rfl (lv_room (Nat.le_of_ble_eq_true rfl)) dX1_memberOf_14 ⟨Nat.le_of_ble_eq_true rfl, Nat.le_of_ble_eq_true rfl⟩) hS (fun r_3 u_3 H9 locs hw_3 hm_3 hS => ?_)
    replace hm_3 : _ = H9 := Eq.symm hm_3
    subst hm_3
    have hr_3 := hw_3
    refine kx_callv (BX := fun En q u H => XS E t 1 En q u H) (vx_runS (As := [.int (r_3)]) (rest := []) ⟨hx, hb, hml, hown, hts⟩ (cm1_check l E hl9 t M  (r_3) ) (va_cwS 1 hts (lw_S q702 q703 q58 q704) rfl rfl rfl (by decide +kernel) ⟨Nat.le_of_ble_eq_true rfl, Nat.le_of_ble_eq_true rfl⟩) (k_preS hs hm hS) rfl rfl hl.1 rfl (lv_room (Nat.le_of_ble_eq_true rfl)) dX1_memberOf_17 ⟨Nat.le_of_ble_eq_true rfl, Nat.le_of_ble_eq_true rfl⟩) hS (fun En_4 ce_4 q_4 u9_4 H locs hp_4 hB_4 hS h1_4 h2_4 h3_4 => ?_) (fun u_4 H locs hw_4 hm_4 hS => ?_)
    · obtain ⟨c_4, hu9_4⟩ := hp_4
      replace hu9_4 := hu9_4.symm
      subst hu9_4
      subst hr_3
      subst hr_1
      have e9 : C1_memberOf t M c x y = _ := (if_neg c_2).trans ((if_pos c_4).trans (rfl))
      exact kx_out (BX := fun En q u H => XS E t (C1_memberOf t M c x y).1 En q u H) (u := _) (fun x h => (hno x h).elim) hlocks (xs_leaf e9 (by decide) hB_4).1 (xs_leaf e9 (by decide) hB_4).2 hS h1_4 h2_4 h3_4 (Nat.le_of_ble_eq_true rfl) (Nat.le_of_ble_eq_true rfl)
    · obtain ⟨c_4, hu_4⟩ := hw_4
      replace hu_4 := hu_4.symm
      subst hu_4
      have hm := hm_4
      refine lv_aload_n hx hb dX1_memberOf_20 rfl (lv_at hl 0 rfl) ?_
      refine gf_100 hx hb hts hown hs hm hA.z (hts _ q519) dX1_memberOf_21 ?_
      refine gfN_208 hx hb hts hown hs hm (lay.z hA.c1) q240 dX1_memberOf_24 ?_
      refine lv_iload_n hx hb dX1_memberOf_27 rfl (lv_at hl 1 rfl) ?_
      refine k_mem hx hb hs hm (lay.a9 hA.c1) (k := (x).toNatClampNeg) rfl (ix.at (B := 6) ((hp1.1).mono (by decide)) (by decide)) dX1_memberOf_28 ?_
      refine lv_astore_n (lv' := [(3, _), (0, _), (1, _), (2, _)]) hx hb dX1_memberOf_29 rfl hl (by decide) rfl (fun ls hl => ?_)
      refine lv_iload_n hx hb dX1_memberOf_30 rfl (lv_at hl 3 rfl) ?_
      refine lv_if_ne (tgt := 41) hx hb dX1_memberOf_31 (by decide) (fun c_5 => ?_) (fun c_5 => ?_)
      · refine lv_iload_n hx hb dX1_memberOf_41 rfl (lv_at hl 3 rfl) ?_
        refine lv_iconst (v := (1 : Int32)) hx hb dX1_memberOf_42 (by decide) ?_
        refine lv_icmp_ne (tgt := 53) hx hb dX1_memberOf_43 (by decide) (fun c_6 => ?_) (fun c_6 => ?_)
        · refine lv_aload_n hx hb dX1_memberOf_53 rfl (lv_at hl 0 rfl) ?_
          refine gfN_502 hx hb hts hown hs hm (lay.mem hA.c1 (ix.nlt ((hp1.1).mono (by decide)))) q170 dX1_memberOf_54 ?_
          subst hr_3
          subst hr_1
          refine vx_ret ?_
          refine W.widen (k := 2) (n := 12) (Nat.le_of_ble_eq_true rfl) (Nat.le_of_ble_eq_true rfl) ?_
          exact W.iret (v := _) hx hb hr (fun t9 ht9 _ => ⟨⟨_, _, rfl, pp3 ((if_neg c_2).trans ((if_neg c_4).trans ((if_neg c_5).trans ((if_neg c_6).trans (rfl))))), hb9 ht9 hm⟩, hS.F ht9⟩) hS.2.2 dX1_memberOf_57
        · refine lv_aload_n hx hb dX1_memberOf_46 rfl (lv_at hl 0 rfl) ?_
          refine gfN_501 hx hb hts hown hs hm (lay.mem hA.c1 (ix.nlt ((hp1.1).mono (by decide)))) q166 dX1_memberOf_47 ?_
          refine lv_goto (tgt := 57) hx hb dX1_memberOf_50 (by decide) ?_
          subst hr_3
          subst hr_1
          refine vx_ret ?_
          refine W.widen (k := 2) (n := 12) (Nat.le_of_ble_eq_true rfl) (Nat.le_of_ble_eq_true rfl) ?_
          exact W.iret (v := _) hx hb hr (fun t9 ht9 _ => ⟨⟨_, _, rfl, pp3 ((if_neg c_2).trans ((if_neg c_4).trans ((if_neg c_5).trans ((if_pos c_6).trans (rfl))))), hb9 ht9 hm⟩, hS.F ht9⟩) hS.2.2 dX1_memberOf_57
      · refine lv_aload_n hx hb dX1_memberOf_34 rfl (lv_at hl 0 rfl) ?_
        refine gfN_500 hx hb hts hown hs hm (lay.mem hA.c1 (ix.nlt ((hp1.1).mono (by decide)))) q164 dX1_memberOf_35 ?_
        refine lv_goto (tgt := 57) hx hb dX1_memberOf_38 (by decide) ?_
        subst hr_3
        subst hr_1
        refine vx_ret ?_
        refine W.widen (k := 2) (n := 12) (Nat.le_of_ble_eq_true rfl) (Nat.le_of_ble_eq_true rfl) ?_
        exact W.iret (v := _) hx hb hr (fun t9 ht9 _ => ⟨⟨_, _, rfl, pp3 ((if_neg c_2).trans ((if_neg c_4).trans ((if_pos c_5).trans (rfl)))), hb9 ht9 hm⟩, hS.F ht9⟩) hS.2.2 dX1_memberOf_57
def C1_plotOf (t : mt) (M : mm) (c : Nat) (x : Int32) (y : Int32) : Int32 × Int32 × mm :=
  let r_1 := C1_isPlot (x);
  let r_3 := C1_in (y) ((0 : Int32)) ((4 : Int32));
  if r_1 = 0 then
    ((3 : Int32), (0 : Int32), M)
  else
    let r_3 := C1_in (y) ((0 : Int32)) ((4 : Int32));
    if r_3 = 0 then
      ((1 : Int32), (0 : Int32), M)
    else
      if y = (0 : Int32) then
        ((0 : Int32), (aI M ((c + 1) + 3) (x).toNatClampNeg), M)
      else
        if y = (1 : Int32) then
          if (aR M ((c + 1) + 4) (x).toNatClampNeg) = none then
            ((0 : Int32), (-1 : Int32), M)
          else
            ((0 : Int32), (kd4 t ((aR M ((c + 1) + 4) (x).toNatClampNeg).getD 0)), M)
        else
          if y = (2 : Int32) then
            if (aR M ((c + 1) + 4) (x).toNatClampNeg) = none then
              ((0 : Int32), (-1 : Int32), M)
            else
              ((0 : Int32), ((gI M 216 (c + 1)) - (gI M 300 ((aR M ((c + 1) + 4) (x).toNatClampNeg).getD 0))), M)
          else
            if y = (3 : Int32) then
              ((0 : Int32), (aI M ((c + 1) + 2) (x).toNatClampNeg), M)
            else
              let r_12 := C2_shedOn t M ((c + 1)) (x);
              ((0 : Int32), r_12, M)
set_option maxHeartbeats 4000000 in
theorem cm1_plotOf (l : Launch) (E : mE) (hl9 : l.stackTraces = false) (t : mt) (M : mm) (c : Nat) (x : Int32) (y : Int32) (hA : layA t c) (K S : List Nat) (hw : wfA M c K S) : vx_Met l yX1_plotOf (ws_ yX1_plotOf cX1_plotOf 4 (some .int)) ({ frames := 7, cells := 2, slots := 12, locals := 140 }) (va_Pc [.ref c, .int x, .int y] (wP E t M)) (va_Qi (fun (r : Int32) (u : mm) => (C1_plotOf t M c x y).1 = 0 ∧ r = (C1_plotOf t M c x y).2.1 ∧ u = (C1_plotOf t M c x y).2.2) (fun u U => mw E t u U.heap) (eA E)) (vx_X (fun (u : mm) => ¬ (C1_plotOf t M c x y).1 = 0 ∧ u = (C1_plotOf t M c x y).2.2) (fun En q u U => XS E t (C1_plotOf t M c x y).1 En q u U.heap) (eA E)) 2 12 (eA E) := by
  refine vx_ofW (cc := cX1_plotOf) (maxL := 4) (ret := (some .int)) (by decide) rfl ?_
  intro p e s m args below meth c0 s₁ B hml hno hv
  obtain ⟨rfl, hs, hm⟩ := hv
  have hx := B.exec
  have hb := B.bytes
  have hr := B.returns
  have hts := atoms_spec (ws := ws_ yX1_plotOf cX1_plotOf 4 (some .int)) B.pre
  have hts : ∀ w ∈ lw_all, w.before _ s = true := fun w h => hts w (List.mem_cons_of_mem _ h)
  have hown : s.vm.findClass RX1 = some m.cls := findClass_of_methodNamed B.named
  have hlocks := B.notSynchronized
  have hout : ∀ pc : Nat, ∀ x ∈ c0.exceptionTable.toList, covers x pc = false := fun _ x h => (hno x h).elim
  have hS : va_S (eA E) s.heap s.heap [] := va_S.rf
  have hl := lv_entry ([.ref c, .int x, .int y]) (n := 4) (Nat.le_of_ble_eq_true rfl)
  rw [lg_entry_eq]
  generalize (lg_sl ([.ref c, .int x, .int y]) ++ List.replicate (4 - (lg_sl ([.ref c, .int x, .int y])).length) Slot.unset).toArray = ls at hl ⊢
  have hl : lv_has ls 4 [(0, .ref (c)), (1, .int (x)), (2, .int (y))] := hl
  refine lv_iload_n hx hb dX1_plotOf_0 rfl (lv_at hl 1 rfl) ?_
  refine k_calli (va_runS (As := [.int (x)]) (rest := []) ⟨hx, hb, hml, hown, hts⟩ (cm1_isPlot l E (x) _) (va_cwS 1 hts (lw_S q838 q839 q58 q840) rfl rfl rfl (by decide +kernel) ⟨Nat.le_of_ble_eq_true rfl, Nat.le_of_ble_eq_true rfl⟩) (k_pure hs hS) rfl rfl hl.1 rfl (lv_room (Nat.le_of_ble_eq_true rfl)) dX1_plotOf_1 ⟨Nat.le_of_ble_eq_true rfl, Nat.le_of_ble_eq_true rfl⟩) hS (fun r_1 u_1 H9 locs hw_1 hm_1 hS => ?_)
  replace hm_1 : _ = H9 := Eq.symm hm_1
  subst hm_1
  have hr_1 := hw_1
  refine kx_callv (BX := fun En q u H => XS E t 3 En q u H) (vx_runS (As := [.int (r_1)]) (rest := []) ⟨hx, hb, hml, hown, hts⟩ (cm1_checkIndex l E hl9 t M  (r_1) ) (va_cwS 1 hts (lw_S q841 q842 q58 q843) rfl rfl rfl (by decide +kernel) ⟨Nat.le_of_ble_eq_true rfl, Nat.le_of_ble_eq_true rfl⟩) (k_preS hs hm hS) rfl rfl hl.1 rfl (lv_room (Nat.le_of_ble_eq_true rfl)) dX1_plotOf_4 ⟨Nat.le_of_ble_eq_true rfl, Nat.le_of_ble_eq_true rfl⟩) hS (fun En_2 ce_2 q_2 u9_2 H locs hp_2 hB_2 hS h1_2 h2_2 h3_2 => ?_) (fun u_2 H locs hw_2 hm_2 hS => ?_)
  · obtain ⟨c_2, hu9_2⟩ := hp_2
    replace hu9_2 := hu9_2.symm
    subst hu9_2
    subst hr_1
    have e9 : C1_plotOf t M c x y = _ := (if_pos c_2).trans (rfl)
    exact kx_out (BX := fun En q u H => XS E t (C1_plotOf t M c x y).1 En q u H) (u := _) (fun x h => (hno x h).elim) hlocks (xs_leaf e9 (by decide) hB_2).1 (xs_leaf e9 (by decide) hB_2).2 hS h1_2 h2_2 h3_2 (Nat.le_of_ble_eq_true rfl) (Nat.le_of_ble_eq_true rfl)
  · obtain ⟨c_2, hu_2⟩ := hw_2
    replace hu_2 := hu_2.symm
    subst hu_2
    have hm := hm_2
    have hp1 : ix 12 x := cplot_ix (hr_1 ▸ c_2)
    refine lv_iload_n hx hb dX1_plotOf_7 rfl (lv_at hl 2 rfl) ?_
    refine lv_iconst (v := (0 : Int32)) hx hb dX1_plotOf_8 (by decide) ?_
    refine lv_iconst (v := (4 : Int32)) hx hb dX1_plotOf_9 (by decide) ?_
    refine k_calli (va_runS (As := [.int (y), .int ((0 : Int32)), .int ((4 : Int32))]) (rest := []) ⟨hx, hb, hml, hown, hts⟩ (cm1_in l E (y) ((0 : Int32)) ((4 : Int32)) _) (va_cwS 3 hts (lw_S q699 q700 q58 q701) rfl rfl rfl (by decide +kernel) ⟨Nat.le_of_ble_eq_true rfl, Nat.le_of_ble_eq_true rfl⟩) (k_pure hs hS) rfl rfl hl.1 rfl (lv_room (Nat.le_of_ble_eq_true rfl)) dX1_plotOf_10 ⟨Nat.le_of_ble_eq_true rfl, Nat.le_of_ble_eq_true rfl⟩) hS (fun r_3 u_3 H9 locs hw_3 hm_3 hS => ?_)
    replace hm_3 : _ = H9 := Eq.symm hm_3
    subst hm_3
    have hr_3 := hw_3
    refine kx_callv (BX := fun En q u H => XS E t 1 En q u H) (vx_runS (As := [.int (r_3)]) (rest := []) ⟨hx, hb, hml, hown, hts⟩ (cm1_check l E hl9 t M  (r_3) ) (va_cwS 1 hts (lw_S q702 q703 q58 q704) rfl rfl rfl (by decide +kernel) ⟨Nat.le_of_ble_eq_true rfl, Nat.le_of_ble_eq_true rfl⟩) (k_preS hs hm hS) rfl rfl hl.1 rfl (lv_room (Nat.le_of_ble_eq_true rfl)) dX1_plotOf_13 ⟨Nat.le_of_ble_eq_true rfl, Nat.le_of_ble_eq_true rfl⟩) hS (fun En_4 ce_4 q_4 u9_4 H locs hp_4 hB_4 hS h1_4 h2_4 h3_4 => ?_) (fun u_4 H locs hw_4 hm_4 hS => ?_)
    · obtain ⟨c_4, hu9_4⟩ := hp_4
      replace hu9_4 := hu9_4.symm
      subst hu9_4
      subst hr_3
      subst hr_1
      have e9 : C1_plotOf t M c x y = _ := (if_neg c_2).trans ((if_pos c_4).trans (rfl))
      exact kx_out (BX := fun En q u H => XS E t (C1_plotOf t M c x y).1 En q u H) (u := _) (fun x h => (hno x h).elim) hlocks (xs_leaf e9 (by decide) hB_4).1 (xs_leaf e9 (by decide) hB_4).2 hS h1_4 h2_4 h3_4 (Nat.le_of_ble_eq_true rfl) (Nat.le_of_ble_eq_true rfl)
    · obtain ⟨c_4, hu_4⟩ := hw_4
      replace hu_4 := hu_4.symm
      subst hu_4
      have hm := hm_4
      refine lv_aload_n hx hb dX1_plotOf_16 rfl (lv_at hl 0 rfl) ?_
      refine gf_100 hx hb hts hown hs hm hA.z (hts _ q519) dX1_plotOf_17 ?_
      refine gfN_203 hx hb hts hown hs hm (lay.z hA.c1) q234 dX1_plotOf_20 ?_
      refine lv_iload_n hx hb dX1_plotOf_23 rfl (lv_at hl 1 rfl) ?_
      refine k_aald24 hx hb hs hm (lay.a4 hA.c1) (ix.at (B := 12) ((hp1).mono (by decide)) (by decide)) dX1_plotOf_24 ?_
      refine lv_astore_nQ (lv' := [(3, _), (0, _), (1, _), (2, _)]) hx hb dX1_plotOf_25 rfl hl (by decide) rfl (fun ls hl => ?_)
      refine lv_iload_n hx hb dX1_plotOf_26 rfl (lv_at hl 3 rfl) ?_
      by_cases c_5 : y = (0 : Int32)
      · refine lv_tableIn (off := 29) (tgt := 56) hx hb dX1_plotOf_27 (by rw [c_5]; decide) (by rw [c_5]; decide) (by rw [c_5]; rfl) (by decide) ?_
        refine lv_aload_n hx hb dX1_plotOf_56 rfl (lv_at hl 1 rfl) ?_
        refine gf_100 hx hb hts hown hs hm hA.z (hts _ q519) dX1_plotOf_57 ?_
        refine gfN_202 hx hb hts hown hs hm (lay.z hA.c1) q232 dX1_plotOf_60 ?_
        refine lv_iload_n hx hb dX1_plotOf_63 rfl (lv_at hl 2 rfl) ?_
        refine k_iald hx hb hs hm (lay.a3 hA.c1) (ix.at (B := 12) ((hp1).mono (by decide)) (by decide)) dX1_plotOf_64 ?_
        subst hr_3
        subst hr_1
        refine vx_ret ?_
        refine W.widen (k := 2) (n := 12) (Nat.le_of_ble_eq_true rfl) (Nat.le_of_ble_eq_true rfl) ?_
        exact W.iret (v := _) hx hb hr (fun t9 ht9 _ => ⟨⟨_, _, rfl, pp3 ((if_neg c_2).trans ((if_neg c_4).trans ((if_pos c_5).trans (rfl)))), hb9 ht9 hm⟩, hS.F ht9⟩) hS.2.2 dX1_plotOf_65
      · by_cases c_6 : y = (1 : Int32)
        · refine lv_tableIn (off := 39) (tgt := 66) hx hb dX1_plotOf_27 (by rw [c_6]; decide) (by rw [c_6]; decide) (by rw [c_6]; rfl) (by decide) ?_
          refine lv_aload_nQ hx hb dX1_plotOf_66 rfl (lv_at hl 0 rfl) ?_
          refine lv_ifnonnullQ (tgt := 74) hx hb dX1_plotOf_67 (by decide) (fun c_9 => ?_) (fun c_9 => ?_)
          · refine lv_aload_nQ hx hb dX1_plotOf_74 rfl (lv_at hl 0 rfl) ?_
            refine k_nn c_9 ?_
            refine k_calli ((plO.get (hw.w1.cr hA.c1 _ (ix.nlt hp1)) c_9).elim (fun h9 => va_runU (As := []) (rest := []) ⟨hx, hb, hml, hown, hts⟩ (cm4_kind l E t M (((aR M ((c + 1) + 4) (x).toNatClampNeg).getD 0)) h9) (va_cwA 0 hts (lw_U q889 q591 q595 q596 q61 q597) rfl rfl rfl (hs.2.2.1 _ q590 rfl) (by decide +kernel) ⟨Nat.le_of_ble_eq_true rfl, Nat.le_of_ble_eq_true rfl⟩) (k_preV hs hm hS (mw.recv hs hm (mt_ne h9 (by decide)) (ct3 h9) rfl)) rfl rfl hl.1 rfl (lv_room (Nat.le_of_ble_eq_true rfl)) dX1_plotOf_75 ⟨Nat.le_of_ble_eq_true rfl, Nat.le_of_ble_eq_true rfl⟩) (fun h9 => va_runU (As := []) (rest := []) ⟨hx, hb, hml, hown, hts⟩ (cm5_kind l E t M (((aR M ((c + 1) + 4) (x).toNatClampNeg).getD 0)) h9) (va_cwA 0 hts (lw_U q889 q591 q592 q593 q62 q594) rfl rfl rfl (hs.2.2.1 _ q590 rfl) (by decide +kernel) ⟨Nat.le_of_ble_eq_true rfl, Nat.le_of_ble_eq_true rfl⟩) (k_preV hs hm hS (mw.recv hs hm (mt_ne h9 (by decide)) (ct4 h9) rfl)) rfl rfl hl.1 rfl (lv_room (Nat.le_of_ble_eq_true rfl)) dX1_plotOf_75 ⟨Nat.le_of_ble_eq_true rfl, Nat.le_of_ble_eq_true rfl⟩)) hS (fun r_10 u_10 H locs hw_10 hm_10 hS => ?_)
            obtain ⟨hr_10, hu_10⟩ := hw_10
            subst hr_10
            replace hu_10 := hu_10.symm
            subst hu_10
            have hm : mw E t (M) H := hm_10
            subst hr_3
            subst hr_1
            refine vx_ret ?_
            refine W.widen (k := 2) (n := 12) (Nat.le_of_ble_eq_true rfl) (Nat.le_of_ble_eq_true rfl) ?_
            exact W.iret (v := _) hx hb hr (fun t9 ht9 _ => ⟨⟨_, _, rfl, pp3 ((if_neg c_2).trans ((if_neg c_4).trans ((if_neg c_5).trans ((if_pos c_6).trans ((if_neg c_9).trans (rfl)))))), hb9 ht9 hm⟩, hS.F ht9⟩) hS.2.2 dX1_plotOf_78
          · refine lv_iconst (v := (-1 : Int32)) hx hb dX1_plotOf_70 (by decide) ?_
            refine lv_goto (tgt := 78) hx hb dX1_plotOf_71 (by decide) ?_
            subst hr_3
            subst hr_1
            refine vx_ret ?_
            refine W.widen (k := 2) (n := 12) (Nat.le_of_ble_eq_true rfl) (Nat.le_of_ble_eq_true rfl) ?_
            exact W.iret (v := _) hx hb hr (fun t9 ht9 _ => ⟨⟨_, _, rfl, pp3 ((if_neg c_2).trans ((if_neg c_4).trans ((if_neg c_5).trans ((if_pos c_6).trans ((if_pos c_9).trans (rfl)))))), hb9 ht9 hm⟩, hS.F ht9⟩) hS.2.2 dX1_plotOf_78
        · by_cases c_7 : y = (2 : Int32)
          · refine lv_tableIn (off := 52) (tgt := 79) hx hb dX1_plotOf_27 (by rw [c_7]; decide) (by rw [c_7]; decide) (by rw [c_7]; rfl) (by decide) ?_
            refine lv_aload_nQ hx hb dX1_plotOf_79 rfl (lv_at hl 0 rfl) ?_
            refine lv_ifnonnullQ (tgt := 87) hx hb dX1_plotOf_80 (by decide) (fun c_11 => ?_) (fun c_11 => ?_)
            · refine lv_aload_n hx hb dX1_plotOf_87 rfl (lv_at hl 1 rfl) ?_
              refine gf_100 hx hb hts hown hs hm hA.z (hts _ q519) dX1_plotOf_88 ?_
              refine gfN_216 hx hb hts hown hs hm (lay.z hA.c1) q258 dX1_plotOf_91 ?_
              refine lv_aload_nQ hx hb dX1_plotOf_94 rfl (lv_at hl 0 rfl) ?_
              refine k_nn c_11 ?_
              refine gfN_300 hx hb hts hown hs hm (plO.get (hw.w1.cr hA.c1 _ (ix.nlt hp1)) c_11) q133 dX1_plotOf_95 ?_
              refine lv_isub hx hb dX1_plotOf_98 ?_
              subst hr_3
              subst hr_1
              refine vx_ret ?_
              refine W.widen (k := 2) (n := 12) (Nat.le_of_ble_eq_true rfl) (Nat.le_of_ble_eq_true rfl) ?_
              exact W.iret (v := _) hx hb hr (fun t9 ht9 _ => ⟨⟨_, _, rfl, pp3 ((if_neg c_2).trans ((if_neg c_4).trans ((if_neg c_5).trans ((if_neg c_6).trans ((if_pos c_7).trans ((if_neg c_11).trans (rfl))))))), hb9 ht9 hm⟩, hS.F ht9⟩) hS.2.2 dX1_plotOf_99
            · refine lv_iconst (v := (-1 : Int32)) hx hb dX1_plotOf_83 (by decide) ?_
              refine lv_goto (tgt := 99) hx hb dX1_plotOf_84 (by decide) ?_
              subst hr_3
              subst hr_1
              refine vx_ret ?_
              refine W.widen (k := 2) (n := 12) (Nat.le_of_ble_eq_true rfl) (Nat.le_of_ble_eq_true rfl) ?_
              exact W.iret (v := _) hx hb hr (fun t9 ht9 _ => ⟨⟨_, _, rfl, pp3 ((if_neg c_2).trans ((if_neg c_4).trans ((if_neg c_5).trans ((if_neg c_6).trans ((if_pos c_7).trans ((if_pos c_11).trans (rfl))))))), hb9 ht9 hm⟩, hS.F ht9⟩) hS.2.2 dX1_plotOf_99
          · by_cases c_8 : y = (3 : Int32)
            · refine lv_tableIn (off := 73) (tgt := 100) hx hb dX1_plotOf_27 (by rw [c_8]; decide) (by rw [c_8]; decide) (by rw [c_8]; rfl) (by decide) ?_
              refine lv_aload_n hx hb dX1_plotOf_100 rfl (lv_at hl 1 rfl) ?_
              refine gf_100 hx hb hts hown hs hm hA.z (hts _ q519) dX1_plotOf_101 ?_
              refine gfN_201 hx hb hts hown hs hm (lay.z hA.c1) q230 dX1_plotOf_104 ?_
              refine lv_iload_n hx hb dX1_plotOf_107 rfl (lv_at hl 2 rfl) ?_
              refine k_iald hx hb hs hm (lay.a2 hA.c1) (ix.at (B := 12) ((hp1).mono (by decide)) (by decide)) dX1_plotOf_108 ?_
              subst hr_3
              subst hr_1
              refine vx_ret ?_
              refine W.widen (k := 2) (n := 12) (Nat.le_of_ble_eq_true rfl) (Nat.le_of_ble_eq_true rfl) ?_
              exact W.iret (v := _) hx hb hr (fun t9 ht9 _ => ⟨⟨_, _, rfl, pp3 ((if_neg c_2).trans ((if_neg c_4).trans ((if_neg c_5).trans ((if_neg c_6).trans ((if_neg c_7).trans ((if_pos c_8).trans (rfl))))))), hb9 ht9 hm⟩, hS.F ht9⟩) hS.2.2 dX1_plotOf_109
            · refine lv_tableOut (tgt := 110) hx hb dX1_plotOf_27 (sw_out _ 4 (by decide) (k_sw4 c_5 c_6 c_7 c_8) rfl) (by decide) ?_
              refine lv_aload_n hx hb dX1_plotOf_110 rfl (lv_at hl 1 rfl) ?_
              refine gf_100 hx hb hts hown hs hm hA.z (hts _ q519) dX1_plotOf_111 ?_
              refine lv_iload_n hx hb dX1_plotOf_114 rfl (lv_at hl 2 rfl) ?_
              refine k_calli (va_runV (As := [.int (x)]) (rest := []) ⟨hx, hb, hml, hown, hts⟩ (cm2_shedOn l E t M  ((c + 1)) (x) hA.c1 hw.w1.n2) (cwV 1 hts (lw_V q890 q891 q892 q59 q893) rfl rfl rfl (by decide +kernel) ⟨Nat.le_of_ble_eq_true rfl, Nat.le_of_ble_eq_true rfl⟩) (k_preV hs hm hS (mw.recv hs hm (mt_ne (lay.z hA.c1) (by decide)) (ct2 (lay.z hA.c1)) rfl)) rfl rfl hl.1 rfl (lv_room (Nat.le_of_ble_eq_true rfl)) dX1_plotOf_115 ⟨Nat.le_of_ble_eq_true rfl, Nat.le_of_ble_eq_true rfl⟩) hS (fun r_12 u_12 H locs hw_12 hm_12 hS => ?_)
              obtain ⟨hr_12, hu_12⟩ := hw_12
              replace hu_12 := hu_12.symm
              subst hu_12
              have hm := hm_12
              subst hr_12
              subst hr_3
              subst hr_1
              refine vx_ret ?_
              refine W.widen (k := 2) (n := 12) (Nat.le_of_ble_eq_true rfl) (Nat.le_of_ble_eq_true rfl) ?_
              exact W.iret (v := _) hx hb hr (fun t9 ht9 _ => ⟨⟨_, _, rfl, pp3 ((if_neg c_2).trans ((if_neg c_4).trans ((if_neg c_5).trans ((if_neg c_6).trans ((if_neg c_7).trans ((if_neg c_8).trans (rfl))))))), hb9 ht9 hm⟩, hS.F ht9⟩) hS.2.2 dX1_plotOf_118
def C1_water (t : mt) (M : mm) (c : Nat) (x : Int32) : Int32 × UInt32 × mm :=
  let r_1 := C1_isPlot (x);
  if r_1 = 0 then
    ((3 : Int32), (0 : UInt32), M)
  else
    ((0 : Int32), (aF M ((c + 1) + 1) (x).toNatClampNeg), M)
set_option maxHeartbeats 4000000 in
theorem cm1_water (l : Launch) (E : mE) (hl9 : l.stackTraces = false) (t : mt) (M : mm) (c : Nat) (x : Int32) (hA : layA t c) (K S : List Nat) (hw : wfA M c K S) : vx_Met l yX1_water (ws_ yX1_water cX1_water 2 (some .float)) ({ frames := 7, cells := 1, slots := 6, locals := 140 }) (va_Pc [.ref c, .int x] (wP E t M)) (va_Qf (fun (r : UInt32) (u : mm) => (C1_water t M c x).1 = 0 ∧ r = (C1_water t M c x).2.1 ∧ u = (C1_water t M c x).2.2) (fun u U => mw E t u U.heap) (eA E)) (vx_X (fun (u : mm) => ¬ (C1_water t M c x).1 = 0 ∧ u = (C1_water t M c x).2.2) (fun En q u U => XS E t (C1_water t M c x).1 En q u U.heap) (eA E)) 1 6 (eA E) := by
  refine vx_ofW (cc := cX1_water) (maxL := 2) (ret := (some .float)) (by decide) rfl ?_
  intro p e s m args below meth c0 s₁ B hml hno hv
  obtain ⟨rfl, hs, hm⟩ := hv
  have hx := B.exec
  have hb := B.bytes
  have hr := B.returns
  have hts := atoms_spec (ws := ws_ yX1_water cX1_water 2 (some .float)) B.pre
  have hts : ∀ w ∈ lw_all, w.before _ s = true := fun w h => hts w (List.mem_cons_of_mem _ h)
  have hown : s.vm.findClass RX1 = some m.cls := findClass_of_methodNamed B.named
  have hlocks := B.notSynchronized
  have hout : ∀ pc : Nat, ∀ x ∈ c0.exceptionTable.toList, covers x pc = false := fun _ x h => (hno x h).elim
  have hS : va_S (eA E) s.heap s.heap [] := va_S.rf
  have hl := lv_entry ([.ref c, .int x]) (n := 2) (Nat.le_of_ble_eq_true rfl)
  rw [lg_entry_eq]
  generalize (lg_sl ([.ref c, .int x]) ++ List.replicate (2 - (lg_sl ([.ref c, .int x])).length) Slot.unset).toArray = ls at hl ⊢
  have hl : lv_has ls 2 [(0, .ref (c)), (1, .int (x))] := hl
  refine lv_iload_n hx hb dX1_water_0 rfl (lv_at hl 1 rfl) ?_
  refine k_calli (va_runS (As := [.int (x)]) (rest := []) ⟨hx, hb, hml, hown, hts⟩ (cm1_isPlot l E (x) _) (va_cwS 1 hts (lw_S q838 q839 q58 q840) rfl rfl rfl (by decide +kernel) ⟨Nat.le_of_ble_eq_true rfl, Nat.le_of_ble_eq_true rfl⟩) (k_pure hs hS) rfl rfl hl.1 rfl (lv_room (Nat.le_of_ble_eq_true rfl)) dX1_water_1 ⟨Nat.le_of_ble_eq_true rfl, Nat.le_of_ble_eq_true rfl⟩) hS (fun r_1 u_1 H9 locs hw_1 hm_1 hS => ?_)
  replace hm_1 : _ = H9 := Eq.symm hm_1
  subst hm_1
  have hr_1 := hw_1
  refine kx_callv (BX := fun En q u H => XS E t 3 En q u H) (vx_runS (As := [.int (r_1)]) (rest := []) ⟨hx, hb, hml, hown, hts⟩ (cm1_checkIndex l E hl9 t M  (r_1) ) (va_cwS 1 hts (lw_S q841 q842 q58 q843) rfl rfl rfl (by decide +kernel) ⟨Nat.le_of_ble_eq_true rfl, Nat.le_of_ble_eq_true rfl⟩) (k_preS hs hm hS) rfl rfl hl.1 rfl (lv_room (Nat.le_of_ble_eq_true rfl)) dX1_water_4 ⟨Nat.le_of_ble_eq_true rfl, Nat.le_of_ble_eq_true rfl⟩) hS (fun En_2 ce_2 q_2 u9_2 H locs hp_2 hB_2 hS h1_2 h2_2 h3_2 => ?_) (fun u_2 H locs hw_2 hm_2 hS => ?_)
  · obtain ⟨c_2, hu9_2⟩ := hp_2
    replace hu9_2 := hu9_2.symm
    subst hu9_2
    subst hr_1
    have e9 : C1_water t M c x = _ := (if_pos c_2).trans (rfl)
    exact kx_out (BX := fun En q u H => XS E t (C1_water t M c x).1 En q u H) (u := _) (fun x h => (hno x h).elim) hlocks (xs_leaf e9 (by decide) hB_2).1 (xs_leaf e9 (by decide) hB_2).2 hS h1_2 h2_2 h3_2 (Nat.le_of_ble_eq_true rfl) (Nat.le_of_ble_eq_true rfl)
  · obtain ⟨c_2, hu_2⟩ := hw_2
    replace hu_2 := hu_2.symm
    subst hu_2
    have hm := hm_2
    have hp1 : ix 12 x := cplot_ix (hr_1 ▸ c_2)
    refine lv_aload_n hx hb dX1_water_7 rfl (lv_at hl 0 rfl) ?_
    refine gf_100 hx hb hts hown hs hm hA.z (hts _ q519) dX1_water_8 ?_
    refine gfN_200 hx hb hts hown hs hm (lay.z hA.c1) q228 dX1_water_11 ?_
    refine lv_iload_n hx hb dX1_water_14 rfl (lv_at hl 1 rfl) ?_
    refine k_fald hx hb hs hm (lay.a1 hA.c1) (ix.at (B := 12) ((hp1).mono (by decide)) (by decide)) dX1_water_15 ?_
    subst hr_1
    refine vx_ret ?_
    refine W.widen (k := 1) (n := 6) (Nat.le_of_ble_eq_true rfl) (Nat.le_of_ble_eq_true rfl) ?_
    exact W.fret (v := _) hx hb hr (fun t9 ht9 _ => ⟨⟨_, _, rfl, pp3 ((if_neg c_2).trans (rfl)), hb9 ht9 hm⟩, hS.F ht9⟩) hS.2.2 dX1_water_16
def C1_waterIn (t : mt) (M : mm) (c : Nat) (x : Int32) (y : Int32) : Int32 × Int32 × mm :=
  let r_1 := C1_isPlot (x);
  let r_3 := C1_in (y) ((0 : Int32)) ((60 : Int32));
  let r_5 := C2_waterIn t M ((c + 1)) (x) (y);
  let r_6 := T_fbits (r_5);
  if r_1 = 0 then
    ((3 : Int32), (0 : Int32), M)
  else
    let r_3 := C1_in (y) ((0 : Int32)) ((60 : Int32));
    let r_5 := C2_waterIn t M ((c + 1)) (x) (y);
    let r_6 := T_fbits (r_5);
    if r_3 = 0 then
      ((1 : Int32), (0 : Int32), M)
    else
      let r_5 := C2_waterIn t M ((c + 1)) (x) (y);
      let r_6 := T_fbits (r_5);
      ((0 : Int32), r_6, M)
set_option maxHeartbeats 4000000 in
theorem cm1_waterIn (l : Launch) (E : mE) (hl9 : l.stackTraces = false) (t : mt) (M : mm) (c : Nat) (x : Int32) (y : Int32) (hA : layA t c) (K S : List Nat) (hw : wfA M c K S) : vx_Met l yX1_waterIn (ws_ yX1_waterIn cX1_waterIn 3 (some .int)) ({ frames := 7, cells := 2, slots := 12, locals := 140 }) (va_Pc [.ref c, .int x, .int y] (wP E t M)) (va_Qi (fun (r : Int32) (u : mm) => (C1_waterIn t M c x y).1 = 0 ∧ r = (C1_waterIn t M c x y).2.1 ∧ u = (C1_waterIn t M c x y).2.2) (fun u U => mw E t u U.heap) (eA E)) (vx_X (fun (u : mm) => ¬ (C1_waterIn t M c x y).1 = 0 ∧ u = (C1_waterIn t M c x y).2.2) (fun En q u U => XS E t (C1_waterIn t M c x y).1 En q u U.heap) (eA E)) 2 12 (eA E) := by
  refine vx_ofW (cc := cX1_waterIn) (maxL := 3) (ret := (some .int)) (by decide) rfl ?_
  intro p e s m args below meth c0 s₁ B hml hno hv
  obtain ⟨rfl, hs, hm⟩ := hv
  have hx := B.exec
  have hb := B.bytes
  have hr := B.returns
  have hts := atoms_spec (ws := ws_ yX1_waterIn cX1_waterIn 3 (some .int)) B.pre
  have hts : ∀ w ∈ lw_all, w.before _ s = true := fun w h => hts w (List.mem_cons_of_mem _ h)
  have hown : s.vm.findClass RX1 = some m.cls := findClass_of_methodNamed B.named
  have hlocks := B.notSynchronized
  have hout : ∀ pc : Nat, ∀ x ∈ c0.exceptionTable.toList, covers x pc = false := fun _ x h => (hno x h).elim
  have hS : va_S (eA E) s.heap s.heap [] := va_S.rf
  have hl := lv_entry ([.ref c, .int x, .int y]) (n := 3) (Nat.le_of_ble_eq_true rfl)
  rw [lg_entry_eq]
  generalize (lg_sl ([.ref c, .int x, .int y]) ++ List.replicate (3 - (lg_sl ([.ref c, .int x, .int y])).length) Slot.unset).toArray = ls at hl ⊢
  have hl : lv_has ls 3 [(0, .ref (c)), (1, .int (x)), (2, .int (y))] := hl
  refine lv_iload_n hx hb dX1_waterIn_0 rfl (lv_at hl 1 rfl) ?_
  refine k_calli (va_runS (As := [.int (x)]) (rest := []) ⟨hx, hb, hml, hown, hts⟩ (cm1_isPlot l E (x) _) (va_cwS 1 hts (lw_S q838 q839 q58 q840) rfl rfl rfl (by decide +kernel) ⟨Nat.le_of_ble_eq_true rfl, Nat.le_of_ble_eq_true rfl⟩) (k_pure hs hS) rfl rfl hl.1 rfl (lv_room (Nat.le_of_ble_eq_true rfl)) dX1_waterIn_1 ⟨Nat.le_of_ble_eq_true rfl, Nat.le_of_ble_eq_true rfl⟩) hS (fun r_1 u_1 H9 locs hw_1 hm_1 hS => ?_)
  replace hm_1 : _ = H9 := Eq.symm hm_1
  subst hm_1
  have hr_1 := hw_1
  refine kx_callv (BX := fun En q u H => XS E t 3 En q u H) (vx_runS (As := [.int (r_1)]) (rest := []) ⟨hx, hb, hml, hown, hts⟩ (cm1_checkIndex l E hl9 t M  (r_1) ) (va_cwS 1 hts (lw_S q841 q842 q58 q843) rfl rfl rfl (by decide +kernel) ⟨Nat.le_of_ble_eq_true rfl, Nat.le_of_ble_eq_true rfl⟩) (k_preS hs hm hS) rfl rfl hl.1 rfl (lv_room (Nat.le_of_ble_eq_true rfl)) dX1_waterIn_4 ⟨Nat.le_of_ble_eq_true rfl, Nat.le_of_ble_eq_true rfl⟩) hS (fun En_2 ce_2 q_2 u9_2 H locs hp_2 hB_2 hS h1_2 h2_2 h3_2 => ?_) (fun u_2 H locs hw_2 hm_2 hS => ?_)
  · obtain ⟨c_2, hu9_2⟩ := hp_2
    replace hu9_2 := hu9_2.symm
    subst hu9_2
    subst hr_1
    have e9 : C1_waterIn t M c x y = _ := (if_pos c_2).trans (rfl)
    exact kx_out (BX := fun En q u H => XS E t (C1_waterIn t M c x y).1 En q u H) (u := _) (fun x h => (hno x h).elim) hlocks (xs_leaf e9 (by decide) hB_2).1 (xs_leaf e9 (by decide) hB_2).2 hS h1_2 h2_2 h3_2 (Nat.le_of_ble_eq_true rfl) (Nat.le_of_ble_eq_true rfl)
  · obtain ⟨c_2, hu_2⟩ := hw_2
    replace hu_2 := hu_2.symm
    subst hu_2
    have hm := hm_2
    have hp1 : ix 12 x := cplot_ix (hr_1 ▸ c_2)
    refine lv_iload_n hx hb dX1_waterIn_7 rfl (lv_at hl 2 rfl) ?_
    refine lv_iconst (v := (0 : Int32)) hx hb dX1_waterIn_8 (by decide) ?_
    refine lv_bipush (v := (60 : Int32)) hx hb dX1_waterIn_9 (by decide) ?_
    refine k_calli (va_runS (As := [.int (y), .int ((0 : Int32)), .int ((60 : Int32))]) (rest := []) ⟨hx, hb, hml, hown, hts⟩ (cm1_in l E (y) ((0 : Int32)) ((60 : Int32)) _) (va_cwS 3 hts (lw_S q699 q700 q58 q701) rfl rfl rfl (by decide +kernel) ⟨Nat.le_of_ble_eq_true rfl, Nat.le_of_ble_eq_true rfl⟩) (k_pure hs hS) rfl rfl hl.1 rfl (lv_room (Nat.le_of_ble_eq_true rfl)) dX1_waterIn_11 ⟨Nat.le_of_ble_eq_true rfl, Nat.le_of_ble_eq_true rfl⟩) hS (fun r_3 u_3 H9 locs hw_3 hm_3 hS => ?_)
    replace hm_3 : _ = H9 := Eq.symm hm_3
    subst hm_3
    have hr_3 := hw_3
    refine kx_callv (BX := fun En q u H => XS E t 1 En q u H) (vx_runS (As := [.int (r_3)]) (rest := []) ⟨hx, hb, hml, hown, hts⟩ (cm1_check l E hl9 t M  (r_3) ) (va_cwS 1 hts (lw_S q702 q703 q58 q704) rfl rfl rfl (by decide +kernel) ⟨Nat.le_of_ble_eq_true rfl, Nat.le_of_ble_eq_true rfl⟩) (k_preS hs hm hS) rfl rfl hl.1 rfl (lv_room (Nat.le_of_ble_eq_true rfl)) dX1_waterIn_14 ⟨Nat.le_of_ble_eq_true rfl, Nat.le_of_ble_eq_true rfl⟩) hS (fun En_4 ce_4 q_4 u9_4 H locs hp_4 hB_4 hS h1_4 h2_4 h3_4 => ?_) (fun u_4 H locs hw_4 hm_4 hS => ?_)
    · obtain ⟨c_4, hu9_4⟩ := hp_4
      replace hu9_4 := hu9_4.symm
      subst hu9_4
      subst hr_3
      subst hr_1
      have e9 : C1_waterIn t M c x y = _ := (if_neg c_2).trans ((if_pos c_4).trans (rfl))
      exact kx_out (BX := fun En q u H => XS E t (C1_waterIn t M c x y).1 En q u H) (u := _) (fun x h => (hno x h).elim) hlocks (xs_leaf e9 (by decide) hB_4).1 (xs_leaf e9 (by decide) hB_4).2 hS h1_4 h2_4 h3_4 (Nat.le_of_ble_eq_true rfl) (Nat.le_of_ble_eq_true rfl)
    · obtain ⟨c_4, hu_4⟩ := hw_4
      replace hu_4 := hu_4.symm
      subst hu_4
      have hm := hm_4
      have hp2 : ix 61 y := in_ix (hr_3 ▸ c_4) (by decide) (by decide)
      refine lv_aload_n hx hb dX1_waterIn_17 rfl (lv_at hl 0 rfl) ?_
      refine gf_100 hx hb hts hown hs hm hA.z (hts _ q519) dX1_waterIn_18 ?_
      refine lv_iload_n hx hb dX1_waterIn_21 rfl (lv_at hl 1 rfl) ?_
      refine lv_iload_n hx hb dX1_waterIn_22 rfl (lv_at hl 2 rfl) ?_
      refine k_callf (va_runV (As := [.int (x), .int (y)]) (rest := []) ⟨hx, hb, hml, hown, hts⟩ (cm2_waterIn l E t M  ((c + 1)) (x) (y) hA.c1 hw.w1.wd hw.w1.rn hp1 hp2 hw.w1.wa) (cwV 2 hts (lw_V q908 q909 q910 q59 q911) rfl rfl rfl (by decide +kernel) ⟨Nat.le_of_ble_eq_true rfl, Nat.le_of_ble_eq_true rfl⟩) (k_preV hs hm hS (mw.recv hs hm (mt_ne (lay.z hA.c1) (by decide)) (ct2 (lay.z hA.c1)) rfl)) rfl rfl hl.1 rfl (lv_room (Nat.le_of_ble_eq_true rfl)) dX1_waterIn_23 ⟨Nat.le_of_ble_eq_true rfl, Nat.le_of_ble_eq_true rfl⟩) hS (fun r_5 u_5 H locs hw_5 hm_5 hS => ?_)
      obtain ⟨hr_5, hu_5⟩ := hw_5
      replace hu_5 := hu_5.symm
      subst hu_5
      have hm := hm_5
      refine k_calli (va_runS (As := [.float (r_5)]) (rest := []) ⟨hx, hb, hml, hown, hts⟩ (jm_J16_floatToIntBits l E (r_5) _) (va_cwS 1 hts (lw_S q930 q931 q87 q932) rfl rfl rfl (by decide +kernel) ⟨Nat.le_of_ble_eq_true rfl, Nat.le_of_ble_eq_true rfl⟩) (k_pure hs hS) rfl rfl hl.1 rfl (lv_room (Nat.le_of_ble_eq_true rfl)) dX1_waterIn_26 ⟨Nat.le_of_ble_eq_true rfl, Nat.le_of_ble_eq_true rfl⟩) hS (fun r_6 u_6 H9 locs hw_6 hm_6 hS => ?_)
      replace hm_6 : _ = H9 := Eq.symm hm_6
      subst hm_6
      have hr_6 := hw_6
      subst hr_6
      subst hr_5
      subst hr_3
      subst hr_1
      refine vx_ret ?_
      refine W.widen (k := 2) (n := 12) (Nat.le_of_ble_eq_true rfl) (Nat.le_of_ble_eq_true rfl) ?_
      exact W.iret (v := _) hx hb hr (fun t9 ht9 _ => ⟨⟨_, _, rfl, pp3 ((if_neg c_2).trans ((if_neg c_4).trans (rfl))), hb9 ht9 hm⟩, hS.F ht9⟩) hS.2.2 dX1_waterIn_29
def C1_waterAgain (t : mt) (M : mm) (c : Nat) (x : Int32) (y : Int32) : Int32 × Int32 × mm :=
  let r_1 := C1_isPlot (x);
  let r_3 := C1_in (y) ((0 : Int32)) ((60 : Int32));
  let u_5 := (C1_tryOn t M (c) ).2;
  let r_6 := (C2_pass t u_5 ((c + 65)) (y)).1;
  let u_6 := (C2_pass t u_5 ((c + 65)) (y)).2;
  let r_7 := T_fbits ((aF u_6 ((c + 65) + 1) (x).toNatClampNeg));
  if r_1 = 0 then
    ((3 : Int32), (0 : Int32), M)
  else
    let r_3 := C1_in (y) ((0 : Int32)) ((60 : Int32));
    let u_5 := (C1_tryOn t M (c) ).2;
    let r_6 := (C2_pass t u_5 ((c + 65)) (y)).1;
    let u_6 := (C2_pass t u_5 ((c + 65)) (y)).2;
    let r_7 := T_fbits ((aF u_6 ((c + 65) + 1) (x).toNatClampNeg));
    if r_3 = 0 then
      ((1 : Int32), (0 : Int32), M)
    else
      let u_5 := (C1_tryOn t M (c) ).2;
      let r_6 := (C2_pass t u_5 ((c + 65)) (y)).1;
      let u_6 := (C2_pass t u_5 ((c + 65)) (y)).2;
      let r_7 := T_fbits ((aF u_6 ((c + 65) + 1) (x).toNatClampNeg));
      ((0 : Int32), r_7, u_6)
set_option maxHeartbeats 4000000 in
theorem cm1_waterAgain (l : Launch) (E : mE) (hl9 : l.stackTraces = false) (t : mt) (M : mm) (c : Nat) (x : Int32) (y : Int32) (hA : layA t c) (K S : List Nat) (hw : wfA M c K S) (hT : wfK (C1_tryOn t M c).2 (c + 65)) : vx_Met l yX1_waterAgain (ws_ yX1_waterAgain cX1_waterAgain 4 (some .int)) ({ frames := 7, cells := 62, slots := 732, locals := 140 }) (va_Pc [.ref c, .int x, .int y] (wP E t M)) (va_Qi (fun (r : Int32) (u : mm) => (C1_waterAgain t M c x y).1 = 0 ∧ r = (C1_waterAgain t M c x y).2.1 ∧ u = (C1_waterAgain t M c x y).2.2) (fun u U => mw E t u U.heap) (eA E)) (vx_X (fun (u : mm) => ¬ (C1_waterAgain t M c x y).1 = 0 ∧ u = (C1_waterAgain t M c x y).2.2) (fun En q u U => XS E t (C1_waterAgain t M c x y).1 En q u U.heap) (eA E)) 62 732 (eA E) := by
  refine vx_ofW (cc := cX1_waterAgain) (maxL := 4) (ret := (some .int)) (by decide) rfl ?_
  intro p e s m args below meth c0 s₁ B hml hno hv
  obtain ⟨rfl, hs, hm⟩ := hv
  have hx := B.exec
  have hb := B.bytes
  have hr := B.returns
  have hts := atoms_spec (ws := ws_ yX1_waterAgain cX1_waterAgain 4 (some .int)) B.pre
  have hts : ∀ w ∈ lw_all, w.before _ s = true := fun w h => hts w (List.mem_cons_of_mem _ h)
  have hown : s.vm.findClass RX1 = some m.cls := findClass_of_methodNamed B.named
  have hlocks := B.notSynchronized
  have hout : ∀ pc : Nat, ∀ x ∈ c0.exceptionTable.toList, covers x pc = false := fun _ x h => (hno x h).elim
  have hS : va_S (eA E) s.heap s.heap [] := va_S.rf
  have hl := lv_entry ([.ref c, .int x, .int y]) (n := 4) (Nat.le_of_ble_eq_true rfl)
  rw [lg_entry_eq]
  generalize (lg_sl ([.ref c, .int x, .int y]) ++ List.replicate (4 - (lg_sl ([.ref c, .int x, .int y])).length) Slot.unset).toArray = ls at hl ⊢
  have hl : lv_has ls 4 [(0, .ref (c)), (1, .int (x)), (2, .int (y))] := hl
  refine lv_iload_n hx hb dX1_waterAgain_0 rfl (lv_at hl 1 rfl) ?_
  refine k_calli (va_runS (As := [.int (x)]) (rest := []) ⟨hx, hb, hml, hown, hts⟩ (cm1_isPlot l E (x) _) (va_cwS 1 hts (lw_S q838 q839 q58 q840) rfl rfl rfl (by decide +kernel) ⟨Nat.le_of_ble_eq_true rfl, Nat.le_of_ble_eq_true rfl⟩) (k_pure hs hS) rfl rfl hl.1 rfl (lv_room (Nat.le_of_ble_eq_true rfl)) dX1_waterAgain_1 ⟨Nat.le_of_ble_eq_true rfl, Nat.le_of_ble_eq_true rfl⟩) hS (fun r_1 u_1 H9 locs hw_1 hm_1 hS => ?_)
  replace hm_1 : _ = H9 := Eq.symm hm_1
  subst hm_1
  have hr_1 := hw_1
  refine kx_callv (BX := fun En q u H => XS E t 3 En q u H) (vx_runS (As := [.int (r_1)]) (rest := []) ⟨hx, hb, hml, hown, hts⟩ (cm1_checkIndex l E hl9 t M  (r_1) ) (va_cwS 1 hts (lw_S q841 q842 q58 q843) rfl rfl rfl (by decide +kernel) ⟨Nat.le_of_ble_eq_true rfl, Nat.le_of_ble_eq_true rfl⟩) (k_preS hs hm hS) rfl rfl hl.1 rfl (lv_room (Nat.le_of_ble_eq_true rfl)) dX1_waterAgain_4 ⟨Nat.le_of_ble_eq_true rfl, Nat.le_of_ble_eq_true rfl⟩) hS (fun En_2 ce_2 q_2 u9_2 H locs hp_2 hB_2 hS h1_2 h2_2 h3_2 => ?_) (fun u_2 H locs hw_2 hm_2 hS => ?_)
  · obtain ⟨c_2, hu9_2⟩ := hp_2
    replace hu9_2 := hu9_2.symm
    subst hu9_2
    subst hr_1
    have e9 : C1_waterAgain t M c x y = _ := (if_pos c_2).trans (rfl)
    exact kx_out (BX := fun En q u H => XS E t (C1_waterAgain t M c x y).1 En q u H) (u := _) (fun x h => (hno x h).elim) hlocks (xs_leaf e9 (by decide) hB_2).1 (xs_leaf e9 (by decide) hB_2).2 hS h1_2 h2_2 h3_2 (Nat.le_of_ble_eq_true rfl) (Nat.le_of_ble_eq_true rfl)
  · obtain ⟨c_2, hu_2⟩ := hw_2
    replace hu_2 := hu_2.symm
    subst hu_2
    have hm := hm_2
    have hp1 : ix 12 x := cplot_ix (hr_1 ▸ c_2)
    refine lv_iload_n hx hb dX1_waterAgain_7 rfl (lv_at hl 2 rfl) ?_
    refine lv_iconst (v := (0 : Int32)) hx hb dX1_waterAgain_8 (by decide) ?_
    refine lv_bipush (v := (60 : Int32)) hx hb dX1_waterAgain_9 (by decide) ?_
    refine k_calli (va_runS (As := [.int (y), .int ((0 : Int32)), .int ((60 : Int32))]) (rest := []) ⟨hx, hb, hml, hown, hts⟩ (cm1_in l E (y) ((0 : Int32)) ((60 : Int32)) _) (va_cwS 3 hts (lw_S q699 q700 q58 q701) rfl rfl rfl (by decide +kernel) ⟨Nat.le_of_ble_eq_true rfl, Nat.le_of_ble_eq_true rfl⟩) (k_pure hs hS) rfl rfl hl.1 rfl (lv_room (Nat.le_of_ble_eq_true rfl)) dX1_waterAgain_11 ⟨Nat.le_of_ble_eq_true rfl, Nat.le_of_ble_eq_true rfl⟩) hS (fun r_3 u_3 H9 locs hw_3 hm_3 hS => ?_)
    replace hm_3 : _ = H9 := Eq.symm hm_3
    subst hm_3
    have hr_3 := hw_3
    refine kx_callv (BX := fun En q u H => XS E t 1 En q u H) (vx_runS (As := [.int (r_3)]) (rest := []) ⟨hx, hb, hml, hown, hts⟩ (cm1_check l E hl9 t M  (r_3) ) (va_cwS 1 hts (lw_S q702 q703 q58 q704) rfl rfl rfl (by decide +kernel) ⟨Nat.le_of_ble_eq_true rfl, Nat.le_of_ble_eq_true rfl⟩) (k_preS hs hm hS) rfl rfl hl.1 rfl (lv_room (Nat.le_of_ble_eq_true rfl)) dX1_waterAgain_14 ⟨Nat.le_of_ble_eq_true rfl, Nat.le_of_ble_eq_true rfl⟩) hS (fun En_4 ce_4 q_4 u9_4 H locs hp_4 hB_4 hS h1_4 h2_4 h3_4 => ?_) (fun u_4 H locs hw_4 hm_4 hS => ?_)
    · obtain ⟨c_4, hu9_4⟩ := hp_4
      replace hu9_4 := hu9_4.symm
      subst hu9_4
      subst hr_3
      subst hr_1
      have e9 : C1_waterAgain t M c x y = _ := (if_neg c_2).trans ((if_pos c_4).trans (rfl))
      exact kx_out (BX := fun En q u H => XS E t (C1_waterAgain t M c x y).1 En q u H) (u := _) (fun x h => (hno x h).elim) hlocks (xs_leaf e9 (by decide) hB_4).1 (xs_leaf e9 (by decide) hB_4).2 hS h1_4 h2_4 h3_4 (Nat.le_of_ble_eq_true rfl) (Nat.le_of_ble_eq_true rfl)
    · obtain ⟨c_4, hu_4⟩ := hw_4
      replace hu_4 := hu_4.symm
      subst hu_4
      have hm := hm_4
      have hp2 : ix 61 y := in_ix (hr_3 ▸ c_4) (by decide) (by decide)
      refine lv_aload_n hx hb dX1_waterAgain_17 rfl (lv_at hl 0 rfl) ?_
      refine k_callq (va_runV (As := []) (rest := []) ⟨hx, hb, hml, hown, hts⟩ (cm1_tryOn l E t M  (c)  hA K S hw) (cwV 0 hts (lw_V q742 q744 qs7 q58 q745) rfl rfl rfl (by decide +kernel) ⟨Nat.le_of_ble_eq_true rfl, Nat.le_of_ble_eq_true rfl⟩) (k_preV hs hm hS (mw.recv hs hm (mt_ne hA.z (by decide)) (ct1 hA.z) rfl)) rfl rfl hl.1 rfl (lv_room (Nat.le_of_ble_eq_true rfl)) dX1_waterAgain_18 ⟨Nat.le_of_ble_eq_true rfl, Nat.le_of_ble_eq_true rfl⟩) hS (fun r_5 u_5 H locs hw_5 hm_5 hS => ?_)
      obtain ⟨hr_5, hu_5⟩ := hw_5
      have hm := hm_5
      obtain ⟨n_5, hn_5⟩ : ∃ n, n = (C1_tryOn t M (c) ).1 := ⟨_, rfl⟩
      rw [← hn_5] at hr_5
      subst hr_5
      have hr_5 := hn_5
      clear hn_5
      obtain rfl : n_5 = (c + 65) := hr_5
      refine lv_iload_n hx hb dX1_waterAgain_21 rfl (lv_at hl 2 rfl) ?_
      refine k_calli (va_runV (As := [.int (y)]) (rest := []) ⟨hx, hb, hml, hown, hts⟩ (cm2_pass l E t u_5  ((c + 65)) (y) hA.c2 hp2 ((show wfK u_5 (c + 65) from by rw [hu_5]; exact hT).wfC hA.c2)) (cwV 1 hts (lw_V q945 q946 q947 q59 q948) rfl rfl rfl (by decide +kernel) ⟨Nat.le_of_ble_eq_true rfl, Nat.le_of_ble_eq_true rfl⟩) (k_preV hs hm hS (mw.recv hs hm (mt_ne (lay.z hA.c2) (by decide)) (ct2 (lay.z hA.c2)) rfl)) rfl rfl hl.1 rfl (lv_room (Nat.le_of_ble_eq_true rfl)) dX1_waterAgain_22 ⟨Nat.le_of_ble_eq_true rfl, Nat.le_of_ble_eq_true rfl⟩) hS (fun r_6 u_6 H locs hw_6 hm_6 hS => ?_)
      obtain ⟨hr_6, hu_6⟩ := hw_6
      have hm := hm_6
      refine lv_istore_n (lv' := [(3, _), (0, _), (1, _), (2, _)]) hx hb dX1_waterAgain_25 rfl hl (by decide) rfl (fun ls hl => ?_)
      refine lv_aload_n hx hb dX1_waterAgain_26 rfl (lv_at hl 1 rfl) ?_
      refine gf_101 hx hb hts hown hs hm hA.z (hts _ q520) dX1_waterAgain_27 ?_
      refine gfN_200 hx hb hts hown hs hm (lay.z hA.c2) q228 dX1_waterAgain_30 ?_
      refine lv_iload_n hx hb dX1_waterAgain_33 rfl (lv_at hl 2 rfl) ?_
      refine k_fald hx hb hs hm (lay.a1 hA.c2) (ix.at (B := 12) ((hp1).mono (by decide)) (by decide)) dX1_waterAgain_34 ?_
      refine k_calli (va_runS (As := [.float ((aF u_6 ((c + 65) + 1) (x).toNatClampNeg))]) (rest := []) ⟨hx, hb, hml, hown, hts⟩ (jm_J16_floatToIntBits l E ((aF u_6 ((c + 65) + 1) (x).toNatClampNeg)) _) (va_cwS 1 hts (lw_S q930 q931 q87 q932) rfl rfl rfl (by decide +kernel) ⟨Nat.le_of_ble_eq_true rfl, Nat.le_of_ble_eq_true rfl⟩) (k_pure hs hS) rfl rfl hl.1 rfl (lv_room (Nat.le_of_ble_eq_true rfl)) dX1_waterAgain_35 ⟨Nat.le_of_ble_eq_true rfl, Nat.le_of_ble_eq_true rfl⟩) hS (fun r_7 u_7 H9 locs hw_7 hm_7 hS => ?_)
      replace hm_7 : _ = H9 := Eq.symm hm_7
      subst hm_7
      have hr_7 := hw_7
      subst hr_7
      subst hu_6
      subst hr_6
      subst hu_5
      subst hr_3
      subst hr_1
      refine vx_ret ?_
      refine W.widen (k := 62) (n := 732) (Nat.le_of_ble_eq_true rfl) (Nat.le_of_ble_eq_true rfl) ?_
      exact W.iret (v := _) hx hb hr (fun t9 ht9 _ => ⟨⟨_, _, rfl, pp3 ((if_neg c_2).trans ((if_neg c_4).trans (rfl))), hb9 ht9 hm⟩, hS.F ht9⟩) hS.2.2 dX1_waterAgain_38
def C1_cropOf (t : mt) (M : mm) (c : Nat) (x : Int32) : Int32 × Option Nat × mm :=
  let x2 := if (aR M ((c + 1) + 4) (x).toNatClampNeg) = none then (0 : Int32) else (1 : Int32);
  if x2 = 0 then
    ((4 : Int32), none, M)
  else
    ((0 : Int32), (aR M ((c + 1) + 4) (x).toNatClampNeg), M)
set_option maxHeartbeats 4000000 in
theorem cm1_cropOf (l : Launch) (E : mE) (hl9 : l.stackTraces = false) (t : mt) (M : mm) (c : Nat) (x : Int32) (hA : layA t c) (K S : List Nat) (hw : wfA M c K S) (hp1 : ix 12 x) : vx_Met l yX1_cropOf (ws_ yX1_cropOf cX1_cropOf 2 (some (.object "CliffPlots$Plant"))) ({ frames := 7, cells := 1, slots := 6, locals := 140 }) (va_Pc [.ref c, .int x] (wP E t M)) (va_Qq (fun (r : Option Nat) (u : mm) => (C1_cropOf t M c x).1 = 0 ∧ r = (C1_cropOf t M c x).2.1 ∧ u = (C1_cropOf t M c x).2.2) (fun u U => mw E t u U.heap) (eA E)) (vx_X (fun (u : mm) => ¬ (C1_cropOf t M c x).1 = 0 ∧ u = (C1_cropOf t M c x).2.2) (fun En q u U => XS E t (C1_cropOf t M c x).1 En q u U.heap) (eA E)) 1 6 (eA E) := by
  refine vx_ofW (cc := cX1_cropOf) (maxL := 2) (ret := (some (.object "CliffPlots$Plant"))) (by decide) rfl ?_
  intro p e s m args below meth c0 s₁ B hml hno hv
  obtain ⟨rfl, hs, hm⟩ := hv
  have hx := B.exec
  have hb := B.bytes
  have hr := B.returns
  have hts := atoms_spec (ws := ws_ yX1_cropOf cX1_cropOf 2 (some (.object "CliffPlots$Plant"))) B.pre
  have hts : ∀ w ∈ lw_all, w.before _ s = true := fun w h => hts w (List.mem_cons_of_mem _ h)
  have hown : s.vm.findClass RX1 = some m.cls := findClass_of_methodNamed B.named
  have hlocks := B.notSynchronized
  have hout : ∀ pc : Nat, ∀ x ∈ c0.exceptionTable.toList, covers x pc = false := fun _ x h => (hno x h).elim
  have hS : va_S (eA E) s.heap s.heap [] := va_S.rf
  have hl := lv_entry ([.ref c, .int x]) (n := 2) (Nat.le_of_ble_eq_true rfl)
  rw [lg_entry_eq]
  generalize (lg_sl ([.ref c, .int x]) ++ List.replicate (2 - (lg_sl ([.ref c, .int x])).length) Slot.unset).toArray = ls at hl ⊢
  have hl : lv_has ls 2 [(0, .ref (c)), (1, .int (x))] := hl
  refine lv_aload_n hx hb dX1_cropOf_0 rfl (lv_at hl 0 rfl) ?_
  refine gf_100 hx hb hts hown hs hm hA.z (hts _ q519) dX1_cropOf_1 ?_
  refine gfN_203 hx hb hts hown hs hm (lay.z hA.c1) q234 dX1_cropOf_4 ?_
  refine lv_iload_n hx hb dX1_cropOf_7 rfl (lv_at hl 1 rfl) ?_
  refine k_aald24 hx hb hs hm (lay.a4 hA.c1) (ix.at (B := 12) ((hp1).mono (by decide)) (by decide)) dX1_cropOf_8 ?_
  refine k_join (fun (x2 : Int32) H locs ls => x2 = (if (aR M ((c + 1) + 4) (x).toNatClampNeg) = none then (0 : Int32) else (1 : Int32)) ∧ mw E t (M) H ∧ va_S (eA E) s.heap H locs ∧ lv_has ls 2 [(0, .ref (c)), (1, .int (x))]) (fun (x2 : Int32) ls => F0 m 17 ls [.int (x2)]) (fun x2 H locs ls hJ => ?_) (fun J2 => ?_)
  · obtain ⟨hX2, hm, hS, hl⟩ := hJ
    refine kx_callv (BX := fun En q u H => XS E t 4 En q u H) (vx_runS (As := [.int (x2)]) (rest := []) ⟨hx, hb, hml, hown, hts⟩ (cm1_checkElement l E hl9 t M  (x2) ) (va_cwS 1 hts (lw_S q1043 q1044 q58 q1045) rfl rfl rfl (by decide +kernel) ⟨Nat.le_of_ble_eq_true rfl, Nat.le_of_ble_eq_true rfl⟩) (k_preS hs hm hS) rfl rfl hl.1 rfl (lv_room (Nat.le_of_ble_eq_true rfl)) dX1_cropOf_17 ⟨Nat.le_of_ble_eq_true rfl, Nat.le_of_ble_eq_true rfl⟩) hS (fun En_3 ce_3 q_3 u9_3 H locs hp_3 hB_3 hS h1_3 h2_3 h3_3 => ?_) (fun u_3 H locs hw_3 hm_3 hS => ?_)
    · obtain ⟨c_3, hu9_3⟩ := hp_3
      replace hu9_3 := hu9_3.symm
      subst hu9_3
      subst hX2
      have e9 : C1_cropOf t M c x = _ := (if_pos c_3).trans (rfl)
      exact kx_out (BX := fun En q u H => XS E t (C1_cropOf t M c x).1 En q u H) (u := _) (fun x h => (hno x h).elim) hlocks (xs_leaf e9 (by decide) hB_3).1 (xs_leaf e9 (by decide) hB_3).2 hS h1_3 h2_3 h3_3 (Nat.le_of_ble_eq_true rfl) (Nat.le_of_ble_eq_true rfl)
    · obtain ⟨c_3, hu_3⟩ := hw_3
      replace hu_3 := hu_3.symm
      subst hu_3
      have hm := hm_3
      refine lv_aload_n hx hb dX1_cropOf_20 rfl (lv_at hl 0 rfl) ?_
      refine gf_100 hx hb hts hown hs hm hA.z (hts _ q519) dX1_cropOf_21 ?_
      refine gfN_203 hx hb hts hown hs hm (lay.z hA.c1) q234 dX1_cropOf_24 ?_
      refine lv_iload_n hx hb dX1_cropOf_27 rfl (lv_at hl 1 rfl) ?_
      refine k_aald24 hx hb hs hm (lay.a4 hA.c1) (ix.at (B := 12) ((hp1).mono (by decide)) (by decide)) dX1_cropOf_28 ?_
      subst hX2
      refine vx_ret ?_
      refine W.widen (k := 1) (n := 6) (Nat.le_of_ble_eq_true rfl) (Nat.le_of_ble_eq_true rfl) ?_
      exact W.aret (v := _) hx hb hr (Or.inl ⟨_, rfl⟩) (rf_or _) (fun t9 ht9 _ => ⟨⟨_, _, rfl, pp3 ((if_neg c_3).trans (rfl)), hb9 ht9 hm⟩, hS.F ht9⟩) hS.2.2 dX1_cropOf_29
  · refine lv_ifnullQ (tgt := 16) hx hb dX1_cropOf_9 (by decide) (fun c_1 => ?_) (fun c_1 => ?_)
    · refine lv_iconst (v := (0 : Int32)) hx hb dX1_cropOf_16 (by decide) ?_
      exact J2 ((0 : Int32)) _ _ _ ⟨((if_pos c_1).trans (rfl)).symm, hm, hS, lv_sub hl [0, 1] rfl⟩
    · refine lv_iconst (v := (1 : Int32)) hx hb dX1_cropOf_12 (by decide) ?_
      refine lv_goto (tgt := 17) hx hb dX1_cropOf_13 (by decide) ?_
      exact J2 ((1 : Int32)) _ _ _ ⟨((if_neg c_1).trans (rfl)).symm, hm, hS, lv_sub hl [0, 1] rfl⟩
theorem cropOf_ok {t : mt} {M : mm} {c : Nat} {x : Int32} {r : Option Nat} (h : (C1_cropOf t M c x).1 = 0) (e : r = (C1_cropOf t M c x).2.1) : ¬ r = none ∧ r = aR M ((c + 1) + 4) x.toNatClampNeg := by
  unfold C1_cropOf at h e
  dsimp only at h e
  by_cases c1 : aR M ((c + 1) + 4) x.toNatClampNeg = none
  · rw [if_pos c1, if_pos rfl] at h
    exact absurd h (show ¬ (4 : Int32) = 0 by decide)
  · rw [if_neg c1, if_neg (by decide)] at e
    exact ⟨by rw [e]; exact c1, e⟩
theorem cropOf_M {t : mt} {M : mm} {c : Nat} {x : Int32} : (C1_cropOf t M c x).2.2 = M := by
  unfold C1_cropOf
  dsimp only
  split <;> rfl
def C1_weight (t : mt) (M : mm) (c : Nat) (x : Int32) : Int32 × Int32 × mm :=
  let r_1 := C1_isPlot (x);
  let r_3 := (C1_cropOf t M (c) (x)).2.1;
  let u_3 := (C1_cropOf t M (c) (x)).2.2;
  let r_4 := T_fbits ((gF u_3 301 (r_3.getD 0)));
  if r_1 = 0 then
    ((3 : Int32), (0 : Int32), M)
  else
    let r_3 := (C1_cropOf t M (c) (x)).2.1;
    let u_3 := (C1_cropOf t M (c) (x)).2.2;
    let r_4 := T_fbits ((gF u_3 301 (r_3.getD 0)));
    if (C1_cropOf t M (c) (x)).1 = 0 then
      let r_4 := T_fbits ((gF u_3 301 (r_3.getD 0)));
      ((0 : Int32), r_4, u_3)
    else
      ((C1_cropOf t M (c) (x)).1, (0 : Int32), (C1_cropOf t M (c) (x)).2.2)
set_option maxHeartbeats 4000000 in
theorem cm1_weight (l : Launch) (E : mE) (hl9 : l.stackTraces = false) (t : mt) (M : mm) (c : Nat) (x : Int32) (hA : layA t c) (K S : List Nat) (hw : wfA M c K S) : vx_Met l yX1_weight (ws_ yX1_weight cX1_weight 2 (some .int)) ({ frames := 8, cells := 2, slots := 12, locals := 161 }) (va_Pc [.ref c, .int x] (wP E t M)) (va_Qi (fun (r : Int32) (u : mm) => (C1_weight t M c x).1 = 0 ∧ r = (C1_weight t M c x).2.1 ∧ u = (C1_weight t M c x).2.2) (fun u U => mw E t u U.heap) (eA E)) (vx_X (fun (u : mm) => ¬ (C1_weight t M c x).1 = 0 ∧ u = (C1_weight t M c x).2.2) (fun En q u U => XS E t (C1_weight t M c x).1 En q u U.heap) (eA E)) 2 12 (eA E) := by
  refine vx_ofW (cc := cX1_weight) (maxL := 2) (ret := (some .int)) (by decide) rfl ?_
  intro p e s m args below meth c0 s₁ B hml hno hv
  obtain ⟨rfl, hs, hm⟩ := hv
  have hx := B.exec
  have hb := B.bytes
  have hr := B.returns
  have hts := atoms_spec (ws := ws_ yX1_weight cX1_weight 2 (some .int)) B.pre
  have hts : ∀ w ∈ lw_all, w.before _ s = true := fun w h => hts w (List.mem_cons_of_mem _ h)
  have hown : s.vm.findClass RX1 = some m.cls := findClass_of_methodNamed B.named
  have hlocks := B.notSynchronized
  have hout : ∀ pc : Nat, ∀ x ∈ c0.exceptionTable.toList, covers x pc = false := fun _ x h => (hno x h).elim
  have hS : va_S (eA E) s.heap s.heap [] := va_S.rf
  have hl := lv_entry ([.ref c, .int x]) (n := 2) (Nat.le_of_ble_eq_true rfl)
  rw [lg_entry_eq]
  generalize (lg_sl ([.ref c, .int x]) ++ List.replicate (2 - (lg_sl ([.ref c, .int x])).length) Slot.unset).toArray = ls at hl ⊢
  have hl : lv_has ls 2 [(0, .ref (c)), (1, .int (x))] := hl
  refine lv_iload_n hx hb dX1_weight_0 rfl (lv_at hl 1 rfl) ?_
  refine k_calli (va_runS (As := [.int (x)]) (rest := []) ⟨hx, hb, hml, hown, hts⟩ (cm1_isPlot l E (x) _) (va_cwS 1 hts (lw_S q838 q839 q58 q840) rfl rfl rfl (by decide +kernel) ⟨Nat.le_of_ble_eq_true rfl, Nat.le_of_ble_eq_true rfl⟩) (k_pure hs hS) rfl rfl hl.1 rfl (lv_room (Nat.le_of_ble_eq_true rfl)) dX1_weight_1 ⟨Nat.le_of_ble_eq_true rfl, Nat.le_of_ble_eq_true rfl⟩) hS (fun r_1 u_1 H9 locs hw_1 hm_1 hS => ?_)
  replace hm_1 : _ = H9 := Eq.symm hm_1
  subst hm_1
  have hr_1 := hw_1
  refine kx_callv (BX := fun En q u H => XS E t 3 En q u H) (vx_runS (As := [.int (r_1)]) (rest := []) ⟨hx, hb, hml, hown, hts⟩ (cm1_checkIndex l E hl9 t M  (r_1) ) (va_cwS 1 hts (lw_S q841 q842 q58 q843) rfl rfl rfl (by decide +kernel) ⟨Nat.le_of_ble_eq_true rfl, Nat.le_of_ble_eq_true rfl⟩) (k_preS hs hm hS) rfl rfl hl.1 rfl (lv_room (Nat.le_of_ble_eq_true rfl)) dX1_weight_4 ⟨Nat.le_of_ble_eq_true rfl, Nat.le_of_ble_eq_true rfl⟩) hS (fun En_2 ce_2 q_2 u9_2 H locs hp_2 hB_2 hS h1_2 h2_2 h3_2 => ?_) (fun u_2 H locs hw_2 hm_2 hS => ?_)
  · obtain ⟨c_2, hu9_2⟩ := hp_2
    replace hu9_2 := hu9_2.symm
    subst hu9_2
    subst hr_1
    have e9 : C1_weight t M c x = _ := (if_pos c_2).trans (rfl)
    exact kx_out (BX := fun En q u H => XS E t (C1_weight t M c x).1 En q u H) (u := _) (fun x h => (hno x h).elim) hlocks (xs_leaf e9 (by decide) hB_2).1 (xs_leaf e9 (by decide) hB_2).2 hS h1_2 h2_2 h3_2 (Nat.le_of_ble_eq_true rfl) (Nat.le_of_ble_eq_true rfl)
  · obtain ⟨c_2, hu_2⟩ := hw_2
    replace hu_2 := hu_2.symm
    subst hu_2
    have hm := hm_2
    have hp1 : ix 12 x := cplot_ix (hr_1 ▸ c_2)
    refine lv_aload_n hx hb dX1_weight_7 rfl (lv_at hl 0 rfl) ?_
    refine lv_iload_n hx hb dX1_weight_8 rfl (lv_at hl 1 rfl) ?_
    refine kx_callq (BX := fun En q u H => XS E t (C1_cropOf t M (c) (x)).1 En q u H) (vx_runV (As := [.int (x)]) (rest := []) ⟨hx, hb, hml, hown, hts⟩ (cm1_cropOf l E hl9 t M  (c) (x) hA K S hw hp1) (cwV 1 hts (lw_V q1095 q1097 qs12 q58 q1098) rfl rfl rfl (by decide +kernel) ⟨Nat.le_of_ble_eq_true rfl, Nat.le_of_ble_eq_true rfl⟩) (k_preV hs hm hS (mw.recv hs hm (mt_ne hA.z (by decide)) (ct1 hA.z) rfl)) rfl rfl hl.1 rfl (lv_room (Nat.le_of_ble_eq_true rfl)) dX1_weight_9 ⟨Nat.le_of_ble_eq_true rfl, Nat.le_of_ble_eq_true rfl⟩) hS (fun En_3 ce_3 q_3 u9_3 H locs hp_3 hB_3 hS h1_3 h2_3 h3_3 => ?_) (fun r_3 u_3 H locs hw_3 hm_3 hS => ?_)
    · obtain ⟨c_3, hu9_3⟩ := hp_3
      replace hu9_3 := hu9_3.symm
      subst hu9_3
      subst hr_1
      have e9 : C1_weight t M c x = _ := (if_neg c_2).trans ((if_neg c_3).trans (rfl))
      exact kx_out (BX := fun En q u H => XS E t (C1_weight t M c x).1 En q u H) (u := _) (fun x h => (hno x h).elim) hlocks (xs_leaf e9 c_3 hB_3).1 (xs_leaf e9 c_3 hB_3).2 hS h1_3 h2_3 h3_3 (Nat.le_of_ble_eq_true rfl) (Nat.le_of_ble_eq_true rfl)
    · obtain ⟨c_3, hr_3, hu_3⟩ := hw_3
      have hm := hm_3
      refine k_nn (cropOf_ok c_3 hr_3).1 ?_
      refine gfN_301 hx hb hts hown hs hm (plO.get (by rw [(cropOf_ok c_3 hr_3).2]; exact hw.w1.cr hA.c1 _ (ix.nlt hp1)) (cropOf_ok c_3 hr_3).1) q136 dX1_weight_12 ?_
      refine k_calli (va_runS (As := [.float ((gF u_3 301 (r_3.getD 0)))]) (rest := []) ⟨hx, hb, hml, hown, hts⟩ (jm_J16_floatToIntBits l E ((gF u_3 301 (r_3.getD 0))) _) (va_cwS 1 hts (lw_S q930 q931 q87 q932) rfl rfl rfl (by decide +kernel) ⟨Nat.le_of_ble_eq_true rfl, Nat.le_of_ble_eq_true rfl⟩) (k_pure hs hS) rfl rfl hl.1 rfl (lv_room (Nat.le_of_ble_eq_true rfl)) dX1_weight_15 ⟨Nat.le_of_ble_eq_true rfl, Nat.le_of_ble_eq_true rfl⟩) hS (fun r_4 u_4 H9 locs hw_4 hm_4 hS => ?_)
      replace hm_4 : _ = H9 := Eq.symm hm_4
      subst hm_4
      have hr_4 := hw_4
      subst hr_4
      subst hu_3
      subst hr_3
      subst hr_1
      refine vx_ret ?_
      refine W.widen (k := 2) (n := 12) (Nat.le_of_ble_eq_true rfl) (Nat.le_of_ble_eq_true rfl) ?_
      exact W.iret (v := _) hx hb hr (fun t9 ht9 _ => ⟨⟨_, _, rfl, pp3 ((if_neg c_2).trans ((if_pos c_3).trans (rfl))), hb9 ht9 hm⟩, hS.F ht9⟩) hS.2.2 dX1_weight_18
def C1_heaviest (t : mt) (M : mm) (c : Nat) (x : Int32) : Int32 × Int32 × mm :=
  let r_1 := C1_isKind (x);
  let r_3 := C2_heaviest t M ((c + 1)) (x);
  if r_1 = 0 then
    ((1 : Int32), (0 : Int32), M)
  else
    let r_3 := C2_heaviest t M ((c + 1)) (x);
    if r_3 = (-1 : Int32) then
      if (0 : Int32) = 0 then
        ((4 : Int32), (0 : Int32), M)
      else
        ((0 : Int32), r_3, M)
    else
      if (1 : Int32) = 0 then
        ((4 : Int32), (0 : Int32), M)
      else
        ((0 : Int32), r_3, M)
set_option maxHeartbeats 4000000 in
theorem cm1_heaviest (l : Launch) (E : mE) (hl9 : l.stackTraces = false) (t : mt) (M : mm) (c : Nat) (x : Int32) (hA : layA t c) (K S : List Nat) (hw : wfA M c K S) : vx_Met l yX1_heaviest (ws_ yX1_heaviest cX1_heaviest 3 (some .int)) ({ frames := 7, cells := 2, slots := 12, locals := 140 }) (va_Pc [.ref c, .int x] (wP E t M)) (va_Qi (fun (r : Int32) (u : mm) => (C1_heaviest t M c x).1 = 0 ∧ r = (C1_heaviest t M c x).2.1 ∧ u = (C1_heaviest t M c x).2.2) (fun u U => mw E t u U.heap) (eA E)) (vx_X (fun (u : mm) => ¬ (C1_heaviest t M c x).1 = 0 ∧ u = (C1_heaviest t M c x).2.2) (fun En q u U => XS E t (C1_heaviest t M c x).1 En q u U.heap) (eA E)) 2 12 (eA E) := by
  refine vx_ofW (cc := cX1_heaviest) (maxL := 3) (ret := (some .int)) (by decide) rfl ?_
  intro p e s m args below meth c0 s₁ B hml hno hv
  obtain ⟨rfl, hs, hm⟩ := hv
  have hx := B.exec
  have hb := B.bytes
  have hr := B.returns
  have hts := atoms_spec (ws := ws_ yX1_heaviest cX1_heaviest 3 (some .int)) B.pre
  have hts : ∀ w ∈ lw_all, w.before _ s = true := fun w h => hts w (List.mem_cons_of_mem _ h)
  have hown : s.vm.findClass RX1 = some m.cls := findClass_of_methodNamed B.named
  have hlocks := B.notSynchronized
  have hout : ∀ pc : Nat, ∀ x ∈ c0.exceptionTable.toList, covers x pc = false := fun _ x h => (hno x h).elim
  have hS : va_S (eA E) s.heap s.heap [] := va_S.rf
  have hl := lv_entry ([.ref c, .int x]) (n := 3) (Nat.le_of_ble_eq_true rfl)
  rw [lg_entry_eq]
  generalize (lg_sl ([.ref c, .int x]) ++ List.replicate (3 - (lg_sl ([.ref c, .int x])).length) Slot.unset).toArray = ls at hl ⊢
  have hl : lv_has ls 3 [(0, .ref (c)), (1, .int (x))] := hl
  refine lv_iload_n hx hb dX1_heaviest_0 rfl (lv_at hl 1 rfl) ?_
  refine k_calli (va_runS (As := [.int (x)]) (rest := []) ⟨hx, hb, hml, hown, hts⟩ (cm1_isKind l E (x) _) (va_cwS 1 hts (lw_S q1004 q1005 q58 q1006) rfl rfl rfl (by decide +kernel) ⟨Nat.le_of_ble_eq_true rfl, Nat.le_of_ble_eq_true rfl⟩) (k_pure hs hS) rfl rfl hl.1 rfl (lv_room (Nat.le_of_ble_eq_true rfl)) dX1_heaviest_1 ⟨Nat.le_of_ble_eq_true rfl, Nat.le_of_ble_eq_true rfl⟩) hS (fun r_1 u_1 H9 locs hw_1 hm_1 hS => ?_)
  replace hm_1 : _ = H9 := Eq.symm hm_1
  subst hm_1
  have hr_1 := hw_1
  refine kx_callv (BX := fun En q u H => XS E t 1 En q u H) (vx_runS (As := [.int (r_1)]) (rest := []) ⟨hx, hb, hml, hown, hts⟩ (cm1_check l E hl9 t M  (r_1) ) (va_cwS 1 hts (lw_S q702 q703 q58 q704) rfl rfl rfl (by decide +kernel) ⟨Nat.le_of_ble_eq_true rfl, Nat.le_of_ble_eq_true rfl⟩) (k_preS hs hm hS) rfl rfl hl.1 rfl (lv_room (Nat.le_of_ble_eq_true rfl)) dX1_heaviest_4 ⟨Nat.le_of_ble_eq_true rfl, Nat.le_of_ble_eq_true rfl⟩) hS (fun En_2 ce_2 q_2 u9_2 H locs hp_2 hB_2 hS h1_2 h2_2 h3_2 => ?_) (fun u_2 H locs hw_2 hm_2 hS => ?_)
  · obtain ⟨c_2, hu9_2⟩ := hp_2
    replace hu9_2 := hu9_2.symm
    subst hu9_2
    subst hr_1
    have e9 : C1_heaviest t M c x = _ := (if_pos c_2).trans (rfl)
    exact kx_out (BX := fun En q u H => XS E t (C1_heaviest t M c x).1 En q u H) (u := _) (fun x h => (hno x h).elim) hlocks (xs_leaf e9 (by decide) hB_2).1 (xs_leaf e9 (by decide) hB_2).2 hS h1_2 h2_2 h3_2 (Nat.le_of_ble_eq_true rfl) (Nat.le_of_ble_eq_true rfl)
  · obtain ⟨c_2, hu_2⟩ := hw_2
    replace hu_2 := hu_2.symm
    subst hu_2
    have hm := hm_2
    refine lv_aload_n hx hb dX1_heaviest_7 rfl (lv_at hl 0 rfl) ?_
    refine gf_100 hx hb hts hown hs hm hA.z (hts _ q519) dX1_heaviest_8 ?_
    refine lv_iload_n hx hb dX1_heaviest_11 rfl (lv_at hl 1 rfl) ?_
    refine k_calli (va_runV (As := [.int (x)]) (rest := []) ⟨hx, hb, hml, hown, hts⟩ (cm2_heaviest l E t M  ((c + 1)) (x) hA.c1 (hw.w1.cr hA.c1)) (cwV 1 hts (lw_V q1113 q1114 q1115 q59 q1116) rfl rfl rfl (by decide +kernel) ⟨Nat.le_of_ble_eq_true rfl, Nat.le_of_ble_eq_true rfl⟩) (k_preV hs hm hS (mw.recv hs hm (mt_ne (lay.z hA.c1) (by decide)) (ct2 (lay.z hA.c1)) rfl)) rfl rfl hl.1 rfl (lv_room (Nat.le_of_ble_eq_true rfl)) dX1_heaviest_12 ⟨Nat.le_of_ble_eq_true rfl, Nat.le_of_ble_eq_true rfl⟩) hS (fun r_3 u_3 H locs hw_3 hm_3 hS => ?_)
    obtain ⟨hr_3, hu_3⟩ := hw_3
    replace hu_3 := hu_3.symm
    subst hu_3
    have hm := hm_3
    refine lv_istore_n (lv' := [(2, _), (0, _), (1, _)]) hx hb dX1_heaviest_15 rfl hl (by decide) rfl (fun ls hl => ?_)
    refine lv_iload_n hx hb dX1_heaviest_16 rfl (lv_at hl 0 rfl) ?_
    refine lv_iconst (v := (-1 : Int32)) hx hb dX1_heaviest_17 (by decide) ?_
    refine lv_icmp_eq (tgt := 25) hx hb dX1_heaviest_18 (by decide) (fun c_4 => ?_) (fun c_4 => ?_)
    · refine lv_iconst (v := (0 : Int32)) hx hb dX1_heaviest_25 (by decide) ?_
      refine kx_callv (BX := fun En q u H => XS E t 4 En q u H) (vx_runS (As := [.int ((0 : Int32))]) (rest := []) ⟨hx, hb, hml, hown, hts⟩ (cm1_checkElement l E hl9 t M  ((0 : Int32)) ) (va_cwS 1 hts (lw_S q1043 q1044 q58 q1045) rfl rfl rfl (by decide +kernel) ⟨Nat.le_of_ble_eq_true rfl, Nat.le_of_ble_eq_true rfl⟩) (k_preS hs hm hS) rfl rfl hl.1 rfl (lv_room (Nat.le_of_ble_eq_true rfl)) dX1_heaviest_26 ⟨Nat.le_of_ble_eq_true rfl, Nat.le_of_ble_eq_true rfl⟩) hS (fun En_5 ce_5 q_5 u9_5 H locs hp_5 hB_5 hS h1_5 h2_5 h3_5 => ?_) (fun u_5 H locs hw_5 hm_5 hS => ?_)
      · obtain ⟨c_5, hu9_5⟩ := hp_5
        replace hu9_5 := hu9_5.symm
        subst hu9_5
        subst hr_3
        subst hr_1
        have e9 : C1_heaviest t M c x = _ := (if_neg c_2).trans ((if_pos c_4).trans ((if_pos c_5).trans (rfl)))
        exact kx_out (BX := fun En q u H => XS E t (C1_heaviest t M c x).1 En q u H) (u := _) (fun x h => (hno x h).elim) hlocks (xs_leaf e9 (by decide) hB_5).1 (xs_leaf e9 (by decide) hB_5).2 hS h1_5 h2_5 h3_5 (Nat.le_of_ble_eq_true rfl) (Nat.le_of_ble_eq_true rfl)
      · obtain ⟨c_5, hu_5⟩ := hw_5
        replace hu_5 := hu_5.symm
        subst hu_5
        have hm := hm_5
        refine lv_iload_n hx hb dX1_heaviest_29 rfl (lv_at hl 0 rfl) ?_
        subst hr_3
        subst hr_1
        refine vx_ret ?_
        refine W.widen (k := 2) (n := 12) (Nat.le_of_ble_eq_true rfl) (Nat.le_of_ble_eq_true rfl) ?_
        exact W.iret (v := _) hx hb hr (fun t9 ht9 _ => ⟨⟨_, _, rfl, pp3 ((if_neg c_2).trans ((if_pos c_4).trans ((if_neg c_5).trans (rfl)))), hb9 ht9 hm⟩, hS.F ht9⟩) hS.2.2 dX1_heaviest_30
    · refine lv_iconst (v := (1 : Int32)) hx hb dX1_heaviest_21 (by decide) ?_
      refine lv_goto (tgt := 26) hx hb dX1_heaviest_22 (by decide) ?_
      refine kx_callv (BX := fun En q u H => XS E t 4 En q u H) (vx_runS (As := [.int ((1 : Int32))]) (rest := []) ⟨hx, hb, hml, hown, hts⟩ (cm1_checkElement l E hl9 t M  ((1 : Int32)) ) (va_cwS 1 hts (lw_S q1043 q1044 q58 q1045) rfl rfl rfl (by decide +kernel) ⟨Nat.le_of_ble_eq_true rfl, Nat.le_of_ble_eq_true rfl⟩) (k_preS hs hm hS) rfl rfl hl.1 rfl (lv_room (Nat.le_of_ble_eq_true rfl)) dX1_heaviest_26 ⟨Nat.le_of_ble_eq_true rfl, Nat.le_of_ble_eq_true rfl⟩) hS (fun En_6 ce_6 q_6 u9_6 H locs hp_6 hB_6 hS h1_6 h2_6 h3_6 => ?_) (fun u_6 H locs hw_6 hm_6 hS => ?_)
      · obtain ⟨c_6, hu9_6⟩ := hp_6
        replace hu9_6 := hu9_6.symm
        subst hu9_6
        subst hr_3
        subst hr_1
        have e9 : C1_heaviest t M c x = _ := (if_neg c_2).trans ((if_neg c_4).trans ((if_pos c_6).trans (rfl)))
        exact kx_out (BX := fun En q u H => XS E t (C1_heaviest t M c x).1 En q u H) (u := _) (fun x h => (hno x h).elim) hlocks (xs_leaf e9 (by decide) hB_6).1 (xs_leaf e9 (by decide) hB_6).2 hS h1_6 h2_6 h3_6 (Nat.le_of_ble_eq_true rfl) (Nat.le_of_ble_eq_true rfl)
      · obtain ⟨c_6, hu_6⟩ := hw_6
        replace hu_6 := hu_6.symm
        subst hu_6
        have hm := hm_6
        refine lv_iload_n hx hb dX1_heaviest_29 rfl (lv_at hl 0 rfl) ?_
        subst hr_3
        subst hr_1
        refine vx_ret ?_
        refine W.widen (k := 2) (n := 12) (Nat.le_of_ble_eq_true rfl) (Nat.le_of_ble_eq_true rfl) ?_
        exact W.iret (v := _) hx hb hr (fun t9 ht9 _ => ⟨⟨_, _, rfl, pp3 ((if_neg c_2).trans ((if_neg c_4).trans ((if_neg c_6).trans (rfl)))), hb9 ht9 hm⟩, hS.F ht9⟩) hS.2.2 dX1_heaviest_30
def C1_prize (t : mt) (M : mm) (c : Nat) (x : Int32) (y : Int32) : Int32 × Int32 × mm :=
  let r_1 := C1_in (x) ((0 : Int32)) (((gI M 213 (c + 1)) - (1 : Int32)));
  let r_3 := C1_in (y) ((0 : Int32)) ((3 : Int32));
  if r_1 = 0 then
    ((4 : Int32), (0 : Int32), M)
  else
    let r_3 := C1_in (y) ((0 : Int32)) ((3 : Int32));
    if r_3 = 0 then
      ((1 : Int32), (0 : Int32), M)
    else
      if y = 0 then
        ((0 : Int32), (gI M 700 ((aR M ((c + 1) + 11) (x).toNatClampNeg).getD 0)), M)
      else
        if y = (1 : Int32) then
          ((0 : Int32), (gI M 701 ((aR M ((c + 1) + 11) (x).toNatClampNeg).getD 0)), M)
        else
          if y = (2 : Int32) then
            let r_8 := T_fbits ((gF M 702 ((aR M ((c + 1) + 11) (x).toNatClampNeg).getD 0)));
            ((0 : Int32), r_8, M)
          else
            ((0 : Int32), (gI M 703 ((aR M ((c + 1) + 11) (x).toNatClampNeg).getD 0)), M)
set_option maxHeartbeats 4000000 in
theorem cm1_prize (l : Launch) (E : mE) (hl9 : l.stackTraces = false) (t : mt) (M : mm) (c : Nat) (x : Int32) (y : Int32) (hA : layA t c) (K S : List Nat) (hw : wfA M c K S) : vx_Met l yX1_prize (ws_ yX1_prize cX1_prize 4 (some .int)) ({ frames := 7, cells := 2, slots := 12, locals := 140 }) (va_Pc [.ref c, .int x, .int y] (wP E t M)) (va_Qi (fun (r : Int32) (u : mm) => (C1_prize t M c x y).1 = 0 ∧ r = (C1_prize t M c x y).2.1 ∧ u = (C1_prize t M c x y).2.2) (fun u U => mw E t u U.heap) (eA E)) (vx_X (fun (u : mm) => ¬ (C1_prize t M c x y).1 = 0 ∧ u = (C1_prize t M c x y).2.2) (fun En q u U => XS E t (C1_prize t M c x y).1 En q u U.heap) (eA E)) 2 12 (eA E) := by
  refine vx_ofW (cc := cX1_prize) (maxL := 4) (ret := (some .int)) (by decide) rfl ?_
  intro p e s m args below meth c0 s₁ B hml hno hv
  obtain ⟨rfl, hs, hm⟩ := hv
  have hx := B.exec
  have hb := B.bytes
  have hr := B.returns
  have hts := atoms_spec (ws := ws_ yX1_prize cX1_prize 4 (some .int)) B.pre
  have hts : ∀ w ∈ lw_all, w.before _ s = true := fun w h => hts w (List.mem_cons_of_mem _ h)
  have hown : s.vm.findClass RX1 = some m.cls := findClass_of_methodNamed B.named
  have hlocks := B.notSynchronized
  have hout : ∀ pc : Nat, ∀ x ∈ c0.exceptionTable.toList, covers x pc = false := fun _ x h => (hno x h).elim
  have hS : va_S (eA E) s.heap s.heap [] := va_S.rf
  have hl := lv_entry ([.ref c, .int x, .int y]) (n := 4) (Nat.le_of_ble_eq_true rfl)
  rw [lg_entry_eq]
  generalize (lg_sl ([.ref c, .int x, .int y]) ++ List.replicate (4 - (lg_sl ([.ref c, .int x, .int y])).length) Slot.unset).toArray = ls at hl ⊢
  have hl : lv_has ls 4 [(0, .ref (c)), (1, .int (x)), (2, .int (y))] := hl
  refine lv_iload_n hx hb dX1_prize_0 rfl (lv_at hl 1 rfl) ?_
  refine lv_iconst (v := (0 : Int32)) hx hb dX1_prize_1 (by decide) ?_
  refine lv_aload_n hx hb dX1_prize_2 rfl (lv_at hl 0 rfl) ?_
  refine gf_100 hx hb hts hown hs hm hA.z (hts _ q519) dX1_prize_3 ?_
  refine gfN_213 hx hb hts hown hs hm (lay.z hA.c1) q250 dX1_prize_6 ?_
  refine lv_iconst (v := (1 : Int32)) hx hb dX1_prize_9 (by decide) ?_
  refine lv_isub hx hb dX1_prize_10 ?_
  refine k_calli (va_runS (As := [.int (x), .int ((0 : Int32)), .int (((gI M 213 (c + 1)) - (1 : Int32)))]) (rest := []) ⟨hx, hb, hml, hown, hts⟩ (cm1_in l E (x) ((0 : Int32)) (((gI M 213 (c + 1)) - (1 : Int32))) _) (va_cwS 3 hts (lw_S q699 q700 q58 q701) rfl rfl rfl (by decide +kernel) ⟨Nat.le_of_ble_eq_true rfl, Nat.le_of_ble_eq_true rfl⟩) (k_pure hs hS) rfl rfl hl.1 rfl (lv_room (Nat.le_of_ble_eq_true rfl)) dX1_prize_11 ⟨Nat.le_of_ble_eq_true rfl, Nat.le_of_ble_eq_true rfl⟩) hS (fun r_1 u_1 H9 locs hw_1 hm_1 hS => ?_)
  replace hm_1 : _ = H9 := Eq.symm hm_1
  subst hm_1
  have hr_1 := hw_1
  refine kx_callv (BX := fun En q u H => XS E t 4 En q u H) (vx_runS (As := [.int (r_1)]) (rest := []) ⟨hx, hb, hml, hown, hts⟩ (cm1_checkElement l E hl9 t M  (r_1) ) (va_cwS 1 hts (lw_S q1043 q1044 q58 q1045) rfl rfl rfl (by decide +kernel) ⟨Nat.le_of_ble_eq_true rfl, Nat.le_of_ble_eq_true rfl⟩) (k_preS hs hm hS) rfl rfl hl.1 rfl (lv_room (Nat.le_of_ble_eq_true rfl)) dX1_prize_14 ⟨Nat.le_of_ble_eq_true rfl, Nat.le_of_ble_eq_true rfl⟩) hS (fun En_2 ce_2 q_2 u9_2 H locs hp_2 hB_2 hS h1_2 h2_2 h3_2 => ?_) (fun u_2 H locs hw_2 hm_2 hS => ?_)
  · obtain ⟨c_2, hu9_2⟩ := hp_2
    replace hu9_2 := hu9_2.symm
    subst hu9_2
    subst hr_1
    have e9 : C1_prize t M c x y = _ := (if_pos c_2).trans (rfl)
    exact kx_out (BX := fun En q u H => XS E t (C1_prize t M c x y).1 En q u H) (u := _) (fun x h => (hno x h).elim) hlocks (xs_leaf e9 (by decide) hB_2).1 (xs_leaf e9 (by decide) hB_2).2 hS h1_2 h2_2 h3_2 (Nat.le_of_ble_eq_true rfl) (Nat.le_of_ble_eq_true rfl)
  · obtain ⟨c_2, hu_2⟩ := hw_2
    replace hu_2 := hu_2.symm
    subst hu_2
    have hm := hm_2
    have hp1 := cprz_ix hw.w1.n3 (hr_1 ▸ c_2)
    refine lv_iload_n hx hb dX1_prize_17 rfl (lv_at hl 2 rfl) ?_
    refine lv_iconst (v := (0 : Int32)) hx hb dX1_prize_18 (by decide) ?_
    refine lv_iconst (v := (3 : Int32)) hx hb dX1_prize_19 (by decide) ?_
    refine k_calli (va_runS (As := [.int (y), .int ((0 : Int32)), .int ((3 : Int32))]) (rest := []) ⟨hx, hb, hml, hown, hts⟩ (cm1_in l E (y) ((0 : Int32)) ((3 : Int32)) _) (va_cwS 3 hts (lw_S q699 q700 q58 q701) rfl rfl rfl (by decide +kernel) ⟨Nat.le_of_ble_eq_true rfl, Nat.le_of_ble_eq_true rfl⟩) (k_pure hs hS) rfl rfl hl.1 rfl (lv_room (Nat.le_of_ble_eq_true rfl)) dX1_prize_20 ⟨Nat.le_of_ble_eq_true rfl, Nat.le_of_ble_eq_true rfl⟩) hS (fun r_3 u_3 H9 locs hw_3 hm_3 hS => ?_)
    replace hm_3 : _ = H9 := Eq.symm hm_3
    subst hm_3
    have hr_3 := hw_3
    refine kx_callv (BX := fun En q u H => XS E t 1 En q u H) (vx_runS (As := [.int (r_3)]) (rest := []) ⟨hx, hb, hml, hown, hts⟩ (cm1_check l E hl9 t M  (r_3) ) (va_cwS 1 hts (lw_S q702 q703 q58 q704) rfl rfl rfl (by decide +kernel) ⟨Nat.le_of_ble_eq_true rfl, Nat.le_of_ble_eq_true rfl⟩) (k_preS hs hm hS) rfl rfl hl.1 rfl (lv_room (Nat.le_of_ble_eq_true rfl)) dX1_prize_23 ⟨Nat.le_of_ble_eq_true rfl, Nat.le_of_ble_eq_true rfl⟩) hS (fun En_4 ce_4 q_4 u9_4 H locs hp_4 hB_4 hS h1_4 h2_4 h3_4 => ?_) (fun u_4 H locs hw_4 hm_4 hS => ?_)
    · obtain ⟨c_4, hu9_4⟩ := hp_4
      replace hu9_4 := hu9_4.symm
      subst hu9_4
      subst hr_3
      subst hr_1
      have e9 : C1_prize t M c x y = _ := (if_neg c_2).trans ((if_pos c_4).trans (rfl))
      exact kx_out (BX := fun En q u H => XS E t (C1_prize t M c x y).1 En q u H) (u := _) (fun x h => (hno x h).elim) hlocks (xs_leaf e9 (by decide) hB_4).1 (xs_leaf e9 (by decide) hB_4).2 hS h1_4 h2_4 h3_4 (Nat.le_of_ble_eq_true rfl) (Nat.le_of_ble_eq_true rfl)
    · obtain ⟨c_4, hu_4⟩ := hw_4
      replace hu_4 := hu_4.symm
      subst hu_4
      have hm := hm_4
      refine lv_aload_n hx hb dX1_prize_26 rfl (lv_at hl 0 rfl) ?_
      refine gf_100 hx hb hts hown hs hm hA.z (hts _ q519) dX1_prize_27 ?_
      refine gfN_210 hx hb hts hown hs hm (lay.z hA.c1) q244 dX1_prize_30 ?_
      refine lv_iload_n hx hb dX1_prize_33 rfl (lv_at hl 1 rfl) ?_
      refine k_aald29 hx hb hs hm (lay.a11 hA.c1) (ix.at (B := 6) ((hp1).mono (by decide)) (by decide)) dX1_prize_34 ?_
      refine k_nn (przO.nn (hw.w1.pz hA.c1 _ (ix.nlt (hp1.mono (by decide))))) ?_
      refine lv_astore_n (lv' := [(3, _), (0, _), (1, _), (2, _)]) hx hb dX1_prize_35 rfl hl (by decide) rfl (fun ls hl => ?_)
      refine lv_iload_n hx hb dX1_prize_36 rfl (lv_at hl 3 rfl) ?_
      refine lv_if_ne (tgt := 47) hx hb dX1_prize_37 (by decide) (fun c_5 => ?_) (fun c_5 => ?_)
      · refine lv_iload_n hx hb dX1_prize_47 rfl (lv_at hl 3 rfl) ?_
        refine lv_iconst (v := (1 : Int32)) hx hb dX1_prize_48 (by decide) ?_
        refine lv_icmp_ne (tgt := 59) hx hb dX1_prize_49 (by decide) (fun c_6 => ?_) (fun c_6 => ?_)
        · refine lv_iload_n hx hb dX1_prize_59 rfl (lv_at hl 3 rfl) ?_
          refine lv_iconst (v := (2 : Int32)) hx hb dX1_prize_60 (by decide) ?_
          refine lv_icmp_ne (tgt := 74) hx hb dX1_prize_61 (by decide) (fun c_7 => ?_) (fun c_7 => ?_)
          · refine lv_aload_n hx hb dX1_prize_74 rfl (lv_at hl 0 rfl) ?_
            refine gfN_703 hx hb hts hown hs hm (przO.k (hw.w1.pz hA.c1 _ (ix.nlt (hp1.mono (by decide))))) q217 dX1_prize_75 ?_
            subst hr_3
            subst hr_1
            refine vx_ret ?_
            refine W.widen (k := 2) (n := 12) (Nat.le_of_ble_eq_true rfl) (Nat.le_of_ble_eq_true rfl) ?_
            exact W.iret (v := _) hx hb hr (fun t9 ht9 _ => ⟨⟨_, _, rfl, pp3 ((if_neg c_2).trans ((if_neg c_4).trans ((if_neg c_5).trans ((if_neg c_6).trans ((if_neg c_7).trans (rfl)))))), hb9 ht9 hm⟩, hS.F ht9⟩) hS.2.2 dX1_prize_78
          · refine lv_aload_n hx hb dX1_prize_64 rfl (lv_at hl 0 rfl) ?_
            refine gfN_702 hx hb hts hown hs hm (przO.k (hw.w1.pz hA.c1 _ (ix.nlt (hp1.mono (by decide))))) q215 dX1_prize_65 ?_
            refine k_calli (va_runS (As := [.float ((gF M 702 ((aR M ((c + 1) + 11) (x).toNatClampNeg).getD 0)))]) (rest := []) ⟨hx, hb, hml, hown, hts⟩ (jm_J16_floatToIntBits l E ((gF M 702 ((aR M ((c + 1) + 11) (x).toNatClampNeg).getD 0))) _) (va_cwS 1 hts (lw_S q930 q931 q87 q932) rfl rfl rfl (by decide +kernel) ⟨Nat.le_of_ble_eq_true rfl, Nat.le_of_ble_eq_true rfl⟩) (k_pure hs hS) rfl rfl hl.1 rfl (lv_room (Nat.le_of_ble_eq_true rfl)) dX1_prize_68 ⟨Nat.le_of_ble_eq_true rfl, Nat.le_of_ble_eq_true rfl⟩) hS (fun r_8 u_8 H9 locs hw_8 hm_8 hS => ?_)
            replace hm_8 : _ = H9 := Eq.symm hm_8
            subst hm_8
            have hr_8 := hw_8
            refine lv_goto (tgt := 78) hx hb dX1_prize_71 (by decide) ?_
            subst hr_8
            subst hr_3
            subst hr_1
            refine vx_ret ?_
            refine W.widen (k := 2) (n := 12) (Nat.le_of_ble_eq_true rfl) (Nat.le_of_ble_eq_true rfl) ?_
            exact W.iret (v := _) hx hb hr (fun t9 ht9 _ => ⟨⟨_, _, rfl, pp3 ((if_neg c_2).trans ((if_neg c_4).trans ((if_neg c_5).trans ((if_neg c_6).trans ((if_pos c_7).trans (rfl)))))), hb9 ht9 hm⟩, hS.F ht9⟩) hS.2.2 dX1_prize_78
        · refine lv_aload_n hx hb dX1_prize_52 rfl (lv_at hl 0 rfl) ?_
          refine gfN_701 hx hb hts hown hs hm (przO.k (hw.w1.pz hA.c1 _ (ix.nlt (hp1.mono (by decide))))) q212 dX1_prize_53 ?_
          refine lv_goto (tgt := 78) hx hb dX1_prize_56 (by decide) ?_
          subst hr_3
          subst hr_1
          refine vx_ret ?_
          refine W.widen (k := 2) (n := 12) (Nat.le_of_ble_eq_true rfl) (Nat.le_of_ble_eq_true rfl) ?_
          exact W.iret (v := _) hx hb hr (fun t9 ht9 _ => ⟨⟨_, _, rfl, pp3 ((if_neg c_2).trans ((if_neg c_4).trans ((if_neg c_5).trans ((if_pos c_6).trans (rfl))))), hb9 ht9 hm⟩, hS.F ht9⟩) hS.2.2 dX1_prize_78
      · refine lv_aload_n hx hb dX1_prize_40 rfl (lv_at hl 0 rfl) ?_
        refine gfN_700 hx hb hts hown hs hm (przO.k (hw.w1.pz hA.c1 _ (ix.nlt (hp1.mono (by decide))))) q210 dX1_prize_41 ?_
        refine lv_goto (tgt := 78) hx hb dX1_prize_44 (by decide) ?_
        subst hr_3
        subst hr_1
        refine vx_ret ?_
        refine W.widen (k := 2) (n := 12) (Nat.le_of_ble_eq_true rfl) (Nat.le_of_ble_eq_true rfl) ?_
        exact W.iret (v := _) hx hb hr (fun t9 ht9 _ => ⟨⟨_, _, rfl, pp3 ((if_neg c_2).trans ((if_neg c_4).trans ((if_pos c_5).trans (rfl)))), hb9 ht9 hm⟩, hS.F ht9⟩) hS.2.2 dX1_prize_78
def C1_shedOf (t : mt) (M : mm) (c : Nat) (x : Int32) (y : Int32) : Int32 × Int32 × mm :=
  let r_1 := C2_isShed t M ((c + 1)) (x);
  let r_3 := C1_in (y) ((0 : Int32)) ((3 : Int32));
  if r_1 = 0 then
    ((3 : Int32), (0 : Int32), M)
  else
    let r_3 := C1_in (y) ((0 : Int32)) ((3 : Int32));
    if r_3 = 0 then
      ((1 : Int32), (0 : Int32), M)
    else
      if y = (0 : Int32) then
        ((0 : Int32), (gI M 600 ((c + 1) + 54 + (x).toNatClampNeg)), M)
      else
        if y = (1 : Int32) then
          ((0 : Int32), (gI M 601 ((c + 1) + 54 + (x).toNatClampNeg)), M)
        else
          if y = (2 : Int32) then
            if (gI M 602 ((c + 1) + 54 + (x).toNatClampNeg)) = 0 then
              ((0 : Int32), (0 : Int32), M)
            else
              ((0 : Int32), (1 : Int32), M)
          else
            let r_9 := C2_leastWind t M ((c + 1)) (x);
            ((0 : Int32), r_9, M)
set_option maxHeartbeats 4000000 in
theorem cm1_shedOf (l : Launch) (E : mE) (hl9 : l.stackTraces = false) (t : mt) (M : mm) (c : Nat) (x : Int32) (y : Int32) (hA : layA t c) (K S : List Nat) (hw : wfA M c K S) : vx_Met l yX1_shedOf (ws_ yX1_shedOf cX1_shedOf 4 (some .int)) ({ frames := 7, cells := 2, slots := 12, locals := 140 }) (va_Pc [.ref c, .int x, .int y] (wP E t M)) (va_Qi (fun (r : Int32) (u : mm) => (C1_shedOf t M c x y).1 = 0 ∧ r = (C1_shedOf t M c x y).2.1 ∧ u = (C1_shedOf t M c x y).2.2) (fun u U => mw E t u U.heap) (eA E)) (vx_X (fun (u : mm) => ¬ (C1_shedOf t M c x y).1 = 0 ∧ u = (C1_shedOf t M c x y).2.2) (fun En q u U => XS E t (C1_shedOf t M c x y).1 En q u U.heap) (eA E)) 2 12 (eA E) := by
  refine vx_ofW (cc := cX1_shedOf) (maxL := 4) (ret := (some .int)) (by decide) rfl ?_
  intro p e s m args below meth c0 s₁ B hml hno hv
  obtain ⟨rfl, hs, hm⟩ := hv
  have hx := B.exec
  have hb := B.bytes
  have hr := B.returns
  have hts := atoms_spec (ws := ws_ yX1_shedOf cX1_shedOf 4 (some .int)) B.pre
  have hts : ∀ w ∈ lw_all, w.before _ s = true := fun w h => hts w (List.mem_cons_of_mem _ h)
  have hown : s.vm.findClass RX1 = some m.cls := findClass_of_methodNamed B.named
  have hlocks := B.notSynchronized
  have hout : ∀ pc : Nat, ∀ x ∈ c0.exceptionTable.toList, covers x pc = false := fun _ x h => (hno x h).elim
  have hS : va_S (eA E) s.heap s.heap [] := va_S.rf
  have hl := lv_entry ([.ref c, .int x, .int y]) (n := 4) (Nat.le_of_ble_eq_true rfl)
  rw [lg_entry_eq]
  generalize (lg_sl ([.ref c, .int x, .int y]) ++ List.replicate (4 - (lg_sl ([.ref c, .int x, .int y])).length) Slot.unset).toArray = ls at hl ⊢
  have hl : lv_has ls 4 [(0, .ref (c)), (1, .int (x)), (2, .int (y))] := hl
  refine lv_aload_n hx hb dX1_shedOf_0 rfl (lv_at hl 0 rfl) ?_
  refine gf_100 hx hb hts hown hs hm hA.z (hts _ q519) dX1_shedOf_1 ?_
  refine lv_iload_n hx hb dX1_shedOf_4 rfl (lv_at hl 1 rfl) ?_
  refine k_calli (va_runV (As := [.int (x)]) (rest := []) ⟨hx, hb, hml, hown, hts⟩ (cm2_isShed l E t M  ((c + 1)) (x) hA.c1 ) (cwV 1 hts (lw_V q1163 q1164 q1165 q59 q1166) rfl rfl rfl (by decide +kernel) ⟨Nat.le_of_ble_eq_true rfl, Nat.le_of_ble_eq_true rfl⟩) (k_preV hs hm hS (mw.recv hs hm (mt_ne (lay.z hA.c1) (by decide)) (ct2 (lay.z hA.c1)) rfl)) rfl rfl hl.1 rfl (lv_room (Nat.le_of_ble_eq_true rfl)) dX1_shedOf_5 ⟨Nat.le_of_ble_eq_true rfl, Nat.le_of_ble_eq_true rfl⟩) hS (fun r_1 u_1 H locs hw_1 hm_1 hS => ?_)
  obtain ⟨hr_1, hu_1⟩ := hw_1
  replace hu_1 := hu_1.symm
  subst hu_1
  have hm := hm_1
  refine kx_callv (BX := fun En q u H => XS E t 3 En q u H) (vx_runS (As := [.int (r_1)]) (rest := []) ⟨hx, hb, hml, hown, hts⟩ (cm1_checkIndex l E hl9 t M  (r_1) ) (va_cwS 1 hts (lw_S q841 q842 q58 q843) rfl rfl rfl (by decide +kernel) ⟨Nat.le_of_ble_eq_true rfl, Nat.le_of_ble_eq_true rfl⟩) (k_preS hs hm hS) rfl rfl hl.1 rfl (lv_room (Nat.le_of_ble_eq_true rfl)) dX1_shedOf_8 ⟨Nat.le_of_ble_eq_true rfl, Nat.le_of_ble_eq_true rfl⟩) hS (fun En_2 ce_2 q_2 u9_2 H locs hp_2 hB_2 hS h1_2 h2_2 h3_2 => ?_) (fun u_2 H locs hw_2 hm_2 hS => ?_)
  · obtain ⟨c_2, hu9_2⟩ := hp_2
    replace hu9_2 := hu9_2.symm
    subst hu9_2
    subst hr_1
    have e9 : C1_shedOf t M c x y = _ := (if_pos c_2).trans (rfl)
    exact kx_out (BX := fun En q u H => XS E t (C1_shedOf t M c x y).1 En q u H) (u := _) (fun x h => (hno x h).elim) hlocks (xs_leaf e9 (by decide) hB_2).1 (xs_leaf e9 (by decide) hB_2).2 hS h1_2 h2_2 h3_2 (Nat.le_of_ble_eq_true rfl) (Nat.le_of_ble_eq_true rfl)
  · obtain ⟨c_2, hu_2⟩ := hw_2
    replace hu_2 := hu_2.symm
    subst hu_2
    have hm := hm_2
    have hp1 := cshd_ix hw.w1.n2 (hr_1 ▸ c_2)
    refine lv_iload_n hx hb dX1_shedOf_11 rfl (lv_at hl 2 rfl) ?_
    refine lv_iconst (v := (0 : Int32)) hx hb dX1_shedOf_12 (by decide) ?_
    refine lv_iconst (v := (3 : Int32)) hx hb dX1_shedOf_13 (by decide) ?_
    refine k_calli (va_runS (As := [.int (y), .int ((0 : Int32)), .int ((3 : Int32))]) (rest := []) ⟨hx, hb, hml, hown, hts⟩ (cm1_in l E (y) ((0 : Int32)) ((3 : Int32)) _) (va_cwS 3 hts (lw_S q699 q700 q58 q701) rfl rfl rfl (by decide +kernel) ⟨Nat.le_of_ble_eq_true rfl, Nat.le_of_ble_eq_true rfl⟩) (k_pure hs hS) rfl rfl hl.1 rfl (lv_room (Nat.le_of_ble_eq_true rfl)) dX1_shedOf_14 ⟨Nat.le_of_ble_eq_true rfl, Nat.le_of_ble_eq_true rfl⟩) hS (fun r_3 u_3 H9 locs hw_3 hm_3 hS => ?_)
    replace hm_3 : _ = H9 := Eq.symm hm_3
    subst hm_3
    have hr_3 := hw_3
    refine kx_callv (BX := fun En q u H => XS E t 1 En q u H) (vx_runS (As := [.int (r_3)]) (rest := []) ⟨hx, hb, hml, hown, hts⟩ (cm1_check l E hl9 t M  (r_3) ) (va_cwS 1 hts (lw_S q702 q703 q58 q704) rfl rfl rfl (by decide +kernel) ⟨Nat.le_of_ble_eq_true rfl, Nat.le_of_ble_eq_true rfl⟩) (k_preS hs hm hS) rfl rfl hl.1 rfl (lv_room (Nat.le_of_ble_eq_true rfl)) dX1_shedOf_17 ⟨Nat.le_of_ble_eq_true rfl, Nat.le_of_ble_eq_true rfl⟩) hS (fun En_4 ce_4 q_4 u9_4 H locs hp_4 hB_4 hS h1_4 h2_4 h3_4 => ?_) (fun u_4 H locs hw_4 hm_4 hS => ?_)
    · obtain ⟨c_4, hu9_4⟩ := hp_4
      replace hu9_4 := hu9_4.symm
      subst hu9_4
      subst hr_3
      subst hr_1
      have e9 : C1_shedOf t M c x y = _ := (if_neg c_2).trans ((if_pos c_4).trans (rfl))
      exact kx_out (BX := fun En q u H => XS E t (C1_shedOf t M c x y).1 En q u H) (u := _) (fun x h => (hno x h).elim) hlocks (xs_leaf e9 (by decide) hB_4).1 (xs_leaf e9 (by decide) hB_4).2 hS h1_4 h2_4 h3_4 (Nat.le_of_ble_eq_true rfl) (Nat.le_of_ble_eq_true rfl)
    · obtain ⟨c_4, hu_4⟩ := hw_4
      replace hu_4 := hu_4.symm
      subst hu_4
      have hm := hm_4
      refine lv_aload_n hx hb dX1_shedOf_20 rfl (lv_at hl 0 rfl) ?_
      refine gf_100 hx hb hts hown hs hm hA.z (hts _ q519) dX1_shedOf_21 ?_
      refine gfN_209 hx hb hts hown hs hm (lay.z hA.c1) q242 dX1_shedOf_24 ?_
      refine lv_iload_n hx hb dX1_shedOf_27 rfl (lv_at hl 1 rfl) ?_
      refine k_shd hx hb hs hm (lay.a10 hA.c1) (k := (x).toNatClampNeg) rfl (ix.at (B := 4) ((hp1.1).mono (by decide)) (by decide)) dX1_shedOf_28 ?_
      refine lv_astore_n (lv' := [(3, _), (0, _), (1, _), (2, _)]) hx hb dX1_shedOf_29 rfl hl (by decide) rfl (fun ls hl => ?_)
      refine lv_iload_n hx hb dX1_shedOf_30 rfl (lv_at hl 3 rfl) ?_
      by_cases c_5 : y = (0 : Int32)
      · refine lv_tableIn (off := 25) (tgt := 56) hx hb dX1_shedOf_31 (by rw [c_5]; decide) (by rw [c_5]; decide) (by rw [c_5]; rfl) (by decide) ?_
        refine lv_aload_n hx hb dX1_shedOf_56 rfl (lv_at hl 0 rfl) ?_
        refine gfN_600 hx hb hts hown hs hm (lay.shd hA.c1 (ix.nlt ((hp1.1).mono (by decide)))) q185 dX1_shedOf_57 ?_
        subst hr_3
        subst hr_1
        refine vx_ret ?_
        refine W.widen (k := 2) (n := 12) (Nat.le_of_ble_eq_true rfl) (Nat.le_of_ble_eq_true rfl) ?_
        exact W.iret (v := _) hx hb hr (fun t9 ht9 _ => ⟨⟨_, _, rfl, pp3 ((if_neg c_2).trans ((if_neg c_4).trans ((if_pos c_5).trans (rfl)))), hb9 ht9 hm⟩, hS.F ht9⟩) hS.2.2 dX1_shedOf_60
      · by_cases c_6 : y = (1 : Int32)
        · refine lv_tableIn (off := 30) (tgt := 61) hx hb dX1_shedOf_31 (by rw [c_6]; decide) (by rw [c_6]; decide) (by rw [c_6]; rfl) (by decide) ?_
          refine lv_aload_n hx hb dX1_shedOf_61 rfl (lv_at hl 0 rfl) ?_
          refine gfN_601 hx hb hts hown hs hm (lay.shd hA.c1 (ix.nlt ((hp1.1).mono (by decide)))) q188 dX1_shedOf_62 ?_
          subst hr_3
          subst hr_1
          refine vx_ret ?_
          refine W.widen (k := 2) (n := 12) (Nat.le_of_ble_eq_true rfl) (Nat.le_of_ble_eq_true rfl) ?_
          exact W.iret (v := _) hx hb hr (fun t9 ht9 _ => ⟨⟨_, _, rfl, pp3 ((if_neg c_2).trans ((if_neg c_4).trans ((if_neg c_5).trans ((if_pos c_6).trans (rfl))))), hb9 ht9 hm⟩, hS.F ht9⟩) hS.2.2 dX1_shedOf_65
        · by_cases c_7 : y = (2 : Int32)
          · refine lv_tableIn (off := 35) (tgt := 66) hx hb dX1_shedOf_31 (by rw [c_7]; decide) (by rw [c_7]; decide) (by rw [c_7]; rfl) (by decide) ?_
            refine lv_aload_n hx hb dX1_shedOf_66 rfl (lv_at hl 0 rfl) ?_
            refine gfN_602 hx hb hts hown hs hm (lay.shd hA.c1 (ix.nlt ((hp1.1).mono (by decide)))) q191 dX1_shedOf_67 ?_
            refine lv_if_eq (tgt := 77) hx hb dX1_shedOf_70 (by decide) (fun c_8 => ?_) (fun c_8 => ?_)
            · refine lv_iconst (v := (0 : Int32)) hx hb dX1_shedOf_77 (by decide) ?_
              subst hr_3
              subst hr_1
              refine vx_ret ?_
              refine W.widen (k := 2) (n := 12) (Nat.le_of_ble_eq_true rfl) (Nat.le_of_ble_eq_true rfl) ?_
              exact W.iret (v := _) hx hb hr (fun t9 ht9 _ => ⟨⟨_, _, rfl, pp3 ((if_neg c_2).trans ((if_neg c_4).trans ((if_neg c_5).trans ((if_neg c_6).trans ((if_pos c_7).trans ((if_pos c_8).trans (rfl))))))), hb9 ht9 hm⟩, hS.F ht9⟩) hS.2.2 dX1_shedOf_78
            · refine lv_iconst (v := (1 : Int32)) hx hb dX1_shedOf_73 (by decide) ?_
              refine lv_goto (tgt := 78) hx hb dX1_shedOf_74 (by decide) ?_
              subst hr_3
              subst hr_1
              refine vx_ret ?_
              refine W.widen (k := 2) (n := 12) (Nat.le_of_ble_eq_true rfl) (Nat.le_of_ble_eq_true rfl) ?_
              exact W.iret (v := _) hx hb hr (fun t9 ht9 _ => ⟨⟨_, _, rfl, pp3 ((if_neg c_2).trans ((if_neg c_4).trans ((if_neg c_5).trans ((if_neg c_6).trans ((if_pos c_7).trans ((if_neg c_8).trans (rfl))))))), hb9 ht9 hm⟩, hS.F ht9⟩) hS.2.2 dX1_shedOf_78
          · refine lv_tableOut (tgt := 79) hx hb dX1_shedOf_31 (sw_out _ 3 (by decide) (k_sw3 c_5 c_6 c_7) rfl) (by decide) ?_
            refine lv_aload_n hx hb dX1_shedOf_79 rfl (lv_at hl 1 rfl) ?_
            refine gf_100 hx hb hts hown hs hm hA.z (hts _ q519) dX1_shedOf_80 ?_
            refine lv_iload_n hx hb dX1_shedOf_83 rfl (lv_at hl 2 rfl) ?_
            refine k_calli (va_runV (As := [.int (x)]) (rest := []) ⟨hx, hb, hml, hown, hts⟩ (cm2_leastWind l E t M  ((c + 1)) (x) hA.c1 hp1.1 ((hw.w1.2.2.2.2.2.1 _ hp1.1.nlt hp1.2).1)) (cwV 1 hts (lw_V q1178 q1179 q1180 q59 q1181) rfl rfl rfl (by decide +kernel) ⟨Nat.le_of_ble_eq_true rfl, Nat.le_of_ble_eq_true rfl⟩) (k_preV hs hm hS (mw.recv hs hm (mt_ne (lay.z hA.c1) (by decide)) (ct2 (lay.z hA.c1)) rfl)) rfl rfl hl.1 rfl (lv_room (Nat.le_of_ble_eq_true rfl)) dX1_shedOf_84 ⟨Nat.le_of_ble_eq_true rfl, Nat.le_of_ble_eq_true rfl⟩) hS (fun r_9 u_9 H locs hw_9 hm_9 hS => ?_)
            obtain ⟨hr_9, hu_9⟩ := hw_9
            replace hu_9 := hu_9.symm
            subst hu_9
            have hm := hm_9
            subst hr_9
            subst hr_3
            subst hr_1
            refine vx_ret ?_
            refine W.widen (k := 2) (n := 12) (Nat.le_of_ble_eq_true rfl) (Nat.le_of_ble_eq_true rfl) ?_
            exact W.iret (v := _) hx hb hr (fun t9 ht9 _ => ⟨⟨_, _, rfl, pp3 ((if_neg c_2).trans ((if_neg c_4).trans ((if_neg c_5).trans ((if_neg c_6).trans ((if_neg c_7).trans (rfl)))))), hb9 ht9 hm⟩, hS.F ht9⟩) hS.2.2 dX1_shedOf_87
def C1_butt (t : mt) (M : mm) (c : Nat) (x : Int32) : Int32 × UInt32 × mm :=
  let r_1 := C2_isShed t M ((c + 1)) (x);
  if r_1 = 0 then
    ((3 : Int32), (0 : UInt32), M)
  else
    ((0 : Int32), (gF M 603 ((c + 1) + 54 + (x).toNatClampNeg)), M)
set_option maxHeartbeats 4000000 in
theorem cm1_butt (l : Launch) (E : mE) (hl9 : l.stackTraces = false) (t : mt) (M : mm) (c : Nat) (x : Int32) (hA : layA t c) (K S : List Nat) (hw : wfA M c K S) : vx_Met l yX1_butt (ws_ yX1_butt cX1_butt 2 (some .float)) ({ frames := 7, cells := 1, slots := 6, locals := 140 }) (va_Pc [.ref c, .int x] (wP E t M)) (va_Qf (fun (r : UInt32) (u : mm) => (C1_butt t M c x).1 = 0 ∧ r = (C1_butt t M c x).2.1 ∧ u = (C1_butt t M c x).2.2) (fun u U => mw E t u U.heap) (eA E)) (vx_X (fun (u : mm) => ¬ (C1_butt t M c x).1 = 0 ∧ u = (C1_butt t M c x).2.2) (fun En q u U => XS E t (C1_butt t M c x).1 En q u U.heap) (eA E)) 1 6 (eA E) := by
  refine vx_ofW (cc := cX1_butt) (maxL := 2) (ret := (some .float)) (by decide) rfl ?_
  intro p e s m args below meth c0 s₁ B hml hno hv
  obtain ⟨rfl, hs, hm⟩ := hv
  have hx := B.exec
  have hb := B.bytes
  have hr := B.returns
  have hts := atoms_spec (ws := ws_ yX1_butt cX1_butt 2 (some .float)) B.pre
  have hts : ∀ w ∈ lw_all, w.before _ s = true := fun w h => hts w (List.mem_cons_of_mem _ h)
  have hown : s.vm.findClass RX1 = some m.cls := findClass_of_methodNamed B.named
  have hlocks := B.notSynchronized
  have hout : ∀ pc : Nat, ∀ x ∈ c0.exceptionTable.toList, covers x pc = false := fun _ x h => (hno x h).elim
  have hS : va_S (eA E) s.heap s.heap [] := va_S.rf
  have hl := lv_entry ([.ref c, .int x]) (n := 2) (Nat.le_of_ble_eq_true rfl)
  rw [lg_entry_eq]
  generalize (lg_sl ([.ref c, .int x]) ++ List.replicate (2 - (lg_sl ([.ref c, .int x])).length) Slot.unset).toArray = ls at hl ⊢
  have hl : lv_has ls 2 [(0, .ref (c)), (1, .int (x))] := hl
  refine lv_aload_n hx hb dX1_butt_0 rfl (lv_at hl 0 rfl) ?_
  refine gf_100 hx hb hts hown hs hm hA.z (hts _ q519) dX1_butt_1 ?_
  refine lv_iload_n hx hb dX1_butt_4 rfl (lv_at hl 1 rfl) ?_
  refine k_calli (va_runV (As := [.int (x)]) (rest := []) ⟨hx, hb, hml, hown, hts⟩ (cm2_isShed l E t M  ((c + 1)) (x) hA.c1 ) (cwV 1 hts (lw_V q1163 q1164 q1165 q59 q1166) rfl rfl rfl (by decide +kernel) ⟨Nat.le_of_ble_eq_true rfl, Nat.le_of_ble_eq_true rfl⟩) (k_preV hs hm hS (mw.recv hs hm (mt_ne (lay.z hA.c1) (by decide)) (ct2 (lay.z hA.c1)) rfl)) rfl rfl hl.1 rfl (lv_room (Nat.le_of_ble_eq_true rfl)) dX1_butt_5 ⟨Nat.le_of_ble_eq_true rfl, Nat.le_of_ble_eq_true rfl⟩) hS (fun r_1 u_1 H locs hw_1 hm_1 hS => ?_)
  obtain ⟨hr_1, hu_1⟩ := hw_1
  replace hu_1 := hu_1.symm
  subst hu_1
  have hm := hm_1
  refine kx_callv (BX := fun En q u H => XS E t 3 En q u H) (vx_runS (As := [.int (r_1)]) (rest := []) ⟨hx, hb, hml, hown, hts⟩ (cm1_checkIndex l E hl9 t M  (r_1) ) (va_cwS 1 hts (lw_S q841 q842 q58 q843) rfl rfl rfl (by decide +kernel) ⟨Nat.le_of_ble_eq_true rfl, Nat.le_of_ble_eq_true rfl⟩) (k_preS hs hm hS) rfl rfl hl.1 rfl (lv_room (Nat.le_of_ble_eq_true rfl)) dX1_butt_8 ⟨Nat.le_of_ble_eq_true rfl, Nat.le_of_ble_eq_true rfl⟩) hS (fun En_2 ce_2 q_2 u9_2 H locs hp_2 hB_2 hS h1_2 h2_2 h3_2 => ?_) (fun u_2 H locs hw_2 hm_2 hS => ?_)
  · obtain ⟨c_2, hu9_2⟩ := hp_2
    replace hu9_2 := hu9_2.symm
    subst hu9_2
    subst hr_1
    have e9 : C1_butt t M c x = _ := (if_pos c_2).trans (rfl)
    exact kx_out (BX := fun En q u H => XS E t (C1_butt t M c x).1 En q u H) (u := _) (fun x h => (hno x h).elim) hlocks (xs_leaf e9 (by decide) hB_2).1 (xs_leaf e9 (by decide) hB_2).2 hS h1_2 h2_2 h3_2 (Nat.le_of_ble_eq_true rfl) (Nat.le_of_ble_eq_true rfl)
  · obtain ⟨c_2, hu_2⟩ := hw_2
    replace hu_2 := hu_2.symm
    subst hu_2
    have hm := hm_2
    have hp1 := cshd_ix hw.w1.n2 (hr_1 ▸ c_2)
    refine lv_aload_n hx hb dX1_butt_11 rfl (lv_at hl 0 rfl) ?_
    refine gf_100 hx hb hts hown hs hm hA.z (hts _ q519) dX1_butt_12 ?_
    refine gfN_209 hx hb hts hown hs hm (lay.z hA.c1) q242 dX1_butt_15 ?_
    refine lv_iload_n hx hb dX1_butt_18 rfl (lv_at hl 1 rfl) ?_
    refine k_shd hx hb hs hm (lay.a10 hA.c1) (k := (x).toNatClampNeg) rfl (ix.at (B := 4) ((hp1.1).mono (by decide)) (by decide)) dX1_butt_19 ?_
    refine gfN_603 hx hb hts hown hs hm (lay.shd hA.c1 (ix.nlt ((hp1.1).mono (by decide)))) q194 dX1_butt_20 ?_
    subst hr_1
    refine vx_ret ?_
    refine W.widen (k := 1) (n := 6) (Nat.le_of_ble_eq_true rfl) (Nat.le_of_ble_eq_true rfl) ?_
    exact W.fret (v := _) hx hb hr (fun t9 ht9 _ => ⟨⟨_, _, rfl, pp3 ((if_neg c_2).trans (rfl)), hb9 ht9 hm⟩, hS.F ht9⟩) hS.2.2 dX1_butt_23
def C1_sign (t : mt) (M : mm) (c : Nat) (x : Int32) : Int32 × Int32 × mm :=
  let r_1 := C1_isPlot (x);
  if r_1 = 0 then
    ((3 : Int32), (0 : Int32), M)
  else
    if (aR M ((c + 1) + 4) (x).toNatClampNeg) = none then
      let r_4 := C2_shedOn t M ((c + 1)) (x);
      if r_4 = (-1 : Int32) then
        if (aI M ((c + 1) + 3) (x).toNatClampNeg) = (-1 : Int32) then
          ((0 : Int32), (46 : Int32), M)
        else
          ((0 : Int32), (100 : Int32), M)
      else
        ((0 : Int32), (83 : Int32), M)
    else
      ((0 : Int32), (sgn4 t ((aR M ((c + 1) + 4) (x).toNatClampNeg).getD 0)), M)
set_option maxHeartbeats 4000000 in
theorem cm1_sign (l : Launch) (E : mE) (hl9 : l.stackTraces = false) (t : mt) (M : mm) (c : Nat) (x : Int32) (hA : layA t c) (K S : List Nat) (hw : wfA M c K S) : vx_Met l yX1_sign (ws_ yX1_sign cX1_sign 2 (some .char)) ({ frames := 7, cells := 1, slots := 6, locals := 140 }) (va_Pc [.ref c, .int x] (wP E t M)) (va_Qi (fun (r : Int32) (u : mm) => (C1_sign t M c x).1 = 0 ∧ r = (C1_sign t M c x).2.1 ∧ u = (C1_sign t M c x).2.2) (fun u U => mw E t u U.heap) (eA E)) (vx_X (fun (u : mm) => ¬ (C1_sign t M c x).1 = 0 ∧ u = (C1_sign t M c x).2.2) (fun En q u U => XS E t (C1_sign t M c x).1 En q u U.heap) (eA E)) 1 6 (eA E) := by
  refine vx_ofW (cc := cX1_sign) (maxL := 2) (ret := (some .char)) (by decide) rfl ?_
  intro p e s m args below meth c0 s₁ B hml hno hv
  obtain ⟨rfl, hs, hm⟩ := hv
  have hx := B.exec
  have hb := B.bytes
  have hr := B.returns
  have hts := atoms_spec (ws := ws_ yX1_sign cX1_sign 2 (some .char)) B.pre
  have hts : ∀ w ∈ lw_all, w.before _ s = true := fun w h => hts w (List.mem_cons_of_mem _ h)
  have hown : s.vm.findClass RX1 = some m.cls := findClass_of_methodNamed B.named
  have hlocks := B.notSynchronized
  have hout : ∀ pc : Nat, ∀ x ∈ c0.exceptionTable.toList, covers x pc = false := fun _ x h => (hno x h).elim
  have hS : va_S (eA E) s.heap s.heap [] := va_S.rf
  have hl := lv_entry ([.ref c, .int x]) (n := 2) (Nat.le_of_ble_eq_true rfl)
  rw [lg_entry_eq]
  generalize (lg_sl ([.ref c, .int x]) ++ List.replicate (2 - (lg_sl ([.ref c, .int x])).length) Slot.unset).toArray = ls at hl ⊢
  have hl : lv_has ls 2 [(0, .ref (c)), (1, .int (x))] := hl
  refine lv_iload_n hx hb dX1_sign_0 rfl (lv_at hl 1 rfl) ?_
  refine k_calli (va_runS (As := [.int (x)]) (rest := []) ⟨hx, hb, hml, hown, hts⟩ (cm1_isPlot l E (x) _) (va_cwS 1 hts (lw_S q838 q839 q58 q840) rfl rfl rfl (by decide +kernel) ⟨Nat.le_of_ble_eq_true rfl, Nat.le_of_ble_eq_true rfl⟩) (k_pure hs hS) rfl rfl hl.1 rfl (lv_room (Nat.le_of_ble_eq_true rfl)) dX1_sign_1 ⟨Nat.le_of_ble_eq_true rfl, Nat.le_of_ble_eq_true rfl⟩) hS (fun r_1 u_1 H9 locs hw_1 hm_1 hS => ?_)
  replace hm_1 : _ = H9 := Eq.symm hm_1
  subst hm_1
  have hr_1 := hw_1
  refine kx_callv (BX := fun En q u H => XS E t 3 En q u H) (vx_runS (As := [.int (r_1)]) (rest := []) ⟨hx, hb, hml, hown, hts⟩ (cm1_checkIndex l E hl9 t M  (r_1) ) (va_cwS 1 hts (lw_S q841 q842 q58 q843) rfl rfl rfl (by decide +kernel) ⟨Nat.le_of_ble_eq_true rfl, Nat.le_of_ble_eq_true rfl⟩) (k_preS hs hm hS) rfl rfl hl.1 rfl (lv_room (Nat.le_of_ble_eq_true rfl)) dX1_sign_4 ⟨Nat.le_of_ble_eq_true rfl, Nat.le_of_ble_eq_true rfl⟩) hS (fun En_2 ce_2 q_2 u9_2 H locs hp_2 hB_2 hS h1_2 h2_2 h3_2 => ?_) (fun u_2 H locs hw_2 hm_2 hS => ?_)
  · obtain ⟨c_2, hu9_2⟩ := hp_2
    replace hu9_2 := hu9_2.symm
    subst hu9_2
    subst hr_1
    have e9 : C1_sign t M c x = _ := (if_pos c_2).trans (rfl)
    exact kx_out (BX := fun En q u H => XS E t (C1_sign t M c x).1 En q u H) (u := _) (fun x h => (hno x h).elim) hlocks (xs_leaf e9 (by decide) hB_2).1 (xs_leaf e9 (by decide) hB_2).2 hS h1_2 h2_2 h3_2 (Nat.le_of_ble_eq_true rfl) (Nat.le_of_ble_eq_true rfl)
  · obtain ⟨c_2, hu_2⟩ := hw_2
    replace hu_2 := hu_2.symm
    subst hu_2
    have hm := hm_2
    have hp1 : ix 12 x := cplot_ix (hr_1 ▸ c_2)
    refine lv_aload_n hx hb dX1_sign_7 rfl (lv_at hl 0 rfl) ?_
    refine gf_100 hx hb hts hown hs hm hA.z (hts _ q519) dX1_sign_8 ?_
    refine gfN_203 hx hb hts hown hs hm (lay.z hA.c1) q234 dX1_sign_11 ?_
    refine lv_iload_n hx hb dX1_sign_14 rfl (lv_at hl 1 rfl) ?_
    refine k_aald24 hx hb hs hm (lay.a4 hA.c1) (ix.at (B := 12) ((hp1).mono (by decide)) (by decide)) dX1_sign_15 ?_
    refine lv_ifnullQ (tgt := 32) hx hb dX1_sign_16 (by decide) (fun c_3 => ?_) (fun c_3 => ?_)
    · refine lv_aload_n hx hb dX1_sign_32 rfl (lv_at hl 0 rfl) ?_
      refine gf_100 hx hb hts hown hs hm hA.z (hts _ q519) dX1_sign_33 ?_
      refine lv_iload_n hx hb dX1_sign_36 rfl (lv_at hl 1 rfl) ?_
      refine k_calli (va_runV (As := [.int (x)]) (rest := []) ⟨hx, hb, hml, hown, hts⟩ (cm2_shedOn l E t M  ((c + 1)) (x) hA.c1 hw.w1.n2) (cwV 1 hts (lw_V q890 q891 q892 q59 q893) rfl rfl rfl (by decide +kernel) ⟨Nat.le_of_ble_eq_true rfl, Nat.le_of_ble_eq_true rfl⟩) (k_preV hs hm hS (mw.recv hs hm (mt_ne (lay.z hA.c1) (by decide)) (ct2 (lay.z hA.c1)) rfl)) rfl rfl hl.1 rfl (lv_room (Nat.le_of_ble_eq_true rfl)) dX1_sign_37 ⟨Nat.le_of_ble_eq_true rfl, Nat.le_of_ble_eq_true rfl⟩) hS (fun r_4 u_4 H locs hw_4 hm_4 hS => ?_)
      obtain ⟨hr_4, hu_4⟩ := hw_4
      replace hu_4 := hu_4.symm
      subst hu_4
      have hm := hm_4
      refine lv_iconst (v := (-1 : Int32)) hx hb dX1_sign_40 (by decide) ?_
      refine lv_icmp_eq (tgt := 47) hx hb dX1_sign_41 (by decide) (fun c_5 => ?_) (fun c_5 => ?_)
      · refine lv_aload_n hx hb dX1_sign_47 rfl (lv_at hl 0 rfl) ?_
        refine gf_100 hx hb hts hown hs hm hA.z (hts _ q519) dX1_sign_48 ?_
        refine gfN_202 hx hb hts hown hs hm (lay.z hA.c1) q232 dX1_sign_51 ?_
        refine lv_iload_n hx hb dX1_sign_54 rfl (lv_at hl 1 rfl) ?_
        refine k_iald hx hb hs hm (lay.a3 hA.c1) (ix.at (B := 12) ((hp1).mono (by decide)) (by decide)) dX1_sign_55 ?_
        refine lv_iconst (v := (-1 : Int32)) hx hb dX1_sign_56 (by decide) ?_
        refine lv_icmp_eq (tgt := 65) hx hb dX1_sign_57 (by decide) (fun c_6 => ?_) (fun c_6 => ?_)
        · refine lv_bipush (v := (46 : Int32)) hx hb dX1_sign_65 (by decide) ?_
          subst hr_4
          subst hr_1
          refine vx_ret ?_
          refine W.widen (k := 1) (n := 6) (Nat.le_of_ble_eq_true rfl) (Nat.le_of_ble_eq_true rfl) ?_
          exact W.zret (v := _) hx hb hr rfl (fun t9 ht9 _ => ⟨⟨_, _, rfl, pp3 ((if_neg c_2).trans ((if_pos c_3).trans ((if_pos c_5).trans ((if_pos c_6).trans (rfl))))), hb9 ht9 hm⟩, hS.F ht9⟩) hS.2.2 dX1_sign_67
        · refine lv_bipush (v := (100 : Int32)) hx hb dX1_sign_60 (by decide) ?_
          refine lv_goto (tgt := 67) hx hb dX1_sign_62 (by decide) ?_
          subst hr_4
          subst hr_1
          refine vx_ret ?_
          refine W.widen (k := 1) (n := 6) (Nat.le_of_ble_eq_true rfl) (Nat.le_of_ble_eq_true rfl) ?_
          exact W.zret (v := _) hx hb hr rfl (fun t9 ht9 _ => ⟨⟨_, _, rfl, pp3 ((if_neg c_2).trans ((if_pos c_3).trans ((if_pos c_5).trans ((if_neg c_6).trans (rfl))))), hb9 ht9 hm⟩, hS.F ht9⟩) hS.2.2 dX1_sign_67
      · refine lv_bipush (v := (83 : Int32)) hx hb dX1_sign_44 (by decide) ?_
        subst hr_4
        subst hr_1
        refine vx_ret ?_
        refine W.widen (k := 1) (n := 6) (Nat.le_of_ble_eq_true rfl) (Nat.le_of_ble_eq_true rfl) ?_
        exact W.zret (v := _) hx hb hr rfl (fun t9 ht9 _ => ⟨⟨_, _, rfl, pp3 ((if_neg c_2).trans ((if_pos c_3).trans ((if_neg c_5).trans (rfl)))), hb9 ht9 hm⟩, hS.F ht9⟩) hS.2.2 dX1_sign_46
    · refine lv_aload_n hx hb dX1_sign_19 rfl (lv_at hl 0 rfl) ?_
      refine gf_100 hx hb hts hown hs hm hA.z (hts _ q519) dX1_sign_20 ?_
      refine gfN_203 hx hb hts hown hs hm (lay.z hA.c1) q234 dX1_sign_23 ?_
      refine lv_iload_n hx hb dX1_sign_26 rfl (lv_at hl 1 rfl) ?_
      refine k_aald24 hx hb hs hm (lay.a4 hA.c1) (ix.at (B := 12) ((hp1).mono (by decide)) (by decide)) dX1_sign_27 ?_
      refine k_nn c_3 ?_
      refine k_calli ((plO.get (hw.w1.cr hA.c1 _ (ix.nlt hp1)) c_3).elim (fun h9 => va_runU (As := []) (rest := []) ⟨hx, hb, hml, hown, hts⟩ (cm4_sign l E t M (((aR M ((c + 1) + 4) (x).toNatClampNeg).getD 0)) h9) (va_cwA 0 hts (lw_U q1225 q1227 q1231 q1232 q61 q1233) rfl rfl rfl (hs.2.2.1 _ q1226 rfl) (by decide +kernel) ⟨Nat.le_of_ble_eq_true rfl, Nat.le_of_ble_eq_true rfl⟩) (k_preV hs hm hS (mw.recv hs hm (mt_ne h9 (by decide)) (ct3 h9) rfl)) rfl rfl hl.1 rfl (lv_room (Nat.le_of_ble_eq_true rfl)) dX1_sign_28 ⟨Nat.le_of_ble_eq_true rfl, Nat.le_of_ble_eq_true rfl⟩) (fun h9 => va_runU (As := []) (rest := []) ⟨hx, hb, hml, hown, hts⟩ (cm5_sign l E t M (((aR M ((c + 1) + 4) (x).toNatClampNeg).getD 0)) h9) (va_cwA 0 hts (lw_U q1225 q1227 q1228 q1229 q62 q1230) rfl rfl rfl (hs.2.2.1 _ q1226 rfl) (by decide +kernel) ⟨Nat.le_of_ble_eq_true rfl, Nat.le_of_ble_eq_true rfl⟩) (k_preV hs hm hS (mw.recv hs hm (mt_ne h9 (by decide)) (ct4 h9) rfl)) rfl rfl hl.1 rfl (lv_room (Nat.le_of_ble_eq_true rfl)) dX1_sign_28 ⟨Nat.le_of_ble_eq_true rfl, Nat.le_of_ble_eq_true rfl⟩)) hS (fun r_7 u_7 H locs hw_7 hm_7 hS => ?_)
      obtain ⟨hr_7, hu_7⟩ := hw_7
      subst hr_7
      replace hu_7 := hu_7.symm
      subst hu_7
      have hm : mw E t (M) H := hm_7
      subst hr_1
      refine vx_ret ?_
      refine W.widen (k := 1) (n := 6) (Nat.le_of_ble_eq_true rfl) (Nat.le_of_ble_eq_true rfl) ?_
      exact W.zret (v := _) hx hb hr (Tz_C4_sign _ _ _) (fun t9 ht9 _ => ⟨⟨_, _, rfl, pp3 ((if_neg c_2).trans ((if_neg c_3).trans (rfl))), hb9 ht9 hm⟩, hS.F ht9⟩) hS.2.2 dX1_sign_31
def C1_errorPosition (t : mt) (M : mm) (c : Nat)  : Int32 :=
  (gI M 108 c)
set_option maxHeartbeats 4000000 in
theorem cm1_errorPosition (l : Launch) (E : mE) (t : mt) (M : mm) (c : Nat)  (hA : layA t c) (K S : List Nat) (hw : wfA M c K S) : Met l yX1_errorPosition (ws_ yX1_errorPosition cX1_errorPosition 1 (some .int)) ({ frames := 0, cells := 0, slots := 0, locals := 0 }) (va_Pc [.ref c] (wP E t M)) (va_Qi (fun (r : Int32) (u : mm) => r = (C1_errorPosition t M c ) ∧ u = M) (fun u U => mw E t u U.heap) (eA E)) 0 0 (eA E) := by
  refine Met.ofW (cc := cX1_errorPosition) (maxL := 1) (ret := (some .int)) (by decide) rfl ?_
  intro p e s m args below meth c0 s₁ B hml hv
  obtain ⟨rfl, hs, hm⟩ := hv
  have hx := B.exec
  have hb := B.bytes
  have hr := B.returns
  have hts := atoms_spec (ws := ws_ yX1_errorPosition cX1_errorPosition 1 (some .int)) B.pre
  have hts : ∀ w ∈ lw_all, w.before _ s = true := fun w h => hts w (List.mem_cons_of_mem _ h)
  have hown : s.vm.findClass RX1 = some m.cls := findClass_of_methodNamed B.named
  have hlocks := B.notSynchronized
  have hS : va_S (eA E) s.heap s.heap [] := va_S.rf
  have hl := lv_entry ([.ref c]) (n := 1) (Nat.le_of_ble_eq_true rfl)
  rw [lg_entry_eq]
  generalize (lg_sl ([.ref c]) ++ List.replicate (1 - (lg_sl ([.ref c])).length) Slot.unset).toArray = ls at hl ⊢
  have hl : lv_has ls 1 [(0, .ref (c))] := hl
  refine lv_aload_n hx hb dX1_errorPosition_0 rfl (lv_at hl 0 rfl) ?_
  refine gf_108 hx hb hts hown hs hm hA.z (hts _ q527) dX1_errorPosition_1 ?_
  exact W.iret (v := _) hx hb hr (fun t9 ht9 _ => ⟨⟨_, _, rfl, ⟨(rfl).symm, rfl⟩, hb9 ht9 hm⟩, hS.F ht9⟩) hS.2.2 dX1_errorPosition_4
def C1_refusal (t : mt) (M : mm) (c : Nat) (x : Int32) : Int32 × Int32 × mm :=
  let x2 := if (gI M 109 c) ≤ 0 then (0 : Int32) else (1 : Int32);
  if x2 = 0 then
    ((4 : Int32), (0 : Int32), M)
  else
    if x = 0 then
      ((0 : Int32), (gI M 109 c), M)
    else
      ((0 : Int32), (gI M 110 c), M)
set_option maxHeartbeats 4000000 in
theorem cm1_refusal (l : Launch) (E : mE) (hl9 : l.stackTraces = false) (t : mt) (M : mm) (c : Nat) (x : Int32) (hA : layA t c) (K S : List Nat) (hw : wfA M c K S) : vx_Met l yX1_refusal (ws_ yX1_refusal cX1_refusal 2 (some .int)) ({ frames := 7, cells := 1, slots := 6, locals := 140 }) (va_Pc [.ref c, .int x] (wP E t M)) (va_Qi (fun (r : Int32) (u : mm) => (C1_refusal t M c x).1 = 0 ∧ r = (C1_refusal t M c x).2.1 ∧ u = (C1_refusal t M c x).2.2) (fun u U => mw E t u U.heap) (eA E)) (vx_X (fun (u : mm) => ¬ (C1_refusal t M c x).1 = 0 ∧ u = (C1_refusal t M c x).2.2) (fun En q u U => XS E t (C1_refusal t M c x).1 En q u U.heap) (eA E)) 1 6 (eA E) := by
  refine vx_ofW (cc := cX1_refusal) (maxL := 2) (ret := (some .int)) (by decide) rfl ?_
  intro p e s m args below meth c0 s₁ B hml hno hv
  obtain ⟨rfl, hs, hm⟩ := hv
  have hx := B.exec
  have hb := B.bytes
  have hr := B.returns
  have hts := atoms_spec (ws := ws_ yX1_refusal cX1_refusal 2 (some .int)) B.pre
  have hts : ∀ w ∈ lw_all, w.before _ s = true := fun w h => hts w (List.mem_cons_of_mem _ h)
  have hown : s.vm.findClass RX1 = some m.cls := findClass_of_methodNamed B.named
  have hlocks := B.notSynchronized
  have hout : ∀ pc : Nat, ∀ x ∈ c0.exceptionTable.toList, covers x pc = false := fun _ x h => (hno x h).elim
  have hS : va_S (eA E) s.heap s.heap [] := va_S.rf
  have hl := lv_entry ([.ref c, .int x]) (n := 2) (Nat.le_of_ble_eq_true rfl)
  rw [lg_entry_eq]
  generalize (lg_sl ([.ref c, .int x]) ++ List.replicate (2 - (lg_sl ([.ref c, .int x])).length) Slot.unset).toArray = ls at hl ⊢
  have hl : lv_has ls 2 [(0, .ref (c)), (1, .int (x))] := hl
  refine lv_aload_n hx hb dX1_refusal_0 rfl (lv_at hl 0 rfl) ?_
  refine gf_109 hx hb hts hown hs hm hA.z (hts _ q528) dX1_refusal_1 ?_
  refine k_join (fun (x2 : Int32) H locs ls => x2 = (if (gI M 109 c) ≤ 0 then (0 : Int32) else (1 : Int32)) ∧ mw E t (M) H ∧ va_S (eA E) s.heap H locs ∧ lv_has ls 2 [(0, .ref (c)), (1, .int (x))]) (fun (x2 : Int32) ls => F0 m 12 ls [.int (x2)]) (fun x2 H locs ls hJ => ?_) (fun J2 => ?_)
  · obtain ⟨hX2, hm, hS, hl⟩ := hJ
    refine kx_callv (BX := fun En q u H => XS E t 4 En q u H) (vx_runS (As := [.int (x2)]) (rest := []) ⟨hx, hb, hml, hown, hts⟩ (cm1_checkElement l E hl9 t M  (x2) ) (va_cwS 1 hts (lw_S q1043 q1044 q58 q1045) rfl rfl rfl (by decide +kernel) ⟨Nat.le_of_ble_eq_true rfl, Nat.le_of_ble_eq_true rfl⟩) (k_preS hs hm hS) rfl rfl hl.1 rfl (lv_room (Nat.le_of_ble_eq_true rfl)) dX1_refusal_12 ⟨Nat.le_of_ble_eq_true rfl, Nat.le_of_ble_eq_true rfl⟩) hS (fun En_3 ce_3 q_3 u9_3 H locs hp_3 hB_3 hS h1_3 h2_3 h3_3 => ?_) (fun u_3 H locs hw_3 hm_3 hS => ?_)
    · obtain ⟨c_3, hu9_3⟩ := hp_3
      replace hu9_3 := hu9_3.symm
      subst hu9_3
      subst hX2
      have e9 : C1_refusal t M c x = _ := (if_pos c_3).trans (rfl)
      exact kx_out (BX := fun En q u H => XS E t (C1_refusal t M c x).1 En q u H) (u := _) (fun x h => (hno x h).elim) hlocks (xs_leaf e9 (by decide) hB_3).1 (xs_leaf e9 (by decide) hB_3).2 hS h1_3 h2_3 h3_3 (Nat.le_of_ble_eq_true rfl) (Nat.le_of_ble_eq_true rfl)
    · obtain ⟨c_3, hu_3⟩ := hw_3
      replace hu_3 := hu_3.symm
      subst hu_3
      have hm := hm_3
      refine lv_iload_n hx hb dX1_refusal_15 rfl (lv_at hl 1 rfl) ?_
      refine lv_if_eq (tgt := 26) hx hb dX1_refusal_16 (by decide) (fun c_4 => ?_) (fun c_4 => ?_)
      · refine lv_aload_n hx hb dX1_refusal_26 rfl (lv_at hl 0 rfl) ?_
        refine gf_109 hx hb hts hown hs hm hA.z (hts _ q528) dX1_refusal_27 ?_
        subst hX2
        refine vx_ret ?_
        refine W.widen (k := 1) (n := 6) (Nat.le_of_ble_eq_true rfl) (Nat.le_of_ble_eq_true rfl) ?_
        exact W.iret (v := _) hx hb hr (fun t9 ht9 _ => ⟨⟨_, _, rfl, pp3 ((if_neg c_3).trans ((if_pos c_4).trans (rfl))), hb9 ht9 hm⟩, hS.F ht9⟩) hS.2.2 dX1_refusal_30
      · refine lv_aload_n hx hb dX1_refusal_19 rfl (lv_at hl 0 rfl) ?_
        refine gf_110 hx hb hts hown hs hm hA.z (hts _ q529) dX1_refusal_20 ?_
        refine lv_goto (tgt := 30) hx hb dX1_refusal_23 (by decide) ?_
        subst hX2
        refine vx_ret ?_
        refine W.widen (k := 1) (n := 6) (Nat.le_of_ble_eq_true rfl) (Nat.le_of_ble_eq_true rfl) ?_
        exact W.iret (v := _) hx hb hr (fun t9 ht9 _ => ⟨⟨_, _, rfl, pp3 ((if_neg c_3).trans ((if_neg c_4).trans (rfl))), hb9 ht9 hm⟩, hS.F ht9⟩) hS.2.2 dX1_refusal_30
  · refine lv_if_le (tgt := 11) hx hb dX1_refusal_4 (by decide) (fun c_1 => ?_) (fun c_1 => ?_)
    · refine lv_iconst (v := (0 : Int32)) hx hb dX1_refusal_11 (by decide) ?_
      exact J2 ((0 : Int32)) _ _ _ ⟨((if_pos c_1).trans (rfl)).symm, hm, hS, lv_sub hl [0, 1] rfl⟩
    · refine lv_iconst (v := (1 : Int32)) hx hb dX1_refusal_7 (by decide) ?_
      refine lv_goto (tgt := 12) hx hb dX1_refusal_8 (by decide) ?_
      exact J2 ((1 : Int32)) _ _ _ ⟨((if_neg c_1).trans (rfl)).symm, hm, hS, lv_sub hl [0, 1] rfl⟩
def C1_isWell (t : mt) (M : mm) (c : Nat)  : Int32 :=
  let r_1 := C2_isWell t M ((c + 1)) ;
  r_1
set_option maxHeartbeats 4000000 in
theorem cm1_isWell (l : Launch) (E : mE) (t : mt) (M : mm) (c : Nat)  (hA : layA t c) (K S : List Nat) (hw : wfA M c K S) : Met l yX1_isWell (ws_ yX1_isWell cX1_isWell 1 (some .boolean)) ({ frames := 2, cells := 0, slots := 0, locals := 44 }) (va_Pc [.ref c] (wP E t M)) (va_Qi (fun (r : Int32) (u : mm) => r = (C1_isWell t M c ) ∧ u = M) (fun u U => mw E t u U.heap) (eA E)) 0 0 (eA E) := by
  refine Met.ofW (cc := cX1_isWell) (maxL := 1) (ret := (some .boolean)) (by decide) rfl ?_
  intro p e s m args below meth c0 s₁ B hml hv
  obtain ⟨rfl, hs, hm⟩ := hv
  have hx := B.exec
  have hb := B.bytes
  have hr := B.returns
  have hts := atoms_spec (ws := ws_ yX1_isWell cX1_isWell 1 (some .boolean)) B.pre
  have hts : ∀ w ∈ lw_all, w.before _ s = true := fun w h => hts w (List.mem_cons_of_mem _ h)
  have hown : s.vm.findClass RX1 = some m.cls := findClass_of_methodNamed B.named
  have hlocks := B.notSynchronized
  have hS : va_S (eA E) s.heap s.heap [] := va_S.rf
  have hl := lv_entry ([.ref c]) (n := 1) (Nat.le_of_ble_eq_true rfl)
  rw [lg_entry_eq]
  generalize (lg_sl ([.ref c]) ++ List.replicate (1 - (lg_sl ([.ref c])).length) Slot.unset).toArray = ls at hl ⊢
  have hl : lv_has ls 1 [(0, .ref (c))] := hl
  refine lv_aload_n hx hb dX1_isWell_0 rfl (lv_at hl 0 rfl) ?_
  refine gf_100 hx hb hts hown hs hm hA.z (hts _ q519) dX1_isWell_1 ?_
  refine k_calli (va_runV (As := []) (rest := []) ⟨hx, hb, hml, hown, hts⟩ (cm2_isWell l E t M  ((c + 1))  hA.c1 hw.w1.n1 hw.w1.mp hw.w1.dg) (cwV 0 hts (lw_V q647 q648 q649 q59 q650) rfl rfl rfl (by decide +kernel) ⟨Nat.le_of_ble_eq_true rfl, Nat.le_of_ble_eq_true rfl⟩) (k_preV hs hm hS (mw.recv hs hm (mt_ne (lay.z hA.c1) (by decide)) (ct2 (lay.z hA.c1)) rfl)) rfl rfl hl.1 rfl (lv_room (Nat.le_of_ble_eq_true rfl)) dX1_isWell_4 ⟨Nat.le_of_ble_eq_true rfl, Nat.le_of_ble_eq_true rfl⟩) hS (fun r_1 u_1 H locs hw_1 hm_1 hS => ?_)
  obtain ⟨hr_1, hu_1⟩ := hw_1
  replace hu_1 := hu_1.symm
  subst hu_1
  have hm := hm_1
  subst hr_1
  exact W.zret (v := _) hx hb hr (Tz_C2_isWell _ _ _) (fun t9 ht9 _ => ⟨⟨_, _, rfl, ⟨(rfl).symm, rfl⟩, hb9 ht9 hm⟩, hS.F ht9⟩) hS.2.2 dX1_isWell_7
theorem Tz_C1_isWell (t : mt) (M : mm) (c : Nat)  : narrow .boolean (.int (C1_isWell t M c )) = .int (C1_isWell t M c ) := by
  unfold C1_isWell
  exact Tz_C2_isWell _ _ _
