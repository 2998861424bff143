set_option maxRecDepth 100000
/-! CliffPlots: the calls -/
def C1_becomes (t : mt) (M : mm) (c : Nat) (x : Int32) : Int32 × mm :=
  let u_1 := C1_keep t M (c) ;
  let u_2 := C2_take t u_1 ((c + 1)) ((c + 65));
  (x, u_2)
set_option maxHeartbeats 4000000 in
theorem cm1_becomes (l : Launch) (E : mE) (t : mt) (M : mm) (c : Nat) (x : Int32) (hA : layA t c) (K S : List Nat) (hw : wfA M c K S) : Met l yX1_becomes (ws_ yX1_becomes cX1_becomes 2 (some .int)) ({ frames := 6, cells := 0, slots := 0, locals := 132 }) (va_Pc [.ref c, .int x] (wP E t M)) (va_Qi (fun (r : Int32) (u : mm) => r = ((C1_becomes t M c x).1) ∧ u = (C1_becomes t M c x).2) (fun u U => mw E t u U.heap) (eA E)) 0 0 (eA E) := by
  refine Met.ofW (cc := cX1_becomes) (maxL := 2) (ret := (some .int)) (by decide) rfl ?_
  intro p e s m args below meth c0 s₁ B hml hv
  obtain ⟨rfl, hs, hm⟩ := hv
  have hx := B.exec
  have hb := B.bytes
  have hr := B.returns
  have hts := atoms_spec (ws := ws_ yX1_becomes cX1_becomes 2 (some .int)) B.pre
  have hts : ∀ w ∈ lw_all, w.before _ s = true := fun w h => hts w (List.mem_cons_of_mem _ h)
  have hown : s.vm.findClass RX1 = some m.cls := findClass_of_methodNamed B.named
  have hlocks := B.notSynchronized
  have hS : va_S (eA E) s.heap s.heap [] := va_S.rf
  have hl := lv_entry ([.ref c, .int x]) (n := 2) (Nat.le_of_ble_eq_true rfl)
  rw [lg_entry_eq]
  generalize (lg_sl ([.ref c, .int x]) ++ List.replicate (2 - (lg_sl ([.ref c, .int x])).length) Slot.unset).toArray = ls at hl ⊢
  have hl : lv_has ls 2 [(0, .ref (c)), (1, .int (x))] := hl
  refine lv_aload_n hx hb dX1_becomes_0 rfl (lv_at hl 0 rfl) ?_
  refine k_callv (va_runV (As := []) (rest := []) ⟨hx, hb, hml, hown, hts⟩ (cm1_keep l E t M  (c)  hA K S hw) (cwV 0 hts (lw_V q557 q559 qs3 q58 q560) rfl rfl rfl (by decide +kernel) ⟨Nat.le_of_ble_eq_true rfl, Nat.le_of_ble_eq_true rfl⟩) (k_preV hs hm hS (mw.recv hs hm (mt_ne hA.z (by decide)) (ct1 hA.z) rfl)) rfl rfl hl.1 rfl (lv_room (Nat.le_of_ble_eq_true rfl)) dX1_becomes_1 ⟨Nat.le_of_ble_eq_true rfl, Nat.le_of_ble_eq_true rfl⟩) hS (fun u_1 H locs hw_1 hm_1 hS => ?_)
  have hu_1 := hw_1
  have hm := hm_1
  refine lv_aload_n hx hb dX1_becomes_4 rfl (lv_at hl 0 rfl) ?_
  refine gf_100 hx hb hts hown hs hm hA.z (hts _ q519) dX1_becomes_5 ?_
  refine lv_aload_n hx hb dX1_becomes_8 rfl (lv_at hl 0 rfl) ?_
  refine gf_101 hx hb hts hown hs hm hA.z (hts _ q520) dX1_becomes_9 ?_
  refine k_callv (va_runV (As := [.ref ((c + 65))]) (rest := []) ⟨hx, hb, hml, hown, hts⟩ (cm2_take l E t u_1  ((c + 1)) ((c + 65)) hA.c1 hA.c2 (show ¬ c + 65 = c + 1 by omega) (wfK.m7 (show wfK u_1 (c + 65) from by rw [hu_1]; exact keep_w2 hA hw) hA.c2) (wfK.m8 (show wfK u_1 (c + 65) from by rw [hu_1]; exact keep_w2 hA hw) hA.c2) (wfK.cr (show wfK u_1 (c + 65) from by rw [hu_1]; exact keep_w2 hA hw) hA.c2) (wfK.n1 (show wfK u_1 (c + 65) from by rw [hu_1]; exact keep_w2 hA hw)) (wfK.n2 (show wfK u_1 (c + 65) from by rw [hu_1]; exact keep_w2 hA hw)) (wfK.n3 (show wfK u_1 (c + 65) from by rw [hu_1]; exact keep_w2 hA hw)) (wfK.st (show wfK u_1 (c + 65) from by rw [hu_1]; exact keep_w2 hA hw)) (wfK.pz (show wfK u_1 (c + 1) from by rw [hu_1]; exact keep_w1 hA hw) hA.c1) (wfK.pz (show wfK u_1 (c + 65) from by rw [hu_1]; exact keep_w2 hA hw) hA.c2)) (cwV 1 hts (lw_V q572 q573 q574 q59 q575) rfl rfl rfl (by decide +kernel) ⟨Nat.le_of_ble_eq_true rfl, Nat.le_of_ble_eq_true rfl⟩) (k_preV hs hm hS (mw.recv hs hm (mt_ne (lay.z hA.c1) (by decide)) (ct2 (lay.z hA.c1)) rfl)) rfl rfl hl.1 rfl (lv_room (Nat.le_of_ble_eq_true rfl)) dX1_becomes_12 ⟨Nat.le_of_ble_eq_true rfl, Nat.le_of_ble_eq_true rfl⟩) hS (fun u_2 H locs hw_2 hm_2 hS => ?_)
  have hu_2 := hw_2
  have hm := hm_2
  refine lv_iload_n hx hb dX1_becomes_15 rfl (lv_at hl 1 rfl) ?_
  subst hu_2
  subst hu_1
  exact W.iret (v := _) hx hb hr (fun t9 ht9 _ => ⟨⟨_, _, rfl, pp (rfl), hb9 ht9 hm⟩, hS.F ht9⟩) hS.2.2 dX1_becomes_16
def C1_wind (t : mt) (M : mm) (c : Nat) (x : Int32) : Int32 × Int32 × mm :=
  let r_1 := C1_in (x) ((0 : Int32)) ((12 : Int32));
  let u_3 := C1_keep t M (c) ;
  if r_1 = 0 then
    ((1 : Int32), (0 : Int32), M)
  else
    let u_3 := C1_keep t M (c) ;
    ((0 : Int32), (gI u_3 214 (c + 1)), (sI u_3 214 (c + 1) x))
set_option maxHeartbeats 4000000 in
theorem cm1_wind (l : Launch) (E : mE) (hl9 : l.stackTraces = false) (t : mt) (M : mm) (c : Nat) (x : Int32) (hA : layA t c) (K S : List Nat) (hw : wfA M c K S) : vx_Met l yX1_wind (ws_ yX1_wind cX1_wind 3 (some .int)) ({ frames := 7, cells := 1, slots := 6, locals := 140 }) (va_Pc [.ref c, .int x] (wP E t M)) (va_Qi (fun (r : Int32) (u : mm) => (C1_wind t M c x).1 = 0 ∧ r = (C1_wind t M c x).2.1 ∧ u = (C1_wind t M c x).2.2) (fun u U => mw E t u U.heap) (eA E)) (vx_X (fun (u : mm) => ¬ (C1_wind t M c x).1 = 0 ∧ u = (C1_wind t M c x).2.2) (fun En q u U => XS E t (C1_wind t M c x).1 En q u U.heap) (eA E)) 1 6 (eA E) := by
  refine vx_ofW (cc := cX1_wind) (maxL := 3) (ret := (some .int)) (by decide) rfl ?_
  intro p e s m args below meth c0 s₁ B hml hno hv
  obtain ⟨rfl, hs, hm⟩ := hv
  have hx := B.exec
  have hb := B.bytes
  have hr := B.returns
  have hts := atoms_spec (ws := ws_ yX1_wind cX1_wind 3 (some .int)) B.pre
  have hts : ∀ w ∈ lw_all, w.before _ s = true := fun w h => hts w (List.mem_cons_of_mem _ h)
  have hown : s.vm.findClass RX1 = some m.cls := findClass_of_methodNamed B.named
  have hlocks := B.notSynchronized
  have hout : ∀ pc : Nat, ∀ x ∈ c0.exceptionTable.toList, covers x pc = false := fun _ x h => (hno x h).elim
  have hS : va_S (eA E) s.heap s.heap [] := va_S.rf
  have hl := lv_entry ([.ref c, .int x]) (n := 3) (Nat.le_of_ble_eq_true rfl)
  rw [lg_entry_eq]
  generalize (lg_sl ([.ref c, .int x]) ++ List.replicate (3 - (lg_sl ([.ref c, .int x])).length) Slot.unset).toArray = ls at hl ⊢
  have hl : lv_has ls 3 [(0, .ref (c)), (1, .int (x))] := hl
  refine lv_iload_n hx hb dX1_wind_0 rfl (lv_at hl 1 rfl) ?_
  refine lv_iconst (v := (0 : Int32)) hx hb dX1_wind_1 (by decide) ?_
  refine lv_bipush (v := (12 : Int32)) hx hb dX1_wind_2 (by decide) ?_
  refine k_calli (va_runS (As := [.int (x), .int ((0 : Int32)), .int ((12 : Int32))]) (rest := []) ⟨hx, hb, hml, hown, hts⟩ (cm1_in l E (x) ((0 : Int32)) ((12 : Int32)) _) (va_cwS 3 hts (lw_S q699 q700 q58 q701) rfl rfl rfl (by decide +kernel) ⟨Nat.le_of_ble_eq_true rfl, Nat.le_of_ble_eq_true rfl⟩) (k_pure hs hS) rfl rfl hl.1 rfl (lv_room (Nat.le_of_ble_eq_true rfl)) dX1_wind_4 ⟨Nat.le_of_ble_eq_true rfl, Nat.le_of_ble_eq_true rfl⟩) hS (fun r_1 u_1 H9 locs hw_1 hm_1 hS => ?_)
  replace hm_1 : _ = H9 := Eq.symm hm_1
  subst hm_1
  have hr_1 := hw_1
  refine kx_callv (BX := fun En q u H => XS E t 1 En q u H) (vx_runS (As := [.int (r_1)]) (rest := []) ⟨hx, hb, hml, hown, hts⟩ (cm1_check l E hl9 t M  (r_1) ) (va_cwS 1 hts (lw_S q702 q703 q58 q704) rfl rfl rfl (by decide +kernel) ⟨Nat.le_of_ble_eq_true rfl, Nat.le_of_ble_eq_true rfl⟩) (k_preS hs hm hS) rfl rfl hl.1 rfl (lv_room (Nat.le_of_ble_eq_true rfl)) dX1_wind_7 ⟨Nat.le_of_ble_eq_true rfl, Nat.le_of_ble_eq_true rfl⟩) hS (fun En_2 ce_2 q_2 u9_2 H locs hp_2 hB_2 hS h1_2 h2_2 h3_2 => ?_) (fun u_2 H locs hw_2 hm_2 hS => ?_)
  · obtain ⟨c_2, hu9_2⟩ := hp_2
    replace hu9_2 := hu9_2.symm
    subst hu9_2
    subst hr_1
    have e9 : C1_wind t M c x = _ := (if_pos c_2).trans (rfl)
    exact kx_out (BX := fun En q u H => XS E t (C1_wind t M c x).1 En q u H) (u := _) (fun x h => (hno x h).elim) hlocks (xs_leaf e9 (by decide) hB_2).1 (xs_leaf e9 (by decide) hB_2).2 hS h1_2 h2_2 h3_2 (Nat.le_of_ble_eq_true rfl) (Nat.le_of_ble_eq_true rfl)
  · obtain ⟨c_2, hu_2⟩ := hw_2
    replace hu_2 := hu_2.symm
    subst hu_2
    have hm := hm_2
    refine lv_aload_n hx hb dX1_wind_10 rfl (lv_at hl 0 rfl) ?_
    refine k_callv (va_runV (As := []) (rest := []) ⟨hx, hb, hml, hown, hts⟩ (cm1_keep l E t M  (c)  hA K S hw) (cwV 0 hts (lw_V q557 q559 qs3 q58 q560) rfl rfl rfl (by decide +kernel) ⟨Nat.le_of_ble_eq_true rfl, Nat.le_of_ble_eq_true rfl⟩) (k_preV hs hm hS (mw.recv hs hm (mt_ne hA.z (by decide)) (ct1 hA.z) rfl)) rfl rfl hl.1 rfl (lv_room (Nat.le_of_ble_eq_true rfl)) dX1_wind_11 ⟨Nat.le_of_ble_eq_true rfl, Nat.le_of_ble_eq_true rfl⟩) hS (fun u_3 H locs hw_3 hm_3 hS => ?_)
    have hu_3 := hw_3
    have hm := hm_3
    refine lv_aload_n hx hb dX1_wind_14 rfl (lv_at hl 0 rfl) ?_
    refine gf_100 hx hb hts hown hs hm hA.z (hts _ q519) dX1_wind_15 ?_
    refine gfN_214 hx hb hts hown hs hm (lay.z hA.c1) q253 dX1_wind_18 ?_
    refine lv_istore_n (lv' := [(2, _), (0, _), (1, _)]) hx hb dX1_wind_21 rfl hl (by decide) rfl (fun ls hl => ?_)
    refine lv_aload_n hx hb dX1_wind_22 rfl (lv_at hl 1 rfl) ?_
    refine gf_100 hx hb hts hown hs hm hA.z (hts _ q519) dX1_wind_23 ?_
    refine lv_iload_n hx hb dX1_wind_26 rfl (lv_at hl 2 rfl) ?_
    refine pfN_214 hx hb hts hown hs hm hS (lay.z hA.c1) q253 dX1_wind_27 (fun H locs hm hS => ?_)
    have hm : mw E t ((sI u_3 214 (c + 1) x)) H := hm
    refine lv_iload_n hx hb dX1_wind_30 rfl (lv_at hl 0 rfl) ?_
    subst hu_3
    subst hr_1
    refine vx_ret ?_
    refine W.widen (k := 1) (n := 6) (Nat.le_of_ble_eq_true rfl) (Nat.le_of_ble_eq_true rfl) ?_
    exact W.iret (v := _) hx hb hr (fun t9 ht9 _ => ⟨⟨_, _, rfl, pp3 ((if_neg c_2).trans (rfl)), hb9 ht9 hm⟩, hS.F ht9⟩) hS.2.2 dX1_wind_31
def C1_rain (t : mt) (M : mm) (c : Nat) (x : Int32) : Int32 × Int32 × mm :=
  let r_1 := C1_in (x) ((0 : Int32)) ((20 : Int32));
  let u_3 := C1_keep t M (c) ;
  if r_1 = 0 then
    ((1 : Int32), (0 : Int32), M)
  else
    let u_3 := C1_keep t M (c) ;
    ((0 : Int32), (gI u_3 215 (c + 1)), (sI u_3 215 (c + 1) x))
set_option maxHeartbeats 4000000 in
theorem cm1_rain (l : Launch) (E : mE) (hl9 : l.stackTraces = false) (t : mt) (M : mm) (c : Nat) (x : Int32) (hA : layA t c) (K S : List Nat) (hw : wfA M c K S) : vx_Met l yX1_rain (ws_ yX1_rain cX1_rain 3 (some .int)) ({ frames := 7, cells := 1, slots := 6, locals := 140 }) (va_Pc [.ref c, .int x] (wP E t M)) (va_Qi (fun (r : Int32) (u : mm) => (C1_rain t M c x).1 = 0 ∧ r = (C1_rain t M c x).2.1 ∧ u = (C1_rain t M c x).2.2) (fun u U => mw E t u U.heap) (eA E)) (vx_X (fun (u : mm) => ¬ (C1_rain t M c x).1 = 0 ∧ u = (C1_rain t M c x).2.2) (fun En q u U => XS E t (C1_rain t M c x).1 En q u U.heap) (eA E)) 1 6 (eA E) := by
  refine vx_ofW (cc := cX1_rain) (maxL := 3) (ret := (some .int)) (by decide) rfl ?_
  intro p e s m args below meth c0 s₁ B hml hno hv
  obtain ⟨rfl, hs, hm⟩ := hv
  have hx := B.exec
  have hb := B.bytes
  have hr := B.returns
  have hts := atoms_spec (ws := ws_ yX1_rain cX1_rain 3 (some .int)) B.pre
  have hts : ∀ w ∈ lw_all, w.before _ s = true := fun w h => hts w (List.mem_cons_of_mem _ h)
  have hown : s.vm.findClass RX1 = some m.cls := findClass_of_methodNamed B.named
  have hlocks := B.notSynchronized
  have hout : ∀ pc : Nat, ∀ x ∈ c0.exceptionTable.toList, covers x pc = false := fun _ x h => (hno x h).elim
  have hS : va_S (eA E) s.heap s.heap [] := va_S.rf
  have hl := lv_entry ([.ref c, .int x]) (n := 3) (Nat.le_of_ble_eq_true rfl)
  rw [lg_entry_eq]
  generalize (lg_sl ([.ref c, .int x]) ++ List.replicate (3 - (lg_sl ([.ref c, .int x])).length) Slot.unset).toArray = ls at hl ⊢
  have hl : lv_has ls 3 [(0, .ref (c)), (1, .int (x))] := hl
  refine lv_iload_n hx hb dX1_rain_0 rfl (lv_at hl 1 rfl) ?_
  refine lv_iconst (v := (0 : Int32)) hx hb dX1_rain_1 (by decide) ?_
  refine lv_bipush (v := (20 : Int32)) hx hb dX1_rain_2 (by decide) ?_
  refine k_calli (va_runS (As := [.int (x), .int ((0 : Int32)), .int ((20 : Int32))]) (rest := []) ⟨hx, hb, hml, hown, hts⟩ (cm1_in l E (x) ((0 : Int32)) ((20 : Int32)) _) (va_cwS 3 hts (lw_S q699 q700 q58 q701) rfl rfl rfl (by decide +kernel) ⟨Nat.le_of_ble_eq_true rfl, Nat.le_of_ble_eq_true rfl⟩) (k_pure hs hS) rfl rfl hl.1 rfl (lv_room (Nat.le_of_ble_eq_true rfl)) dX1_rain_4 ⟨Nat.le_of_ble_eq_true rfl, Nat.le_of_ble_eq_true rfl⟩) hS (fun r_1 u_1 H9 locs hw_1 hm_1 hS => ?_)
  replace hm_1 : _ = H9 := Eq.symm hm_1
  subst hm_1
  have hr_1 := hw_1
  refine kx_callv (BX := fun En q u H => XS E t 1 En q u H) (vx_runS (As := [.int (r_1)]) (rest := []) ⟨hx, hb, hml, hown, hts⟩ (cm1_check l E hl9 t M  (r_1) ) (va_cwS 1 hts (lw_S q702 q703 q58 q704) rfl rfl rfl (by decide +kernel) ⟨Nat.le_of_ble_eq_true rfl, Nat.le_of_ble_eq_true rfl⟩) (k_preS hs hm hS) rfl rfl hl.1 rfl (lv_room (Nat.le_of_ble_eq_true rfl)) dX1_rain_7 ⟨Nat.le_of_ble_eq_true rfl, Nat.le_of_ble_eq_true rfl⟩) hS (fun En_2 ce_2 q_2 u9_2 H locs hp_2 hB_2 hS h1_2 h2_2 h3_2 => ?_) (fun u_2 H locs hw_2 hm_2 hS => ?_)
  · obtain ⟨c_2, hu9_2⟩ := hp_2
    replace hu9_2 := hu9_2.symm
    subst hu9_2
    subst hr_1
    have e9 : C1_rain t M c x = _ := (if_pos c_2).trans (rfl)
    exact kx_out (BX := fun En q u H => XS E t (C1_rain t M c x).1 En q u H) (u := _) (fun x h => (hno x h).elim) hlocks (xs_leaf e9 (by decide) hB_2).1 (xs_leaf e9 (by decide) hB_2).2 hS h1_2 h2_2 h3_2 (Nat.le_of_ble_eq_true rfl) (Nat.le_of_ble_eq_true rfl)
  · obtain ⟨c_2, hu_2⟩ := hw_2
    replace hu_2 := hu_2.symm
    subst hu_2
    have hm := hm_2
    refine lv_aload_n hx hb dX1_rain_10 rfl (lv_at hl 0 rfl) ?_
    refine k_callv (va_runV (As := []) (rest := []) ⟨hx, hb, hml, hown, hts⟩ (cm1_keep l E t M  (c)  hA K S hw) (cwV 0 hts (lw_V q557 q559 qs3 q58 q560) rfl rfl rfl (by decide +kernel) ⟨Nat.le_of_ble_eq_true rfl, Nat.le_of_ble_eq_true rfl⟩) (k_preV hs hm hS (mw.recv hs hm (mt_ne hA.z (by decide)) (ct1 hA.z) rfl)) rfl rfl hl.1 rfl (lv_room (Nat.le_of_ble_eq_true rfl)) dX1_rain_11 ⟨Nat.le_of_ble_eq_true rfl, Nat.le_of_ble_eq_true rfl⟩) hS (fun u_3 H locs hw_3 hm_3 hS => ?_)
    have hu_3 := hw_3
    have hm := hm_3
    refine lv_aload_n hx hb dX1_rain_14 rfl (lv_at hl 0 rfl) ?_
    refine gf_100 hx hb hts hown hs hm hA.z (hts _ q519) dX1_rain_15 ?_
    refine gfN_215 hx hb hts hown hs hm (lay.z hA.c1) q256 dX1_rain_18 ?_
    refine lv_istore_n (lv' := [(2, _), (0, _), (1, _)]) hx hb dX1_rain_21 rfl hl (by decide) rfl (fun ls hl => ?_)
    refine lv_aload_n hx hb dX1_rain_22 rfl (lv_at hl 1 rfl) ?_
    refine gf_100 hx hb hts hown hs hm hA.z (hts _ q519) dX1_rain_23 ?_
    refine lv_iload_n hx hb dX1_rain_26 rfl (lv_at hl 2 rfl) ?_
    refine pfN_215 hx hb hts hown hs hm hS (lay.z hA.c1) q256 dX1_rain_27 (fun H locs hm hS => ?_)
    have hm : mw E t ((sI u_3 215 (c + 1) x)) H := hm
    refine lv_iload_n hx hb dX1_rain_30 rfl (lv_at hl 0 rfl) ?_
    subst hu_3
    subst hr_1
    refine vx_ret ?_
    refine W.widen (k := 1) (n := 6) (Nat.le_of_ble_eq_true rfl) (Nat.le_of_ble_eq_true rfl) ?_
    exact W.iret (v := _) hx hb hr (fun t9 ht9 _ => ⟨⟨_, _, rfl, pp3 ((if_neg c_2).trans (rfl)), hb9 ht9 hm⟩, hS.F ht9⟩) hS.2.2 dX1_rain_31
def C1_moles (t : mt) (M : mm) (c : Nat) (x : Int32) (y : Int32) : Int32 × Int32 × mm :=
  let r_1 := C1_isPlot (x);
  let r_3 := C1_in (y) ((0 : Int32)) ((9 : Int32));
  let u_5 := C1_keep t M (c) ;
  if r_1 = 0 then
    ((3 : Int32), (0 : Int32), M)
  else
    let r_3 := C1_in (y) ((0 : Int32)) ((9 : Int32));
    let u_5 := C1_keep t M (c) ;
    if r_3 = 0 then
      ((1 : Int32), (0 : Int32), M)
    else
      let u_5 := C1_keep t M (c) ;
      ((0 : Int32), (aI u_5 ((c + 1) + 2) (x).toNatClampNeg), (wI u_5 ((c + 1) + 2) (upd (aI u_5 ((c + 1) + 2)) (x).toNatClampNeg y)))
set_option maxHeartbeats 4000000 in
theorem cm1_moles (l : Launch) (E : mE) (hl9 : l.stackTraces = false) (t : mt) (M : mm) (c : Nat) (x : Int32) (y : Int32) (hA : layA t c) (K S : List Nat) (hw : wfA M c K S) : vx_Met l yX1_moles (ws_ yX1_moles cX1_moles 4 (some .int)) ({ frames := 7, cells := 2, slots := 12, locals := 140 }) (va_Pc [.ref c, .int x, .int y] (wP E t M)) (va_Qi (fun (r : Int32) (u : mm) => (C1_moles t M c x y).1 = 0 ∧ r = (C1_moles t M c x y).2.1 ∧ u = (C1_moles t M c x y).2.2) (fun u U => mw E t u U.heap) (eA E)) (vx_X (fun (u : mm) => ¬ (C1_moles t M c x y).1 = 0 ∧ u = (C1_moles t M c x y).2.2) (fun En q u U => XS E t (C1_moles t M c x y).1 En q u U.heap) (eA E)) 2 12 (eA E) := by
  refine vx_ofW (cc := cX1_moles) (maxL := 4) (ret := (some .int)) (by decide) rfl ?_
  intro p e s m args below meth c0 s₁ B hml hno hv
  obtain ⟨rfl, hs, hm⟩ := hv
  have hx := B.exec
  have hb := B.bytes
  have hr := B.returns
  have hts := atoms_spec (ws := ws_ yX1_moles cX1_moles 4 (some .int)) B.pre
  have hts : ∀ w ∈ lw_all, w.before _ s = true := fun w h => hts w (List.mem_cons_of_mem _ h)
  have hown : s.vm.findClass RX1 = some m.cls := findClass_of_methodNamed B.named
  have hlocks := B.notSynchronized
  have hout : ∀ pc : Nat, ∀ x ∈ c0.exceptionTable.toList, covers x pc = false := fun _ x h => (hno x h).elim
  have hS : va_S (eA E) s.heap s.heap [] := va_S.rf
  have hl := lv_entry ([.ref c, .int x, .int y]) (n := 4) (Nat.le_of_ble_eq_true rfl)
  rw [lg_entry_eq]
  generalize (lg_sl ([.ref c, .int x, .int y]) ++ List.replicate (4 - (lg_sl ([.ref c, .int x, .int y])).length) Slot.unset).toArray = ls at hl ⊢
  have hl : lv_has ls 4 [(0, .ref (c)), (1, .int (x)), (2, .int (y))] := hl
  refine lv_iload_n hx hb dX1_moles_0 rfl (lv_at hl 1 rfl) ?_
  refine k_calli (va_runS (As := [.int (x)]) (rest := []) ⟨hx, hb, hml, hown, hts⟩ (cm1_isPlot l E (x) _) (va_cwS 1 hts (lw_S q838 q839 q58 q840) rfl rfl rfl (by decide +kernel) ⟨Nat.le_of_ble_eq_true rfl, Nat.le_of_ble_eq_true rfl⟩) (k_pure hs hS) rfl rfl hl.1 rfl (lv_room (Nat.le_of_ble_eq_true rfl)) dX1_moles_1 ⟨Nat.le_of_ble_eq_true rfl, Nat.le_of_ble_eq_true rfl⟩) hS (fun r_1 u_1 H9 locs hw_1 hm_1 hS => ?_)
  replace hm_1 : _ = H9 := Eq.symm hm_1
  subst hm_1
  have hr_1 := hw_1
  refine kx_callv (BX := fun En q u H => XS E t 3 En q u H) (vx_runS (As := [.int (r_1)]) (rest := []) ⟨hx, hb, hml, hown, hts⟩ (cm1_checkIndex l E hl9 t M  (r_1) ) (va_cwS 1 hts (lw_S q841 q842 q58 q843) rfl rfl rfl (by decide +kernel) ⟨Nat.le_of_ble_eq_true rfl, Nat.le_of_ble_eq_true rfl⟩) (k_preS hs hm hS) rfl rfl hl.1 rfl (lv_room (Nat.le_of_ble_eq_true rfl)) dX1_moles_4 ⟨Nat.le_of_ble_eq_true rfl, Nat.le_of_ble_eq_true rfl⟩) hS (fun En_2 ce_2 q_2 u9_2 H locs hp_2 hB_2 hS h1_2 h2_2 h3_2 => ?_) (fun u_2 H locs hw_2 hm_2 hS => ?_)
  · obtain ⟨c_2, hu9_2⟩ := hp_2
    replace hu9_2 := hu9_2.symm
    subst hu9_2
    subst hr_1
    have e9 : C1_moles t M c x y = _ := (if_pos c_2).trans (rfl)
    exact kx_out (BX := fun En q u H => XS E t (C1_moles t M c x y).1 En q u H) (u := _) (fun x h => (hno x h).elim) hlocks (xs_leaf e9 (by decide) hB_2).1 (xs_leaf e9 (by decide) hB_2).2 hS h1_2 h2_2 h3_2 (Nat.le_of_ble_eq_true rfl) (Nat.le_of_ble_eq_true rfl)
  · obtain ⟨c_2, hu_2⟩ := hw_2
    replace hu_2 := hu_2.symm
    subst hu_2
    have hm := hm_2
    refine lv_iload_n hx hb dX1_moles_7 rfl (lv_at hl 2 rfl) ?_
    refine lv_iconst (v := (0 : Int32)) hx hb dX1_moles_8 (by decide) ?_
    refine lv_bipush (v := (9 : Int32)) hx hb dX1_moles_9 (by decide) ?_
    refine k_calli (va_runS (As := [.int (y), .int ((0 : Int32)), .int ((9 : Int32))]) (rest := []) ⟨hx, hb, hml, hown, hts⟩ (cm1_in l E (y) ((0 : Int32)) ((9 : Int32)) _) (va_cwS 3 hts (lw_S q699 q700 q58 q701) rfl rfl rfl (by decide +kernel) ⟨Nat.le_of_ble_eq_true rfl, Nat.le_of_ble_eq_true rfl⟩) (k_pure hs hS) rfl rfl hl.1 rfl (lv_room (Nat.le_of_ble_eq_true rfl)) dX1_moles_11 ⟨Nat.le_of_ble_eq_true rfl, Nat.le_of_ble_eq_true rfl⟩) hS (fun r_3 u_3 H9 locs hw_3 hm_3 hS => ?_)
    replace hm_3 : _ = H9 := Eq.symm hm_3
    subst hm_3
    have hr_3 := hw_3
    refine kx_callv (BX := fun En q u H => XS E t 1 En q u H) (vx_runS (As := [.int (r_3)]) (rest := []) ⟨hx, hb, hml, hown, hts⟩ (cm1_check l E hl9 t M  (r_3) ) (va_cwS 1 hts (lw_S q702 q703 q58 q704) rfl rfl rfl (by decide +kernel) ⟨Nat.le_of_ble_eq_true rfl, Nat.le_of_ble_eq_true rfl⟩) (k_preS hs hm hS) rfl rfl hl.1 rfl (lv_room (Nat.le_of_ble_eq_true rfl)) dX1_moles_14 ⟨Nat.le_of_ble_eq_true rfl, Nat.le_of_ble_eq_true rfl⟩) hS (fun En_4 ce_4 q_4 u9_4 H locs hp_4 hB_4 hS h1_4 h2_4 h3_4 => ?_) (fun u_4 H locs hw_4 hm_4 hS => ?_)
    · obtain ⟨c_4, hu9_4⟩ := hp_4
      replace hu9_4 := hu9_4.symm
      subst hu9_4
      subst hr_3
      subst hr_1
      have e9 : C1_moles t M c x y = _ := (if_neg c_2).trans ((if_pos c_4).trans (rfl))
      exact kx_out (BX := fun En q u H => XS E t (C1_moles t M c x y).1 En q u H) (u := _) (fun x h => (hno x h).elim) hlocks (xs_leaf e9 (by decide) hB_4).1 (xs_leaf e9 (by decide) hB_4).2 hS h1_4 h2_4 h3_4 (Nat.le_of_ble_eq_true rfl) (Nat.le_of_ble_eq_true rfl)
    · obtain ⟨c_4, hu_4⟩ := hw_4
      replace hu_4 := hu_4.symm
      subst hu_4
      have hm := hm_4
      have hp1 : ix 12 x := cplot_ix (hr_1 ▸ c_2)
      refine lv_aload_n hx hb dX1_moles_17 rfl (lv_at hl 0 rfl) ?_
      refine k_callv (va_runV (As := []) (rest := []) ⟨hx, hb, hml, hown, hts⟩ (cm1_keep l E t M  (c)  hA K S hw) (cwV 0 hts (lw_V q557 q559 qs3 q58 q560) rfl rfl rfl (by decide +kernel) ⟨Nat.le_of_ble_eq_true rfl, Nat.le_of_ble_eq_true rfl⟩) (k_preV hs hm hS (mw.recv hs hm (mt_ne hA.z (by decide)) (ct1 hA.z) rfl)) rfl rfl hl.1 rfl (lv_room (Nat.le_of_ble_eq_true rfl)) dX1_moles_18 ⟨Nat.le_of_ble_eq_true rfl, Nat.le_of_ble_eq_true rfl⟩) hS (fun u_5 H locs hw_5 hm_5 hS => ?_)
      have hu_5 := hw_5
      have hm := hm_5
      refine lv_aload_n hx hb dX1_moles_21 rfl (lv_at hl 0 rfl) ?_
      refine gf_100 hx hb hts hown hs hm hA.z (hts _ q519) dX1_moles_22 ?_
      refine gfN_201 hx hb hts hown hs hm (lay.z hA.c1) q230 dX1_moles_25 ?_
      refine lv_iload_n hx hb dX1_moles_28 rfl (lv_at hl 1 rfl) ?_
      refine k_iald hx hb hs hm (lay.a2 hA.c1) (ix.at (B := 12) ((hp1).mono (by decide)) (by decide)) dX1_moles_29 ?_
      refine lv_istore_n (lv' := [(3, _), (0, _), (1, _), (2, _)]) hx hb dX1_moles_30 rfl hl (by decide) rfl (fun ls hl => ?_)
      refine lv_aload_n hx hb dX1_moles_31 rfl (lv_at hl 1 rfl) ?_
      refine gf_100 hx hb hts hown hs hm hA.z (hts _ q519) dX1_moles_32 ?_
      refine gfN_201 hx hb hts hown hs hm (lay.z hA.c1) q230 dX1_moles_35 ?_
      refine lv_iload_n hx hb dX1_moles_38 rfl (lv_at hl 2 rfl) ?_
      refine lv_iload_n hx hb dX1_moles_39 rfl (lv_at hl 3 rfl) ?_
      refine k_iast hx hb hs hm hS (lay.a2 hA.c1) (ix.at (B := 12) ((hp1).mono (by decide)) (by decide)) dX1_moles_40 (fun H locs hm hS => ?_)
      have hm : mw E t ((wI u_5 ((c + 1) + 2) (upd (aI u_5 ((c + 1) + 2)) (x).toNatClampNeg y))) H := hm
      refine lv_iload_n hx hb dX1_moles_41 rfl (lv_at hl 0 rfl) ?_
      subst hu_5
      subst hr_3
      subst hr_1
      refine vx_ret ?_
      refine W.widen (k := 2) (n := 12) (Nat.le_of_ble_eq_true rfl) (Nat.le_of_ble_eq_true rfl) ?_
      exact W.iret (v := _) hx hb hr (fun t9 ht9 _ => ⟨⟨_, _, rfl, pp3 ((if_neg c_2).trans ((if_neg c_4).trans (rfl))), hb9 ht9 hm⟩, hS.F ht9⟩) hS.2.2 dX1_moles_42
def C1_vote (t : mt) (M : mm) (c : Nat) (x : Int32) (y : Int32) : Int32 × Int32 × mm :=
  let r_1 := C2_isMember t M ((c + 1)) (x);
  let u_3 := C1_keep t M (c) ;
  let r_4 := (C2_vote t u_3 ((c + 1)) (x) (y)).1;
  let u_4 := (C2_vote t u_3 ((c + 1)) (x) (y)).2;
  if r_1 = 0 then
    ((3 : Int32), (0 : Int32), M)
  else
    let u_3 := C1_keep t M (c) ;
    let r_4 := (C2_vote t u_3 ((c + 1)) (x) (y)).1;
    let u_4 := (C2_vote t u_3 ((c + 1)) (x) (y)).2;
    ((0 : Int32), r_4, u_4)
set_option maxHeartbeats 4000000 in
theorem cm1_vote (l : Launch) (E : mE) (hl9 : l.stackTraces = false) (t : mt) (M : mm) (c : Nat) (x : Int32) (y : Int32) (hA : layA t c) (K S : List Nat) (hw : wfA M c K S) : vx_Met l yX1_vote (ws_ yX1_vote cX1_vote 3 (some .int)) ({ frames := 7, cells := 1, slots := 6, locals := 140 }) (va_Pc [.ref c, .int x, .int y] (wP E t M)) (va_Qi (fun (r : Int32) (u : mm) => (C1_vote t M c x y).1 = 0 ∧ r = (C1_vote t M c x y).2.1 ∧ u = (C1_vote t M c x y).2.2) (fun u U => mw E t u U.heap) (eA E)) (vx_X (fun (u : mm) => ¬ (C1_vote t M c x y).1 = 0 ∧ u = (C1_vote t M c x y).2.2) (fun En q u U => XS E t (C1_vote t M c x y).1 En q u U.heap) (eA E)) 1 6 (eA E) := by
  refine vx_ofW (cc := cX1_vote) (maxL := 3) (ret := (some .int)) (by decide) rfl ?_
  intro p e s m args below meth c0 s₁ B hml hno hv
  obtain ⟨rfl, hs, hm⟩ := hv
  have hx := B.exec
  have hb := B.bytes
  have hr := B.returns
  have hts := atoms_spec (ws := ws_ yX1_vote cX1_vote 3 (some .int)) B.pre
  have hts : ∀ w ∈ lw_all, w.before _ s = true := fun w h => hts w (List.mem_cons_of_mem _ h)
  have hown : s.vm.findClass RX1 = some m.cls := findClass_of_methodNamed B.named
  have hlocks := B.notSynchronized
  have hout : ∀ pc : Nat, ∀ x ∈ c0.exceptionTable.toList, covers x pc = false := fun _ x h => (hno x h).elim
  have hS : va_S (eA E) s.heap s.heap [] := va_S.rf
  have hl := lv_entry ([.ref c, .int x, .int y]) (n := 3) (Nat.le_of_ble_eq_true rfl)
  rw [lg_entry_eq]
  generalize (lg_sl ([.ref c, .int x, .int y]) ++ List.replicate (3 - (lg_sl ([.ref c, .int x, .int y])).length) Slot.unset).toArray = ls at hl ⊢
  have hl : lv_has ls 3 [(0, .ref (c)), (1, .int (x)), (2, .int (y))] := hl
  refine lv_aload_n hx hb dX1_vote_0 rfl (lv_at hl 0 rfl) ?_
  refine gf_100 hx hb hts hown hs hm hA.z (hts _ q519) dX1_vote_1 ?_
  refine lv_iload_n hx hb dX1_vote_4 rfl (lv_at hl 1 rfl) ?_
  refine k_calli (va_runV (As := [.int (x)]) (rest := []) ⟨hx, hb, hml, hown, hts⟩ (cm2_isMember l E t M  ((c + 1)) (x) hA.c1 ) (cwV 1 hts (lw_V q833 q834 q835 q59 q836) rfl rfl rfl (by decide +kernel) ⟨Nat.le_of_ble_eq_true rfl, Nat.le_of_ble_eq_true rfl⟩) (k_preV hs hm hS (mw.recv hs hm (mt_ne (lay.z hA.c1) (by decide)) (ct2 (lay.z hA.c1)) rfl)) rfl rfl hl.1 rfl (lv_room (Nat.le_of_ble_eq_true rfl)) dX1_vote_5 ⟨Nat.le_of_ble_eq_true rfl, Nat.le_of_ble_eq_true rfl⟩) hS (fun r_1 u_1 H locs hw_1 hm_1 hS => ?_)
  obtain ⟨hr_1, hu_1⟩ := hw_1
  replace hu_1 := hu_1.symm
  subst hu_1
  have hm := hm_1
  refine kx_callv (BX := fun En q u H => XS E t 3 En q u H) (vx_runS (As := [.int (r_1)]) (rest := []) ⟨hx, hb, hml, hown, hts⟩ (cm1_checkIndex l E hl9 t M  (r_1) ) (va_cwS 1 hts (lw_S q841 q842 q58 q843) rfl rfl rfl (by decide +kernel) ⟨Nat.le_of_ble_eq_true rfl, Nat.le_of_ble_eq_true rfl⟩) (k_preS hs hm hS) rfl rfl hl.1 rfl (lv_room (Nat.le_of_ble_eq_true rfl)) dX1_vote_8 ⟨Nat.le_of_ble_eq_true rfl, Nat.le_of_ble_eq_true rfl⟩) hS (fun En_2 ce_2 q_2 u9_2 H locs hp_2 hB_2 hS h1_2 h2_2 h3_2 => ?_) (fun u_2 H locs hw_2 hm_2 hS => ?_)
  · obtain ⟨c_2, hu9_2⟩ := hp_2
    replace hu9_2 := hu9_2.symm
    subst hu9_2
    subst hr_1
    have e9 : C1_vote t M c x y = _ := (if_pos c_2).trans (rfl)
    exact kx_out (BX := fun En q u H => XS E t (C1_vote t M c x y).1 En q u H) (u := _) (fun x h => (hno x h).elim) hlocks (xs_leaf e9 (by decide) hB_2).1 (xs_leaf e9 (by decide) hB_2).2 hS h1_2 h2_2 h3_2 (Nat.le_of_ble_eq_true rfl) (Nat.le_of_ble_eq_true rfl)
  · obtain ⟨c_2, hu_2⟩ := hw_2
    replace hu_2 := hu_2.symm
    subst hu_2
    have hm := hm_2
    have hp1 := cmem_ix hw.w1.n1 (hr_1 ▸ c_2)
    refine lv_aload_n hx hb dX1_vote_11 rfl (lv_at hl 0 rfl) ?_
    refine k_callv (va_runV (As := []) (rest := []) ⟨hx, hb, hml, hown, hts⟩ (cm1_keep l E t M  (c)  hA K S hw) (cwV 0 hts (lw_V q557 q559 qs3 q58 q560) rfl rfl rfl (by decide +kernel) ⟨Nat.le_of_ble_eq_true rfl, Nat.le_of_ble_eq_true rfl⟩) (k_preV hs hm hS (mw.recv hs hm (mt_ne hA.z (by decide)) (ct1 hA.z) rfl)) rfl rfl hl.1 rfl (lv_room (Nat.le_of_ble_eq_true rfl)) dX1_vote_12 ⟨Nat.le_of_ble_eq_true rfl, Nat.le_of_ble_eq_true rfl⟩) hS (fun u_3 H locs hw_3 hm_3 hS => ?_)
    have hu_3 := hw_3
    have hm := hm_3
    refine lv_aload_n hx hb dX1_vote_15 rfl (lv_at hl 0 rfl) ?_
    refine gf_100 hx hb hts hown hs hm hA.z (hts _ q519) dX1_vote_16 ?_
    refine lv_iload_n hx hb dX1_vote_19 rfl (lv_at hl 1 rfl) ?_
    refine lv_iload_n hx hb dX1_vote_20 rfl (lv_at hl 2 rfl) ?_
    refine k_calli (va_runV (As := [.int (x), .int (y)]) (rest := []) ⟨hx, hb, hml, hown, hts⟩ (cm2_vote l E t u_3  ((c + 1)) (x) (y) hA.c1 (show wfK u_3 (c + 1) from by rw [hu_3]; exact keep_w1 hA hw).n1 hp1.1) (cwV 2 hts (lw_V q1214 q1215 q1216 q59 q1217) rfl rfl rfl (by decide +kernel) ⟨Nat.le_of_ble_eq_true rfl, Nat.le_of_ble_eq_true rfl⟩) (k_preV hs hm hS (mw.recv hs hm (mt_ne (lay.z hA.c1) (by decide)) (ct2 (lay.z hA.c1)) rfl)) rfl rfl hl.1 rfl (lv_room (Nat.le_of_ble_eq_true rfl)) dX1_vote_21 ⟨Nat.le_of_ble_eq_true rfl, Nat.le_of_ble_eq_true rfl⟩) hS (fun r_4 u_4 H locs hw_4 hm_4 hS => ?_)
    obtain ⟨hr_4, hu_4⟩ := hw_4
    have hm := hm_4
    subst hu_4
    subst hr_4
    subst hu_3
    subst hr_1
    refine vx_ret ?_
    refine W.widen (k := 1) (n := 6) (Nat.le_of_ble_eq_true rfl) (Nat.le_of_ble_eq_true rfl) ?_
    exact W.iret (v := _) hx hb hr (fun t9 ht9 _ => ⟨⟨_, _, rfl, pp3 ((if_neg c_2).trans (rfl)), hb9 ht9 hm⟩, hS.F ht9⟩) hS.2.2 dX1_vote_24
def C1_count (t : mt) (M : mm) (c : Nat)  : Int32 × mm :=
  let u_1 := C1_keep t M (c) ;
  let r_2 := (C2_count t u_1 ((c + 1)) ).1;
  let u_2 := (C2_count t u_1 ((c + 1)) ).2;
  (r_2, u_2)
set_option maxHeartbeats 4000000 in
theorem cm1_count (l : Launch) (E : mE) (t : mt) (M : mm) (c : Nat)  (hA : layA t c) (K S : List Nat) (hw : wfA M c K S) : Met l yX1_count (ws_ yX1_count cX1_count 1 (some .int)) ({ frames := 6, cells := 0, slots := 0, locals := 132 }) (va_Pc [.ref c] (wP E t M)) (va_Qi (fun (r : Int32) (u : mm) => r = ((C1_count t M c ).1) ∧ u = (C1_count t M c ).2) (fun u U => mw E t u U.heap) (eA E)) 0 0 (eA E) := by
  refine Met.ofW (cc := cX1_count) (maxL := 1) (ret := (some .int)) (by decide) rfl ?_
  intro p e s m args below meth c0 s₁ B hml hv
  obtain ⟨rfl, hs, hm⟩ := hv
  have hx := B.exec
  have hb := B.bytes
  have hr := B.returns
  have hts := atoms_spec (ws := ws_ yX1_count cX1_count 1 (some .int)) B.pre
  have hts : ∀ w ∈ lw_all, w.before _ s = true := fun w h => hts w (List.mem_cons_of_mem _ h)
  have hown : s.vm.findClass RX1 = some m.cls := findClass_of_methodNamed B.named
  have hlocks := B.notSynchronized
  have hS : va_S (eA E) s.heap s.heap [] := va_S.rf
  have hl := lv_entry ([.ref c]) (n := 1) (Nat.le_of_ble_eq_true rfl)
  rw [lg_entry_eq]
  generalize (lg_sl ([.ref c]) ++ List.replicate (1 - (lg_sl ([.ref c])).length) Slot.unset).toArray = ls at hl ⊢
  have hl : lv_has ls 1 [(0, .ref (c))] := hl
  refine lv_aload_n hx hb dX1_count_0 rfl (lv_at hl 0 rfl) ?_
  refine k_callv (va_runV (As := []) (rest := []) ⟨hx, hb, hml, hown, hts⟩ (cm1_keep l E t M  (c)  hA K S hw) (cwV 0 hts (lw_V q557 q559 qs3 q58 q560) rfl rfl rfl (by decide +kernel) ⟨Nat.le_of_ble_eq_true rfl, Nat.le_of_ble_eq_true rfl⟩) (k_preV hs hm hS (mw.recv hs hm (mt_ne hA.z (by decide)) (ct1 hA.z) rfl)) rfl rfl hl.1 rfl (lv_room (Nat.le_of_ble_eq_true rfl)) dX1_count_1 ⟨Nat.le_of_ble_eq_true rfl, Nat.le_of_ble_eq_true rfl⟩) hS (fun u_1 H locs hw_1 hm_1 hS => ?_)
  have hu_1 := hw_1
  have hm := hm_1
  refine lv_aload_n hx hb dX1_count_4 rfl (lv_at hl 0 rfl) ?_
  refine gf_100 hx hb hts hown hs hm hA.z (hts _ q519) dX1_count_5 ?_
  refine k_calli (va_runV (As := []) (rest := []) ⟨hx, hb, hml, hown, hts⟩ (cm2_count l E t u_1  ((c + 1))  hA.c1 (show wfK u_1 (c + 1) from by rw [hu_1]; exact keep_w1 hA hw).n1) (cwV 0 hts (lw_V q630 q631 q632 q59 q633) rfl rfl rfl (by decide +kernel) ⟨Nat.le_of_ble_eq_true rfl, Nat.le_of_ble_eq_true rfl⟩) (k_preV hs hm hS (mw.recv hs hm (mt_ne (lay.z hA.c1) (by decide)) (ct2 (lay.z hA.c1)) rfl)) rfl rfl hl.1 rfl (lv_room (Nat.le_of_ble_eq_true rfl)) dX1_count_8 ⟨Nat.le_of_ble_eq_true rfl, Nat.le_of_ble_eq_true rfl⟩) hS (fun r_2 u_2 H locs hw_2 hm_2 hS => ?_)
  obtain ⟨hr_2, hu_2⟩ := hw_2
  have hm := hm_2
  subst hu_2
  subst hr_2
  subst hu_1
  exact W.iret (v := _) hx hb hr (fun t9 ht9 _ => ⟨⟨_, _, rfl, pp (rfl), hb9 ht9 hm⟩, hS.F ht9⟩) hS.2.2 dX1_count_11
def C1_pass (t : mt) (M : mm) (c : Nat) (x : Int32) : Int32 × Int32 × mm :=
  let r_1 := C1_in (x) ((1 : Int32)) ((60 : Int32));
  let u_3 := C1_keep t M (c) ;
  let r_4 := (C2_pass t u_3 ((c + 1)) (x)).1;
  let u_4 := (C2_pass t u_3 ((c + 1)) (x)).2;
  if r_1 = 0 then
    ((1 : Int32), (0 : Int32), M)
  else
    let u_3 := C1_keep t M (c) ;
    let r_4 := (C2_pass t u_3 ((c + 1)) (x)).1;
    let u_4 := (C2_pass t u_3 ((c + 1)) (x)).2;
    ((0 : Int32), r_4, u_4)
set_option maxHeartbeats 4000000 in
theorem cm1_pass (l : Launch) (E : mE) (hl9 : l.stackTraces = false) (t : mt) (M : mm) (c : Nat) (x : Int32) (hA : layA t c) (K S : List Nat) (hw : wfA M c K S) : vx_Met l yX1_pass (ws_ yX1_pass cX1_pass 2 (some .int)) ({ frames := 7, cells := 61, slots := 726, locals := 140 }) (va_Pc [.ref c, .int x] (wP E t M)) (va_Qi (fun (r : Int32) (u : mm) => (C1_pass t M c x).1 = 0 ∧ r = (C1_pass t M c x).2.1 ∧ u = (C1_pass t M c x).2.2) (fun u U => mw E t u U.heap) (eA E)) (vx_X (fun (u : mm) => ¬ (C1_pass t M c x).1 = 0 ∧ u = (C1_pass t M c x).2.2) (fun En q u U => XS E t (C1_pass t M c x).1 En q u U.heap) (eA E)) 61 726 (eA E) := by
  refine vx_ofW (cc := cX1_pass) (maxL := 2) (ret := (some .int)) (by decide) rfl ?_
  intro p e s m args below meth c0 s₁ B hml hno hv
  obtain ⟨rfl, hs, hm⟩ := hv
  have hx := B.exec
  have hb := B.bytes
  have hr := B.returns
  have hts := atoms_spec (ws := ws_ yX1_pass cX1_pass 2 (some .int)) B.pre
  have hts : ∀ w ∈ lw_all, w.before _ s = true := fun w h => hts w (List.mem_cons_of_mem _ h)
  have hown : s.vm.findClass RX1 = some m.cls := findClass_of_methodNamed B.named
  have hlocks := B.notSynchronized
  have hout : ∀ pc : Nat, ∀ x ∈ c0.exceptionTable.toList, covers x pc = false := fun _ x h => (hno x h).elim
  have hS : va_S (eA E) s.heap s.heap [] := va_S.rf
  have hl := lv_entry ([.ref c, .int x]) (n := 2) (Nat.le_of_ble_eq_true rfl)
  rw [lg_entry_eq]
  generalize (lg_sl ([.ref c, .int x]) ++ List.replicate (2 - (lg_sl ([.ref c, .int x])).length) Slot.unset).toArray = ls at hl ⊢
  have hl : lv_has ls 2 [(0, .ref (c)), (1, .int (x))] := hl
  refine lv_iload_n hx hb dX1_pass_0 rfl (lv_at hl 1 rfl) ?_
  refine lv_iconst (v := (1 : Int32)) hx hb dX1_pass_1 (by decide) ?_
  refine lv_bipush (v := (60 : Int32)) hx hb dX1_pass_2 (by decide) ?_
  refine k_calli (va_runS (As := [.int (x), .int ((1 : Int32)), .int ((60 : Int32))]) (rest := []) ⟨hx, hb, hml, hown, hts⟩ (cm1_in l E (x) ((1 : Int32)) ((60 : Int32)) _) (va_cwS 3 hts (lw_S q699 q700 q58 q701) rfl rfl rfl (by decide +kernel) ⟨Nat.le_of_ble_eq_true rfl, Nat.le_of_ble_eq_true rfl⟩) (k_pure hs hS) rfl rfl hl.1 rfl (lv_room (Nat.le_of_ble_eq_true rfl)) dX1_pass_4 ⟨Nat.le_of_ble_eq_true rfl, Nat.le_of_ble_eq_true rfl⟩) hS (fun r_1 u_1 H9 locs hw_1 hm_1 hS => ?_)
  replace hm_1 : _ = H9 := Eq.symm hm_1
  subst hm_1
  have hr_1 := hw_1
  refine kx_callv (BX := fun En q u H => XS E t 1 En q u H) (vx_runS (As := [.int (r_1)]) (rest := []) ⟨hx, hb, hml, hown, hts⟩ (cm1_check l E hl9 t M  (r_1) ) (va_cwS 1 hts (lw_S q702 q703 q58 q704) rfl rfl rfl (by decide +kernel) ⟨Nat.le_of_ble_eq_true rfl, Nat.le_of_ble_eq_true rfl⟩) (k_preS hs hm hS) rfl rfl hl.1 rfl (lv_room (Nat.le_of_ble_eq_true rfl)) dX1_pass_7 ⟨Nat.le_of_ble_eq_true rfl, Nat.le_of_ble_eq_true rfl⟩) hS (fun En_2 ce_2 q_2 u9_2 H locs hp_2 hB_2 hS h1_2 h2_2 h3_2 => ?_) (fun u_2 H locs hw_2 hm_2 hS => ?_)
  · obtain ⟨c_2, hu9_2⟩ := hp_2
    replace hu9_2 := hu9_2.symm
    subst hu9_2
    subst hr_1
    have e9 : C1_pass t M c x = _ := (if_pos c_2).trans (rfl)
    exact kx_out (BX := fun En q u H => XS E t (C1_pass t M c x).1 En q u H) (u := _) (fun x h => (hno x h).elim) hlocks (xs_leaf e9 (by decide) hB_2).1 (xs_leaf e9 (by decide) hB_2).2 hS h1_2 h2_2 h3_2 (Nat.le_of_ble_eq_true rfl) (Nat.le_of_ble_eq_true rfl)
  · obtain ⟨c_2, hu_2⟩ := hw_2
    replace hu_2 := hu_2.symm
    subst hu_2
    have hm := hm_2
    have hp1 : ix 61 x := cin1_ix (hr_1 ▸ c_2)
    refine lv_aload_n hx hb dX1_pass_10 rfl (lv_at hl 0 rfl) ?_
    refine k_callv (va_runV (As := []) (rest := []) ⟨hx, hb, hml, hown, hts⟩ (cm1_keep l E t M  (c)  hA K S hw) (cwV 0 hts (lw_V q557 q559 qs3 q58 q560) rfl rfl rfl (by decide +kernel) ⟨Nat.le_of_ble_eq_true rfl, Nat.le_of_ble_eq_true rfl⟩) (k_preV hs hm hS (mw.recv hs hm (mt_ne hA.z (by decide)) (ct1 hA.z) rfl)) rfl rfl hl.1 rfl (lv_room (Nat.le_of_ble_eq_true rfl)) dX1_pass_11 ⟨Nat.le_of_ble_eq_true rfl, Nat.le_of_ble_eq_true rfl⟩) hS (fun u_3 H locs hw_3 hm_3 hS => ?_)
    have hu_3 := hw_3
    have hm := hm_3
    refine lv_aload_n hx hb dX1_pass_14 rfl (lv_at hl 0 rfl) ?_
    refine gf_100 hx hb hts hown hs hm hA.z (hts _ q519) dX1_pass_15 ?_
    refine lv_iload_n hx hb dX1_pass_18 rfl (lv_at hl 1 rfl) ?_
    refine k_calli (va_runV (As := [.int (x)]) (rest := []) ⟨hx, hb, hml, hown, hts⟩ (cm2_pass l E t u_3  ((c + 1)) (x) hA.c1 hp1 ((show wfK u_3 (c + 1) from by rw [hu_3]; exact keep_w1 hA hw).wfC hA.c1)) (cwV 1 hts (lw_V q945 q946 q947 q59 q948) rfl rfl rfl (by decide +kernel) ⟨Nat.le_of_ble_eq_true rfl, Nat.le_of_ble_eq_true rfl⟩) (k_preV hs hm hS (mw.recv hs hm (mt_ne (lay.z hA.c1) (by decide)) (ct2 (lay.z hA.c1)) rfl)) rfl rfl hl.1 rfl (lv_room (Nat.le_of_ble_eq_true rfl)) dX1_pass_19 ⟨Nat.le_of_ble_eq_true rfl, Nat.le_of_ble_eq_true rfl⟩) hS (fun r_4 u_4 H locs hw_4 hm_4 hS => ?_)
    obtain ⟨hr_4, hu_4⟩ := hw_4
    have hm := hm_4
    subst hu_4
    subst hr_4
    subst hu_3
    subst hr_1
    refine vx_ret ?_
    refine W.widen (k := 61) (n := 726) (Nat.le_of_ble_eq_true rfl) (Nat.le_of_ble_eq_true rfl) ?_
    exact W.iret (v := _) hx hb hr (fun t9 ht9 _ => ⟨⟨_, _, rfl, pp3 ((if_neg c_2).trans (rfl)), hb9 ht9 hm⟩, hS.F ht9⟩) hS.2.2 dX1_pass_22
