set_option maxRecDepth 100000
/-! the wrappers of the law -/
section KLD
variable {p : Program} {l : Launch} {e : Env} {R : Room} {s : State} {m : MethodId} {args : Array Value} {below : List Frame} {meth : Method} {c : Code} {H : Heap} {locs : List Loc} {cells slots : Nat} {Q : State → Prop}
variable {cc : ByteArray} {pc : Nat} {ls : Array Slot} {rest : List Value} {a : Nat} {E : mE} {t : mt} {M : mm}
theorem k_last {n : Nat} (hexec : p.tables.exec = Jvm.exec) (hb : c.code = cc) (hs : sP E s) (hm : mw E t M H) (hS : va_S (eA E) s.heap H locs) (ht : t a = (60, n)) {i : Int32} {x : Int64} (hin : vp_in i n) (hdg : decode cc pc = .ok (.lastore, 1))
    (kk : ∀ (H1 : Heap) (locs1 : List Loc), mw E t (wL M a (vp_updL (aL M a) i.toNatClampNeg x)) H1 → va_S (eA E) s.heap H1 locs1 → W p l e R s m args below meth c H1 locs1 cells slots Q (F0 m (pc + 1) ls rest)) : W p l e R s m args below meth c H locs cells slots Q (F0 m pc ls (.long x :: .int i :: .ref a :: rest)) := by
  obtain ⟨L, hL, hP, hD⟩ := hm
  obtain ⟨q0, hq⟩ := mw.at (E := E) (t := t) (M := M) (hL a (mt_ne ht (by decide)))
  have hset := pl_set (e := .inl (E.2.1 11, n, .inr (.inl (vp_updL (aL M a) i.toNatClampNeg x)))) hD (hL a (mt_ne ht (by decide))) hq
  rw [show ct E t M a = .inl (E.2.1 11, n, .inr (.inl (aL M a))) from ct_k ht] at hq
  refine va_last hexec hb hs.2.1 hP hD hS q0 11 hq rfl hin hdg (fun H1 locs1 hP1 hD1 hS1 => kk H1 locs1 ?_ hS1)
  rw [hset] at hP1 hD1
  refine mw.to hL (fun b => ?_) hP1 hD1
  by_cases hba : b = a
  · subst hba
    rw [va_up_self, ct_k ht]
    simp only [ct, aL, wL, m1_at]
  · rw [va_up_ne _ _ hba, ct_wL hba]
theorem k_dast {n : Nat} (hexec : p.tables.exec = Jvm.exec) (hb : c.code = cc) (hs : sP E s) (hm : mw E t M H) (hS : va_S (eA E) s.heap H locs) (ht : t a = (61, n)) {i : Int32} {x : UInt64} (hin : vp_in i n) (hdg : decode cc pc = .ok (.dastore, 1))
    (kk : ∀ (H1 : Heap) (locs1 : List Loc), mw E t (wD M a (vf_upd (aD M a) i.toNatClampNeg x)) H1 → va_S (eA E) s.heap H1 locs1 → W p l e R s m args below meth c H1 locs1 cells slots Q (F0 m (pc + 1) ls rest)) : W p l e R s m args below meth c H locs cells slots Q (F0 m pc ls (.double x :: .int i :: .ref a :: rest)) := by
  obtain ⟨L, hL, hP, hD⟩ := hm
  obtain ⟨q0, hq⟩ := mw.at (E := E) (t := t) (M := M) (hL a (mt_ne ht (by decide)))
  have hset := pl_set (e := .inl (E.2.1 12, n, .inr (.inr (.inr (.inl (vf_upd (aD M a) i.toNatClampNeg x)))))) hD (hL a (mt_ne ht (by decide))) hq
  rw [show ct E t M a = .inl (E.2.1 12, n, .inr (.inr (.inr (.inl (aD M a))))) from ct_k ht] at hq
  refine va_dast hexec hb hs.2.1 hP hD hS q0 12 hq rfl hin hdg (fun H1 locs1 hP1 hD1 hS1 => kk H1 locs1 ?_ hS1)
  rw [hset] at hP1 hD1
  refine mw.to hL (fun b => ?_) hP1 hD1
  by_cases hba : b = a
  · subst hba
    rw [va_up_self, ct_k ht]
    simp only [ct, aD, wD, m1_at]
  · rw [va_up_ne _ _ hba, ct_wD hba]
end KLD
theorem xc_wind (t : mt) (M : mm) (c : Nat) (x : Int32) : (C1_wind t M c x).1 = (0 : Int32) ∨ (C1_wind t M c x).1 = (1 : Int32) := by
  unfold C1_wind
  (try dsimp only)
  (repeat' split) <;> first | exact .inl rfl | exact .inr rfl | exact .inr (.inl rfl) | exact .inr (.inr rfl) | exact .inr (.inr (.inl rfl)) | exact .inr (.inr (.inr rfl))
def C0_wind (t : mt) (M : mm) (a : Nat) (x : Int32) (o : Nat) : Int32 × Int32 × mm :=
  let r_1 := (C1_wind t M (a) (x)).2.1;
  let u_1 := (C1_wind t M (a) (x)).2.2;
  if (C1_wind t M (a) (x)).1 = 0 then
    ((0 : Int32), (0 : Int32), (wL u_1 o (vp_updL (aL u_1 o) 0 (r_1).toInt64)))
  else
    if (C1_wind t M (a) (x)).1 = (1 : Int32) then
      ((0 : Int32), (1 : Int32), (C1_wind t M (a) (x)).2.2)
    else
      ((0 : Int32), (0 : Int32), M)
set_option maxHeartbeats 4000000 in
theorem cm0_wind (l : Launch) (E : mE) (hl9 : l.stackTraces = false) (t : mt) (M : mm) (a : Nat) (x : Int32) (o : Nat) (hA : layA t a) (ho : t o = (60, 1)) (K S : List Nat) (hw : wfA M a K S) : vx_Met l yX0_wind (wsW_ yX0_wind cX0_wind 4 (some .int) [((0 : Nat), (9 : Nat), (12 : Nat), (13 : Nat))]) ({ frames := 8, cells := 1, slots := 6, locals := 162 }) (va_Pc [.ref a, .int x, .ref o] (wP E t M)) (va_Qi (fun (r : Int32) (u : mm) => (C0_wind t M a x o).1 = 0 ∧ r = (C0_wind t M a x o).2.1 ∧ u = (C0_wind t M a x o).2.2) (fun u U => mw E t u U.heap) (eA E)) (vx_X (fun (u : mm) => ¬ (C0_wind t M a x o).1 = 0 ∧ u = (C0_wind t M a x o).2.2) (fun En q u U => XS E t (C0_wind t M a x o).1 En q u U.heap) (eA E)) 1 6 (eA E) := by
  refine vx_ofWH (cc := cX0_wind) (maxL := 4) (ret := (some .int)) (hh := [((0 : Nat), (9 : Nat), (12 : Nat), (13 : Nat))]) (by decide) rfl ?_
  intro p e s m args below meth c0 s₁ B hml hv
  obtain ⟨rfl, hs, hm⟩ := hv
  have hx := B.exec
  have hb := B.bytes
  have hr := B.returns
  have hts := atoms_spec (ws := wsW_ yX0_wind cX0_wind 4 (some .int) [((0 : Nat), (9 : Nat), (12 : Nat), (13 : Nat))]) B.pre
  have hts : ∀ w ∈ lw_all, w.before _ s = true := fun w h => hts w (List.mem_cons_of_mem _ h)
  have hown : s.vm.findClass RX0 = some m.cls := findClass_of_methodNamed B.named
  have hlocks := B.notSynchronized
  have htab := vx_table (x := yX0_wind) B (atoms_spec (ws := wsW_ yX0_wind cX0_wind 4 (some .int) [((0 : Nat), (9 : Nat), (12 : Nat), (13 : Nat))]) B.pre _ List.mem_cons_self)
  have hS : va_S (eA E) s.heap s.heap [] := va_S.rf
  have hl := lv_entry ([.ref a, .int x, .ref o]) (n := 4) (Nat.le_of_ble_eq_true rfl)
  rw [lg_entry_eq]
  generalize (lg_sl ([.ref a, .int x, .ref o]) ++ List.replicate (4 - (lg_sl ([.ref a, .int x, .ref o])).length) Slot.unset).toArray = ls at hl ⊢
  have hl : lv_has ls 4 [(0, .ref (a)), (1, .int (x)), (2, .ref (o))] := hl
  refine lv_aload_n hx hb dX0_wind_0 rfl (lv_at hl 2 rfl) ?_
  refine lv_iconst (v := (0 : Int32)) hx hb dX0_wind_1 (by decide) ?_
  refine lv_aload_n hx hb dX0_wind_2 rfl (lv_at hl 0 rfl) ?_
  refine lv_iload_n hx hb dX0_wind_3 rfl (lv_at hl 1 rfl) ?_
  refine kx_calli (BX := fun En q u H => XS E t (C1_wind t M (a) (x)).1 En q u H) (vx_runV (As := [.int (x)]) (rest := [.int ((0 : Int32)), .ref (o)]) ⟨hx, hb, hml, hown, hts⟩ (cm1_wind l E hl9 t M  (a) (x) hA K S hw) (cwV 1 hts (lw_V q695 q696 q697 q58 q698) rfl rfl rfl (by decide +kernel) ⟨Nat.le_of_ble_eq_true rfl, Nat.le_of_ble_eq_true rfl⟩) (k_preV hs hm hS (mw.recv hs hm (mt_ne hA.z (by decide)) (ct1 hA.z) rfl)) rfl rfl hl.1 rfl (lv_room (Nat.le_of_ble_eq_true rfl)) dX0_wind_4 ⟨Nat.le_of_ble_eq_true rfl, Nat.le_of_ble_eq_true rfl⟩) hS (fun En_1 ce_1 q_1 u9_1 H locs hp_1 hB_1 hS h1_1 h2_1 h3_1 => ?_) (fun r_1 u_1 H locs hw_1 hm_1 hS => ?_)
  · obtain ⟨c_1, hu9_1⟩ := hp_1
    replace hu9_1 := hu9_1.symm
    subst hu9_1
    obtain ⟨hE_1, hm⟩ := hB_1
    have hk_1 := xc_wind t M a x
    by_cases d_1_0 : (C1_wind t M (a) (x)).1 = (1 : Int32)
    · have hE9 : En_1 = "java/lang/IllegalArgumentException" := by rw [hE_1, d_1_0]; rfl
      subst hE9
      refine vx_catch (name := "java/lang/IllegalArgumentException") hown [] ⟨0, 9, 12, 13⟩ [] htab (fun z hz => nomatch hz) (by decide) (by decide) (hts _ q694) (hs.2.2.1.at q707 rfl rfl) h1_1 h2_1 h3_1 ?_
      refine lv_astore_n (lv' := [(3, _), (0, _), (1, _), (2, _)]) hx hb dX0_wind_12 rfl hl (by decide) rfl (fun ls hl => ?_)
      refine lv_iconst (v := (1 : Int32)) hx hb dX0_wind_13 (by decide) ?_
      refine vx_ret ?_
      refine W.widen (k := 1) (n := 6) (Nat.le_of_ble_eq_true rfl) (Nat.le_of_ble_eq_true rfl) ?_
      exact W.iret (v := _) hx hb hr (fun t9 ht9 _ => ⟨⟨_, _, rfl, pp3 ((if_neg c_1).trans ((if_pos d_1_0).trans (rfl))), hb9 ht9 hm⟩, hS.F ht9⟩) hS.2.2 dX0_wind_14
    · rcases hk_1 with h9 | h9
      · exact absurd h9 c_1
      · exact absurd h9 d_1_0
  · obtain ⟨c_1, hr_1, hu_1⟩ := hw_1
    have hm := hm_1
    refine lv_i2l hx hb dX0_wind_7 rfl ?_
    refine k_last hx hb hs hm hS ho (vi 0 (by decide) (by decide)) dX0_wind_8 (fun H locs hm hS => ?_)
    have hm : mw E t ((wL u_1 o (vp_updL (aL u_1 o) 0 (r_1).toInt64))) H := hm
    refine lv_goto (tgt := 15) hx hb dX0_wind_9 (by decide) ?_
    refine lv_iconst (v := (0 : Int32)) hx hb dX0_wind_15 (by decide) ?_
    subst hu_1
    subst hr_1
    refine vx_ret ?_
    refine W.widen (k := 1) (n := 6) (Nat.le_of_ble_eq_true rfl) (Nat.le_of_ble_eq_true rfl) ?_
    exact W.iret (v := _) hx hb hr (fun t9 ht9 _ => ⟨⟨_, _, rfl, pp3 ((if_pos c_1).trans (rfl)), hb9 ht9 hm⟩, hS.F ht9⟩) hS.2.2 dX0_wind_16
theorem xc_rain (t : mt) (M : mm) (c : Nat) (x : Int32) : (C1_rain t M c x).1 = (0 : Int32) ∨ (C1_rain t M c x).1 = (1 : Int32) := by
  unfold C1_rain
  (try dsimp only)
  (repeat' split) <;> first | exact .inl rfl | exact .inr rfl | exact .inr (.inl rfl) | exact .inr (.inr rfl) | exact .inr (.inr (.inl rfl)) | exact .inr (.inr (.inr rfl))
def C0_rain (t : mt) (M : mm) (a : Nat) (x : Int32) (o : Nat) : Int32 × Int32 × mm :=
  let r_1 := (C1_rain t M (a) (x)).2.1;
  let u_1 := (C1_rain t M (a) (x)).2.2;
  if (C1_rain t M (a) (x)).1 = 0 then
    ((0 : Int32), (0 : Int32), (wL u_1 o (vp_updL (aL u_1 o) 0 (r_1).toInt64)))
  else
    if (C1_rain t M (a) (x)).1 = (1 : Int32) then
      ((0 : Int32), (1 : Int32), (C1_rain t M (a) (x)).2.2)
    else
      ((0 : Int32), (0 : Int32), M)
set_option maxHeartbeats 4000000 in
theorem cm0_rain (l : Launch) (E : mE) (hl9 : l.stackTraces = false) (t : mt) (M : mm) (a : Nat) (x : Int32) (o : Nat) (hA : layA t a) (ho : t o = (60, 1)) (K S : List Nat) (hw : wfA M a K S) : vx_Met l yX0_rain (wsW_ yX0_rain cX0_rain 4 (some .int) [((0 : Nat), (9 : Nat), (12 : Nat), (13 : Nat))]) ({ frames := 8, cells := 1, slots := 6, locals := 162 }) (va_Pc [.ref a, .int x, .ref o] (wP E t M)) (va_Qi (fun (r : Int32) (u : mm) => (C0_rain t M a x o).1 = 0 ∧ r = (C0_rain t M a x o).2.1 ∧ u = (C0_rain t M a x o).2.2) (fun u U => mw E t u U.heap) (eA E)) (vx_X (fun (u : mm) => ¬ (C0_rain t M a x o).1 = 0 ∧ u = (C0_rain t M a x o).2.2) (fun En q u U => XS E t (C0_rain t M a x o).1 En q u U.heap) (eA E)) 1 6 (eA E) := by
  refine vx_ofWH (cc := cX0_rain) (maxL := 4) (ret := (some .int)) (hh := [((0 : Nat), (9 : Nat), (12 : Nat), (13 : Nat))]) (by decide) rfl ?_
  intro p e s m args below meth c0 s₁ B hml hv
  obtain ⟨rfl, hs, hm⟩ := hv
  have hx := B.exec
  have hb := B.bytes
  have hr := B.returns
  have hts := atoms_spec (ws := wsW_ yX0_rain cX0_rain 4 (some .int) [((0 : Nat), (9 : Nat), (12 : Nat), (13 : Nat))]) B.pre
  have hts : ∀ w ∈ lw_all, w.before _ s = true := fun w h => hts w (List.mem_cons_of_mem _ h)
  have hown : s.vm.findClass RX0 = some m.cls := findClass_of_methodNamed B.named
  have hlocks := B.notSynchronized
  have htab := vx_table (x := yX0_rain) B (atoms_spec (ws := wsW_ yX0_rain cX0_rain 4 (some .int) [((0 : Nat), (9 : Nat), (12 : Nat), (13 : Nat))]) B.pre _ List.mem_cons_self)
  have hS : va_S (eA E) s.heap s.heap [] := va_S.rf
  have hl := lv_entry ([.ref a, .int x, .ref o]) (n := 4) (Nat.le_of_ble_eq_true rfl)
  rw [lg_entry_eq]
  generalize (lg_sl ([.ref a, .int x, .ref o]) ++ List.replicate (4 - (lg_sl ([.ref a, .int x, .ref o])).length) Slot.unset).toArray = ls at hl ⊢
  have hl : lv_has ls 4 [(0, .ref (a)), (1, .int (x)), (2, .ref (o))] := hl
  refine lv_aload_n hx hb dX0_rain_0 rfl (lv_at hl 2 rfl) ?_
  refine lv_iconst (v := (0 : Int32)) hx hb dX0_rain_1 (by decide) ?_
  refine lv_aload_n hx hb dX0_rain_2 rfl (lv_at hl 0 rfl) ?_
  refine lv_iload_n hx hb dX0_rain_3 rfl (lv_at hl 1 rfl) ?_
  refine kx_calli (BX := fun En q u H => XS E t (C1_rain t M (a) (x)).1 En q u H) (vx_runV (As := [.int (x)]) (rest := [.int ((0 : Int32)), .ref (o)]) ⟨hx, hb, hml, hown, hts⟩ (cm1_rain l E hl9 t M  (a) (x) hA K S hw) (cwV 1 hts (lw_V q729 q730 q731 q58 q732) rfl rfl rfl (by decide +kernel) ⟨Nat.le_of_ble_eq_true rfl, Nat.le_of_ble_eq_true rfl⟩) (k_preV hs hm hS (mw.recv hs hm (mt_ne hA.z (by decide)) (ct1 hA.z) rfl)) rfl rfl hl.1 rfl (lv_room (Nat.le_of_ble_eq_true rfl)) dX0_rain_4 ⟨Nat.le_of_ble_eq_true rfl, Nat.le_of_ble_eq_true rfl⟩) hS (fun En_1 ce_1 q_1 u9_1 H locs hp_1 hB_1 hS h1_1 h2_1 h3_1 => ?_) (fun r_1 u_1 H locs hw_1 hm_1 hS => ?_)
  · obtain ⟨c_1, hu9_1⟩ := hp_1
    replace hu9_1 := hu9_1.symm
    subst hu9_1
    obtain ⟨hE_1, hm⟩ := hB_1
    have hk_1 := xc_rain t M a x
    by_cases d_1_0 : (C1_rain t M (a) (x)).1 = (1 : Int32)
    · have hE9 : En_1 = "java/lang/IllegalArgumentException" := by rw [hE_1, d_1_0]; rfl
      subst hE9
      refine vx_catch (name := "java/lang/IllegalArgumentException") hown [] ⟨0, 9, 12, 13⟩ [] htab (fun z hz => nomatch hz) (by decide) (by decide) (hts _ q694) (hs.2.2.1.at q707 rfl rfl) h1_1 h2_1 h3_1 ?_
      refine lv_astore_n (lv' := [(3, _), (0, _), (1, _), (2, _)]) hx hb dX0_rain_12 rfl hl (by decide) rfl (fun ls hl => ?_)
      refine lv_iconst (v := (1 : Int32)) hx hb dX0_rain_13 (by decide) ?_
      refine vx_ret ?_
      refine W.widen (k := 1) (n := 6) (Nat.le_of_ble_eq_true rfl) (Nat.le_of_ble_eq_true rfl) ?_
      exact W.iret (v := _) hx hb hr (fun t9 ht9 _ => ⟨⟨_, _, rfl, pp3 ((if_neg c_1).trans ((if_pos d_1_0).trans (rfl))), hb9 ht9 hm⟩, hS.F ht9⟩) hS.2.2 dX0_rain_14
    · rcases hk_1 with h9 | h9
      · exact absurd h9 c_1
      · exact absurd h9 d_1_0
  · obtain ⟨c_1, hr_1, hu_1⟩ := hw_1
    have hm := hm_1
    refine lv_i2l hx hb dX0_rain_7 rfl ?_
    refine k_last hx hb hs hm hS ho (vi 0 (by decide) (by decide)) dX0_rain_8 (fun H locs hm hS => ?_)
    have hm : mw E t ((wL u_1 o (vp_updL (aL u_1 o) 0 (r_1).toInt64))) H := hm
    refine lv_goto (tgt := 15) hx hb dX0_rain_9 (by decide) ?_
    refine lv_iconst (v := (0 : Int32)) hx hb dX0_rain_15 (by decide) ?_
    subst hu_1
    subst hr_1
    refine vx_ret ?_
    refine W.widen (k := 1) (n := 6) (Nat.le_of_ble_eq_true rfl) (Nat.le_of_ble_eq_true rfl) ?_
    exact W.iret (v := _) hx hb hr (fun t9 ht9 _ => ⟨⟨_, _, rfl, pp3 ((if_pos c_1).trans (rfl)), hb9 ht9 hm⟩, hS.F ht9⟩) hS.2.2 dX0_rain_16
theorem xc_moles (t : mt) (M : mm) (c : Nat) (x : Int32) (y : Int32) : (C1_moles t M c x y).1 = (0 : Int32) ∨ (C1_moles t M c x y).1 = (3 : Int32) ∨ (C1_moles t M c x y).1 = (1 : Int32) := by
  unfold C1_moles
  (try dsimp only)
  (repeat' split) <;> first | exact .inl rfl | exact .inr rfl | exact .inr (.inl rfl) | exact .inr (.inr rfl) | exact .inr (.inr (.inl rfl)) | exact .inr (.inr (.inr rfl))
def C0_moles (t : mt) (M : mm) (a : Nat) (x : Int32) (y : Int32) (o : Nat) : Int32 × Int32 × mm :=
  let r_1 := (C1_moles t M (a) (x) (y)).2.1;
  let u_1 := (C1_moles t M (a) (x) (y)).2.2;
  if (C1_moles t M (a) (x) (y)).1 = 0 then
    ((0 : Int32), (0 : Int32), (wL u_1 o (vp_updL (aL u_1 o) 0 (r_1).toInt64)))
  else
    if (C1_moles t M (a) (x) (y)).1 = (3 : Int32) then
      ((0 : Int32), (1 : Int32), (C1_moles t M (a) (x) (y)).2.2)
    else
      if (C1_moles t M (a) (x) (y)).1 = (1 : Int32) then
        ((0 : Int32), (2 : Int32), (C1_moles t M (a) (x) (y)).2.2)
      else
        ((0 : Int32), (0 : Int32), M)
set_option maxHeartbeats 4000000 in
theorem cm0_moles (l : Launch) (E : mE) (hl9 : l.stackTraces = false) (t : mt) (M : mm) (a : Nat) (x : Int32) (y : Int32) (o : Nat) (hA : layA t a) (ho : t o = (60, 1)) (K S : List Nat) (hw : wfA M a K S) : vx_Met l yX0_moles (wsW_ yX0_moles cX0_moles 5 (some .int) [((0 : Nat), (10 : Nat), (13 : Nat), (28 : Nat)), ((0 : Nat), (10 : Nat), (17 : Nat), (13 : Nat))]) ({ frames := 8, cells := 2, slots := 12, locals := 163 }) (va_Pc [.ref a, .int x, .int y, .ref o] (wP E t M)) (va_Qi (fun (r : Int32) (u : mm) => (C0_moles t M a x y o).1 = 0 ∧ r = (C0_moles t M a x y o).2.1 ∧ u = (C0_moles t M a x y o).2.2) (fun u U => mw E t u U.heap) (eA E)) (vx_X (fun (u : mm) => ¬ (C0_moles t M a x y o).1 = 0 ∧ u = (C0_moles t M a x y o).2.2) (fun En q u U => XS E t (C0_moles t M a x y o).1 En q u U.heap) (eA E)) 2 12 (eA E) := by
  refine vx_ofWH (cc := cX0_moles) (maxL := 5) (ret := (some .int)) (hh := [((0 : Nat), (10 : Nat), (13 : Nat), (28 : Nat)), ((0 : Nat), (10 : Nat), (17 : Nat), (13 : Nat))]) (by decide) rfl ?_
  intro p e s m args below meth c0 s₁ B hml hv
  obtain ⟨rfl, hs, hm⟩ := hv
  have hx := B.exec
  have hb := B.bytes
  have hr := B.returns
  have hts := atoms_spec (ws := wsW_ yX0_moles cX0_moles 5 (some .int) [((0 : Nat), (10 : Nat), (13 : Nat), (28 : Nat)), ((0 : Nat), (10 : Nat), (17 : Nat), (13 : Nat))]) B.pre
  have hts : ∀ w ∈ lw_all, w.before _ s = true := fun w h => hts w (List.mem_cons_of_mem _ h)
  have hown : s.vm.findClass RX0 = some m.cls := findClass_of_methodNamed B.named
  have hlocks := B.notSynchronized
  have htab := vx_table (x := yX0_moles) B (atoms_spec (ws := wsW_ yX0_moles cX0_moles 5 (some .int) [((0 : Nat), (10 : Nat), (13 : Nat), (28 : Nat)), ((0 : Nat), (10 : Nat), (17 : Nat), (13 : Nat))]) B.pre _ List.mem_cons_self)
  have hS : va_S (eA E) s.heap s.heap [] := va_S.rf
  have hl := lv_entry ([.ref a, .int x, .int y, .ref o]) (n := 5) (Nat.le_of_ble_eq_true rfl)
  rw [lg_entry_eq]
  generalize (lg_sl ([.ref a, .int x, .int y, .ref o]) ++ List.replicate (5 - (lg_sl ([.ref a, .int x, .int y, .ref o])).length) Slot.unset).toArray = ls at hl ⊢
  have hl : lv_has ls 5 [(0, .ref (a)), (1, .int (x)), (2, .int (y)), (3, .ref (o))] := hl
  refine lv_aload_n hx hb dX0_moles_0 rfl (lv_at hl 3 rfl) ?_
  refine lv_iconst (v := (0 : Int32)) hx hb dX0_moles_1 (by decide) ?_
  refine lv_aload_n hx hb dX0_moles_2 rfl (lv_at hl 0 rfl) ?_
  refine lv_iload_n hx hb dX0_moles_3 rfl (lv_at hl 1 rfl) ?_
  refine lv_iload_n hx hb dX0_moles_4 rfl (lv_at hl 2 rfl) ?_
  refine kx_calli (BX := fun En q u H => XS E t (C1_moles t M (a) (x) (y)).1 En q u H) (vx_runV (As := [.int (x), .int (y)]) (rest := [.int ((0 : Int32)), .ref (o)]) ⟨hx, hb, hml, hown, hts⟩ (cm1_moles l E hl9 t M  (a) (x) (y) hA K S hw) (cwV 2 hts (lw_V q1203 q1204 q1205 q58 q1206) rfl rfl rfl (by decide +kernel) ⟨Nat.le_of_ble_eq_true rfl, Nat.le_of_ble_eq_true rfl⟩) (k_preV hs hm hS (mw.recv hs hm (mt_ne hA.z (by decide)) (ct1 hA.z) rfl)) rfl rfl hl.1 rfl (lv_room (Nat.le_of_ble_eq_true rfl)) dX0_moles_5 ⟨Nat.le_of_ble_eq_true rfl, Nat.le_of_ble_eq_true rfl⟩) hS (fun En_1 ce_1 q_1 u9_1 H locs hp_1 hB_1 hS h1_1 h2_1 h3_1 => ?_) (fun r_1 u_1 H locs hw_1 hm_1 hS => ?_)
  · obtain ⟨c_1, hu9_1⟩ := hp_1
    replace hu9_1 := hu9_1.symm
    subst hu9_1
    obtain ⟨hE_1, hm⟩ := hB_1
    have hk_1 := xc_moles t M a x y
    by_cases d_1_0 : (C1_moles t M (a) (x) (y)).1 = (3 : Int32)
    · have hE9 : En_1 = "java/lang/IndexOutOfBoundsException" := by rw [hE_1, d_1_0]; rfl
      subst hE9
      refine vx_catch (name := "java/lang/IndexOutOfBoundsException") hown [] ⟨0, 10, 13, 28⟩ [⟨0, 10, 17, 13⟩] htab (fun z hz => nomatch hz) (by decide) (by decide) (hts _ q805) (hs.2.2.1.at q846 rfl rfl) h1_1 h2_1 h3_1 ?_
      refine lv_astore (lv' := [(4, _), (0, _), (1, _), (2, _), (3, _)]) hx hb dX0_moles_13 hl (by decide) rfl (fun ls hl => ?_)
      refine lv_iconst (v := (1 : Int32)) hx hb dX0_moles_15 (by decide) ?_
      refine vx_ret ?_
      refine W.widen (k := 2) (n := 12) (Nat.le_of_ble_eq_true rfl) (Nat.le_of_ble_eq_true rfl) ?_
      exact W.iret (v := _) hx hb hr (fun t9 ht9 _ => ⟨⟨_, _, rfl, pp3 ((if_neg c_1).trans ((if_pos d_1_0).trans (rfl))), hb9 ht9 hm⟩, hS.F ht9⟩) hS.2.2 dX0_moles_16
    · skip
      by_cases d_1_1 : (C1_moles t M (a) (x) (y)).1 = (1 : Int32)
      · have hE9 : En_1 = "java/lang/IllegalArgumentException" := by rw [hE_1, d_1_1]; rfl
        subst hE9
        refine vx_catch (name := "java/lang/IllegalArgumentException") hown [⟨0, 10, 13, 28⟩] ⟨0, 10, 17, 13⟩ [] htab (fun z hz => by
          rcases List.mem_singleton.mp hz with rfl
          exact Or.inr ⟨by decide, "java/lang/IndexOutOfBoundsException", hts _ q805, hs.2.2.2.2.2.2.2 ("java/lang/IllegalArgumentException", "java/lang/IndexOutOfBoundsException") (by decide +kernel)⟩) (by decide) (by decide) (hts _ q694) (hs.2.2.1.at q707 rfl rfl) h1_1 h2_1 h3_1 ?_
        refine lv_astore (lv' := [(4, _), (0, _), (1, _), (2, _), (3, _)]) hx hb dX0_moles_17 hl (by decide) rfl (fun ls hl => ?_)
        refine lv_iconst (v := (2 : Int32)) hx hb dX0_moles_19 (by decide) ?_
        refine vx_ret ?_
        refine W.widen (k := 2) (n := 12) (Nat.le_of_ble_eq_true rfl) (Nat.le_of_ble_eq_true rfl) ?_
        exact W.iret (v := _) hx hb hr (fun t9 ht9 _ => ⟨⟨_, _, rfl, pp3 ((if_neg c_1).trans ((if_neg d_1_0).trans ((if_pos d_1_1).trans (rfl)))), hb9 ht9 hm⟩, hS.F ht9⟩) hS.2.2 dX0_moles_20
      · rcases hk_1 with h9 | h9 | h9
        · exact absurd h9 c_1
        · exact absurd h9 d_1_0
        · exact absurd h9 d_1_1
  · obtain ⟨c_1, hr_1, hu_1⟩ := hw_1
    have hm := hm_1
    refine lv_i2l hx hb dX0_moles_8 rfl ?_
    refine k_last hx hb hs hm hS ho (vi 0 (by decide) (by decide)) dX0_moles_9 (fun H locs hm hS => ?_)
    have hm : mw E t ((wL u_1 o (vp_updL (aL u_1 o) 0 (r_1).toInt64))) H := hm
    refine lv_goto (tgt := 21) hx hb dX0_moles_10 (by decide) ?_
    refine lv_iconst (v := (0 : Int32)) hx hb dX0_moles_21 (by decide) ?_
    subst hu_1
    subst hr_1
    refine vx_ret ?_
    refine W.widen (k := 2) (n := 12) (Nat.le_of_ble_eq_true rfl) (Nat.le_of_ble_eq_true rfl) ?_
    exact W.iret (v := _) hx hb hr (fun t9 ht9 _ => ⟨⟨_, _, rfl, pp3 ((if_pos c_1).trans (rfl)), hb9 ht9 hm⟩, hS.F ht9⟩) hS.2.2 dX0_moles_22
theorem xc_vote (t : mt) (M : mm) (c : Nat) (x : Int32) (y : Int32) : (C1_vote t M c x y).1 = (0 : Int32) ∨ (C1_vote t M c x y).1 = (3 : Int32) := by
  unfold C1_vote
  (try dsimp only)
  (repeat' split) <;> first | exact .inl rfl | exact .inr rfl | exact .inr (.inl rfl) | exact .inr (.inr rfl) | exact .inr (.inr (.inl rfl)) | exact .inr (.inr (.inr rfl))
def C0_vote (t : mt) (M : mm) (a : Nat) (x : Int32) (y : Int32) (o : Nat) : Int32 × Int32 × mm :=
  let r_1 := (C1_vote t M (a) (x) (y)).2.1;
  let u_1 := (C1_vote t M (a) (x) (y)).2.2;
  if (C1_vote t M (a) (x) (y)).1 = 0 then
    ((0 : Int32), (0 : Int32), (wL u_1 o (vp_updL (aL u_1 o) 0 (r_1).toInt64)))
  else
    if (C1_vote t M (a) (x) (y)).1 = (3 : Int32) then
      ((0 : Int32), (1 : Int32), (C1_vote t M (a) (x) (y)).2.2)
    else
      ((0 : Int32), (0 : Int32), M)
set_option maxHeartbeats 4000000 in
theorem cm0_vote (l : Launch) (E : mE) (hl9 : l.stackTraces = false) (t : mt) (M : mm) (a : Nat) (x : Int32) (y : Int32) (o : Nat) (hA : layA t a) (ho : t o = (60, 1)) (K S : List Nat) (hw : wfA M a K S) : vx_Met l yX0_vote (wsW_ yX0_vote cX0_vote 5 (some .int) [((0 : Nat), (10 : Nat), (13 : Nat), (28 : Nat))]) ({ frames := 8, cells := 1, slots := 6, locals := 162 }) (va_Pc [.ref a, .int x, .int y, .ref o] (wP E t M)) (va_Qi (fun (r : Int32) (u : mm) => (C0_vote t M a x y o).1 = 0 ∧ r = (C0_vote t M a x y o).2.1 ∧ u = (C0_vote t M a x y o).2.2) (fun u U => mw E t u U.heap) (eA E)) (vx_X (fun (u : mm) => ¬ (C0_vote t M a x y o).1 = 0 ∧ u = (C0_vote t M a x y o).2.2) (fun En q u U => XS E t (C0_vote t M a x y o).1 En q u U.heap) (eA E)) 1 6 (eA E) := by
  refine vx_ofWH (cc := cX0_vote) (maxL := 5) (ret := (some .int)) (hh := [((0 : Nat), (10 : Nat), (13 : Nat), (28 : Nat))]) (by decide) rfl ?_
  intro p e s m args below meth c0 s₁ B hml hv
  obtain ⟨rfl, hs, hm⟩ := hv
  have hx := B.exec
  have hb := B.bytes
  have hr := B.returns
  have hts := atoms_spec (ws := wsW_ yX0_vote cX0_vote 5 (some .int) [((0 : Nat), (10 : Nat), (13 : Nat), (28 : Nat))]) B.pre
  have hts : ∀ w ∈ lw_all, w.before _ s = true := fun w h => hts w (List.mem_cons_of_mem _ h)
  have hown : s.vm.findClass RX0 = some m.cls := findClass_of_methodNamed B.named
  have hlocks := B.notSynchronized
  have htab := vx_table (x := yX0_vote) B (atoms_spec (ws := wsW_ yX0_vote cX0_vote 5 (some .int) [((0 : Nat), (10 : Nat), (13 : Nat), (28 : Nat))]) B.pre _ List.mem_cons_self)
  have hS : va_S (eA E) s.heap s.heap [] := va_S.rf
  have hl := lv_entry ([.ref a, .int x, .int y, .ref o]) (n := 5) (Nat.le_of_ble_eq_true rfl)
  rw [lg_entry_eq]
  generalize (lg_sl ([.ref a, .int x, .int y, .ref o]) ++ List.replicate (5 - (lg_sl ([.ref a, .int x, .int y, .ref o])).length) Slot.unset).toArray = ls at hl ⊢
  have hl : lv_has ls 5 [(0, .ref (a)), (1, .int (x)), (2, .int (y)), (3, .ref (o))] := hl
  refine lv_aload_n hx hb dX0_vote_0 rfl (lv_at hl 3 rfl) ?_
  refine lv_iconst (v := (0 : Int32)) hx hb dX0_vote_1 (by decide) ?_
  refine lv_aload_n hx hb dX0_vote_2 rfl (lv_at hl 0 rfl) ?_
  refine lv_iload_n hx hb dX0_vote_3 rfl (lv_at hl 1 rfl) ?_
  refine lv_iload_n hx hb dX0_vote_4 rfl (lv_at hl 2 rfl) ?_
  refine kx_calli (BX := fun En q u H => XS E t (C1_vote t M (a) (x) (y)).1 En q u H) (vx_runV (As := [.int (x), .int (y)]) (rest := [.int ((0 : Int32)), .ref (o)]) ⟨hx, hb, hml, hown, hts⟩ (cm1_vote l E hl9 t M  (a) (x) (y) hA K S hw) (cwV 2 hts (lw_V q1210 q1211 q1212 q58 q1213) rfl rfl rfl (by decide +kernel) ⟨Nat.le_of_ble_eq_true rfl, Nat.le_of_ble_eq_true rfl⟩) (k_preV hs hm hS (mw.recv hs hm (mt_ne hA.z (by decide)) (ct1 hA.z) rfl)) rfl rfl hl.1 rfl (lv_room (Nat.le_of_ble_eq_true rfl)) dX0_vote_5 ⟨Nat.le_of_ble_eq_true rfl, Nat.le_of_ble_eq_true rfl⟩) hS (fun En_1 ce_1 q_1 u9_1 H locs hp_1 hB_1 hS h1_1 h2_1 h3_1 => ?_) (fun r_1 u_1 H locs hw_1 hm_1 hS => ?_)
  · obtain ⟨c_1, hu9_1⟩ := hp_1
    replace hu9_1 := hu9_1.symm
    subst hu9_1
    obtain ⟨hE_1, hm⟩ := hB_1
    have hk_1 := xc_vote t M a x y
    by_cases d_1_0 : (C1_vote t M (a) (x) (y)).1 = (3 : Int32)
    · have hE9 : En_1 = "java/lang/IndexOutOfBoundsException" := by rw [hE_1, d_1_0]; rfl
      subst hE9
      refine vx_catch (name := "java/lang/IndexOutOfBoundsException") hown [] ⟨0, 10, 13, 28⟩ [] htab (fun z hz => nomatch hz) (by decide) (by decide) (hts _ q805) (hs.2.2.1.at q846 rfl rfl) h1_1 h2_1 h3_1 ?_
      refine lv_astore (lv' := [(4, _), (0, _), (1, _), (2, _), (3, _)]) hx hb dX0_vote_13 hl (by decide) rfl (fun ls hl => ?_)
      refine lv_iconst (v := (1 : Int32)) hx hb dX0_vote_15 (by decide) ?_
      refine vx_ret ?_
      refine W.widen (k := 1) (n := 6) (Nat.le_of_ble_eq_true rfl) (Nat.le_of_ble_eq_true rfl) ?_
      exact W.iret (v := _) hx hb hr (fun t9 ht9 _ => ⟨⟨_, _, rfl, pp3 ((if_neg c_1).trans ((if_pos d_1_0).trans (rfl))), hb9 ht9 hm⟩, hS.F ht9⟩) hS.2.2 dX0_vote_16
    · rcases hk_1 with h9 | h9
      · exact absurd h9 c_1
      · exact absurd h9 d_1_0
  · obtain ⟨c_1, hr_1, hu_1⟩ := hw_1
    have hm := hm_1
    refine lv_i2l hx hb dX0_vote_8 rfl ?_
    refine k_last hx hb hs hm hS ho (vi 0 (by decide) (by decide)) dX0_vote_9 (fun H locs hm hS => ?_)
    have hm : mw E t ((wL u_1 o (vp_updL (aL u_1 o) 0 (r_1).toInt64))) H := hm
    refine lv_goto (tgt := 17) hx hb dX0_vote_10 (by decide) ?_
    refine lv_iconst (v := (0 : Int32)) hx hb dX0_vote_17 (by decide) ?_
    subst hu_1
    subst hr_1
    refine vx_ret ?_
    refine W.widen (k := 1) (n := 6) (Nat.le_of_ble_eq_true rfl) (Nat.le_of_ble_eq_true rfl) ?_
    exact W.iret (v := _) hx hb hr (fun t9 ht9 _ => ⟨⟨_, _, rfl, pp3 ((if_pos c_1).trans (rfl)), hb9 ht9 hm⟩, hS.F ht9⟩) hS.2.2 dX0_vote_18
theorem xc_pass (t : mt) (M : mm) (c : Nat) (x : Int32) : (C1_pass t M c x).1 = (0 : Int32) ∨ (C1_pass t M c x).1 = (1 : Int32) := by
  unfold C1_pass
  (try dsimp only)
  (repeat' split) <;> first | exact .inl rfl | exact .inr rfl | exact .inr (.inl rfl) | exact .inr (.inr rfl) | exact .inr (.inr (.inl rfl)) | exact .inr (.inr (.inr rfl))
def C0_pass (t : mt) (M : mm) (a : Nat) (x : Int32) (o : Nat) : Int32 × Int32 × mm :=
  let r_1 := (C1_pass t M (a) (x)).2.1;
  let u_1 := (C1_pass t M (a) (x)).2.2;
  if (C1_pass t M (a) (x)).1 = 0 then
    ((0 : Int32), (0 : Int32), (wL u_1 o (vp_updL (aL u_1 o) 0 (r_1).toInt64)))
  else
    if (C1_pass t M (a) (x)).1 = (1 : Int32) then
      ((0 : Int32), (1 : Int32), (C1_pass t M (a) (x)).2.2)
    else
      ((0 : Int32), (0 : Int32), M)
set_option maxHeartbeats 4000000 in
theorem cm0_pass (l : Launch) (E : mE) (hl9 : l.stackTraces = false) (t : mt) (M : mm) (a : Nat) (x : Int32) (o : Nat) (hA : layA t a) (ho : t o = (60, 1)) (K S : List Nat) (hw : wfA M a K S) : vx_Met l yX0_pass (wsW_ yX0_pass cX0_pass 4 (some .int) [((0 : Nat), (9 : Nat), (12 : Nat), (13 : Nat))]) ({ frames := 8, cells := 61, slots := 726, locals := 161 }) (va_Pc [.ref a, .int x, .ref o] (wP E t M)) (va_Qi (fun (r : Int32) (u : mm) => (C0_pass t M a x o).1 = 0 ∧ r = (C0_pass t M a x o).2.1 ∧ u = (C0_pass t M a x o).2.2) (fun u U => mw E t u U.heap) (eA E)) (vx_X (fun (u : mm) => ¬ (C0_pass t M a x o).1 = 0 ∧ u = (C0_pass t M a x o).2.2) (fun En q u U => XS E t (C0_pass t M a x o).1 En q u U.heap) (eA E)) 61 726 (eA E) := by
  refine vx_ofWH (cc := cX0_pass) (maxL := 4) (ret := (some .int)) (hh := [((0 : Nat), (9 : Nat), (12 : Nat), (13 : Nat))]) (by decide) rfl ?_
  intro p e s m args below meth c0 s₁ B hml hv
  obtain ⟨rfl, hs, hm⟩ := hv
  have hx := B.exec
  have hb := B.bytes
  have hr := B.returns
  have hts := atoms_spec (ws := wsW_ yX0_pass cX0_pass 4 (some .int) [((0 : Nat), (9 : Nat), (12 : Nat), (13 : Nat))]) B.pre
  have hts : ∀ w ∈ lw_all, w.before _ s = true := fun w h => hts w (List.mem_cons_of_mem _ h)
  have hown : s.vm.findClass RX0 = some m.cls := findClass_of_methodNamed B.named
  have hlocks := B.notSynchronized
  have htab := vx_table (x := yX0_pass) B (atoms_spec (ws := wsW_ yX0_pass cX0_pass 4 (some .int) [((0 : Nat), (9 : Nat), (12 : Nat), (13 : Nat))]) B.pre _ List.mem_cons_self)
  have hS : va_S (eA E) s.heap s.heap [] := va_S.rf
  have hl := lv_entry ([.ref a, .int x, .ref o]) (n := 4) (Nat.le_of_ble_eq_true rfl)
  rw [lg_entry_eq]
  generalize (lg_sl ([.ref a, .int x, .ref o]) ++ List.replicate (4 - (lg_sl ([.ref a, .int x, .ref o])).length) Slot.unset).toArray = ls at hl ⊢
  have hl : lv_has ls 4 [(0, .ref (a)), (1, .int (x)), (2, .ref (o))] := hl
  refine lv_aload_n hx hb dX0_pass_0 rfl (lv_at hl 2 rfl) ?_
  refine lv_iconst (v := (0 : Int32)) hx hb dX0_pass_1 (by decide) ?_
  refine lv_aload_n hx hb dX0_pass_2 rfl (lv_at hl 0 rfl) ?_
  refine lv_iload_n hx hb dX0_pass_3 rfl (lv_at hl 1 rfl) ?_
  refine kx_calli (BX := fun En q u H => XS E t (C1_pass t M (a) (x)).1 En q u H) (vx_runV (As := [.int (x)]) (rest := [.int ((0 : Int32)), .ref (o)]) ⟨hx, hb, hml, hown, hts⟩ (cm1_pass l E hl9 t M  (a) (x) hA K S hw) (cwV 1 hts (lw_V q1237 q1238 q1239 q58 q1240) rfl rfl rfl (by decide +kernel) ⟨Nat.le_of_ble_eq_true rfl, Nat.le_of_ble_eq_true rfl⟩) (k_preV hs hm hS (mw.recv hs hm (mt_ne hA.z (by decide)) (ct1 hA.z) rfl)) rfl rfl hl.1 rfl (lv_room (Nat.le_of_ble_eq_true rfl)) dX0_pass_4 ⟨Nat.le_of_ble_eq_true rfl, Nat.le_of_ble_eq_true rfl⟩) hS (fun En_1 ce_1 q_1 u9_1 H locs hp_1 hB_1 hS h1_1 h2_1 h3_1 => ?_) (fun r_1 u_1 H locs hw_1 hm_1 hS => ?_)
  · obtain ⟨c_1, hu9_1⟩ := hp_1
    replace hu9_1 := hu9_1.symm
    subst hu9_1
    obtain ⟨hE_1, hm⟩ := hB_1
    have hk_1 := xc_pass t M a x
    by_cases d_1_0 : (C1_pass t M (a) (x)).1 = (1 : Int32)
    · have hE9 : En_1 = "java/lang/IllegalArgumentException" := by rw [hE_1, d_1_0]; rfl
      subst hE9
      refine vx_catch (name := "java/lang/IllegalArgumentException") hown [] ⟨0, 9, 12, 13⟩ [] htab (fun z hz => nomatch hz) (by decide) (by decide) (hts _ q694) (hs.2.2.1.at q707 rfl rfl) h1_1 h2_1 h3_1 ?_
      refine lv_astore_n (lv' := [(3, _), (0, _), (1, _), (2, _)]) hx hb dX0_pass_12 rfl hl (by decide) rfl (fun ls hl => ?_)
      refine lv_iconst (v := (1 : Int32)) hx hb dX0_pass_13 (by decide) ?_
      refine vx_ret ?_
      refine W.widen (k := 61) (n := 726) (Nat.le_of_ble_eq_true rfl) (Nat.le_of_ble_eq_true rfl) ?_
      exact W.iret (v := _) hx hb hr (fun t9 ht9 _ => ⟨⟨_, _, rfl, pp3 ((if_neg c_1).trans ((if_pos d_1_0).trans (rfl))), hb9 ht9 hm⟩, hS.F ht9⟩) hS.2.2 dX0_pass_14
    · rcases hk_1 with h9 | h9
      · exact absurd h9 c_1
      · exact absurd h9 d_1_0
  · obtain ⟨c_1, hr_1, hu_1⟩ := hw_1
    have hm := hm_1
    refine lv_i2l hx hb dX0_pass_7 rfl ?_
    refine k_last hx hb hs hm hS ho (vi 0 (by decide) (by decide)) dX0_pass_8 (fun H locs hm hS => ?_)
    have hm : mw E t ((wL u_1 o (vp_updL (aL u_1 o) 0 (r_1).toInt64))) H := hm
    refine lv_goto (tgt := 15) hx hb dX0_pass_9 (by decide) ?_
    refine lv_iconst (v := (0 : Int32)) hx hb dX0_pass_15 (by decide) ?_
    subst hu_1
    subst hr_1
    refine vx_ret ?_
    refine W.widen (k := 61) (n := 726) (Nat.le_of_ble_eq_true rfl) (Nat.le_of_ble_eq_true rfl) ?_
    exact W.iret (v := _) hx hb hr (fun t9 ht9 _ => ⟨⟨_, _, rfl, pp3 ((if_pos c_1).trans (rfl)), hb9 ht9 hm⟩, hS.F ht9⟩) hS.2.2 dX0_pass_16
theorem xc_member (t : mt) (M : mm) (c : Nat) : (C1_member t M c ).1 = (0 : Int32) ∨ (C1_member t M c ).1 = (2 : Int32) := by
  unfold C1_member
  (try dsimp only)
  (repeat' split) <;> first | exact .inl rfl | exact .inr rfl | exact .inr (.inl rfl) | exact .inr (.inr rfl) | exact .inr (.inr (.inl rfl)) | exact .inr (.inr (.inr rfl))
def C0_member (t : mt) (M : mm) (a : Nat) (o : Nat) : Int32 × Int32 × mm :=
  let r_1 := (C1_member t M (a) ).2.1;
  let u_1 := (C1_member t M (a) ).2.2;
  if (C1_member t M (a) ).1 = 0 then
    ((0 : Int32), (0 : Int32), (wL u_1 o (vp_updL (aL u_1 o) 0 (r_1).toInt64)))
  else
    if (C1_member t M (a) ).1 = (2 : Int32) then
      ((0 : Int32), (1 : Int32), (C1_member t M (a) ).2.2)
    else
      ((0 : Int32), (0 : Int32), M)
set_option maxHeartbeats 4000000 in
theorem cm0_member (l : Launch) (E : mE) (hl9 : l.stackTraces = false) (t : mt) (M : mm) (a : Nat) (o : Nat) (hA : layA t a) (ho : t o = (60, 1)) (K S : List Nat) (hw : wfA M a K S) (hT : wfK (C1_tryOn t M a).2 (a + 65)) (hO : wfK (C2_member t (C1_tryOn t M a).2 (a + 65) ).2.2.2 (a + 65)) : vx_Met l yX0_member (wsW_ yX0_member cX0_member 3 (some .int) [((0 : Nat), (8 : Nat), (11 : Nat), (22 : Nat))]) ({ frames := 11, cells := 2, slots := 14, locals := 223 }) (va_Pc [.ref a, .ref o] (wP E t M)) (va_Qi (fun (r : Int32) (u : mm) => (C0_member t M a o).1 = 0 ∧ r = (C0_member t M a o).2.1 ∧ u = (C0_member t M a o).2.2) (fun u U => mw E t u U.heap) (eA E)) (vx_X (fun (u : mm) => ¬ (C0_member t M a o).1 = 0 ∧ u = (C0_member t M a o).2.2) (fun En q u U => XS E t (C0_member t M a o).1 En q u U.heap) (eA E)) 2 14 (eA E) := by
  refine vx_ofWH (cc := cX0_member) (maxL := 3) (ret := (some .int)) (hh := [((0 : Nat), (8 : Nat), (11 : Nat), (22 : Nat))]) (by decide) rfl ?_
  intro p e s m args below meth c0 s₁ B hml hv
  obtain ⟨rfl, hs, hm⟩ := hv
  have hx := B.exec
  have hb := B.bytes
  have hr := B.returns
  have hts := atoms_spec (ws := wsW_ yX0_member cX0_member 3 (some .int) [((0 : Nat), (8 : Nat), (11 : Nat), (22 : Nat))]) B.pre
  have hts : ∀ w ∈ lw_all, w.before _ s = true := fun w h => hts w (List.mem_cons_of_mem _ h)
  have hown : s.vm.findClass RX0 = some m.cls := findClass_of_methodNamed B.named
  have hlocks := B.notSynchronized
  have htab := vx_table (x := yX0_member) B (atoms_spec (ws := wsW_ yX0_member cX0_member 3 (some .int) [((0 : Nat), (8 : Nat), (11 : Nat), (22 : Nat))]) B.pre _ List.mem_cons_self)
  have hS : va_S (eA E) s.heap s.heap [] := va_S.rf
  have hl := lv_entry ([.ref a, .ref o]) (n := 3) (Nat.le_of_ble_eq_true rfl)
  rw [lg_entry_eq]
  generalize (lg_sl ([.ref a, .ref o]) ++ List.replicate (3 - (lg_sl ([.ref a, .ref o])).length) Slot.unset).toArray = ls at hl ⊢
  have hl : lv_has ls 3 [(0, .ref (a)), (1, .ref (o))] := hl
  refine lv_aload_n hx hb dX0_member_0 rfl (lv_at hl 1 rfl) ?_
  refine lv_iconst (v := (0 : Int32)) hx hb dX0_member_1 (by decide) ?_
  refine lv_aload_n hx hb dX0_member_2 rfl (lv_at hl 0 rfl) ?_
  refine kx_calli (BX := fun En q u H => XS E t (C1_member t M (a) ).1 En q u H) (vx_runVX (As := []) (rest := [.int ((0 : Int32)), .ref (o)]) ⟨hx, hb, hml, hown, hts⟩ (cm1_member l E hl9 t M  (a)  hA K S hw hT hO) (vx_cwVW 0 hts (lw_VW q737 q738 q739 q58 q740) rfl rfl rfl (by decide +kernel) ⟨Nat.le_of_ble_eq_true rfl, Nat.le_of_ble_eq_true rfl⟩) (k_preV hs hm hS (mw.recv hs hm (mt_ne hA.z (by decide)) (ct1 hA.z) rfl)) rfl rfl hl.1 rfl (lv_room (Nat.le_of_ble_eq_true rfl)) dX0_member_3 ⟨Nat.le_of_ble_eq_true rfl, Nat.le_of_ble_eq_true rfl⟩) hS (fun En_1 ce_1 q_1 u9_1 H locs hp_1 hB_1 hS h1_1 h2_1 h3_1 => ?_) (fun r_1 u_1 H locs hw_1 hm_1 hS => ?_)
  · obtain ⟨c_1, hu9_1⟩ := hp_1
    replace hu9_1 := hu9_1.symm
    subst hu9_1
    obtain ⟨hE_1, hm⟩ := hB_1
    have hk_1 := xc_member t M a 
    by_cases d_1_0 : (C1_member t M (a) ).1 = (2 : Int32)
    · have hE9 : En_1 = "java/lang/UnsupportedOperationException" := by rw [hE_1, d_1_0]; rfl
      subst hE9
      refine vx_catch (name := "java/lang/UnsupportedOperationException") hown [] ⟨0, 8, 11, 22⟩ [] htab (fun z hz => nomatch hz) (by decide) (by decide) (hts _ q736) (hs.2.2.1.at q789 rfl rfl) h1_1 h2_1 h3_1 ?_
      refine lv_astore_n (lv' := [(2, _), (0, _), (1, _)]) hx hb dX0_member_11 rfl hl (by decide) rfl (fun ls hl => ?_)
      refine lv_iconst (v := (1 : Int32)) hx hb dX0_member_12 (by decide) ?_
      refine vx_ret ?_
      refine W.widen (k := 2) (n := 14) (Nat.le_of_ble_eq_true rfl) (Nat.le_of_ble_eq_true rfl) ?_
      exact W.iret (v := _) hx hb hr (fun t9 ht9 _ => ⟨⟨_, _, rfl, pp3 ((if_neg c_1).trans ((if_pos d_1_0).trans (rfl))), hb9 ht9 hm⟩, hS.F ht9⟩) hS.2.2 dX0_member_13
    · rcases hk_1 with h9 | h9
      · exact absurd h9 c_1
      · exact absurd h9 d_1_0
  · obtain ⟨c_1, hr_1, hu_1⟩ := hw_1
    have hm := hm_1
    refine lv_i2l hx hb dX0_member_6 rfl ?_
    refine k_last hx hb hs hm hS ho (vi 0 (by decide) (by decide)) dX0_member_7 (fun H locs hm hS => ?_)
    have hm : mw E t ((wL u_1 o (vp_updL (aL u_1 o) 0 (r_1).toInt64))) H := hm
    refine lv_goto (tgt := 14) hx hb dX0_member_8 (by decide) ?_
    refine lv_iconst (v := (0 : Int32)) hx hb dX0_member_14 (by decide) ?_
    subst hu_1
    subst hr_1
    refine vx_ret ?_
    refine W.widen (k := 2) (n := 14) (Nat.le_of_ble_eq_true rfl) (Nat.le_of_ble_eq_true rfl) ?_
    exact W.iret (v := _) hx hb hr (fun t9 ht9 _ => ⟨⟨_, _, rfl, pp3 ((if_pos c_1).trans (rfl)), hb9 ht9 hm⟩, hS.F ht9⟩) hS.2.2 dX0_member_15
theorem xc_dig (t : mt) (M : mm) (c : Nat) (x : Int32) (y : Int32) : (C1_dig t M c x y).1 = (0 : Int32) ∨ (C1_dig t M c x y).1 = (3 : Int32) ∨ (C1_dig t M c x y).1 = (2 : Int32) := by
  unfold C1_dig
  (try dsimp only)
  (repeat' split) <;> first | exact .inl rfl | exact .inr rfl | exact .inr (.inl rfl) | exact .inr (.inr rfl) | exact .inr (.inr (.inl rfl)) | exact .inr (.inr (.inr rfl))
def C0_dig (t : mt) (M : mm) (a : Nat) (x : Int32) (y : Int32) (o : Nat) : Int32 × Int32 × mm :=
  let r_1 := (C1_dig t M (a) (x) (y)).2.1;
  let u_1 := (C1_dig t M (a) (x) (y)).2.2;
  if (C1_dig t M (a) (x) (y)).1 = 0 then
    ((0 : Int32), (0 : Int32), (wL u_1 o (vp_updL (aL u_1 o) 0 (r_1).toInt64)))
  else
    if (C1_dig t M (a) (x) (y)).1 = (3 : Int32) then
      ((0 : Int32), (1 : Int32), (C1_dig t M (a) (x) (y)).2.2)
    else
      if (C1_dig t M (a) (x) (y)).1 = (2 : Int32) then
        ((0 : Int32), (2 : Int32), (C1_dig t M (a) (x) (y)).2.2)
      else
        ((0 : Int32), (0 : Int32), M)
set_option maxHeartbeats 4000000 in
theorem cm0_dig (l : Launch) (E : mE) (hl9 : l.stackTraces = false) (t : mt) (M : mm) (a : Nat) (x : Int32) (y : Int32) (o : Nat) (hA : layA t a) (ho : t o = (60, 1)) (K S : List Nat) (hw : wfA M a K S) (hT : wfK (C1_tryOn t M a).2 (a + 65)) (hO : (¬ C2_isMember t M (a + 1) x = 0) → ¬ C1_isPlot y = 0 → wfK (C2_dig t (C1_tryOn t M a).2 (a + 65) x y).2.2.2 (a + 65)) : vx_Met l yX0_dig (wsW_ yX0_dig cX0_dig 5 (some .int) [((0 : Nat), (10 : Nat), (13 : Nat), (28 : Nat)), ((0 : Nat), (10 : Nat), (17 : Nat), (22 : Nat))]) ({ frames := 11, cells := 4, slots := 28, locals := 228 }) (va_Pc [.ref a, .int x, .int y, .ref o] (wP E t M)) (va_Qi (fun (r : Int32) (u : mm) => (C0_dig t M a x y o).1 = 0 ∧ r = (C0_dig t M a x y o).2.1 ∧ u = (C0_dig t M a x y o).2.2) (fun u U => mw E t u U.heap) (eA E)) (vx_X (fun (u : mm) => ¬ (C0_dig t M a x y o).1 = 0 ∧ u = (C0_dig t M a x y o).2.2) (fun En q u U => XS E t (C0_dig t M a x y o).1 En q u U.heap) (eA E)) 4 28 (eA E) := by
  refine vx_ofWH (cc := cX0_dig) (maxL := 5) (ret := (some .int)) (hh := [((0 : Nat), (10 : Nat), (13 : Nat), (28 : Nat)), ((0 : Nat), (10 : Nat), (17 : Nat), (22 : Nat))]) (by decide) rfl ?_
  intro p e s m args below meth c0 s₁ B hml hv
  obtain ⟨rfl, hs, hm⟩ := hv
  have hx := B.exec
  have hb := B.bytes
  have hr := B.returns
  have hts := atoms_spec (ws := wsW_ yX0_dig cX0_dig 5 (some .int) [((0 : Nat), (10 : Nat), (13 : Nat), (28 : Nat)), ((0 : Nat), (10 : Nat), (17 : Nat), (22 : Nat))]) B.pre
  have hts : ∀ w ∈ lw_all, w.before _ s = true := fun w h => hts w (List.mem_cons_of_mem _ h)
  have hown : s.vm.findClass RX0 = some m.cls := findClass_of_methodNamed B.named
  have hlocks := B.notSynchronized
  have htab := vx_table (x := yX0_dig) B (atoms_spec (ws := wsW_ yX0_dig cX0_dig 5 (some .int) [((0 : Nat), (10 : Nat), (13 : Nat), (28 : Nat)), ((0 : Nat), (10 : Nat), (17 : Nat), (22 : Nat))]) B.pre _ List.mem_cons_self)
  have hS : va_S (eA E) s.heap s.heap [] := va_S.rf
  have hl := lv_entry ([.ref a, .int x, .int y, .ref o]) (n := 5) (Nat.le_of_ble_eq_true rfl)
  rw [lg_entry_eq]
  generalize (lg_sl ([.ref a, .int x, .int y, .ref o]) ++ List.replicate (5 - (lg_sl ([.ref a, .int x, .int y, .ref o])).length) Slot.unset).toArray = ls at hl ⊢
  have hl : lv_has ls 5 [(0, .ref (a)), (1, .int (x)), (2, .int (y)), (3, .ref (o))] := hl
  refine lv_aload_n hx hb dX0_dig_0 rfl (lv_at hl 3 rfl) ?_
  refine lv_iconst (v := (0 : Int32)) hx hb dX0_dig_1 (by decide) ?_
  refine lv_aload_n hx hb dX0_dig_2 rfl (lv_at hl 0 rfl) ?_
  refine lv_iload_n hx hb dX0_dig_3 rfl (lv_at hl 1 rfl) ?_
  refine lv_iload_n hx hb dX0_dig_4 rfl (lv_at hl 2 rfl) ?_
  refine kx_calli (BX := fun En q u H => XS E t (C1_dig t M (a) (x) (y)).1 En q u H) (vx_runVX (As := [.int (x), .int (y)]) (rest := [.int ((0 : Int32)), .ref (o)]) ⟨hx, hb, hml, hown, hts⟩ (cm1_dig l E hl9 t M  (a) (x) (y) hA K S hw hT hO) (vx_cwVW 2 hts (lw_VW q829 q830 q831 q58 q832) rfl rfl rfl (by decide +kernel) ⟨Nat.le_of_ble_eq_true rfl, Nat.le_of_ble_eq_true rfl⟩) (k_preV hs hm hS (mw.recv hs hm (mt_ne hA.z (by decide)) (ct1 hA.z) rfl)) rfl rfl hl.1 rfl (lv_room (Nat.le_of_ble_eq_true rfl)) dX0_dig_5 ⟨Nat.le_of_ble_eq_true rfl, Nat.le_of_ble_eq_true rfl⟩) hS (fun En_1 ce_1 q_1 u9_1 H locs hp_1 hB_1 hS h1_1 h2_1 h3_1 => ?_) (fun r_1 u_1 H locs hw_1 hm_1 hS => ?_)
  · obtain ⟨c_1, hu9_1⟩ := hp_1
    replace hu9_1 := hu9_1.symm
    subst hu9_1
    obtain ⟨hE_1, hm⟩ := hB_1
    have hk_1 := xc_dig t M a x y
    by_cases d_1_0 : (C1_dig t M (a) (x) (y)).1 = (3 : Int32)
    · have hE9 : En_1 = "java/lang/IndexOutOfBoundsException" := by rw [hE_1, d_1_0]; rfl
      subst hE9
      refine vx_catch (name := "java/lang/IndexOutOfBoundsException") hown [] ⟨0, 10, 13, 28⟩ [⟨0, 10, 17, 22⟩] htab (fun z hz => nomatch hz) (by decide) (by decide) (hts _ q805) (hs.2.2.1.at q846 rfl rfl) h1_1 h2_1 h3_1 ?_
      refine lv_astore (lv' := [(4, _), (0, _), (1, _), (2, _), (3, _)]) hx hb dX0_dig_13 hl (by decide) rfl (fun ls hl => ?_)
      refine lv_iconst (v := (1 : Int32)) hx hb dX0_dig_15 (by decide) ?_
      refine vx_ret ?_
      refine W.widen (k := 4) (n := 28) (Nat.le_of_ble_eq_true rfl) (Nat.le_of_ble_eq_true rfl) ?_
      exact W.iret (v := _) hx hb hr (fun t9 ht9 _ => ⟨⟨_, _, rfl, pp3 ((if_neg c_1).trans ((if_pos d_1_0).trans (rfl))), hb9 ht9 hm⟩, hS.F ht9⟩) hS.2.2 dX0_dig_16
    · skip
      by_cases d_1_1 : (C1_dig t M (a) (x) (y)).1 = (2 : Int32)
      · have hE9 : En_1 = "java/lang/UnsupportedOperationException" := by rw [hE_1, d_1_1]; rfl
        subst hE9
        refine vx_catch (name := "java/lang/UnsupportedOperationException") hown [⟨0, 10, 13, 28⟩] ⟨0, 10, 17, 22⟩ [] htab (fun z hz => by
          rcases List.mem_singleton.mp hz with rfl
          exact Or.inr ⟨by decide, "java/lang/IndexOutOfBoundsException", hts _ q805, hs.2.2.2.2.2.2.2 ("java/lang/UnsupportedOperationException", "java/lang/IndexOutOfBoundsException") (by decide +kernel)⟩) (by decide) (by decide) (hts _ q736) (hs.2.2.1.at q789 rfl rfl) h1_1 h2_1 h3_1 ?_
        refine lv_astore (lv' := [(4, _), (0, _), (1, _), (2, _), (3, _)]) hx hb dX0_dig_17 hl (by decide) rfl (fun ls hl => ?_)
        refine lv_iconst (v := (2 : Int32)) hx hb dX0_dig_19 (by decide) ?_
        refine vx_ret ?_
        refine W.widen (k := 4) (n := 28) (Nat.le_of_ble_eq_true rfl) (Nat.le_of_ble_eq_true rfl) ?_
        exact W.iret (v := _) hx hb hr (fun t9 ht9 _ => ⟨⟨_, _, rfl, pp3 ((if_neg c_1).trans ((if_neg d_1_0).trans ((if_pos d_1_1).trans (rfl)))), hb9 ht9 hm⟩, hS.F ht9⟩) hS.2.2 dX0_dig_20
      · rcases hk_1 with h9 | h9 | h9
        · exact absurd h9 c_1
        · exact absurd h9 d_1_0
        · exact absurd h9 d_1_1
  · obtain ⟨c_1, hr_1, hu_1⟩ := hw_1
    have hm := hm_1
    refine lv_i2l hx hb dX0_dig_8 rfl ?_
    refine k_last hx hb hs hm hS ho (vi 0 (by decide) (by decide)) dX0_dig_9 (fun H locs hm hS => ?_)
    have hm : mw E t ((wL u_1 o (vp_updL (aL u_1 o) 0 (r_1).toInt64))) H := hm
    refine lv_goto (tgt := 21) hx hb dX0_dig_10 (by decide) ?_
    refine lv_iconst (v := (0 : Int32)) hx hb dX0_dig_21 (by decide) ?_
    subst hu_1
    subst hr_1
    refine vx_ret ?_
    refine W.widen (k := 4) (n := 28) (Nat.le_of_ble_eq_true rfl) (Nat.le_of_ble_eq_true rfl) ?_
    exact W.iret (v := _) hx hb hr (fun t9 ht9 _ => ⟨⟨_, _, rfl, pp3 ((if_pos c_1).trans (rfl)), hb9 ht9 hm⟩, hS.F ht9⟩) hS.2.2 dX0_dig_22
theorem xc_rest (t : mt) (M : mm) (c : Nat) (x : Int32) : (C1_rest t M c x).1 = (0 : Int32) ∨ (C1_rest t M c x).1 = (3 : Int32) ∨ (C1_rest t M c x).1 = (2 : Int32) := by
  unfold C1_rest
  (try dsimp only)
  (repeat' split) <;> first | exact .inl rfl | exact .inr rfl | exact .inr (.inl rfl) | exact .inr (.inr rfl) | exact .inr (.inr (.inl rfl)) | exact .inr (.inr (.inr rfl))
def C0_rest (t : mt) (M : mm) (a : Nat) (x : Int32) (o : Nat) : Int32 × Int32 × mm :=
  let r_1 := (C1_rest t M (a) (x)).2.1;
  let u_1 := (C1_rest t M (a) (x)).2.2;
  if (C1_rest t M (a) (x)).1 = 0 then
    ((0 : Int32), (0 : Int32), (wL u_1 o (vp_updL (aL u_1 o) 0 (r_1).toInt64)))
  else
    if (C1_rest t M (a) (x)).1 = (3 : Int32) then
      ((0 : Int32), (1 : Int32), (C1_rest t M (a) (x)).2.2)
    else
      if (C1_rest t M (a) (x)).1 = (2 : Int32) then
        ((0 : Int32), (2 : Int32), (C1_rest t M (a) (x)).2.2)
      else
        ((0 : Int32), (0 : Int32), M)
set_option maxHeartbeats 4000000 in
theorem cm0_rest (l : Launch) (E : mE) (hl9 : l.stackTraces = false) (t : mt) (M : mm) (a : Nat) (x : Int32) (o : Nat) (hA : layA t a) (ho : t o = (60, 1)) (K S : List Nat) (hw : wfA M a K S) (hT : wfK (C1_tryOn t M a).2 (a + 65)) (hO : (¬ C2_isMember t M (a + 1) x = 0) → wfK (C2_rest t (C1_tryOn t M a).2 (a + 65) x).2.2.2 (a + 65)) : vx_Met l yX0_rest (wsW_ yX0_rest cX0_rest 4 (some .int) [((0 : Nat), (9 : Nat), (12 : Nat), (28 : Nat)), ((0 : Nat), (9 : Nat), (15 : Nat), (22 : Nat))]) ({ frames := 11, cells := 3, slots := 20, locals := 227 }) (va_Pc [.ref a, .int x, .ref o] (wP E t M)) (va_Qi (fun (r : Int32) (u : mm) => (C0_rest t M a x o).1 = 0 ∧ r = (C0_rest t M a x o).2.1 ∧ u = (C0_rest t M a x o).2.2) (fun u U => mw E t u U.heap) (eA E)) (vx_X (fun (u : mm) => ¬ (C0_rest t M a x o).1 = 0 ∧ u = (C0_rest t M a x o).2.2) (fun En q u U => XS E t (C0_rest t M a x o).1 En q u U.heap) (eA E)) 3 20 (eA E) := by
  refine vx_ofWH (cc := cX0_rest) (maxL := 4) (ret := (some .int)) (hh := [((0 : Nat), (9 : Nat), (12 : Nat), (28 : Nat)), ((0 : Nat), (9 : Nat), (15 : Nat), (22 : Nat))]) (by decide) rfl ?_
  intro p e s m args below meth c0 s₁ B hml hv
  obtain ⟨rfl, hs, hm⟩ := hv
  have hx := B.exec
  have hb := B.bytes
  have hr := B.returns
  have hts := atoms_spec (ws := wsW_ yX0_rest cX0_rest 4 (some .int) [((0 : Nat), (9 : Nat), (12 : Nat), (28 : Nat)), ((0 : Nat), (9 : Nat), (15 : Nat), (22 : Nat))]) B.pre
  have hts : ∀ w ∈ lw_all, w.before _ s = true := fun w h => hts w (List.mem_cons_of_mem _ h)
  have hown : s.vm.findClass RX0 = some m.cls := findClass_of_methodNamed B.named
  have hlocks := B.notSynchronized
  have htab := vx_table (x := yX0_rest) B (atoms_spec (ws := wsW_ yX0_rest cX0_rest 4 (some .int) [((0 : Nat), (9 : Nat), (12 : Nat), (28 : Nat)), ((0 : Nat), (9 : Nat), (15 : Nat), (22 : Nat))]) B.pre _ List.mem_cons_self)
  have hS : va_S (eA E) s.heap s.heap [] := va_S.rf
  have hl := lv_entry ([.ref a, .int x, .ref o]) (n := 4) (Nat.le_of_ble_eq_true rfl)
  rw [lg_entry_eq]
  generalize (lg_sl ([.ref a, .int x, .ref o]) ++ List.replicate (4 - (lg_sl ([.ref a, .int x, .ref o])).length) Slot.unset).toArray = ls at hl ⊢
  have hl : lv_has ls 4 [(0, .ref (a)), (1, .int (x)), (2, .ref (o))] := hl
  refine lv_aload_n hx hb dX0_rest_0 rfl (lv_at hl 2 rfl) ?_
  refine lv_iconst (v := (0 : Int32)) hx hb dX0_rest_1 (by decide) ?_
  refine lv_aload_n hx hb dX0_rest_2 rfl (lv_at hl 0 rfl) ?_
  refine lv_iload_n hx hb dX0_rest_3 rfl (lv_at hl 1 rfl) ?_
  refine kx_calli (BX := fun En q u H => XS E t (C1_rest t M (a) (x)).1 En q u H) (vx_runVX (As := [.int (x)]) (rest := [.int ((0 : Int32)), .ref (o)]) ⟨hx, hb, hml, hown, hts⟩ (cm1_rest l E hl9 t M  (a) (x) hA K S hw hT hO) (vx_cwVW 1 hts (lw_VW q867 q868 q869 q58 q870) rfl rfl rfl (by decide +kernel) ⟨Nat.le_of_ble_eq_true rfl, Nat.le_of_ble_eq_true rfl⟩) (k_preV hs hm hS (mw.recv hs hm (mt_ne hA.z (by decide)) (ct1 hA.z) rfl)) rfl rfl hl.1 rfl (lv_room (Nat.le_of_ble_eq_true rfl)) dX0_rest_4 ⟨Nat.le_of_ble_eq_true rfl, Nat.le_of_ble_eq_true rfl⟩) hS (fun En_1 ce_1 q_1 u9_1 H locs hp_1 hB_1 hS h1_1 h2_1 h3_1 => ?_) (fun r_1 u_1 H locs hw_1 hm_1 hS => ?_)
  · obtain ⟨c_1, hu9_1⟩ := hp_1
    replace hu9_1 := hu9_1.symm
    subst hu9_1
    obtain ⟨hE_1, hm⟩ := hB_1
    have hk_1 := xc_rest t M a x
    by_cases d_1_0 : (C1_rest t M (a) (x)).1 = (3 : Int32)
    · have hE9 : En_1 = "java/lang/IndexOutOfBoundsException" := by rw [hE_1, d_1_0]; rfl
      subst hE9
      refine vx_catch (name := "java/lang/IndexOutOfBoundsException") hown [] ⟨0, 9, 12, 28⟩ [⟨0, 9, 15, 22⟩] htab (fun z hz => nomatch hz) (by decide) (by decide) (hts _ q805) (hs.2.2.1.at q846 rfl rfl) h1_1 h2_1 h3_1 ?_
      refine lv_astore_n (lv' := [(3, _), (0, _), (1, _), (2, _)]) hx hb dX0_rest_12 rfl hl (by decide) rfl (fun ls hl => ?_)
      refine lv_iconst (v := (1 : Int32)) hx hb dX0_rest_13 (by decide) ?_
      refine vx_ret ?_
      refine W.widen (k := 3) (n := 20) (Nat.le_of_ble_eq_true rfl) (Nat.le_of_ble_eq_true rfl) ?_
      exact W.iret (v := _) hx hb hr (fun t9 ht9 _ => ⟨⟨_, _, rfl, pp3 ((if_neg c_1).trans ((if_pos d_1_0).trans (rfl))), hb9 ht9 hm⟩, hS.F ht9⟩) hS.2.2 dX0_rest_14
    · skip
      by_cases d_1_1 : (C1_rest t M (a) (x)).1 = (2 : Int32)
      · have hE9 : En_1 = "java/lang/UnsupportedOperationException" := by rw [hE_1, d_1_1]; rfl
        subst hE9
        refine vx_catch (name := "java/lang/UnsupportedOperationException") hown [⟨0, 9, 12, 28⟩] ⟨0, 9, 15, 22⟩ [] htab (fun z hz => by
          rcases List.mem_singleton.mp hz with rfl
          exact Or.inr ⟨by decide, "java/lang/IndexOutOfBoundsException", hts _ q805, hs.2.2.2.2.2.2.2 ("java/lang/UnsupportedOperationException", "java/lang/IndexOutOfBoundsException") (by decide +kernel)⟩) (by decide) (by decide) (hts _ q736) (hs.2.2.1.at q789 rfl rfl) h1_1 h2_1 h3_1 ?_
        refine lv_astore_n (lv' := [(3, _), (0, _), (1, _), (2, _)]) hx hb dX0_rest_15 rfl hl (by decide) rfl (fun ls hl => ?_)
        refine lv_iconst (v := (2 : Int32)) hx hb dX0_rest_16 (by decide) ?_
        refine vx_ret ?_
        refine W.widen (k := 3) (n := 20) (Nat.le_of_ble_eq_true rfl) (Nat.le_of_ble_eq_true rfl) ?_
        exact W.iret (v := _) hx hb hr (fun t9 ht9 _ => ⟨⟨_, _, rfl, pp3 ((if_neg c_1).trans ((if_neg d_1_0).trans ((if_pos d_1_1).trans (rfl)))), hb9 ht9 hm⟩, hS.F ht9⟩) hS.2.2 dX0_rest_17
      · rcases hk_1 with h9 | h9 | h9
        · exact absurd h9 c_1
        · exact absurd h9 d_1_0
        · exact absurd h9 d_1_1
  · obtain ⟨c_1, hr_1, hu_1⟩ := hw_1
    have hm := hm_1
    refine lv_i2l hx hb dX0_rest_7 rfl ?_
    refine k_last hx hb hs hm hS ho (vi 0 (by decide) (by decide)) dX0_rest_8 (fun H locs hm hS => ?_)
    have hm : mw E t ((wL u_1 o (vp_updL (aL u_1 o) 0 (r_1).toInt64))) H := hm
    refine lv_goto (tgt := 18) hx hb dX0_rest_9 (by decide) ?_
    refine lv_iconst (v := (0 : Int32)) hx hb dX0_rest_18 (by decide) ?_
    subst hu_1
    subst hr_1
    refine vx_ret ?_
    refine W.widen (k := 3) (n := 20) (Nat.le_of_ble_eq_true rfl) (Nat.le_of_ble_eq_true rfl) ?_
    exact W.iret (v := _) hx hb hr (fun t9 ht9 _ => ⟨⟨_, _, rfl, pp3 ((if_pos c_1).trans (rfl)), hb9 ht9 hm⟩, hS.F ht9⟩) hS.2.2 dX0_rest_19
theorem xc_seedling (t : mt) (M : mm) (c : Nat) (x : Int32) (y : Int32) : (C1_seedling t M c x y).1 = (0 : Int32) ∨ (C1_seedling t M c x y).1 = (3 : Int32) ∨ (C1_seedling t M c x y).1 = (1 : Int32) ∨ (C1_seedling t M c x y).1 = (2 : Int32) := by
  unfold C1_seedling
  (try dsimp only)
  (repeat' split) <;> first | exact .inl rfl | exact .inr rfl | exact .inr (.inl rfl) | exact .inr (.inr rfl) | exact .inr (.inr (.inl rfl)) | exact .inr (.inr (.inr rfl))
def C0_seedling (t : mt) (M : mm) (a : Nat) (x : Int32) (y : Int32) (o : Nat) : Int32 × Int32 × mm :=
  let r_1 := (C1_seedling t M (a) (x) (y)).2.1;
  let u_1 := (C1_seedling t M (a) (x) (y)).2.2;
  if (C1_seedling t M (a) (x) (y)).1 = 0 then
    ((0 : Int32), (0 : Int32), (wL u_1 o (vp_updL (aL u_1 o) 0 (r_1).toInt64)))
  else
    if (C1_seedling t M (a) (x) (y)).1 = (3 : Int32) then
      ((0 : Int32), (1 : Int32), (C1_seedling t M (a) (x) (y)).2.2)
    else
      if (C1_seedling t M (a) (x) (y)).1 = (1 : Int32) then
        ((0 : Int32), (2 : Int32), (C1_seedling t M (a) (x) (y)).2.2)
      else
        if (C1_seedling t M (a) (x) (y)).1 = (2 : Int32) then
          ((0 : Int32), (3 : Int32), (C1_seedling t M (a) (x) (y)).2.2)
        else
          ((0 : Int32), (0 : Int32), M)
set_option maxHeartbeats 4000000 in
theorem cm0_seedling (l : Launch) (E : mE) (hl9 : l.stackTraces = false) (t : mt) (M : mm) (a : Nat) (x : Int32) (y : Int32) (o : Nat) (hA : layA t a) (ho : t o = (60, 1)) (K S : List Nat) (hw : wfA M a K S) (hT : wfK (C1_tryOn t M a).2 (a + 65)) (hO : ¬ C1_in y 0 1 = 0 → ¬ C1_isKind x = 0 → wfK (C2_seedling t (C1_tryOn t M a).2 (a + 65) x y).2.2.2 (a + 65)) : vx_Met l yX0_seedling (wsW_ yX0_seedling cX0_seedling 5 (some .int) [((0 : Nat), (10 : Nat), (13 : Nat), (28 : Nat)), ((0 : Nat), (10 : Nat), (17 : Nat), (13 : Nat)), ((0 : Nat), (10 : Nat), (21 : Nat), (22 : Nat))]) ({ frames := 11, cells := 8, slots := 98, locals := 10449 }) (va_Pc [.ref a, .int x, .int y, .ref o] (wP E t M)) (va_Qi (fun (r : Int32) (u : mm) => (C0_seedling t M a x y o).1 = 0 ∧ r = (C0_seedling t M a x y o).2.1 ∧ u = (C0_seedling t M a x y o).2.2) (fun u U => mw E t u U.heap) (eA E)) (vx_X (fun (u : mm) => ¬ (C0_seedling t M a x y o).1 = 0 ∧ u = (C0_seedling t M a x y o).2.2) (fun En q u U => XS E t (C0_seedling t M a x y o).1 En q u U.heap) (eA E)) 8 98 (eA E) := by
  refine vx_ofWH (cc := cX0_seedling) (maxL := 5) (ret := (some .int)) (hh := [((0 : Nat), (10 : Nat), (13 : Nat), (28 : Nat)), ((0 : Nat), (10 : Nat), (17 : Nat), (13 : Nat)), ((0 : Nat), (10 : Nat), (21 : Nat), (22 : Nat))]) (by decide) rfl ?_
  intro p e s m args below meth c0 s₁ B hml hv
  obtain ⟨rfl, hs, hm⟩ := hv
  have hx := B.exec
  have hb := B.bytes
  have hr := B.returns
  have hts := atoms_spec (ws := wsW_ yX0_seedling cX0_seedling 5 (some .int) [((0 : Nat), (10 : Nat), (13 : Nat), (28 : Nat)), ((0 : Nat), (10 : Nat), (17 : Nat), (13 : Nat)), ((0 : Nat), (10 : Nat), (21 : Nat), (22 : Nat))]) B.pre
  have hts : ∀ w ∈ lw_all, w.before _ s = true := fun w h => hts w (List.mem_cons_of_mem _ h)
  have hown : s.vm.findClass RX0 = some m.cls := findClass_of_methodNamed B.named
  have hlocks := B.notSynchronized
  have htab := vx_table (x := yX0_seedling) B (atoms_spec (ws := wsW_ yX0_seedling cX0_seedling 5 (some .int) [((0 : Nat), (10 : Nat), (13 : Nat), (28 : Nat)), ((0 : Nat), (10 : Nat), (17 : Nat), (13 : Nat)), ((0 : Nat), (10 : Nat), (21 : Nat), (22 : Nat))]) B.pre _ List.mem_cons_self)
  have hS : va_S (eA E) s.heap s.heap [] := va_S.rf
  have hl := lv_entry ([.ref a, .int x, .int y, .ref o]) (n := 5) (Nat.le_of_ble_eq_true rfl)
  rw [lg_entry_eq]
  generalize (lg_sl ([.ref a, .int x, .int y, .ref o]) ++ List.replicate (5 - (lg_sl ([.ref a, .int x, .int y, .ref o])).length) Slot.unset).toArray = ls at hl ⊢
  have hl : lv_has ls 5 [(0, .ref (a)), (1, .int (x)), (2, .int (y)), (3, .ref (o))] := hl
  refine lv_aload_n hx hb dX0_seedling_0 rfl (lv_at hl 3 rfl) ?_
  refine lv_iconst (v := (0 : Int32)) hx hb dX0_seedling_1 (by decide) ?_
  refine lv_aload_n hx hb dX0_seedling_2 rfl (lv_at hl 0 rfl) ?_
  refine lv_iload_n hx hb dX0_seedling_3 rfl (lv_at hl 1 rfl) ?_
  refine lv_iload_n hx hb dX0_seedling_4 rfl (lv_at hl 2 rfl) ?_
  refine kx_calli (BX := fun En q u H => XS E t (C1_seedling t M (a) (x) (y)).1 En q u H) (vx_runVX (As := [.int (x), .int (y)]) (rest := [.int ((0 : Int32)), .ref (o)]) ⟨hx, hb, hml, hown, hts⟩ (cm1_seedling l E hl9 t M  (a) (x) (y) hA K S hw hT hO) (vx_cwVW 2 hts (lw_VW q1000 q1001 q1002 q58 q1003) rfl rfl rfl (by decide +kernel) ⟨Nat.le_of_ble_eq_true rfl, Nat.le_of_ble_eq_true rfl⟩) (k_preV hs hm hS (mw.recv hs hm (mt_ne hA.z (by decide)) (ct1 hA.z) rfl)) rfl rfl hl.1 rfl (lv_room (Nat.le_of_ble_eq_true rfl)) dX0_seedling_5 ⟨Nat.le_of_ble_eq_true rfl, Nat.le_of_ble_eq_true rfl⟩) hS (fun En_1 ce_1 q_1 u9_1 H locs hp_1 hB_1 hS h1_1 h2_1 h3_1 => ?_) (fun r_1 u_1 H locs hw_1 hm_1 hS => ?_)
  · obtain ⟨c_1, hu9_1⟩ := hp_1
    replace hu9_1 := hu9_1.symm
    subst hu9_1
    obtain ⟨hE_1, hm⟩ := hB_1
    have hk_1 := xc_seedling t M a x y
    by_cases d_1_0 : (C1_seedling t M (a) (x) (y)).1 = (3 : Int32)
    · have hE9 : En_1 = "java/lang/IndexOutOfBoundsException" := by rw [hE_1, d_1_0]; rfl
      subst hE9
      refine vx_catch (name := "java/lang/IndexOutOfBoundsException") hown [] ⟨0, 10, 13, 28⟩ [⟨0, 10, 17, 13⟩, ⟨0, 10, 21, 22⟩] htab (fun z hz => nomatch hz) (by decide) (by decide) (hts _ q805) (hs.2.2.1.at q846 rfl rfl) h1_1 h2_1 h3_1 ?_
      refine lv_astore (lv' := [(4, _), (0, _), (1, _), (2, _), (3, _)]) hx hb dX0_seedling_13 hl (by decide) rfl (fun ls hl => ?_)
      refine lv_iconst (v := (1 : Int32)) hx hb dX0_seedling_15 (by decide) ?_
      refine vx_ret ?_
      refine W.widen (k := 8) (n := 98) (Nat.le_of_ble_eq_true rfl) (Nat.le_of_ble_eq_true rfl) ?_
      exact W.iret (v := _) hx hb hr (fun t9 ht9 _ => ⟨⟨_, _, rfl, pp3 ((if_neg c_1).trans ((if_pos d_1_0).trans (rfl))), hb9 ht9 hm⟩, hS.F ht9⟩) hS.2.2 dX0_seedling_16
    · skip
      by_cases d_1_1 : (C1_seedling t M (a) (x) (y)).1 = (1 : Int32)
      · have hE9 : En_1 = "java/lang/IllegalArgumentException" := by rw [hE_1, d_1_1]; rfl
        subst hE9
        refine vx_catch (name := "java/lang/IllegalArgumentException") hown [⟨0, 10, 13, 28⟩] ⟨0, 10, 17, 13⟩ [⟨0, 10, 21, 22⟩] htab (fun z hz => by
          rcases List.mem_singleton.mp hz with rfl
          exact Or.inr ⟨by decide, "java/lang/IndexOutOfBoundsException", hts _ q805, hs.2.2.2.2.2.2.2 ("java/lang/IllegalArgumentException", "java/lang/IndexOutOfBoundsException") (by decide +kernel)⟩) (by decide) (by decide) (hts _ q694) (hs.2.2.1.at q707 rfl rfl) h1_1 h2_1 h3_1 ?_
        refine lv_astore (lv' := [(4, _), (0, _), (1, _), (2, _), (3, _)]) hx hb dX0_seedling_17 hl (by decide) rfl (fun ls hl => ?_)
        refine lv_iconst (v := (2 : Int32)) hx hb dX0_seedling_19 (by decide) ?_
        refine vx_ret ?_
        refine W.widen (k := 8) (n := 98) (Nat.le_of_ble_eq_true rfl) (Nat.le_of_ble_eq_true rfl) ?_
        exact W.iret (v := _) hx hb hr (fun t9 ht9 _ => ⟨⟨_, _, rfl, pp3 ((if_neg c_1).trans ((if_neg d_1_0).trans ((if_pos d_1_1).trans (rfl)))), hb9 ht9 hm⟩, hS.F ht9⟩) hS.2.2 dX0_seedling_20
      · skip
        by_cases d_1_2 : (C1_seedling t M (a) (x) (y)).1 = (2 : Int32)
        · have hE9 : En_1 = "java/lang/UnsupportedOperationException" := by rw [hE_1, d_1_2]; rfl
          subst hE9
          refine vx_catch (name := "java/lang/UnsupportedOperationException") hown [⟨0, 10, 13, 28⟩, ⟨0, 10, 17, 13⟩] ⟨0, 10, 21, 22⟩ [] htab (fun z hz => by
            rcases List.mem_cons.mp hz with rfl | hz
            · exact Or.inr ⟨by decide, "java/lang/IndexOutOfBoundsException", hts _ q805, hs.2.2.2.2.2.2.2 ("java/lang/UnsupportedOperationException", "java/lang/IndexOutOfBoundsException") (by decide +kernel)⟩
            rcases List.mem_singleton.mp hz with rfl
            exact Or.inr ⟨by decide, "java/lang/IllegalArgumentException", hts _ q694, hs.2.2.2.2.2.2.2 ("java/lang/UnsupportedOperationException", "java/lang/IllegalArgumentException") (by decide +kernel)⟩) (by decide) (by decide) (hts _ q736) (hs.2.2.1.at q789 rfl rfl) h1_1 h2_1 h3_1 ?_
          refine lv_astore (lv' := [(4, _), (0, _), (1, _), (2, _), (3, _)]) hx hb dX0_seedling_21 hl (by decide) rfl (fun ls hl => ?_)
          refine lv_iconst (v := (3 : Int32)) hx hb dX0_seedling_23 (by decide) ?_
          refine vx_ret ?_
          refine W.widen (k := 8) (n := 98) (Nat.le_of_ble_eq_true rfl) (Nat.le_of_ble_eq_true rfl) ?_
          exact W.iret (v := _) hx hb hr (fun t9 ht9 _ => ⟨⟨_, _, rfl, pp3 ((if_neg c_1).trans ((if_neg d_1_0).trans ((if_neg d_1_1).trans ((if_pos d_1_2).trans (rfl))))), hb9 ht9 hm⟩, hS.F ht9⟩) hS.2.2 dX0_seedling_24
        · rcases hk_1 with h9 | h9 | h9 | h9
          · exact absurd h9 c_1
          · exact absurd h9 d_1_0
          · exact absurd h9 d_1_1
          · exact absurd h9 d_1_2
  · obtain ⟨c_1, hr_1, hu_1⟩ := hw_1
    have hm := hm_1
    refine lv_i2l hx hb dX0_seedling_8 rfl ?_
    refine k_last hx hb hs hm hS ho (vi 0 (by decide) (by decide)) dX0_seedling_9 (fun H locs hm hS => ?_)
    have hm : mw E t ((wL u_1 o (vp_updL (aL u_1 o) 0 (r_1).toInt64))) H := hm
    refine lv_goto (tgt := 25) hx hb dX0_seedling_10 (by decide) ?_
    refine lv_iconst (v := (0 : Int32)) hx hb dX0_seedling_25 (by decide) ?_
    subst hu_1
    subst hr_1
    refine vx_ret ?_
    refine W.widen (k := 8) (n := 98) (Nat.le_of_ble_eq_true rfl) (Nat.le_of_ble_eq_true rfl) ?_
    exact W.iret (v := _) hx hb hr (fun t9 ht9 _ => ⟨⟨_, _, rfl, pp3 ((if_pos c_1).trans (rfl)), hb9 ht9 hm⟩, hS.F ht9⟩) hS.2.2 dX0_seedling_26
theorem xc_plant (t : mt) (M : mm) (c : Nat) (x : Int32) (y : Int32) (z : Int32) : (C1_plant t M c x y z).1 = (0 : Int32) ∨ (C1_plant t M c x y z).1 = (3 : Int32) ∨ (C1_plant t M c x y z).1 = (4 : Int32) ∨ (C1_plant t M c x y z).1 = (2 : Int32) := by
  unfold C1_plant
  (try dsimp only)
  (repeat' split) <;> first | exact .inl rfl | exact .inr rfl | exact .inr (.inl rfl) | exact .inr (.inr rfl) | exact .inr (.inr (.inl rfl)) | exact .inr (.inr (.inr rfl))
def C0_plant (t : mt) (M : mm) (a : Nat) (x : Int32) (y : Int32) (z : Int32) (o : Nat) : Int32 × Int32 × mm :=
  let r_1 := (C1_plant t M (a) (x) (y) (z)).2.1;
  let u_1 := (C1_plant t M (a) (x) (y) (z)).2.2;
  if (C1_plant t M (a) (x) (y) (z)).1 = 0 then
    ((0 : Int32), (0 : Int32), (wL u_1 o (vp_updL (aL u_1 o) 0 (r_1).toInt64)))
  else
    if (C1_plant t M (a) (x) (y) (z)).1 = (3 : Int32) then
      ((0 : Int32), (1 : Int32), (C1_plant t M (a) (x) (y) (z)).2.2)
    else
      if (C1_plant t M (a) (x) (y) (z)).1 = (4 : Int32) then
        ((0 : Int32), (2 : Int32), (C1_plant t M (a) (x) (y) (z)).2.2)
      else
        if (C1_plant t M (a) (x) (y) (z)).1 = (2 : Int32) then
          ((0 : Int32), (3 : Int32), (C1_plant t M (a) (x) (y) (z)).2.2)
        else
          ((0 : Int32), (0 : Int32), M)
set_option maxHeartbeats 4000000 in
theorem cm0_plant (l : Launch) (E : mE) (hl9 : l.stackTraces = false) (t : mt) (M : mm) (a : Nat) (x : Int32) (y : Int32) (z : Int32) (o : Nat) (hA : layA t a) (ho : t o = (60, 1)) (K S : List Nat) (hw : wfA M a K S) (hT : wfK (C1_tryOn t M a).2 (a + 65)) (hO : (¬ C2_isMember t M (a + 1) x = 0) → ¬ C1_isPlace y z = 0 → ¬ aR M (C2_bench t M (a + 1) y) z.toNatClampNeg = none → wfK (C2_plant t (C1_tryOn t M a).2 (a + 65) x y z).2.2.2 (a + 65)) (hN : (¬ C2_isMember t M (a + 1) x = 0) → ¬ C1_isPlace y z = 0 → ¬ aR M (C2_bench t M (a + 1) y) z.toNatClampNeg = none → ¬ aR (C1_tryOn t M a).2 (C2_bench t (C1_tryOn t M a).2 (a + 65) y) z.toNatClampNeg = none) : vx_Met l yX0_plant (wsW_ yX0_plant cX0_plant 6 (some .int) [((0 : Nat), (12 : Nat), (15 : Nat), (28 : Nat)), ((0 : Nat), (12 : Nat), (19 : Nat), (55 : Nat)), ((0 : Nat), (12 : Nat), (23 : Nat), (22 : Nat))]) ({ frames := 11, cells := 5, slots := 34, locals := 231 }) (va_Pc [.ref a, .int x, .int y, .int z, .ref o] (wP E t M)) (va_Qi (fun (r : Int32) (u : mm) => (C0_plant t M a x y z o).1 = 0 ∧ r = (C0_plant t M a x y z o).2.1 ∧ u = (C0_plant t M a x y z o).2.2) (fun u U => mw E t u U.heap) (eA E)) (vx_X (fun (u : mm) => ¬ (C0_plant t M a x y z o).1 = 0 ∧ u = (C0_plant t M a x y z o).2.2) (fun En q u U => XS E t (C0_plant t M a x y z o).1 En q u U.heap) (eA E)) 5 34 (eA E) := by
  refine vx_ofWH (cc := cX0_plant) (maxL := 6) (ret := (some .int)) (hh := [((0 : Nat), (12 : Nat), (15 : Nat), (28 : Nat)), ((0 : Nat), (12 : Nat), (19 : Nat), (55 : Nat)), ((0 : Nat), (12 : Nat), (23 : Nat), (22 : Nat))]) (by decide) rfl ?_
  intro p e s m args below meth c0 s₁ B hml hv
  obtain ⟨rfl, hs, hm⟩ := hv
  have hx := B.exec
  have hb := B.bytes
  have hr := B.returns
  have hts := atoms_spec (ws := wsW_ yX0_plant cX0_plant 6 (some .int) [((0 : Nat), (12 : Nat), (15 : Nat), (28 : Nat)), ((0 : Nat), (12 : Nat), (19 : Nat), (55 : Nat)), ((0 : Nat), (12 : Nat), (23 : Nat), (22 : Nat))]) B.pre
  have hts : ∀ w ∈ lw_all, w.before _ s = true := fun w h => hts w (List.mem_cons_of_mem _ h)
  have hown : s.vm.findClass RX0 = some m.cls := findClass_of_methodNamed B.named
  have hlocks := B.notSynchronized
  have htab := vx_table (x := yX0_plant) B (atoms_spec (ws := wsW_ yX0_plant cX0_plant 6 (some .int) [((0 : Nat), (12 : Nat), (15 : Nat), (28 : Nat)), ((0 : Nat), (12 : Nat), (19 : Nat), (55 : Nat)), ((0 : Nat), (12 : Nat), (23 : Nat), (22 : Nat))]) B.pre _ List.mem_cons_self)
  have hS : va_S (eA E) s.heap s.heap [] := va_S.rf
  have hl := lv_entry ([.ref a, .int x, .int y, .int z, .ref o]) (n := 6) (Nat.le_of_ble_eq_true rfl)
  rw [lg_entry_eq]
  generalize (lg_sl ([.ref a, .int x, .int y, .int z, .ref o]) ++ List.replicate (6 - (lg_sl ([.ref a, .int x, .int y, .int z, .ref o])).length) Slot.unset).toArray = ls at hl ⊢
  have hl : lv_has ls 6 [(0, .ref (a)), (1, .int (x)), (2, .int (y)), (3, .int (z)), (4, .ref (o))] := hl
  refine lv_aload hx hb dX0_plant_0 (lv_at hl 4 rfl) ?_
  refine lv_iconst (v := (0 : Int32)) hx hb dX0_plant_2 (by decide) ?_
  refine lv_aload_n hx hb dX0_plant_3 rfl (lv_at hl 0 rfl) ?_
  refine lv_iload_n hx hb dX0_plant_4 rfl (lv_at hl 1 rfl) ?_
  refine lv_iload_n hx hb dX0_plant_5 rfl (lv_at hl 2 rfl) ?_
  refine lv_iload_n hx hb dX0_plant_6 rfl (lv_at hl 3 rfl) ?_
  refine kx_calli (BX := fun En q u H => XS E t (C1_plant t M (a) (x) (y) (z)).1 En q u H) (vx_runVX (As := [.int (x), .int (y), .int (z)]) (rest := [.int ((0 : Int32)), .ref (o)]) ⟨hx, hb, hml, hown, hts⟩ (cm1_plant l E hl9 t M  (a) (x) (y) (z) hA K S hw hT hO hN) (vx_cwVW 3 hts (lw_VW q1064 q1065 q1066 q58 q1067) rfl rfl rfl (by decide +kernel) ⟨Nat.le_of_ble_eq_true rfl, Nat.le_of_ble_eq_true rfl⟩) (k_preV hs hm hS (mw.recv hs hm (mt_ne hA.z (by decide)) (ct1 hA.z) rfl)) rfl rfl hl.1 rfl (lv_room (Nat.le_of_ble_eq_true rfl)) dX0_plant_7 ⟨Nat.le_of_ble_eq_true rfl, Nat.le_of_ble_eq_true rfl⟩) hS (fun En_1 ce_1 q_1 u9_1 H locs hp_1 hB_1 hS h1_1 h2_1 h3_1 => ?_) (fun r_1 u_1 H locs hw_1 hm_1 hS => ?_)
  · obtain ⟨c_1, hu9_1⟩ := hp_1
    replace hu9_1 := hu9_1.symm
    subst hu9_1
    obtain ⟨hE_1, hm⟩ := hB_1
    have hk_1 := xc_plant t M a x y z
    by_cases d_1_0 : (C1_plant t M (a) (x) (y) (z)).1 = (3 : Int32)
    · have hE9 : En_1 = "java/lang/IndexOutOfBoundsException" := by rw [hE_1, d_1_0]; rfl
      subst hE9
      refine vx_catch (name := "java/lang/IndexOutOfBoundsException") hown [] ⟨0, 12, 15, 28⟩ [⟨0, 12, 19, 55⟩, ⟨0, 12, 23, 22⟩] htab (fun z hz => nomatch hz) (by decide) (by decide) (hts _ q805) (hs.2.2.1.at q846 rfl rfl) h1_1 h2_1 h3_1 ?_
      refine lv_astore (lv' := [(5, _), (0, _), (1, _), (2, _), (3, _), (4, _)]) hx hb dX0_plant_15 hl (by decide) rfl (fun ls hl => ?_)
      refine lv_iconst (v := (1 : Int32)) hx hb dX0_plant_17 (by decide) ?_
      refine vx_ret ?_
      refine W.widen (k := 5) (n := 34) (Nat.le_of_ble_eq_true rfl) (Nat.le_of_ble_eq_true rfl) ?_
      exact W.iret (v := _) hx hb hr (fun t9 ht9 _ => ⟨⟨_, _, rfl, pp3 ((if_neg c_1).trans ((if_pos d_1_0).trans (rfl))), hb9 ht9 hm⟩, hS.F ht9⟩) hS.2.2 dX0_plant_18
    · skip
      by_cases d_1_1 : (C1_plant t M (a) (x) (y) (z)).1 = (4 : Int32)
      · have hE9 : En_1 = "java/util/NoSuchElementException" := by rw [hE_1, d_1_1]; rfl
        subst hE9
        refine vx_catch (name := "java/util/NoSuchElementException") hown [⟨0, 12, 15, 28⟩] ⟨0, 12, 19, 55⟩ [⟨0, 12, 23, 22⟩] htab (fun z hz => by
          rcases List.mem_singleton.mp hz with rfl
          exact Or.inr ⟨by decide, "java/lang/IndexOutOfBoundsException", hts _ q805, hs.2.2.2.2.2.2.2 ("java/util/NoSuchElementException", "java/lang/IndexOutOfBoundsException") (by decide +kernel)⟩) (by decide) (by decide) (hts _ q1034) (hs.2.2.1.at q1048 rfl rfl) h1_1 h2_1 h3_1 ?_
        refine lv_astore (lv' := [(5, _), (0, _), (1, _), (2, _), (3, _), (4, _)]) hx hb dX0_plant_19 hl (by decide) rfl (fun ls hl => ?_)
        refine lv_iconst (v := (2 : Int32)) hx hb dX0_plant_21 (by decide) ?_
        refine vx_ret ?_
        refine W.widen (k := 5) (n := 34) (Nat.le_of_ble_eq_true rfl) (Nat.le_of_ble_eq_true rfl) ?_
        exact W.iret (v := _) hx hb hr (fun t9 ht9 _ => ⟨⟨_, _, rfl, pp3 ((if_neg c_1).trans ((if_neg d_1_0).trans ((if_pos d_1_1).trans (rfl)))), hb9 ht9 hm⟩, hS.F ht9⟩) hS.2.2 dX0_plant_22
      · skip
        by_cases d_1_2 : (C1_plant t M (a) (x) (y) (z)).1 = (2 : Int32)
        · have hE9 : En_1 = "java/lang/UnsupportedOperationException" := by rw [hE_1, d_1_2]; rfl
          subst hE9
          refine vx_catch (name := "java/lang/UnsupportedOperationException") hown [⟨0, 12, 15, 28⟩, ⟨0, 12, 19, 55⟩] ⟨0, 12, 23, 22⟩ [] htab (fun z hz => by
            rcases List.mem_cons.mp hz with rfl | hz
            · exact Or.inr ⟨by decide, "java/lang/IndexOutOfBoundsException", hts _ q805, hs.2.2.2.2.2.2.2 ("java/lang/UnsupportedOperationException", "java/lang/IndexOutOfBoundsException") (by decide +kernel)⟩
            rcases List.mem_singleton.mp hz with rfl
            exact Or.inr ⟨by decide, "java/util/NoSuchElementException", hts _ q1034, hs.2.2.2.2.2.2.2 ("java/lang/UnsupportedOperationException", "java/util/NoSuchElementException") (by decide +kernel)⟩) (by decide) (by decide) (hts _ q736) (hs.2.2.1.at q789 rfl rfl) h1_1 h2_1 h3_1 ?_
          refine lv_astore (lv' := [(5, _), (0, _), (1, _), (2, _), (3, _), (4, _)]) hx hb dX0_plant_23 hl (by decide) rfl (fun ls hl => ?_)
          refine lv_iconst (v := (3 : Int32)) hx hb dX0_plant_25 (by decide) ?_
          refine vx_ret ?_
          refine W.widen (k := 5) (n := 34) (Nat.le_of_ble_eq_true rfl) (Nat.le_of_ble_eq_true rfl) ?_
          exact W.iret (v := _) hx hb hr (fun t9 ht9 _ => ⟨⟨_, _, rfl, pp3 ((if_neg c_1).trans ((if_neg d_1_0).trans ((if_neg d_1_1).trans ((if_pos d_1_2).trans (rfl))))), hb9 ht9 hm⟩, hS.F ht9⟩) hS.2.2 dX0_plant_26
        · rcases hk_1 with h9 | h9 | h9 | h9
          · exact absurd h9 c_1
          · exact absurd h9 d_1_0
          · exact absurd h9 d_1_1
          · exact absurd h9 d_1_2
  · obtain ⟨c_1, hr_1, hu_1⟩ := hw_1
    have hm := hm_1
    refine lv_i2l hx hb dX0_plant_10 rfl ?_
    refine k_last hx hb hs hm hS ho (vi 0 (by decide) (by decide)) dX0_plant_11 (fun H locs hm hS => ?_)
    have hm : mw E t ((wL u_1 o (vp_updL (aL u_1 o) 0 (r_1).toInt64))) H := hm
    refine lv_goto (tgt := 27) hx hb dX0_plant_12 (by decide) ?_
    refine lv_iconst (v := (0 : Int32)) hx hb dX0_plant_27 (by decide) ?_
    subst hu_1
    subst hr_1
    refine vx_ret ?_
    refine W.widen (k := 5) (n := 34) (Nat.le_of_ble_eq_true rfl) (Nat.le_of_ble_eq_true rfl) ?_
    exact W.iret (v := _) hx hb hr (fun t9 ht9 _ => ⟨⟨_, _, rfl, pp3 ((if_pos c_1).trans (rfl)), hb9 ht9 hm⟩, hS.F ht9⟩) hS.2.2 dX0_plant_28
theorem xc_harvest (t : mt) (M : mm) (c : Nat) (x : Int32) : (C1_harvest t M c x).1 = (0 : Int32) ∨ (C1_harvest t M c x).1 = (3 : Int32) ∨ (C1_harvest t M c x).1 = (2 : Int32) := by
  unfold C1_harvest
  (try dsimp only)
  (repeat' split) <;> first | exact .inl rfl | exact .inr rfl | exact .inr (.inl rfl) | exact .inr (.inr rfl) | exact .inr (.inr (.inl rfl)) | exact .inr (.inr (.inr rfl))
def C0_harvest (t : mt) (M : mm) (a : Nat) (x : Int32) (o : Nat) : Int32 × Int32 × mm :=
  let r_1 := (C1_harvest t M (a) (x)).2.1;
  let u_1 := (C1_harvest t M (a) (x)).2.2;
  if (C1_harvest t M (a) (x)).1 = 0 then
    ((0 : Int32), (0 : Int32), (wL u_1 o (vp_updL (aL u_1 o) 0 (r_1).toInt64)))
  else
    if (C1_harvest t M (a) (x)).1 = (3 : Int32) then
      ((0 : Int32), (1 : Int32), (C1_harvest t M (a) (x)).2.2)
    else
      if (C1_harvest t M (a) (x)).1 = (2 : Int32) then
        ((0 : Int32), (2 : Int32), (C1_harvest t M (a) (x)).2.2)
      else
        ((0 : Int32), (0 : Int32), M)
set_option maxHeartbeats 4000000 in
theorem cm0_harvest (l : Launch) (E : mE) (hl9 : l.stackTraces = false) (t : mt) (M : mm) (a : Nat) (x : Int32) (o : Nat) (hA : layA t a) (ho : t o = (60, 1)) (K S : List Nat) (hw : wfA M a K S) (hT : wfK (C1_tryOn t M a).2 (a + 65)) (hO : (¬ C2_isMember t M (a + 1) x = 0) → wfK (C2_harvest t (C1_tryOn t M a).2 (a + 65) x).2.2.2 (a + 65)) : vx_Met l yX0_harvest (wsW_ yX0_harvest cX0_harvest 4 (some .int) [((0 : Nat), (9 : Nat), (12 : Nat), (28 : Nat)), ((0 : Nat), (9 : Nat), (15 : Nat), (22 : Nat))]) ({ frames := 11, cells := 4, slots := 28, locals := 228 }) (va_Pc [.ref a, .int x, .ref o] (wP E t M)) (va_Qi (fun (r : Int32) (u : mm) => (C0_harvest t M a x o).1 = 0 ∧ r = (C0_harvest t M a x o).2.1 ∧ u = (C0_harvest t M a x o).2.2) (fun u U => mw E t u U.heap) (eA E)) (vx_X (fun (u : mm) => ¬ (C0_harvest t M a x o).1 = 0 ∧ u = (C0_harvest t M a x o).2.2) (fun En q u U => XS E t (C0_harvest t M a x o).1 En q u U.heap) (eA E)) 4 28 (eA E) := by
  refine vx_ofWH (cc := cX0_harvest) (maxL := 4) (ret := (some .int)) (hh := [((0 : Nat), (9 : Nat), (12 : Nat), (28 : Nat)), ((0 : Nat), (9 : Nat), (15 : Nat), (22 : Nat))]) (by decide) rfl ?_
  intro p e s m args below meth c0 s₁ B hml hv
  obtain ⟨rfl, hs, hm⟩ := hv
  have hx := B.exec
  have hb := B.bytes
  have hr := B.returns
  have hts := atoms_spec (ws := wsW_ yX0_harvest cX0_harvest 4 (some .int) [((0 : Nat), (9 : Nat), (12 : Nat), (28 : Nat)), ((0 : Nat), (9 : Nat), (15 : Nat), (22 : Nat))]) B.pre
  have hts : ∀ w ∈ lw_all, w.before _ s = true := fun w h => hts w (List.mem_cons_of_mem _ h)
  have hown : s.vm.findClass RX0 = some m.cls := findClass_of_methodNamed B.named
  have hlocks := B.notSynchronized
  have htab := vx_table (x := yX0_harvest) B (atoms_spec (ws := wsW_ yX0_harvest cX0_harvest 4 (some .int) [((0 : Nat), (9 : Nat), (12 : Nat), (28 : Nat)), ((0 : Nat), (9 : Nat), (15 : Nat), (22 : Nat))]) B.pre _ List.mem_cons_self)
  have hS : va_S (eA E) s.heap s.heap [] := va_S.rf
  have hl := lv_entry ([.ref a, .int x, .ref o]) (n := 4) (Nat.le_of_ble_eq_true rfl)
  rw [lg_entry_eq]
  generalize (lg_sl ([.ref a, .int x, .ref o]) ++ List.replicate (4 - (lg_sl ([.ref a, .int x, .ref o])).length) Slot.unset).toArray = ls at hl ⊢
  have hl : lv_has ls 4 [(0, .ref (a)), (1, .int (x)), (2, .ref (o))] := hl
  refine lv_aload_n hx hb dX0_harvest_0 rfl (lv_at hl 2 rfl) ?_
  refine lv_iconst (v := (0 : Int32)) hx hb dX0_harvest_1 (by decide) ?_
  refine lv_aload_n hx hb dX0_harvest_2 rfl (lv_at hl 0 rfl) ?_
  refine lv_iload_n hx hb dX0_harvest_3 rfl (lv_at hl 1 rfl) ?_
  refine kx_calli (BX := fun En q u H => XS E t (C1_harvest t M (a) (x)).1 En q u H) (vx_runVX (As := [.int (x)]) (rest := [.int ((0 : Int32)), .ref (o)]) ⟨hx, hb, hml, hown, hts⟩ (cm1_harvest l E hl9 t M  (a) (x) hA K S hw hT hO) (vx_cwVW 1 hts (lw_VW q1120 q1121 q1122 q58 q1123) rfl rfl rfl (by decide +kernel) ⟨Nat.le_of_ble_eq_true rfl, Nat.le_of_ble_eq_true rfl⟩) (k_preV hs hm hS (mw.recv hs hm (mt_ne hA.z (by decide)) (ct1 hA.z) rfl)) rfl rfl hl.1 rfl (lv_room (Nat.le_of_ble_eq_true rfl)) dX0_harvest_4 ⟨Nat.le_of_ble_eq_true rfl, Nat.le_of_ble_eq_true rfl⟩) hS (fun En_1 ce_1 q_1 u9_1 H locs hp_1 hB_1 hS h1_1 h2_1 h3_1 => ?_) (fun r_1 u_1 H locs hw_1 hm_1 hS => ?_)
  · obtain ⟨c_1, hu9_1⟩ := hp_1
    replace hu9_1 := hu9_1.symm
    subst hu9_1
    obtain ⟨hE_1, hm⟩ := hB_1
    have hk_1 := xc_harvest t M a x
    by_cases d_1_0 : (C1_harvest t M (a) (x)).1 = (3 : Int32)
    · have hE9 : En_1 = "java/lang/IndexOutOfBoundsException" := by rw [hE_1, d_1_0]; rfl
      subst hE9
      refine vx_catch (name := "java/lang/IndexOutOfBoundsException") hown [] ⟨0, 9, 12, 28⟩ [⟨0, 9, 15, 22⟩] htab (fun z hz => nomatch hz) (by decide) (by decide) (hts _ q805) (hs.2.2.1.at q846 rfl rfl) h1_1 h2_1 h3_1 ?_
      refine lv_astore_n (lv' := [(3, _), (0, _), (1, _), (2, _)]) hx hb dX0_harvest_12 rfl hl (by decide) rfl (fun ls hl => ?_)
      refine lv_iconst (v := (1 : Int32)) hx hb dX0_harvest_13 (by decide) ?_
      refine vx_ret ?_
      refine W.widen (k := 4) (n := 28) (Nat.le_of_ble_eq_true rfl) (Nat.le_of_ble_eq_true rfl) ?_
      exact W.iret (v := _) hx hb hr (fun t9 ht9 _ => ⟨⟨_, _, rfl, pp3 ((if_neg c_1).trans ((if_pos d_1_0).trans (rfl))), hb9 ht9 hm⟩, hS.F ht9⟩) hS.2.2 dX0_harvest_14
    · skip
      by_cases d_1_1 : (C1_harvest t M (a) (x)).1 = (2 : Int32)
      · have hE9 : En_1 = "java/lang/UnsupportedOperationException" := by rw [hE_1, d_1_1]; rfl
        subst hE9
        refine vx_catch (name := "java/lang/UnsupportedOperationException") hown [⟨0, 9, 12, 28⟩] ⟨0, 9, 15, 22⟩ [] htab (fun z hz => by
          rcases List.mem_singleton.mp hz with rfl
          exact Or.inr ⟨by decide, "java/lang/IndexOutOfBoundsException", hts _ q805, hs.2.2.2.2.2.2.2 ("java/lang/UnsupportedOperationException", "java/lang/IndexOutOfBoundsException") (by decide +kernel)⟩) (by decide) (by decide) (hts _ q736) (hs.2.2.1.at q789 rfl rfl) h1_1 h2_1 h3_1 ?_
        refine lv_astore_n (lv' := [(3, _), (0, _), (1, _), (2, _)]) hx hb dX0_harvest_15 rfl hl (by decide) rfl (fun ls hl => ?_)
        refine lv_iconst (v := (2 : Int32)) hx hb dX0_harvest_16 (by decide) ?_
        refine vx_ret ?_
        refine W.widen (k := 4) (n := 28) (Nat.le_of_ble_eq_true rfl) (Nat.le_of_ble_eq_true rfl) ?_
        exact W.iret (v := _) hx hb hr (fun t9 ht9 _ => ⟨⟨_, _, rfl, pp3 ((if_neg c_1).trans ((if_neg d_1_0).trans ((if_pos d_1_1).trans (rfl)))), hb9 ht9 hm⟩, hS.F ht9⟩) hS.2.2 dX0_harvest_17
      · rcases hk_1 with h9 | h9 | h9
        · exact absurd h9 c_1
        · exact absurd h9 d_1_0
        · exact absurd h9 d_1_1
  · obtain ⟨c_1, hr_1, hu_1⟩ := hw_1
    have hm := hm_1
    refine lv_i2l hx hb dX0_harvest_7 rfl ?_
    refine k_last hx hb hs hm hS ho (vi 0 (by decide) (by decide)) dX0_harvest_8 (fun H locs hm hS => ?_)
    have hm : mw E t ((wL u_1 o (vp_updL (aL u_1 o) 0 (r_1).toInt64))) H := hm
    refine lv_goto (tgt := 18) hx hb dX0_harvest_9 (by decide) ?_
    refine lv_iconst (v := (0 : Int32)) hx hb dX0_harvest_18 (by decide) ?_
    subst hu_1
    subst hr_1
    refine vx_ret ?_
    refine W.widen (k := 4) (n := 28) (Nat.le_of_ble_eq_true rfl) (Nat.le_of_ble_eq_true rfl) ?_
    exact W.iret (v := _) hx hb hr (fun t9 ht9 _ => ⟨⟨_, _, rfl, pp3 ((if_pos c_1).trans (rfl)), hb9 ht9 hm⟩, hS.F ht9⟩) hS.2.2 dX0_harvest_19
theorem xc_shed (t : mt) (M : mm) (c : Nat) (x : Int32) : (C1_shed t M c x).1 = (0 : Int32) ∨ (C1_shed t M c x).1 = (3 : Int32) ∨ (C1_shed t M c x).1 = (2 : Int32) := by
  unfold C1_shed
  (try dsimp only)
  (repeat' split) <;> first | exact .inl rfl | exact .inr rfl | exact .inr (.inl rfl) | exact .inr (.inr rfl) | exact .inr (.inr (.inl rfl)) | exact .inr (.inr (.inr rfl))
def C0_shed (t : mt) (M : mm) (a : Nat) (x : Int32) (o : Nat) : Int32 × Int32 × mm :=
  let r_1 := (C1_shed t M (a) (x)).2.1;
  let u_1 := (C1_shed t M (a) (x)).2.2;
  if (C1_shed t M (a) (x)).1 = 0 then
    ((0 : Int32), (0 : Int32), (wL u_1 o (vp_updL (aL u_1 o) 0 (r_1).toInt64)))
  else
    if (C1_shed t M (a) (x)).1 = (3 : Int32) then
      ((0 : Int32), (1 : Int32), (C1_shed t M (a) (x)).2.2)
    else
      if (C1_shed t M (a) (x)).1 = (2 : Int32) then
        ((0 : Int32), (2 : Int32), (C1_shed t M (a) (x)).2.2)
      else
        ((0 : Int32), (0 : Int32), M)
set_option maxHeartbeats 4000000 in
theorem cm0_shed (l : Launch) (E : mE) (hl9 : l.stackTraces = false) (t : mt) (M : mm) (a : Nat) (x : Int32) (o : Nat) (hA : layA t a) (ho : t o = (60, 1)) (K S : List Nat) (hw : wfA M a K S) (hT : wfK (C1_tryOn t M a).2 (a + 65)) (hO : ¬ C1_isPlot x = 0 → wfK (C2_shed t (C1_tryOn t M a).2 (a + 65) x).2.2.2 (a + 65)) : vx_Met l yX0_shed (wsW_ yX0_shed cX0_shed 4 (some .int) [((0 : Nat), (9 : Nat), (12 : Nat), (28 : Nat)), ((0 : Nat), (9 : Nat), (15 : Nat), (22 : Nat))]) ({ frames := 11, cells := 4, slots := 28, locals := 226 }) (va_Pc [.ref a, .int x, .ref o] (wP E t M)) (va_Qi (fun (r : Int32) (u : mm) => (C0_shed t M a x o).1 = 0 ∧ r = (C0_shed t M a x o).2.1 ∧ u = (C0_shed t M a x o).2.2) (fun u U => mw E t u U.heap) (eA E)) (vx_X (fun (u : mm) => ¬ (C0_shed t M a x o).1 = 0 ∧ u = (C0_shed t M a x o).2.2) (fun En q u U => XS E t (C0_shed t M a x o).1 En q u U.heap) (eA E)) 4 28 (eA E) := by
  refine vx_ofWH (cc := cX0_shed) (maxL := 4) (ret := (some .int)) (hh := [((0 : Nat), (9 : Nat), (12 : Nat), (28 : Nat)), ((0 : Nat), (9 : Nat), (15 : Nat), (22 : Nat))]) (by decide) rfl ?_
  intro p e s m args below meth c0 s₁ B hml hv
  obtain ⟨rfl, hs, hm⟩ := hv
  have hx := B.exec
  have hb := B.bytes
  have hr := B.returns
  have hts := atoms_spec (ws := wsW_ yX0_shed cX0_shed 4 (some .int) [((0 : Nat), (9 : Nat), (12 : Nat), (28 : Nat)), ((0 : Nat), (9 : Nat), (15 : Nat), (22 : Nat))]) B.pre
  have hts : ∀ w ∈ lw_all, w.before _ s = true := fun w h => hts w (List.mem_cons_of_mem _ h)
  have hown : s.vm.findClass RX0 = some m.cls := findClass_of_methodNamed B.named
  have hlocks := B.notSynchronized
  have htab := vx_table (x := yX0_shed) B (atoms_spec (ws := wsW_ yX0_shed cX0_shed 4 (some .int) [((0 : Nat), (9 : Nat), (12 : Nat), (28 : Nat)), ((0 : Nat), (9 : Nat), (15 : Nat), (22 : Nat))]) B.pre _ List.mem_cons_self)
  have hS : va_S (eA E) s.heap s.heap [] := va_S.rf
  have hl := lv_entry ([.ref a, .int x, .ref o]) (n := 4) (Nat.le_of_ble_eq_true rfl)
  rw [lg_entry_eq]
  generalize (lg_sl ([.ref a, .int x, .ref o]) ++ List.replicate (4 - (lg_sl ([.ref a, .int x, .ref o])).length) Slot.unset).toArray = ls at hl ⊢
  have hl : lv_has ls 4 [(0, .ref (a)), (1, .int (x)), (2, .ref (o))] := hl
  refine lv_aload_n hx hb dX0_shed_0 rfl (lv_at hl 2 rfl) ?_
  refine lv_iconst (v := (0 : Int32)) hx hb dX0_shed_1 (by decide) ?_
  refine lv_aload_n hx hb dX0_shed_2 rfl (lv_at hl 0 rfl) ?_
  refine lv_iload_n hx hb dX0_shed_3 rfl (lv_at hl 1 rfl) ?_
  refine kx_calli (BX := fun En q u H => XS E t (C1_shed t M (a) (x)).1 En q u H) (vx_runVX (As := [.int (x)]) (rest := [.int ((0 : Int32)), .ref (o)]) ⟨hx, hb, hml, hown, hts⟩ (cm1_shed l E hl9 t M  (a) (x) hA K S hw hT hO) (vx_cwVW 1 hts (lw_VW q1143 q1144 q1145 q58 q1146) rfl rfl rfl (by decide +kernel) ⟨Nat.le_of_ble_eq_true rfl, Nat.le_of_ble_eq_true rfl⟩) (k_preV hs hm hS (mw.recv hs hm (mt_ne hA.z (by decide)) (ct1 hA.z) rfl)) rfl rfl hl.1 rfl (lv_room (Nat.le_of_ble_eq_true rfl)) dX0_shed_4 ⟨Nat.le_of_ble_eq_true rfl, Nat.le_of_ble_eq_true rfl⟩) hS (fun En_1 ce_1 q_1 u9_1 H locs hp_1 hB_1 hS h1_1 h2_1 h3_1 => ?_) (fun r_1 u_1 H locs hw_1 hm_1 hS => ?_)
  · obtain ⟨c_1, hu9_1⟩ := hp_1
    replace hu9_1 := hu9_1.symm
    subst hu9_1
    obtain ⟨hE_1, hm⟩ := hB_1
    have hk_1 := xc_shed t M a x
    by_cases d_1_0 : (C1_shed t M (a) (x)).1 = (3 : Int32)
    · have hE9 : En_1 = "java/lang/IndexOutOfBoundsException" := by rw [hE_1, d_1_0]; rfl
      subst hE9
      refine vx_catch (name := "java/lang/IndexOutOfBoundsException") hown [] ⟨0, 9, 12, 28⟩ [⟨0, 9, 15, 22⟩] htab (fun z hz => nomatch hz) (by decide) (by decide) (hts _ q805) (hs.2.2.1.at q846 rfl rfl) h1_1 h2_1 h3_1 ?_
      refine lv_astore_n (lv' := [(3, _), (0, _), (1, _), (2, _)]) hx hb dX0_shed_12 rfl hl (by decide) rfl (fun ls hl => ?_)
      refine lv_iconst (v := (1 : Int32)) hx hb dX0_shed_13 (by decide) ?_
      refine vx_ret ?_
      refine W.widen (k := 4) (n := 28) (Nat.le_of_ble_eq_true rfl) (Nat.le_of_ble_eq_true rfl) ?_
      exact W.iret (v := _) hx hb hr (fun t9 ht9 _ => ⟨⟨_, _, rfl, pp3 ((if_neg c_1).trans ((if_pos d_1_0).trans (rfl))), hb9 ht9 hm⟩, hS.F ht9⟩) hS.2.2 dX0_shed_14
    · skip
      by_cases d_1_1 : (C1_shed t M (a) (x)).1 = (2 : Int32)
      · have hE9 : En_1 = "java/lang/UnsupportedOperationException" := by rw [hE_1, d_1_1]; rfl
        subst hE9
        refine vx_catch (name := "java/lang/UnsupportedOperationException") hown [⟨0, 9, 12, 28⟩] ⟨0, 9, 15, 22⟩ [] htab (fun z hz => by
          rcases List.mem_singleton.mp hz with rfl
          exact Or.inr ⟨by decide, "java/lang/IndexOutOfBoundsException", hts _ q805, hs.2.2.2.2.2.2.2 ("java/lang/UnsupportedOperationException", "java/lang/IndexOutOfBoundsException") (by decide +kernel)⟩) (by decide) (by decide) (hts _ q736) (hs.2.2.1.at q789 rfl rfl) h1_1 h2_1 h3_1 ?_
        refine lv_astore_n (lv' := [(3, _), (0, _), (1, _), (2, _)]) hx hb dX0_shed_15 rfl hl (by decide) rfl (fun ls hl => ?_)
        refine lv_iconst (v := (2 : Int32)) hx hb dX0_shed_16 (by decide) ?_
        refine vx_ret ?_
        refine W.widen (k := 4) (n := 28) (Nat.le_of_ble_eq_true rfl) (Nat.le_of_ble_eq_true rfl) ?_
        exact W.iret (v := _) hx hb hr (fun t9 ht9 _ => ⟨⟨_, _, rfl, pp3 ((if_neg c_1).trans ((if_neg d_1_0).trans ((if_pos d_1_1).trans (rfl)))), hb9 ht9 hm⟩, hS.F ht9⟩) hS.2.2 dX0_shed_17
      · rcases hk_1 with h9 | h9 | h9
        · exact absurd h9 c_1
        · exact absurd h9 d_1_0
        · exact absurd h9 d_1_1
  · obtain ⟨c_1, hr_1, hu_1⟩ := hw_1
    have hm := hm_1
    refine lv_i2l hx hb dX0_shed_7 rfl ?_
    refine k_last hx hb hs hm hS ho (vi 0 (by decide) (by decide)) dX0_shed_8 (fun H locs hm hS => ?_)
    have hm : mw E t ((wL u_1 o (vp_updL (aL u_1 o) 0 (r_1).toInt64))) H := hm
    refine lv_goto (tgt := 18) hx hb dX0_shed_9 (by decide) ?_
    refine lv_iconst (v := (0 : Int32)) hx hb dX0_shed_18 (by decide) ?_
    subst hu_1
    subst hr_1
    refine vx_ret ?_
    refine W.widen (k := 4) (n := 28) (Nat.le_of_ble_eq_true rfl) (Nat.le_of_ble_eq_true rfl) ?_
    exact W.iret (v := _) hx hb hr (fun t9 ht9 _ => ⟨⟨_, _, rfl, pp3 ((if_pos c_1).trans (rfl)), hb9 ht9 hm⟩, hS.F ht9⟩) hS.2.2 dX0_shed_19
theorem xc_rope (t : mt) (M : mm) (c : Nat) (x : Int32) : (C1_rope t M c x).1 = (0 : Int32) ∨ (C1_rope t M c x).1 = (3 : Int32) ∨ (C1_rope t M c x).1 = (2 : Int32) := by
  unfold C1_rope
  (try dsimp only)
  (repeat' split) <;> first | exact .inl rfl | exact .inr rfl | exact .inr (.inl rfl) | exact .inr (.inr rfl) | exact .inr (.inr (.inl rfl)) | exact .inr (.inr (.inr rfl))
def C0_rope (t : mt) (M : mm) (a : Nat) (x : Int32) (o : Nat) : Int32 × Int32 × mm :=
  let r_1 := (C1_rope t M (a) (x)).2.1;
  let u_1 := (C1_rope t M (a) (x)).2.2;
  if (C1_rope t M (a) (x)).1 = 0 then
    ((0 : Int32), (0 : Int32), (wL u_1 o (vp_updL (aL u_1 o) 0 (r_1).toInt64)))
  else
    if (C1_rope t M (a) (x)).1 = (3 : Int32) then
      ((0 : Int32), (1 : Int32), (C1_rope t M (a) (x)).2.2)
    else
      if (C1_rope t M (a) (x)).1 = (2 : Int32) then
        ((0 : Int32), (2 : Int32), (C1_rope t M (a) (x)).2.2)
      else
        ((0 : Int32), (0 : Int32), M)
set_option maxHeartbeats 4000000 in
theorem cm0_rope (l : Launch) (E : mE) (hl9 : l.stackTraces = false) (t : mt) (M : mm) (a : Nat) (x : Int32) (o : Nat) (hA : layA t a) (ho : t o = (60, 1)) (K S : List Nat) (hw : wfA M a K S) (hT : wfK (C1_tryOn t M a).2 (a + 65)) (hO : (¬ C2_isShed t M (a + 1) x = 0) → wfK (C2_rope t (C1_tryOn t M a).2 (a + 65) x).2.2.2 (a + 65)) : vx_Met l yX0_rope (wsW_ yX0_rope cX0_rope 4 (some .int) [((0 : Nat), (9 : Nat), (12 : Nat), (28 : Nat)), ((0 : Nat), (9 : Nat), (15 : Nat), (22 : Nat))]) ({ frames := 11, cells := 4, slots := 28, locals := 226 }) (va_Pc [.ref a, .int x, .ref o] (wP E t M)) (va_Qi (fun (r : Int32) (u : mm) => (C0_rope t M a x o).1 = 0 ∧ r = (C0_rope t M a x o).2.1 ∧ u = (C0_rope t M a x o).2.2) (fun u U => mw E t u U.heap) (eA E)) (vx_X (fun (u : mm) => ¬ (C0_rope t M a x o).1 = 0 ∧ u = (C0_rope t M a x o).2.2) (fun En q u U => XS E t (C0_rope t M a x o).1 En q u U.heap) (eA E)) 4 28 (eA E) := by
  refine vx_ofWH (cc := cX0_rope) (maxL := 4) (ret := (some .int)) (hh := [((0 : Nat), (9 : Nat), (12 : Nat), (28 : Nat)), ((0 : Nat), (9 : Nat), (15 : Nat), (22 : Nat))]) (by decide) rfl ?_
  intro p e s m args below meth c0 s₁ B hml hv
  obtain ⟨rfl, hs, hm⟩ := hv
  have hx := B.exec
  have hb := B.bytes
  have hr := B.returns
  have hts := atoms_spec (ws := wsW_ yX0_rope cX0_rope 4 (some .int) [((0 : Nat), (9 : Nat), (12 : Nat), (28 : Nat)), ((0 : Nat), (9 : Nat), (15 : Nat), (22 : Nat))]) B.pre
  have hts : ∀ w ∈ lw_all, w.before _ s = true := fun w h => hts w (List.mem_cons_of_mem _ h)
  have hown : s.vm.findClass RX0 = some m.cls := findClass_of_methodNamed B.named
  have hlocks := B.notSynchronized
  have htab := vx_table (x := yX0_rope) B (atoms_spec (ws := wsW_ yX0_rope cX0_rope 4 (some .int) [((0 : Nat), (9 : Nat), (12 : Nat), (28 : Nat)), ((0 : Nat), (9 : Nat), (15 : Nat), (22 : Nat))]) B.pre _ List.mem_cons_self)
  have hS : va_S (eA E) s.heap s.heap [] := va_S.rf
  have hl := lv_entry ([.ref a, .int x, .ref o]) (n := 4) (Nat.le_of_ble_eq_true rfl)
  rw [lg_entry_eq]
  generalize (lg_sl ([.ref a, .int x, .ref o]) ++ List.replicate (4 - (lg_sl ([.ref a, .int x, .ref o])).length) Slot.unset).toArray = ls at hl ⊢
  have hl : lv_has ls 4 [(0, .ref (a)), (1, .int (x)), (2, .ref (o))] := hl
  refine lv_aload_n hx hb dX0_rope_0 rfl (lv_at hl 2 rfl) ?_
  refine lv_iconst (v := (0 : Int32)) hx hb dX0_rope_1 (by decide) ?_
  refine lv_aload_n hx hb dX0_rope_2 rfl (lv_at hl 0 rfl) ?_
  refine lv_iload_n hx hb dX0_rope_3 rfl (lv_at hl 1 rfl) ?_
  refine kx_calli (BX := fun En q u H => XS E t (C1_rope t M (a) (x)).1 En q u H) (vx_runVX (As := [.int (x)]) (rest := [.int ((0 : Int32)), .ref (o)]) ⟨hx, hb, hml, hown, hts⟩ (cm1_rope l E hl9 t M  (a) (x) hA K S hw hT hO) (vx_cwVW 1 hts (lw_VW q1159 q1160 q1161 q58 q1162) rfl rfl rfl (by decide +kernel) ⟨Nat.le_of_ble_eq_true rfl, Nat.le_of_ble_eq_true rfl⟩) (k_preV hs hm hS (mw.recv hs hm (mt_ne hA.z (by decide)) (ct1 hA.z) rfl)) rfl rfl hl.1 rfl (lv_room (Nat.le_of_ble_eq_true rfl)) dX0_rope_4 ⟨Nat.le_of_ble_eq_true rfl, Nat.le_of_ble_eq_true rfl⟩) hS (fun En_1 ce_1 q_1 u9_1 H locs hp_1 hB_1 hS h1_1 h2_1 h3_1 => ?_) (fun r_1 u_1 H locs hw_1 hm_1 hS => ?_)
  · obtain ⟨c_1, hu9_1⟩ := hp_1
    replace hu9_1 := hu9_1.symm
    subst hu9_1
    obtain ⟨hE_1, hm⟩ := hB_1
    have hk_1 := xc_rope t M a x
    by_cases d_1_0 : (C1_rope t M (a) (x)).1 = (3 : Int32)
    · have hE9 : En_1 = "java/lang/IndexOutOfBoundsException" := by rw [hE_1, d_1_0]; rfl
      subst hE9
      refine vx_catch (name := "java/lang/IndexOutOfBoundsException") hown [] ⟨0, 9, 12, 28⟩ [⟨0, 9, 15, 22⟩] htab (fun z hz => nomatch hz) (by decide) (by decide) (hts _ q805) (hs.2.2.1.at q846 rfl rfl) h1_1 h2_1 h3_1 ?_
      refine lv_astore_n (lv' := [(3, _), (0, _), (1, _), (2, _)]) hx hb dX0_rope_12 rfl hl (by decide) rfl (fun ls hl => ?_)
      refine lv_iconst (v := (1 : Int32)) hx hb dX0_rope_13 (by decide) ?_
      refine vx_ret ?_
      refine W.widen (k := 4) (n := 28) (Nat.le_of_ble_eq_true rfl) (Nat.le_of_ble_eq_true rfl) ?_
      exact W.iret (v := _) hx hb hr (fun t9 ht9 _ => ⟨⟨_, _, rfl, pp3 ((if_neg c_1).trans ((if_pos d_1_0).trans (rfl))), hb9 ht9 hm⟩, hS.F ht9⟩) hS.2.2 dX0_rope_14
    · skip
      by_cases d_1_1 : (C1_rope t M (a) (x)).1 = (2 : Int32)
      · have hE9 : En_1 = "java/lang/UnsupportedOperationException" := by rw [hE_1, d_1_1]; rfl
        subst hE9
        refine vx_catch (name := "java/lang/UnsupportedOperationException") hown [⟨0, 9, 12, 28⟩] ⟨0, 9, 15, 22⟩ [] htab (fun z hz => by
          rcases List.mem_singleton.mp hz with rfl
          exact Or.inr ⟨by decide, "java/lang/IndexOutOfBoundsException", hts _ q805, hs.2.2.2.2.2.2.2 ("java/lang/UnsupportedOperationException", "java/lang/IndexOutOfBoundsException") (by decide +kernel)⟩) (by decide) (by decide) (hts _ q736) (hs.2.2.1.at q789 rfl rfl) h1_1 h2_1 h3_1 ?_
        refine lv_astore_n (lv' := [(3, _), (0, _), (1, _), (2, _)]) hx hb dX0_rope_15 rfl hl (by decide) rfl (fun ls hl => ?_)
        refine lv_iconst (v := (2 : Int32)) hx hb dX0_rope_16 (by decide) ?_
        refine vx_ret ?_
        refine W.widen (k := 4) (n := 28) (Nat.le_of_ble_eq_true rfl) (Nat.le_of_ble_eq_true rfl) ?_
        exact W.iret (v := _) hx hb hr (fun t9 ht9 _ => ⟨⟨_, _, rfl, pp3 ((if_neg c_1).trans ((if_neg d_1_0).trans ((if_pos d_1_1).trans (rfl)))), hb9 ht9 hm⟩, hS.F ht9⟩) hS.2.2 dX0_rope_17
      · rcases hk_1 with h9 | h9 | h9
        · exact absurd h9 c_1
        · exact absurd h9 d_1_0
        · exact absurd h9 d_1_1
  · obtain ⟨c_1, hr_1, hu_1⟩ := hw_1
    have hm := hm_1
    refine lv_i2l hx hb dX0_rope_7 rfl ?_
    refine k_last hx hb hs hm hS ho (vi 0 (by decide) (by decide)) dX0_rope_8 (fun H locs hm hS => ?_)
    have hm : mw E t ((wL u_1 o (vp_updL (aL u_1 o) 0 (r_1).toInt64))) H := hm
    refine lv_goto (tgt := 18) hx hb dX0_rope_9 (by decide) ?_
    refine lv_iconst (v := (0 : Int32)) hx hb dX0_rope_18 (by decide) ?_
    subst hu_1
    subst hr_1
    refine vx_ret ?_
    refine W.widen (k := 4) (n := 28) (Nat.le_of_ble_eq_true rfl) (Nat.le_of_ble_eq_true rfl) ?_
    exact W.iret (v := _) hx hb hr (fun t9 ht9 _ => ⟨⟨_, _, rfl, pp3 ((if_pos c_1).trans (rfl)), hb9 ht9 hm⟩, hS.F ht9⟩) hS.2.2 dX0_rope_19
theorem xc_pour (t : mt) (M : mm) (c : Nat) (x : Int32) (y : Int32) (z : Int32) : (C1_pour t M c x y z).1 = (0 : Int32) ∨ (C1_pour t M c x y z).1 = (3 : Int32) ∨ (C1_pour t M c x y z).1 = (1 : Int32) ∨ (C1_pour t M c x y z).1 = (2 : Int32) := by
  unfold C1_pour
  (try dsimp only)
  (repeat' split) <;> first | exact .inl rfl | exact .inr rfl | exact .inr (.inl rfl) | exact .inr (.inr rfl) | exact .inr (.inr (.inl rfl)) | exact .inr (.inr (.inr rfl))
def C0_pour (t : mt) (M : mm) (a : Nat) (x : Int32) (y : Int32) (z : Int32) (o : Nat) : Int32 × Int32 × mm :=
  let r_1 := (C1_pour t M (a) (x) (y) (z)).2.1;
  let u_1 := (C1_pour t M (a) (x) (y) (z)).2.2;
  if (C1_pour t M (a) (x) (y) (z)).1 = 0 then
    ((0 : Int32), (0 : Int32), (wL u_1 o (vp_updL (aL u_1 o) 0 (r_1).toInt64)))
  else
    if (C1_pour t M (a) (x) (y) (z)).1 = (3 : Int32) then
      ((0 : Int32), (1 : Int32), (C1_pour t M (a) (x) (y) (z)).2.2)
    else
      if (C1_pour t M (a) (x) (y) (z)).1 = (1 : Int32) then
        ((0 : Int32), (2 : Int32), (C1_pour t M (a) (x) (y) (z)).2.2)
      else
        if (C1_pour t M (a) (x) (y) (z)).1 = (2 : Int32) then
          ((0 : Int32), (3 : Int32), (C1_pour t M (a) (x) (y) (z)).2.2)
        else
          ((0 : Int32), (0 : Int32), M)
set_option maxHeartbeats 4000000 in
theorem cm0_pour (l : Launch) (E : mE) (hl9 : l.stackTraces = false) (t : mt) (M : mm) (a : Nat) (x : Int32) (y : Int32) (z : Int32) (o : Nat) (hA : layA t a) (ho : t o = (60, 1)) (K S : List Nat) (hw : wfA M a K S) (hT : wfK (C1_tryOn t M a).2 (a + 65)) (hO : (¬ C2_isShed t M (a + 1) x = 0) → ¬ C1_isPlot y = 0 → ¬ C1_in z 1 90 = 0 → wfK (C2_pour t (C1_tryOn t M a).2 (a + 65) x y z).2.2.2 (a + 65)) : vx_Met l yX0_pour (wsW_ yX0_pour cX0_pour 6 (some .int) [((0 : Nat), (12 : Nat), (15 : Nat), (28 : Nat)), ((0 : Nat), (12 : Nat), (19 : Nat), (13 : Nat)), ((0 : Nat), (12 : Nat), (23 : Nat), (22 : Nat))]) ({ frames := 11, cells := 5, slots := 34, locals := 230 }) (va_Pc [.ref a, .int x, .int y, .int z, .ref o] (wP E t M)) (va_Qi (fun (r : Int32) (u : mm) => (C0_pour t M a x y z o).1 = 0 ∧ r = (C0_pour t M a x y z o).2.1 ∧ u = (C0_pour t M a x y z o).2.2) (fun u U => mw E t u U.heap) (eA E)) (vx_X (fun (u : mm) => ¬ (C0_pour t M a x y z o).1 = 0 ∧ u = (C0_pour t M a x y z o).2.2) (fun En q u U => XS E t (C0_pour t M a x y z o).1 En q u U.heap) (eA E)) 5 34 (eA E) := by
  refine vx_ofWH (cc := cX0_pour) (maxL := 6) (ret := (some .int)) (hh := [((0 : Nat), (12 : Nat), (15 : Nat), (28 : Nat)), ((0 : Nat), (12 : Nat), (19 : Nat), (13 : Nat)), ((0 : Nat), (12 : Nat), (23 : Nat), (22 : Nat))]) (by decide) rfl ?_
  intro p e s m args below meth c0 s₁ B hml hv
  obtain ⟨rfl, hs, hm⟩ := hv
  have hx := B.exec
  have hb := B.bytes
  have hr := B.returns
  have hts := atoms_spec (ws := wsW_ yX0_pour cX0_pour 6 (some .int) [((0 : Nat), (12 : Nat), (15 : Nat), (28 : Nat)), ((0 : Nat), (12 : Nat), (19 : Nat), (13 : Nat)), ((0 : Nat), (12 : Nat), (23 : Nat), (22 : Nat))]) B.pre
  have hts : ∀ w ∈ lw_all, w.before _ s = true := fun w h => hts w (List.mem_cons_of_mem _ h)
  have hown : s.vm.findClass RX0 = some m.cls := findClass_of_methodNamed B.named
  have hlocks := B.notSynchronized
  have htab := vx_table (x := yX0_pour) B (atoms_spec (ws := wsW_ yX0_pour cX0_pour 6 (some .int) [((0 : Nat), (12 : Nat), (15 : Nat), (28 : Nat)), ((0 : Nat), (12 : Nat), (19 : Nat), (13 : Nat)), ((0 : Nat), (12 : Nat), (23 : Nat), (22 : Nat))]) B.pre _ List.mem_cons_self)
  have hS : va_S (eA E) s.heap s.heap [] := va_S.rf
  have hl := lv_entry ([.ref a, .int x, .int y, .int z, .ref o]) (n := 6) (Nat.le_of_ble_eq_true rfl)
  rw [lg_entry_eq]
  generalize (lg_sl ([.ref a, .int x, .int y, .int z, .ref o]) ++ List.replicate (6 - (lg_sl ([.ref a, .int x, .int y, .int z, .ref o])).length) Slot.unset).toArray = ls at hl ⊢
  have hl : lv_has ls 6 [(0, .ref (a)), (1, .int (x)), (2, .int (y)), (3, .int (z)), (4, .ref (o))] := hl
  refine lv_aload hx hb dX0_pour_0 (lv_at hl 4 rfl) ?_
  refine lv_iconst (v := (0 : Int32)) hx hb dX0_pour_2 (by decide) ?_
  refine lv_aload_n hx hb dX0_pour_3 rfl (lv_at hl 0 rfl) ?_
  refine lv_iload_n hx hb dX0_pour_4 rfl (lv_at hl 1 rfl) ?_
  refine lv_iload_n hx hb dX0_pour_5 rfl (lv_at hl 2 rfl) ?_
  refine lv_iload_n hx hb dX0_pour_6 rfl (lv_at hl 3 rfl) ?_
  refine kx_calli (BX := fun En q u H => XS E t (C1_pour t M (a) (x) (y) (z)).1 En q u H) (vx_runVX (As := [.int (x), .int (y), .int (z)]) (rest := [.int ((0 : Int32)), .ref (o)]) ⟨hx, hb, hml, hown, hts⟩ (cm1_pour l E hl9 t M  (a) (x) (y) (z) hA K S hw hT hO) (vx_cwVW 3 hts (lw_VW q1192 q1193 q1194 q58 q1195) rfl rfl rfl (by decide +kernel) ⟨Nat.le_of_ble_eq_true rfl, Nat.le_of_ble_eq_true rfl⟩) (k_preV hs hm hS (mw.recv hs hm (mt_ne hA.z (by decide)) (ct1 hA.z) rfl)) rfl rfl hl.1 rfl (lv_room (Nat.le_of_ble_eq_true rfl)) dX0_pour_7 ⟨Nat.le_of_ble_eq_true rfl, Nat.le_of_ble_eq_true rfl⟩) hS (fun En_1 ce_1 q_1 u9_1 H locs hp_1 hB_1 hS h1_1 h2_1 h3_1 => ?_) (fun r_1 u_1 H locs hw_1 hm_1 hS => ?_)
  · obtain ⟨c_1, hu9_1⟩ := hp_1
    replace hu9_1 := hu9_1.symm
    subst hu9_1
    obtain ⟨hE_1, hm⟩ := hB_1
    have hk_1 := xc_pour t M a x y z
    by_cases d_1_0 : (C1_pour t M (a) (x) (y) (z)).1 = (3 : Int32)
    · have hE9 : En_1 = "java/lang/IndexOutOfBoundsException" := by rw [hE_1, d_1_0]; rfl
      subst hE9
      refine vx_catch (name := "java/lang/IndexOutOfBoundsException") hown [] ⟨0, 12, 15, 28⟩ [⟨0, 12, 19, 13⟩, ⟨0, 12, 23, 22⟩] htab (fun z hz => nomatch hz) (by decide) (by decide) (hts _ q805) (hs.2.2.1.at q846 rfl rfl) h1_1 h2_1 h3_1 ?_
      refine lv_astore (lv' := [(5, _), (0, _), (1, _), (2, _), (3, _), (4, _)]) hx hb dX0_pour_15 hl (by decide) rfl (fun ls hl => ?_)
      refine lv_iconst (v := (1 : Int32)) hx hb dX0_pour_17 (by decide) ?_
      refine vx_ret ?_
      refine W.widen (k := 5) (n := 34) (Nat.le_of_ble_eq_true rfl) (Nat.le_of_ble_eq_true rfl) ?_
      exact W.iret (v := _) hx hb hr (fun t9 ht9 _ => ⟨⟨_, _, rfl, pp3 ((if_neg c_1).trans ((if_pos d_1_0).trans (rfl))), hb9 ht9 hm⟩, hS.F ht9⟩) hS.2.2 dX0_pour_18
    · skip
      by_cases d_1_1 : (C1_pour t M (a) (x) (y) (z)).1 = (1 : Int32)
      · have hE9 : En_1 = "java/lang/IllegalArgumentException" := by rw [hE_1, d_1_1]; rfl
        subst hE9
        refine vx_catch (name := "java/lang/IllegalArgumentException") hown [⟨0, 12, 15, 28⟩] ⟨0, 12, 19, 13⟩ [⟨0, 12, 23, 22⟩] htab (fun z hz => by
          rcases List.mem_singleton.mp hz with rfl
          exact Or.inr ⟨by decide, "java/lang/IndexOutOfBoundsException", hts _ q805, hs.2.2.2.2.2.2.2 ("java/lang/IllegalArgumentException", "java/lang/IndexOutOfBoundsException") (by decide +kernel)⟩) (by decide) (by decide) (hts _ q694) (hs.2.2.1.at q707 rfl rfl) h1_1 h2_1 h3_1 ?_
        refine lv_astore (lv' := [(5, _), (0, _), (1, _), (2, _), (3, _), (4, _)]) hx hb dX0_pour_19 hl (by decide) rfl (fun ls hl => ?_)
        refine lv_iconst (v := (2 : Int32)) hx hb dX0_pour_21 (by decide) ?_
        refine vx_ret ?_
        refine W.widen (k := 5) (n := 34) (Nat.le_of_ble_eq_true rfl) (Nat.le_of_ble_eq_true rfl) ?_
        exact W.iret (v := _) hx hb hr (fun t9 ht9 _ => ⟨⟨_, _, rfl, pp3 ((if_neg c_1).trans ((if_neg d_1_0).trans ((if_pos d_1_1).trans (rfl)))), hb9 ht9 hm⟩, hS.F ht9⟩) hS.2.2 dX0_pour_22
      · skip
        by_cases d_1_2 : (C1_pour t M (a) (x) (y) (z)).1 = (2 : Int32)
        · have hE9 : En_1 = "java/lang/UnsupportedOperationException" := by rw [hE_1, d_1_2]; rfl
          subst hE9
          refine vx_catch (name := "java/lang/UnsupportedOperationException") hown [⟨0, 12, 15, 28⟩, ⟨0, 12, 19, 13⟩] ⟨0, 12, 23, 22⟩ [] htab (fun z hz => by
            rcases List.mem_cons.mp hz with rfl | hz
            · exact Or.inr ⟨by decide, "java/lang/IndexOutOfBoundsException", hts _ q805, hs.2.2.2.2.2.2.2 ("java/lang/UnsupportedOperationException", "java/lang/IndexOutOfBoundsException") (by decide +kernel)⟩
            rcases List.mem_singleton.mp hz with rfl
            exact Or.inr ⟨by decide, "java/lang/IllegalArgumentException", hts _ q694, hs.2.2.2.2.2.2.2 ("java/lang/UnsupportedOperationException", "java/lang/IllegalArgumentException") (by decide +kernel)⟩) (by decide) (by decide) (hts _ q736) (hs.2.2.1.at q789 rfl rfl) h1_1 h2_1 h3_1 ?_
          refine lv_astore (lv' := [(5, _), (0, _), (1, _), (2, _), (3, _), (4, _)]) hx hb dX0_pour_23 hl (by decide) rfl (fun ls hl => ?_)
          refine lv_iconst (v := (3 : Int32)) hx hb dX0_pour_25 (by decide) ?_
          refine vx_ret ?_
          refine W.widen (k := 5) (n := 34) (Nat.le_of_ble_eq_true rfl) (Nat.le_of_ble_eq_true rfl) ?_
          exact W.iret (v := _) hx hb hr (fun t9 ht9 _ => ⟨⟨_, _, rfl, pp3 ((if_neg c_1).trans ((if_neg d_1_0).trans ((if_neg d_1_1).trans ((if_pos d_1_2).trans (rfl))))), hb9 ht9 hm⟩, hS.F ht9⟩) hS.2.2 dX0_pour_26
        · rcases hk_1 with h9 | h9 | h9 | h9
          · exact absurd h9 c_1
          · exact absurd h9 d_1_0
          · exact absurd h9 d_1_1
          · exact absurd h9 d_1_2
  · obtain ⟨c_1, hr_1, hu_1⟩ := hw_1
    have hm := hm_1
    refine lv_i2l hx hb dX0_pour_10 rfl ?_
    refine k_last hx hb hs hm hS ho (vi 0 (by decide) (by decide)) dX0_pour_11 (fun H locs hm hS => ?_)
    have hm : mw E t ((wL u_1 o (vp_updL (aL u_1 o) 0 (r_1).toInt64))) H := hm
    refine lv_goto (tgt := 27) hx hb dX0_pour_12 (by decide) ?_
    refine lv_iconst (v := (0 : Int32)) hx hb dX0_pour_27 (by decide) ?_
    subst hu_1
    subst hr_1
    refine vx_ret ?_
    refine W.widen (k := 5) (n := 34) (Nat.le_of_ble_eq_true rfl) (Nat.le_of_ble_eq_true rfl) ?_
    exact W.iret (v := _) hx hb hr (fun t9 ht9 _ => ⟨⟨_, _, rfl, pp3 ((if_pos c_1).trans (rfl)), hb9 ht9 hm⟩, hS.F ht9⟩) hS.2.2 dX0_pour_28
theorem xc_memberOf (t : mt) (M : mm) (c : Nat) (x : Int32) (y : Int32) : (C1_memberOf t M c x y).1 = (0 : Int32) ∨ (C1_memberOf t M c x y).1 = (3 : Int32) ∨ (C1_memberOf t M c x y).1 = (1 : Int32) := by
  unfold C1_memberOf
  (try dsimp only)
  (repeat' split) <;> first | exact .inl rfl | exact .inr rfl | exact .inr (.inl rfl) | exact .inr (.inr rfl) | exact .inr (.inr (.inl rfl)) | exact .inr (.inr (.inr rfl))
def C0_memberOf (t : mt) (M : mm) (a : Nat) (x : Int32) (y : Int32) (o : Nat) : Int32 × Int32 × mm :=
  let r_1 := (C1_memberOf t M (a) (x) (y)).2.1;
  let u_1 := (C1_memberOf t M (a) (x) (y)).2.2;
  if (C1_memberOf t M (a) (x) (y)).1 = 0 then
    ((0 : Int32), (0 : Int32), (wL u_1 o (vp_updL (aL u_1 o) 0 (r_1).toInt64)))
  else
    if (C1_memberOf t M (a) (x) (y)).1 = (3 : Int32) then
      ((0 : Int32), (1 : Int32), (C1_memberOf t M (a) (x) (y)).2.2)
    else
      if (C1_memberOf t M (a) (x) (y)).1 = (1 : Int32) then
        ((0 : Int32), (2 : Int32), (C1_memberOf t M (a) (x) (y)).2.2)
      else
        ((0 : Int32), (0 : Int32), M)
set_option maxHeartbeats 4000000 in
theorem cm0_memberOf (l : Launch) (E : mE) (hl9 : l.stackTraces = false) (t : mt) (M : mm) (a : Nat) (x : Int32) (y : Int32) (o : Nat) (hA : layA t a) (ho : t o = (60, 1)) (K S : List Nat) (hw : wfA M a K S) : vx_Met l yX0_memberOf (wsW_ yX0_memberOf cX0_memberOf 5 (some .int) [((0 : Nat), (10 : Nat), (13 : Nat), (28 : Nat)), ((0 : Nat), (10 : Nat), (17 : Nat), (13 : Nat))]) ({ frames := 8, cells := 2, slots := 12, locals := 163 }) (va_Pc [.ref a, .int x, .int y, .ref o] (wP E t M)) (va_Qi (fun (r : Int32) (u : mm) => (C0_memberOf t M a x y o).1 = 0 ∧ r = (C0_memberOf t M a x y o).2.1 ∧ u = (C0_memberOf t M a x y o).2.2) (fun u U => mw E t u U.heap) (eA E)) (vx_X (fun (u : mm) => ¬ (C0_memberOf t M a x y o).1 = 0 ∧ u = (C0_memberOf t M a x y o).2.2) (fun En q u U => XS E t (C0_memberOf t M a x y o).1 En q u U.heap) (eA E)) 2 12 (eA E) := by
  refine vx_ofWH (cc := cX0_memberOf) (maxL := 5) (ret := (some .int)) (hh := [((0 : Nat), (10 : Nat), (13 : Nat), (28 : Nat)), ((0 : Nat), (10 : Nat), (17 : Nat), (13 : Nat))]) (by decide) rfl ?_
  intro p e s m args below meth c0 s₁ B hml hv
  obtain ⟨rfl, hs, hm⟩ := hv
  have hx := B.exec
  have hb := B.bytes
  have hr := B.returns
  have hts := atoms_spec (ws := wsW_ yX0_memberOf cX0_memberOf 5 (some .int) [((0 : Nat), (10 : Nat), (13 : Nat), (28 : Nat)), ((0 : Nat), (10 : Nat), (17 : Nat), (13 : Nat))]) B.pre
  have hts : ∀ w ∈ lw_all, w.before _ s = true := fun w h => hts w (List.mem_cons_of_mem _ h)
  have hown : s.vm.findClass RX0 = some m.cls := findClass_of_methodNamed B.named
  have hlocks := B.notSynchronized
  have htab := vx_table (x := yX0_memberOf) B (atoms_spec (ws := wsW_ yX0_memberOf cX0_memberOf 5 (some .int) [((0 : Nat), (10 : Nat), (13 : Nat), (28 : Nat)), ((0 : Nat), (10 : Nat), (17 : Nat), (13 : Nat))]) B.pre _ List.mem_cons_self)
  have hS : va_S (eA E) s.heap s.heap [] := va_S.rf
  have hl := lv_entry ([.ref a, .int x, .int y, .ref o]) (n := 5) (Nat.le_of_ble_eq_true rfl)
  rw [lg_entry_eq]
  generalize (lg_sl ([.ref a, .int x, .int y, .ref o]) ++ List.replicate (5 - (lg_sl ([.ref a, .int x, .int y, .ref o])).length) Slot.unset).toArray = ls at hl ⊢
  have hl : lv_has ls 5 [(0, .ref (a)), (1, .int (x)), (2, .int (y)), (3, .ref (o))] := hl
  refine lv_aload_n hx hb dX0_memberOf_0 rfl (lv_at hl 3 rfl) ?_
  refine lv_iconst (v := (0 : Int32)) hx hb dX0_memberOf_1 (by decide) ?_
  refine lv_aload_n hx hb dX0_memberOf_2 rfl (lv_at hl 0 rfl) ?_
  refine lv_iload_n hx hb dX0_memberOf_3 rfl (lv_at hl 1 rfl) ?_
  refine lv_iload_n hx hb dX0_memberOf_4 rfl (lv_at hl 2 rfl) ?_
  refine kx_calli (BX := fun En q u H => XS E t (C1_memberOf t M (a) (x) (y)).1 En q u H) (vx_runV (As := [.int (x), .int (y)]) (rest := [.int ((0 : Int32)), .ref (o)]) ⟨hx, hb, hml, hown, hts⟩ (cm1_memberOf l E hl9 t M  (a) (x) (y) hA K S hw) (cwV 2 hts (lw_V q878 q879 q880 q58 q881) rfl rfl rfl (by decide +kernel) ⟨Nat.le_of_ble_eq_true rfl, Nat.le_of_ble_eq_true rfl⟩) (k_preV hs hm hS (mw.recv hs hm (mt_ne hA.z (by decide)) (ct1 hA.z) rfl)) rfl rfl hl.1 rfl (lv_room (Nat.le_of_ble_eq_true rfl)) dX0_memberOf_5 ⟨Nat.le_of_ble_eq_true rfl, Nat.le_of_ble_eq_true rfl⟩) hS (fun En_1 ce_1 q_1 u9_1 H locs hp_1 hB_1 hS h1_1 h2_1 h3_1 => ?_) (fun r_1 u_1 H locs hw_1 hm_1 hS => ?_)
  · obtain ⟨c_1, hu9_1⟩ := hp_1
    replace hu9_1 := hu9_1.symm
    subst hu9_1
    obtain ⟨hE_1, hm⟩ := hB_1
    have hk_1 := xc_memberOf t M a x y
    by_cases d_1_0 : (C1_memberOf t M (a) (x) (y)).1 = (3 : Int32)
    · have hE9 : En_1 = "java/lang/IndexOutOfBoundsException" := by rw [hE_1, d_1_0]; rfl
      subst hE9
      refine vx_catch (name := "java/lang/IndexOutOfBoundsException") hown [] ⟨0, 10, 13, 28⟩ [⟨0, 10, 17, 13⟩] htab (fun z hz => nomatch hz) (by decide) (by decide) (hts _ q805) (hs.2.2.1.at q846 rfl rfl) h1_1 h2_1 h3_1 ?_
      refine lv_astore (lv' := [(4, _), (0, _), (1, _), (2, _), (3, _)]) hx hb dX0_memberOf_13 hl (by decide) rfl (fun ls hl => ?_)
      refine lv_iconst (v := (1 : Int32)) hx hb dX0_memberOf_15 (by decide) ?_
      refine vx_ret ?_
      refine W.widen (k := 2) (n := 12) (Nat.le_of_ble_eq_true rfl) (Nat.le_of_ble_eq_true rfl) ?_
      exact W.iret (v := _) hx hb hr (fun t9 ht9 _ => ⟨⟨_, _, rfl, pp3 ((if_neg c_1).trans ((if_pos d_1_0).trans (rfl))), hb9 ht9 hm⟩, hS.F ht9⟩) hS.2.2 dX0_memberOf_16
    · skip
      by_cases d_1_1 : (C1_memberOf t M (a) (x) (y)).1 = (1 : Int32)
      · have hE9 : En_1 = "java/lang/IllegalArgumentException" := by rw [hE_1, d_1_1]; rfl
        subst hE9
        refine vx_catch (name := "java/lang/IllegalArgumentException") hown [⟨0, 10, 13, 28⟩] ⟨0, 10, 17, 13⟩ [] htab (fun z hz => by
          rcases List.mem_singleton.mp hz with rfl
          exact Or.inr ⟨by decide, "java/lang/IndexOutOfBoundsException", hts _ q805, hs.2.2.2.2.2.2.2 ("java/lang/IllegalArgumentException", "java/lang/IndexOutOfBoundsException") (by decide +kernel)⟩) (by decide) (by decide) (hts _ q694) (hs.2.2.1.at q707 rfl rfl) h1_1 h2_1 h3_1 ?_
        refine lv_astore (lv' := [(4, _), (0, _), (1, _), (2, _), (3, _)]) hx hb dX0_memberOf_17 hl (by decide) rfl (fun ls hl => ?_)
        refine lv_iconst (v := (2 : Int32)) hx hb dX0_memberOf_19 (by decide) ?_
        refine vx_ret ?_
        refine W.widen (k := 2) (n := 12) (Nat.le_of_ble_eq_true rfl) (Nat.le_of_ble_eq_true rfl) ?_
        exact W.iret (v := _) hx hb hr (fun t9 ht9 _ => ⟨⟨_, _, rfl, pp3 ((if_neg c_1).trans ((if_neg d_1_0).trans ((if_pos d_1_1).trans (rfl)))), hb9 ht9 hm⟩, hS.F ht9⟩) hS.2.2 dX0_memberOf_20
      · rcases hk_1 with h9 | h9 | h9
        · exact absurd h9 c_1
        · exact absurd h9 d_1_0
        · exact absurd h9 d_1_1
  · obtain ⟨c_1, hr_1, hu_1⟩ := hw_1
    have hm := hm_1
    refine lv_i2l hx hb dX0_memberOf_8 rfl ?_
    refine k_last hx hb hs hm hS ho (vi 0 (by decide) (by decide)) dX0_memberOf_9 (fun H locs hm hS => ?_)
    have hm : mw E t ((wL u_1 o (vp_updL (aL u_1 o) 0 (r_1).toInt64))) H := hm
    refine lv_goto (tgt := 21) hx hb dX0_memberOf_10 (by decide) ?_
    refine lv_iconst (v := (0 : Int32)) hx hb dX0_memberOf_21 (by decide) ?_
    subst hu_1
    subst hr_1
    refine vx_ret ?_
    refine W.widen (k := 2) (n := 12) (Nat.le_of_ble_eq_true rfl) (Nat.le_of_ble_eq_true rfl) ?_
    exact W.iret (v := _) hx hb hr (fun t9 ht9 _ => ⟨⟨_, _, rfl, pp3 ((if_pos c_1).trans (rfl)), hb9 ht9 hm⟩, hS.F ht9⟩) hS.2.2 dX0_memberOf_22
theorem xc_plotOf (t : mt) (M : mm) (c : Nat) (x : Int32) (y : Int32) : (C1_plotOf t M c x y).1 = (0 : Int32) ∨ (C1_plotOf t M c x y).1 = (3 : Int32) ∨ (C1_plotOf t M c x y).1 = (1 : Int32) := by
  unfold C1_plotOf
  (try dsimp only)
  (repeat' split) <;> first | exact .inl rfl | exact .inr rfl | exact .inr (.inl rfl) | exact .inr (.inr rfl) | exact .inr (.inr (.inl rfl)) | exact .inr (.inr (.inr rfl))
def C0_plotOf (t : mt) (M : mm) (a : Nat) (x : Int32) (y : Int32) (o : Nat) : Int32 × Int32 × mm :=
  let r_1 := (C1_plotOf t M (a) (x) (y)).2.1;
  let u_1 := (C1_plotOf t M (a) (x) (y)).2.2;
  if (C1_plotOf t M (a) (x) (y)).1 = 0 then
    ((0 : Int32), (0 : Int32), (wL u_1 o (vp_updL (aL u_1 o) 0 (r_1).toInt64)))
  else
    if (C1_plotOf t M (a) (x) (y)).1 = (3 : Int32) then
      ((0 : Int32), (1 : Int32), (C1_plotOf t M (a) (x) (y)).2.2)
    else
      if (C1_plotOf t M (a) (x) (y)).1 = (1 : Int32) then
        ((0 : Int32), (2 : Int32), (C1_plotOf t M (a) (x) (y)).2.2)
      else
        ((0 : Int32), (0 : Int32), M)
set_option maxHeartbeats 4000000 in
theorem cm0_plotOf (l : Launch) (E : mE) (hl9 : l.stackTraces = false) (t : mt) (M : mm) (a : Nat) (x : Int32) (y : Int32) (o : Nat) (hA : layA t a) (ho : t o = (60, 1)) (K S : List Nat) (hw : wfA M a K S) : vx_Met l yX0_plotOf (wsW_ yX0_plotOf cX0_plotOf 5 (some .int) [((0 : Nat), (10 : Nat), (13 : Nat), (28 : Nat)), ((0 : Nat), (10 : Nat), (17 : Nat), (13 : Nat))]) ({ frames := 8, cells := 2, slots := 12, locals := 163 }) (va_Pc [.ref a, .int x, .int y, .ref o] (wP E t M)) (va_Qi (fun (r : Int32) (u : mm) => (C0_plotOf t M a x y o).1 = 0 ∧ r = (C0_plotOf t M a x y o).2.1 ∧ u = (C0_plotOf t M a x y o).2.2) (fun u U => mw E t u U.heap) (eA E)) (vx_X (fun (u : mm) => ¬ (C0_plotOf t M a x y o).1 = 0 ∧ u = (C0_plotOf t M a x y o).2.2) (fun En q u U => XS E t (C0_plotOf t M a x y o).1 En q u U.heap) (eA E)) 2 12 (eA E) := by
  refine vx_ofWH (cc := cX0_plotOf) (maxL := 5) (ret := (some .int)) (hh := [((0 : Nat), (10 : Nat), (13 : Nat), (28 : Nat)), ((0 : Nat), (10 : Nat), (17 : Nat), (13 : Nat))]) (by decide) rfl ?_
  intro p e s m args below meth c0 s₁ B hml hv
  obtain ⟨rfl, hs, hm⟩ := hv
  have hx := B.exec
  have hb := B.bytes
  have hr := B.returns
  have hts := atoms_spec (ws := wsW_ yX0_plotOf cX0_plotOf 5 (some .int) [((0 : Nat), (10 : Nat), (13 : Nat), (28 : Nat)), ((0 : Nat), (10 : Nat), (17 : Nat), (13 : Nat))]) B.pre
  have hts : ∀ w ∈ lw_all, w.before _ s = true := fun w h => hts w (List.mem_cons_of_mem _ h)
  have hown : s.vm.findClass RX0 = some m.cls := findClass_of_methodNamed B.named
  have hlocks := B.notSynchronized
  have htab := vx_table (x := yX0_plotOf) B (atoms_spec (ws := wsW_ yX0_plotOf cX0_plotOf 5 (some .int) [((0 : Nat), (10 : Nat), (13 : Nat), (28 : Nat)), ((0 : Nat), (10 : Nat), (17 : Nat), (13 : Nat))]) B.pre _ List.mem_cons_self)
  have hS : va_S (eA E) s.heap s.heap [] := va_S.rf
  have hl := lv_entry ([.ref a, .int x, .int y, .ref o]) (n := 5) (Nat.le_of_ble_eq_true rfl)
  rw [lg_entry_eq]
  generalize (lg_sl ([.ref a, .int x, .int y, .ref o]) ++ List.replicate (5 - (lg_sl ([.ref a, .int x, .int y, .ref o])).length) Slot.unset).toArray = ls at hl ⊢
  have hl : lv_has ls 5 [(0, .ref (a)), (1, .int (x)), (2, .int (y)), (3, .ref (o))] := hl
  refine lv_aload_n hx hb dX0_plotOf_0 rfl (lv_at hl 3 rfl) ?_
  refine lv_iconst (v := (0 : Int32)) hx hb dX0_plotOf_1 (by decide) ?_
  refine lv_aload_n hx hb dX0_plotOf_2 rfl (lv_at hl 0 rfl) ?_
  refine lv_iload_n hx hb dX0_plotOf_3 rfl (lv_at hl 1 rfl) ?_
  refine lv_iload_n hx hb dX0_plotOf_4 rfl (lv_at hl 2 rfl) ?_
  refine kx_calli (BX := fun En q u H => XS E t (C1_plotOf t M (a) (x) (y)).1 En q u H) (vx_runV (As := [.int (x), .int (y)]) (rest := [.int ((0 : Int32)), .ref (o)]) ⟨hx, hb, hml, hown, hts⟩ (cm1_plotOf l E hl9 t M  (a) (x) (y) hA K S hw) (cwV 2 hts (lw_V q885 q886 q887 q58 q888) rfl rfl rfl (by decide +kernel) ⟨Nat.le_of_ble_eq_true rfl, Nat.le_of_ble_eq_true rfl⟩) (k_preV hs hm hS (mw.recv hs hm (mt_ne hA.z (by decide)) (ct1 hA.z) rfl)) rfl rfl hl.1 rfl (lv_room (Nat.le_of_ble_eq_true rfl)) dX0_plotOf_5 ⟨Nat.le_of_ble_eq_true rfl, Nat.le_of_ble_eq_true rfl⟩) hS (fun En_1 ce_1 q_1 u9_1 H locs hp_1 hB_1 hS h1_1 h2_1 h3_1 => ?_) (fun r_1 u_1 H locs hw_1 hm_1 hS => ?_)
  · obtain ⟨c_1, hu9_1⟩ := hp_1
    replace hu9_1 := hu9_1.symm
    subst hu9_1
    obtain ⟨hE_1, hm⟩ := hB_1
    have hk_1 := xc_plotOf t M a x y
    by_cases d_1_0 : (C1_plotOf t M (a) (x) (y)).1 = (3 : Int32)
    · have hE9 : En_1 = "java/lang/IndexOutOfBoundsException" := by rw [hE_1, d_1_0]; rfl
      subst hE9
      refine vx_catch (name := "java/lang/IndexOutOfBoundsException") hown [] ⟨0, 10, 13, 28⟩ [⟨0, 10, 17, 13⟩] htab (fun z hz => nomatch hz) (by decide) (by decide) (hts _ q805) (hs.2.2.1.at q846 rfl rfl) h1_1 h2_1 h3_1 ?_
      refine lv_astore (lv' := [(4, _), (0, _), (1, _), (2, _), (3, _)]) hx hb dX0_plotOf_13 hl (by decide) rfl (fun ls hl => ?_)
      refine lv_iconst (v := (1 : Int32)) hx hb dX0_plotOf_15 (by decide) ?_
      refine vx_ret ?_
      refine W.widen (k := 2) (n := 12) (Nat.le_of_ble_eq_true rfl) (Nat.le_of_ble_eq_true rfl) ?_
      exact W.iret (v := _) hx hb hr (fun t9 ht9 _ => ⟨⟨_, _, rfl, pp3 ((if_neg c_1).trans ((if_pos d_1_0).trans (rfl))), hb9 ht9 hm⟩, hS.F ht9⟩) hS.2.2 dX0_plotOf_16
    · skip
      by_cases d_1_1 : (C1_plotOf t M (a) (x) (y)).1 = (1 : Int32)
      · have hE9 : En_1 = "java/lang/IllegalArgumentException" := by rw [hE_1, d_1_1]; rfl
        subst hE9
        refine vx_catch (name := "java/lang/IllegalArgumentException") hown [⟨0, 10, 13, 28⟩] ⟨0, 10, 17, 13⟩ [] htab (fun z hz => by
          rcases List.mem_singleton.mp hz with rfl
          exact Or.inr ⟨by decide, "java/lang/IndexOutOfBoundsException", hts _ q805, hs.2.2.2.2.2.2.2 ("java/lang/IllegalArgumentException", "java/lang/IndexOutOfBoundsException") (by decide +kernel)⟩) (by decide) (by decide) (hts _ q694) (hs.2.2.1.at q707 rfl rfl) h1_1 h2_1 h3_1 ?_
        refine lv_astore (lv' := [(4, _), (0, _), (1, _), (2, _), (3, _)]) hx hb dX0_plotOf_17 hl (by decide) rfl (fun ls hl => ?_)
        refine lv_iconst (v := (2 : Int32)) hx hb dX0_plotOf_19 (by decide) ?_
        refine vx_ret ?_
        refine W.widen (k := 2) (n := 12) (Nat.le_of_ble_eq_true rfl) (Nat.le_of_ble_eq_true rfl) ?_
        exact W.iret (v := _) hx hb hr (fun t9 ht9 _ => ⟨⟨_, _, rfl, pp3 ((if_neg c_1).trans ((if_neg d_1_0).trans ((if_pos d_1_1).trans (rfl)))), hb9 ht9 hm⟩, hS.F ht9⟩) hS.2.2 dX0_plotOf_20
      · rcases hk_1 with h9 | h9 | h9
        · exact absurd h9 c_1
        · exact absurd h9 d_1_0
        · exact absurd h9 d_1_1
  · obtain ⟨c_1, hr_1, hu_1⟩ := hw_1
    have hm := hm_1
    refine lv_i2l hx hb dX0_plotOf_8 rfl ?_
    refine k_last hx hb hs hm hS ho (vi 0 (by decide) (by decide)) dX0_plotOf_9 (fun H locs hm hS => ?_)
    have hm : mw E t ((wL u_1 o (vp_updL (aL u_1 o) 0 (r_1).toInt64))) H := hm
    refine lv_goto (tgt := 21) hx hb dX0_plotOf_10 (by decide) ?_
    refine lv_iconst (v := (0 : Int32)) hx hb dX0_plotOf_21 (by decide) ?_
    subst hu_1
    subst hr_1
    refine vx_ret ?_
    refine W.widen (k := 2) (n := 12) (Nat.le_of_ble_eq_true rfl) (Nat.le_of_ble_eq_true rfl) ?_
    exact W.iret (v := _) hx hb hr (fun t9 ht9 _ => ⟨⟨_, _, rfl, pp3 ((if_pos c_1).trans (rfl)), hb9 ht9 hm⟩, hS.F ht9⟩) hS.2.2 dX0_plotOf_22
theorem xc_waterIn (t : mt) (M : mm) (c : Nat) (x : Int32) (y : Int32) : (C1_waterIn t M c x y).1 = (0 : Int32) ∨ (C1_waterIn t M c x y).1 = (3 : Int32) ∨ (C1_waterIn t M c x y).1 = (1 : Int32) := by
  unfold C1_waterIn
  (try dsimp only)
  (repeat' split) <;> first | exact .inl rfl | exact .inr rfl | exact .inr (.inl rfl) | exact .inr (.inr rfl) | exact .inr (.inr (.inl rfl)) | exact .inr (.inr (.inr rfl))
def C0_waterIn (t : mt) (M : mm) (a : Nat) (x : Int32) (y : Int32) (o : Nat) : Int32 × Int32 × mm :=
  let r_1 := (C1_waterIn t M (a) (x) (y)).2.1;
  let u_1 := (C1_waterIn t M (a) (x) (y)).2.2;
  if (C1_waterIn t M (a) (x) (y)).1 = 0 then
    ((0 : Int32), (0 : Int32), (wL u_1 o (vp_updL (aL u_1 o) 0 (r_1).toInt64)))
  else
    if (C1_waterIn t M (a) (x) (y)).1 = (3 : Int32) then
      ((0 : Int32), (1 : Int32), (C1_waterIn t M (a) (x) (y)).2.2)
    else
      if (C1_waterIn t M (a) (x) (y)).1 = (1 : Int32) then
        ((0 : Int32), (2 : Int32), (C1_waterIn t M (a) (x) (y)).2.2)
      else
        ((0 : Int32), (0 : Int32), M)
set_option maxHeartbeats 4000000 in
theorem cm0_waterIn (l : Launch) (E : mE) (hl9 : l.stackTraces = false) (t : mt) (M : mm) (a : Nat) (x : Int32) (y : Int32) (o : Nat) (hA : layA t a) (ho : t o = (60, 1)) (K S : List Nat) (hw : wfA M a K S) : vx_Met l yX0_waterIn (wsW_ yX0_waterIn cX0_waterIn 5 (some .int) [((0 : Nat), (10 : Nat), (13 : Nat), (28 : Nat)), ((0 : Nat), (10 : Nat), (17 : Nat), (13 : Nat))]) ({ frames := 8, cells := 2, slots := 12, locals := 162 }) (va_Pc [.ref a, .int x, .int y, .ref o] (wP E t M)) (va_Qi (fun (r : Int32) (u : mm) => (C0_waterIn t M a x y o).1 = 0 ∧ r = (C0_waterIn t M a x y o).2.1 ∧ u = (C0_waterIn t M a x y o).2.2) (fun u U => mw E t u U.heap) (eA E)) (vx_X (fun (u : mm) => ¬ (C0_waterIn t M a x y o).1 = 0 ∧ u = (C0_waterIn t M a x y o).2.2) (fun En q u U => XS E t (C0_waterIn t M a x y o).1 En q u U.heap) (eA E)) 2 12 (eA E) := by
  refine vx_ofWH (cc := cX0_waterIn) (maxL := 5) (ret := (some .int)) (hh := [((0 : Nat), (10 : Nat), (13 : Nat), (28 : Nat)), ((0 : Nat), (10 : Nat), (17 : Nat), (13 : Nat))]) (by decide) rfl ?_
  intro p e s m args below meth c0 s₁ B hml hv
  obtain ⟨rfl, hs, hm⟩ := hv
  have hx := B.exec
  have hb := B.bytes
  have hr := B.returns
  have hts := atoms_spec (ws := wsW_ yX0_waterIn cX0_waterIn 5 (some .int) [((0 : Nat), (10 : Nat), (13 : Nat), (28 : Nat)), ((0 : Nat), (10 : Nat), (17 : Nat), (13 : Nat))]) B.pre
  have hts : ∀ w ∈ lw_all, w.before _ s = true := fun w h => hts w (List.mem_cons_of_mem _ h)
  have hown : s.vm.findClass RX0 = some m.cls := findClass_of_methodNamed B.named
  have hlocks := B.notSynchronized
  have htab := vx_table (x := yX0_waterIn) B (atoms_spec (ws := wsW_ yX0_waterIn cX0_waterIn 5 (some .int) [((0 : Nat), (10 : Nat), (13 : Nat), (28 : Nat)), ((0 : Nat), (10 : Nat), (17 : Nat), (13 : Nat))]) B.pre _ List.mem_cons_self)
  have hS : va_S (eA E) s.heap s.heap [] := va_S.rf
  have hl := lv_entry ([.ref a, .int x, .int y, .ref o]) (n := 5) (Nat.le_of_ble_eq_true rfl)
  rw [lg_entry_eq]
  generalize (lg_sl ([.ref a, .int x, .int y, .ref o]) ++ List.replicate (5 - (lg_sl ([.ref a, .int x, .int y, .ref o])).length) Slot.unset).toArray = ls at hl ⊢
  have hl : lv_has ls 5 [(0, .ref (a)), (1, .int (x)), (2, .int (y)), (3, .ref (o))] := hl
  refine lv_aload_n hx hb dX0_waterIn_0 rfl (lv_at hl 3 rfl) ?_
  refine lv_iconst (v := (0 : Int32)) hx hb dX0_waterIn_1 (by decide) ?_
  refine lv_aload_n hx hb dX0_waterIn_2 rfl (lv_at hl 0 rfl) ?_
  refine lv_iload_n hx hb dX0_waterIn_3 rfl (lv_at hl 1 rfl) ?_
  refine lv_iload_n hx hb dX0_waterIn_4 rfl (lv_at hl 2 rfl) ?_
  refine kx_calli (BX := fun En q u H => XS E t (C1_waterIn t M (a) (x) (y)).1 En q u H) (vx_runV (As := [.int (x), .int (y)]) (rest := [.int ((0 : Int32)), .ref (o)]) ⟨hx, hb, hml, hown, hts⟩ (cm1_waterIn l E hl9 t M  (a) (x) (y) hA K S hw) (cwV 2 hts (lw_V q904 q905 q906 q58 q907) rfl rfl rfl (by decide +kernel) ⟨Nat.le_of_ble_eq_true rfl, Nat.le_of_ble_eq_true rfl⟩) (k_preV hs hm hS (mw.recv hs hm (mt_ne hA.z (by decide)) (ct1 hA.z) rfl)) rfl rfl hl.1 rfl (lv_room (Nat.le_of_ble_eq_true rfl)) dX0_waterIn_5 ⟨Nat.le_of_ble_eq_true rfl, Nat.le_of_ble_eq_true rfl⟩) hS (fun En_1 ce_1 q_1 u9_1 H locs hp_1 hB_1 hS h1_1 h2_1 h3_1 => ?_) (fun r_1 u_1 H locs hw_1 hm_1 hS => ?_)
  · obtain ⟨c_1, hu9_1⟩ := hp_1
    replace hu9_1 := hu9_1.symm
    subst hu9_1
    obtain ⟨hE_1, hm⟩ := hB_1
    have hk_1 := xc_waterIn t M a x y
    by_cases d_1_0 : (C1_waterIn t M (a) (x) (y)).1 = (3 : Int32)
    · have hE9 : En_1 = "java/lang/IndexOutOfBoundsException" := by rw [hE_1, d_1_0]; rfl
      subst hE9
      refine vx_catch (name := "java/lang/IndexOutOfBoundsException") hown [] ⟨0, 10, 13, 28⟩ [⟨0, 10, 17, 13⟩] htab (fun z hz => nomatch hz) (by decide) (by decide) (hts _ q805) (hs.2.2.1.at q846 rfl rfl) h1_1 h2_1 h3_1 ?_
      refine lv_astore (lv' := [(4, _), (0, _), (1, _), (2, _), (3, _)]) hx hb dX0_waterIn_13 hl (by decide) rfl (fun ls hl => ?_)
      refine lv_iconst (v := (1 : Int32)) hx hb dX0_waterIn_15 (by decide) ?_
      refine vx_ret ?_
      refine W.widen (k := 2) (n := 12) (Nat.le_of_ble_eq_true rfl) (Nat.le_of_ble_eq_true rfl) ?_
      exact W.iret (v := _) hx hb hr (fun t9 ht9 _ => ⟨⟨_, _, rfl, pp3 ((if_neg c_1).trans ((if_pos d_1_0).trans (rfl))), hb9 ht9 hm⟩, hS.F ht9⟩) hS.2.2 dX0_waterIn_16
    · skip
      by_cases d_1_1 : (C1_waterIn t M (a) (x) (y)).1 = (1 : Int32)
      · have hE9 : En_1 = "java/lang/IllegalArgumentException" := by rw [hE_1, d_1_1]; rfl
        subst hE9
        refine vx_catch (name := "java/lang/IllegalArgumentException") hown [⟨0, 10, 13, 28⟩] ⟨0, 10, 17, 13⟩ [] htab (fun z hz => by
          rcases List.mem_singleton.mp hz with rfl
          exact Or.inr ⟨by decide, "java/lang/IndexOutOfBoundsException", hts _ q805, hs.2.2.2.2.2.2.2 ("java/lang/IllegalArgumentException", "java/lang/IndexOutOfBoundsException") (by decide +kernel)⟩) (by decide) (by decide) (hts _ q694) (hs.2.2.1.at q707 rfl rfl) h1_1 h2_1 h3_1 ?_
        refine lv_astore (lv' := [(4, _), (0, _), (1, _), (2, _), (3, _)]) hx hb dX0_waterIn_17 hl (by decide) rfl (fun ls hl => ?_)
        refine lv_iconst (v := (2 : Int32)) hx hb dX0_waterIn_19 (by decide) ?_
        refine vx_ret ?_
        refine W.widen (k := 2) (n := 12) (Nat.le_of_ble_eq_true rfl) (Nat.le_of_ble_eq_true rfl) ?_
        exact W.iret (v := _) hx hb hr (fun t9 ht9 _ => ⟨⟨_, _, rfl, pp3 ((if_neg c_1).trans ((if_neg d_1_0).trans ((if_pos d_1_1).trans (rfl)))), hb9 ht9 hm⟩, hS.F ht9⟩) hS.2.2 dX0_waterIn_20
      · rcases hk_1 with h9 | h9 | h9
        · exact absurd h9 c_1
        · exact absurd h9 d_1_0
        · exact absurd h9 d_1_1
  · obtain ⟨c_1, hr_1, hu_1⟩ := hw_1
    have hm := hm_1
    refine lv_i2l hx hb dX0_waterIn_8 rfl ?_
    refine k_last hx hb hs hm hS ho (vi 0 (by decide) (by decide)) dX0_waterIn_9 (fun H locs hm hS => ?_)
    have hm : mw E t ((wL u_1 o (vp_updL (aL u_1 o) 0 (r_1).toInt64))) H := hm
    refine lv_goto (tgt := 21) hx hb dX0_waterIn_10 (by decide) ?_
    refine lv_iconst (v := (0 : Int32)) hx hb dX0_waterIn_21 (by decide) ?_
    subst hu_1
    subst hr_1
    refine vx_ret ?_
    refine W.widen (k := 2) (n := 12) (Nat.le_of_ble_eq_true rfl) (Nat.le_of_ble_eq_true rfl) ?_
    exact W.iret (v := _) hx hb hr (fun t9 ht9 _ => ⟨⟨_, _, rfl, pp3 ((if_pos c_1).trans (rfl)), hb9 ht9 hm⟩, hS.F ht9⟩) hS.2.2 dX0_waterIn_22
theorem xc_waterAgain (t : mt) (M : mm) (c : Nat) (x : Int32) (y : Int32) : (C1_waterAgain t M c x y).1 = (0 : Int32) ∨ (C1_waterAgain t M c x y).1 = (3 : Int32) ∨ (C1_waterAgain t M c x y).1 = (1 : Int32) := by
  unfold C1_waterAgain
  (try dsimp only)
  (repeat' split) <;> first | exact .inl rfl | exact .inr rfl | exact .inr (.inl rfl) | exact .inr (.inr rfl) | exact .inr (.inr (.inl rfl)) | exact .inr (.inr (.inr rfl))
def C0_waterAgain (t : mt) (M : mm) (a : Nat) (x : Int32) (y : Int32) (o : Nat) : Int32 × Int32 × mm :=
  let r_1 := (C1_waterAgain t M (a) (x) (y)).2.1;
  let u_1 := (C1_waterAgain t M (a) (x) (y)).2.2;
  if (C1_waterAgain t M (a) (x) (y)).1 = 0 then
    ((0 : Int32), (0 : Int32), (wL u_1 o (vp_updL (aL u_1 o) 0 (r_1).toInt64)))
  else
    if (C1_waterAgain t M (a) (x) (y)).1 = (3 : Int32) then
      ((0 : Int32), (1 : Int32), (C1_waterAgain t M (a) (x) (y)).2.2)
    else
      if (C1_waterAgain t M (a) (x) (y)).1 = (1 : Int32) then
        ((0 : Int32), (2 : Int32), (C1_waterAgain t M (a) (x) (y)).2.2)
      else
        ((0 : Int32), (0 : Int32), M)
set_option maxHeartbeats 4000000 in
theorem cm0_waterAgain (l : Launch) (E : mE) (hl9 : l.stackTraces = false) (t : mt) (M : mm) (a : Nat) (x : Int32) (y : Int32) (o : Nat) (hA : layA t a) (ho : t o = (60, 1)) (K S : List Nat) (hw : wfA M a K S) (hT : wfK (C1_tryOn t M a).2 (a + 65)) : vx_Met l yX0_waterAgain (wsW_ yX0_waterAgain cX0_waterAgain 5 (some .int) [((0 : Nat), (10 : Nat), (13 : Nat), (28 : Nat)), ((0 : Nat), (10 : Nat), (17 : Nat), (13 : Nat))]) ({ frames := 8, cells := 62, slots := 732, locals := 163 }) (va_Pc [.ref a, .int x, .int y, .ref o] (wP E t M)) (va_Qi (fun (r : Int32) (u : mm) => (C0_waterAgain t M a x y o).1 = 0 ∧ r = (C0_waterAgain t M a x y o).2.1 ∧ u = (C0_waterAgain t M a x y o).2.2) (fun u U => mw E t u U.heap) (eA E)) (vx_X (fun (u : mm) => ¬ (C0_waterAgain t M a x y o).1 = 0 ∧ u = (C0_waterAgain t M a x y o).2.2) (fun En q u U => XS E t (C0_waterAgain t M a x y o).1 En q u U.heap) (eA E)) 62 732 (eA E) := by
  refine vx_ofWH (cc := cX0_waterAgain) (maxL := 5) (ret := (some .int)) (hh := [((0 : Nat), (10 : Nat), (13 : Nat), (28 : Nat)), ((0 : Nat), (10 : Nat), (17 : Nat), (13 : Nat))]) (by decide) rfl ?_
  intro p e s m args below meth c0 s₁ B hml hv
  obtain ⟨rfl, hs, hm⟩ := hv
  have hx := B.exec
  have hb := B.bytes
  have hr := B.returns
  have hts := atoms_spec (ws := wsW_ yX0_waterAgain cX0_waterAgain 5 (some .int) [((0 : Nat), (10 : Nat), (13 : Nat), (28 : Nat)), ((0 : Nat), (10 : Nat), (17 : Nat), (13 : Nat))]) B.pre
  have hts : ∀ w ∈ lw_all, w.before _ s = true := fun w h => hts w (List.mem_cons_of_mem _ h)
  have hown : s.vm.findClass RX0 = some m.cls := findClass_of_methodNamed B.named
  have hlocks := B.notSynchronized
  have htab := vx_table (x := yX0_waterAgain) B (atoms_spec (ws := wsW_ yX0_waterAgain cX0_waterAgain 5 (some .int) [((0 : Nat), (10 : Nat), (13 : Nat), (28 : Nat)), ((0 : Nat), (10 : Nat), (17 : Nat), (13 : Nat))]) B.pre _ List.mem_cons_self)
  have hS : va_S (eA E) s.heap s.heap [] := va_S.rf
  have hl := lv_entry ([.ref a, .int x, .int y, .ref o]) (n := 5) (Nat.le_of_ble_eq_true rfl)
  rw [lg_entry_eq]
  generalize (lg_sl ([.ref a, .int x, .int y, .ref o]) ++ List.replicate (5 - (lg_sl ([.ref a, .int x, .int y, .ref o])).length) Slot.unset).toArray = ls at hl ⊢
  have hl : lv_has ls 5 [(0, .ref (a)), (1, .int (x)), (2, .int (y)), (3, .ref (o))] := hl
  refine lv_aload_n hx hb dX0_waterAgain_0 rfl (lv_at hl 3 rfl) ?_
  refine lv_iconst (v := (0 : Int32)) hx hb dX0_waterAgain_1 (by decide) ?_
  refine lv_aload_n hx hb dX0_waterAgain_2 rfl (lv_at hl 0 rfl) ?_
  refine lv_iload_n hx hb dX0_waterAgain_3 rfl (lv_at hl 1 rfl) ?_
  refine lv_iload_n hx hb dX0_waterAgain_4 rfl (lv_at hl 2 rfl) ?_
  refine kx_calli (BX := fun En q u H => XS E t (C1_waterAgain t M (a) (x) (y)).1 En q u H) (vx_runV (As := [.int (x), .int (y)]) (rest := [.int ((0 : Int32)), .ref (o)]) ⟨hx, hb, hml, hown, hts⟩ (cm1_waterAgain l E hl9 t M  (a) (x) (y) hA K S hw hT) (cwV 2 hts (lw_V q941 q942 q943 q58 q944) rfl rfl rfl (by decide +kernel) ⟨Nat.le_of_ble_eq_true rfl, Nat.le_of_ble_eq_true rfl⟩) (k_preV hs hm hS (mw.recv hs hm (mt_ne hA.z (by decide)) (ct1 hA.z) rfl)) rfl rfl hl.1 rfl (lv_room (Nat.le_of_ble_eq_true rfl)) dX0_waterAgain_5 ⟨Nat.le_of_ble_eq_true rfl, Nat.le_of_ble_eq_true rfl⟩) hS (fun En_1 ce_1 q_1 u9_1 H locs hp_1 hB_1 hS h1_1 h2_1 h3_1 => ?_) (fun r_1 u_1 H locs hw_1 hm_1 hS => ?_)
  · obtain ⟨c_1, hu9_1⟩ := hp_1
    replace hu9_1 := hu9_1.symm
    subst hu9_1
    obtain ⟨hE_1, hm⟩ := hB_1
    have hk_1 := xc_waterAgain t M a x y
    by_cases d_1_0 : (C1_waterAgain t M (a) (x) (y)).1 = (3 : Int32)
    · have hE9 : En_1 = "java/lang/IndexOutOfBoundsException" := by rw [hE_1, d_1_0]; rfl
      subst hE9
      refine vx_catch (name := "java/lang/IndexOutOfBoundsException") hown [] ⟨0, 10, 13, 28⟩ [⟨0, 10, 17, 13⟩] htab (fun z hz => nomatch hz) (by decide) (by decide) (hts _ q805) (hs.2.2.1.at q846 rfl rfl) h1_1 h2_1 h3_1 ?_
      refine lv_astore (lv' := [(4, _), (0, _), (1, _), (2, _), (3, _)]) hx hb dX0_waterAgain_13 hl (by decide) rfl (fun ls hl => ?_)
      refine lv_iconst (v := (1 : Int32)) hx hb dX0_waterAgain_15 (by decide) ?_
      refine vx_ret ?_
      refine W.widen (k := 62) (n := 732) (Nat.le_of_ble_eq_true rfl) (Nat.le_of_ble_eq_true rfl) ?_
      exact W.iret (v := _) hx hb hr (fun t9 ht9 _ => ⟨⟨_, _, rfl, pp3 ((if_neg c_1).trans ((if_pos d_1_0).trans (rfl))), hb9 ht9 hm⟩, hS.F ht9⟩) hS.2.2 dX0_waterAgain_16
    · skip
      by_cases d_1_1 : (C1_waterAgain t M (a) (x) (y)).1 = (1 : Int32)
      · have hE9 : En_1 = "java/lang/IllegalArgumentException" := by rw [hE_1, d_1_1]; rfl
        subst hE9
        refine vx_catch (name := "java/lang/IllegalArgumentException") hown [⟨0, 10, 13, 28⟩] ⟨0, 10, 17, 13⟩ [] htab (fun z hz => by
          rcases List.mem_singleton.mp hz with rfl
          exact Or.inr ⟨by decide, "java/lang/IndexOutOfBoundsException", hts _ q805, hs.2.2.2.2.2.2.2 ("java/lang/IllegalArgumentException", "java/lang/IndexOutOfBoundsException") (by decide +kernel)⟩) (by decide) (by decide) (hts _ q694) (hs.2.2.1.at q707 rfl rfl) h1_1 h2_1 h3_1 ?_
        refine lv_astore (lv' := [(4, _), (0, _), (1, _), (2, _), (3, _)]) hx hb dX0_waterAgain_17 hl (by decide) rfl (fun ls hl => ?_)
        refine lv_iconst (v := (2 : Int32)) hx hb dX0_waterAgain_19 (by decide) ?_
        refine vx_ret ?_
        refine W.widen (k := 62) (n := 732) (Nat.le_of_ble_eq_true rfl) (Nat.le_of_ble_eq_true rfl) ?_
        exact W.iret (v := _) hx hb hr (fun t9 ht9 _ => ⟨⟨_, _, rfl, pp3 ((if_neg c_1).trans ((if_neg d_1_0).trans ((if_pos d_1_1).trans (rfl)))), hb9 ht9 hm⟩, hS.F ht9⟩) hS.2.2 dX0_waterAgain_20
      · rcases hk_1 with h9 | h9 | h9
        · exact absurd h9 c_1
        · exact absurd h9 d_1_0
        · exact absurd h9 d_1_1
  · obtain ⟨c_1, hr_1, hu_1⟩ := hw_1
    have hm := hm_1
    refine lv_i2l hx hb dX0_waterAgain_8 rfl ?_
    refine k_last hx hb hs hm hS ho (vi 0 (by decide) (by decide)) dX0_waterAgain_9 (fun H locs hm hS => ?_)
    have hm : mw E t ((wL u_1 o (vp_updL (aL u_1 o) 0 (r_1).toInt64))) H := hm
    refine lv_goto (tgt := 21) hx hb dX0_waterAgain_10 (by decide) ?_
    refine lv_iconst (v := (0 : Int32)) hx hb dX0_waterAgain_21 (by decide) ?_
    subst hu_1
    subst hr_1
    refine vx_ret ?_
    refine W.widen (k := 62) (n := 732) (Nat.le_of_ble_eq_true rfl) (Nat.le_of_ble_eq_true rfl) ?_
    exact W.iret (v := _) hx hb hr (fun t9 ht9 _ => ⟨⟨_, _, rfl, pp3 ((if_pos c_1).trans (rfl)), hb9 ht9 hm⟩, hS.F ht9⟩) hS.2.2 dX0_waterAgain_22
theorem xc_waits (t : mt) (M : mm) (c : Nat) (x : Int32) (y : Int32) : (C1_waits t M c x y).1 = (0 : Int32) ∨ (C1_waits t M c x y).1 = (3 : Int32) ∨ (C1_waits t M c x y).1 = (4 : Int32) := by
  unfold C1_waits
  (try dsimp only)
  (repeat' split) <;> first | exact .inl rfl | exact .inr rfl | exact .inr (.inl rfl) | exact .inr (.inr rfl) | exact .inr (.inr (.inl rfl)) | exact .inr (.inr (.inr rfl))
def C0_waits (t : mt) (M : mm) (a : Nat) (x : Int32) (y : Int32) (o : Nat) : Int32 × Int32 × mm :=
  let r_1 := (C1_waits t M (a) (x) (y)).2.1;
  let u_1 := (C1_waits t M (a) (x) (y)).2.2;
  if (C1_waits t M (a) (x) (y)).1 = 0 then
    ((0 : Int32), (0 : Int32), (wL u_1 o (vp_updL (aL u_1 o) 0 (r_1).toInt64)))
  else
    if (C1_waits t M (a) (x) (y)).1 = (3 : Int32) then
      ((0 : Int32), (1 : Int32), (C1_waits t M (a) (x) (y)).2.2)
    else
      if (C1_waits t M (a) (x) (y)).1 = (4 : Int32) then
        ((0 : Int32), (2 : Int32), (C1_waits t M (a) (x) (y)).2.2)
      else
        ((0 : Int32), (0 : Int32), M)
set_option maxHeartbeats 4000000 in
theorem cm0_waits (l : Launch) (E : mE) (hl9 : l.stackTraces = false) (t : mt) (M : mm) (a : Nat) (x : Int32) (y : Int32) (o : Nat) (hA : layA t a) (ho : t o = (60, 1)) (K S : List Nat) (hw : wfA M a K S) : vx_Met l yX0_waits (wsW_ yX0_waits cX0_waits 5 (some .int) [((0 : Nat), (10 : Nat), (13 : Nat), (28 : Nat)), ((0 : Nat), (10 : Nat), (17 : Nat), (55 : Nat))]) ({ frames := 8, cells := 2, slots := 12, locals := 163 }) (va_Pc [.ref a, .int x, .int y, .ref o] (wP E t M)) (va_Qi (fun (r : Int32) (u : mm) => (C0_waits t M a x y o).1 = 0 ∧ r = (C0_waits t M a x y o).2.1 ∧ u = (C0_waits t M a x y o).2.2) (fun u U => mw E t u U.heap) (eA E)) (vx_X (fun (u : mm) => ¬ (C0_waits t M a x y o).1 = 0 ∧ u = (C0_waits t M a x y o).2.2) (fun En q u U => XS E t (C0_waits t M a x y o).1 En q u U.heap) (eA E)) 2 12 (eA E) := by
  refine vx_ofWH (cc := cX0_waits) (maxL := 5) (ret := (some .int)) (hh := [((0 : Nat), (10 : Nat), (13 : Nat), (28 : Nat)), ((0 : Nat), (10 : Nat), (17 : Nat), (55 : Nat))]) (by decide) rfl ?_
  intro p e s m args below meth c0 s₁ B hml hv
  obtain ⟨rfl, hs, hm⟩ := hv
  have hx := B.exec
  have hb := B.bytes
  have hr := B.returns
  have hts := atoms_spec (ws := wsW_ yX0_waits cX0_waits 5 (some .int) [((0 : Nat), (10 : Nat), (13 : Nat), (28 : Nat)), ((0 : Nat), (10 : Nat), (17 : Nat), (55 : Nat))]) B.pre
  have hts : ∀ w ∈ lw_all, w.before _ s = true := fun w h => hts w (List.mem_cons_of_mem _ h)
  have hown : s.vm.findClass RX0 = some m.cls := findClass_of_methodNamed B.named
  have hlocks := B.notSynchronized
  have htab := vx_table (x := yX0_waits) B (atoms_spec (ws := wsW_ yX0_waits cX0_waits 5 (some .int) [((0 : Nat), (10 : Nat), (13 : Nat), (28 : Nat)), ((0 : Nat), (10 : Nat), (17 : Nat), (55 : Nat))]) B.pre _ List.mem_cons_self)
  have hS : va_S (eA E) s.heap s.heap [] := va_S.rf
  have hl := lv_entry ([.ref a, .int x, .int y, .ref o]) (n := 5) (Nat.le_of_ble_eq_true rfl)
  rw [lg_entry_eq]
  generalize (lg_sl ([.ref a, .int x, .int y, .ref o]) ++ List.replicate (5 - (lg_sl ([.ref a, .int x, .int y, .ref o])).length) Slot.unset).toArray = ls at hl ⊢
  have hl : lv_has ls 5 [(0, .ref (a)), (1, .int (x)), (2, .int (y)), (3, .ref (o))] := hl
  refine lv_aload_n hx hb dX0_waits_0 rfl (lv_at hl 3 rfl) ?_
  refine lv_iconst (v := (0 : Int32)) hx hb dX0_waits_1 (by decide) ?_
  refine lv_aload_n hx hb dX0_waits_2 rfl (lv_at hl 0 rfl) ?_
  refine lv_iload_n hx hb dX0_waits_3 rfl (lv_at hl 1 rfl) ?_
  refine lv_iload_n hx hb dX0_waits_4 rfl (lv_at hl 2 rfl) ?_
  refine kx_calli (BX := fun En q u H => XS E t (C1_waits t M (a) (x) (y)).1 En q u H) (vx_runV (As := [.int (x), .int (y)]) (rest := [.int ((0 : Int32)), .ref (o)]) ⟨hx, hb, hml, hown, hts⟩ (cm1_waits l E hl9 t M  (a) (x) (y) hA K S hw) (cwV 2 hts (lw_V q1035 q1036 q1037 q58 q1038) rfl rfl rfl (by decide +kernel) ⟨Nat.le_of_ble_eq_true rfl, Nat.le_of_ble_eq_true rfl⟩) (k_preV hs hm hS (mw.recv hs hm (mt_ne hA.z (by decide)) (ct1 hA.z) rfl)) rfl rfl hl.1 rfl (lv_room (Nat.le_of_ble_eq_true rfl)) dX0_waits_5 ⟨Nat.le_of_ble_eq_true rfl, Nat.le_of_ble_eq_true rfl⟩) hS (fun En_1 ce_1 q_1 u9_1 H locs hp_1 hB_1 hS h1_1 h2_1 h3_1 => ?_) (fun r_1 u_1 H locs hw_1 hm_1 hS => ?_)
  · obtain ⟨c_1, hu9_1⟩ := hp_1
    replace hu9_1 := hu9_1.symm
    subst hu9_1
    obtain ⟨hE_1, hm⟩ := hB_1
    have hk_1 := xc_waits t M a x y
    by_cases d_1_0 : (C1_waits t M (a) (x) (y)).1 = (3 : Int32)
    · have hE9 : En_1 = "java/lang/IndexOutOfBoundsException" := by rw [hE_1, d_1_0]; rfl
      subst hE9
      refine vx_catch (name := "java/lang/IndexOutOfBoundsException") hown [] ⟨0, 10, 13, 28⟩ [⟨0, 10, 17, 55⟩] htab (fun z hz => nomatch hz) (by decide) (by decide) (hts _ q805) (hs.2.2.1.at q846 rfl rfl) h1_1 h2_1 h3_1 ?_
      refine lv_astore (lv' := [(4, _), (0, _), (1, _), (2, _), (3, _)]) hx hb dX0_waits_13 hl (by decide) rfl (fun ls hl => ?_)
      refine lv_iconst (v := (1 : Int32)) hx hb dX0_waits_15 (by decide) ?_
      refine vx_ret ?_
      refine W.widen (k := 2) (n := 12) (Nat.le_of_ble_eq_true rfl) (Nat.le_of_ble_eq_true rfl) ?_
      exact W.iret (v := _) hx hb hr (fun t9 ht9 _ => ⟨⟨_, _, rfl, pp3 ((if_neg c_1).trans ((if_pos d_1_0).trans (rfl))), hb9 ht9 hm⟩, hS.F ht9⟩) hS.2.2 dX0_waits_16
    · skip
      by_cases d_1_1 : (C1_waits t M (a) (x) (y)).1 = (4 : Int32)
      · have hE9 : En_1 = "java/util/NoSuchElementException" := by rw [hE_1, d_1_1]; rfl
        subst hE9
        refine vx_catch (name := "java/util/NoSuchElementException") hown [⟨0, 10, 13, 28⟩] ⟨0, 10, 17, 55⟩ [] htab (fun z hz => by
          rcases List.mem_singleton.mp hz with rfl
          exact Or.inr ⟨by decide, "java/lang/IndexOutOfBoundsException", hts _ q805, hs.2.2.2.2.2.2.2 ("java/util/NoSuchElementException", "java/lang/IndexOutOfBoundsException") (by decide +kernel)⟩) (by decide) (by decide) (hts _ q1034) (hs.2.2.1.at q1048 rfl rfl) h1_1 h2_1 h3_1 ?_
        refine lv_astore (lv' := [(4, _), (0, _), (1, _), (2, _), (3, _)]) hx hb dX0_waits_17 hl (by decide) rfl (fun ls hl => ?_)
        refine lv_iconst (v := (2 : Int32)) hx hb dX0_waits_19 (by decide) ?_
        refine vx_ret ?_
        refine W.widen (k := 2) (n := 12) (Nat.le_of_ble_eq_true rfl) (Nat.le_of_ble_eq_true rfl) ?_
        exact W.iret (v := _) hx hb hr (fun t9 ht9 _ => ⟨⟨_, _, rfl, pp3 ((if_neg c_1).trans ((if_neg d_1_0).trans ((if_pos d_1_1).trans (rfl)))), hb9 ht9 hm⟩, hS.F ht9⟩) hS.2.2 dX0_waits_20
      · rcases hk_1 with h9 | h9 | h9
        · exact absurd h9 c_1
        · exact absurd h9 d_1_0
        · exact absurd h9 d_1_1
  · obtain ⟨c_1, hr_1, hu_1⟩ := hw_1
    have hm := hm_1
    refine lv_i2l hx hb dX0_waits_8 rfl ?_
    refine k_last hx hb hs hm hS ho (vi 0 (by decide) (by decide)) dX0_waits_9 (fun H locs hm hS => ?_)
    have hm : mw E t ((wL u_1 o (vp_updL (aL u_1 o) 0 (r_1).toInt64))) H := hm
    refine lv_goto (tgt := 21) hx hb dX0_waits_10 (by decide) ?_
    refine lv_iconst (v := (0 : Int32)) hx hb dX0_waits_21 (by decide) ?_
    subst hu_1
    subst hr_1
    refine vx_ret ?_
    refine W.widen (k := 2) (n := 12) (Nat.le_of_ble_eq_true rfl) (Nat.le_of_ble_eq_true rfl) ?_
    exact W.iret (v := _) hx hb hr (fun t9 ht9 _ => ⟨⟨_, _, rfl, pp3 ((if_pos c_1).trans (rfl)), hb9 ht9 hm⟩, hS.F ht9⟩) hS.2.2 dX0_waits_22
theorem xc_heaviest (t : mt) (M : mm) (c : Nat) (x : Int32) : (C1_heaviest t M c x).1 = (0 : Int32) ∨ (C1_heaviest t M c x).1 = (1 : Int32) ∨ (C1_heaviest t M c x).1 = (4 : Int32) := by
  unfold C1_heaviest
  (try dsimp only)
  (repeat' split) <;> first | exact .inl rfl | exact .inr rfl | exact .inr (.inl rfl) | exact .inr (.inr rfl) | exact .inr (.inr (.inl rfl)) | exact .inr (.inr (.inr rfl))
def C0_heaviest (t : mt) (M : mm) (a : Nat) (x : Int32) (o : Nat) : Int32 × Int32 × mm :=
  let r_1 := (C1_heaviest t M (a) (x)).2.1;
  let u_1 := (C1_heaviest t M (a) (x)).2.2;
  if (C1_heaviest t M (a) (x)).1 = 0 then
    ((0 : Int32), (0 : Int32), (wL u_1 o (vp_updL (aL u_1 o) 0 (r_1).toInt64)))
  else
    if (C1_heaviest t M (a) (x)).1 = (1 : Int32) then
      ((0 : Int32), (1 : Int32), (C1_heaviest t M (a) (x)).2.2)
    else
      if (C1_heaviest t M (a) (x)).1 = (4 : Int32) then
        ((0 : Int32), (2 : Int32), (C1_heaviest t M (a) (x)).2.2)
      else
        ((0 : Int32), (0 : Int32), M)
set_option maxHeartbeats 4000000 in
theorem cm0_heaviest (l : Launch) (E : mE) (hl9 : l.stackTraces = false) (t : mt) (M : mm) (a : Nat) (x : Int32) (o : Nat) (hA : layA t a) (ho : t o = (60, 1)) (K S : List Nat) (hw : wfA M a K S) : vx_Met l yX0_heaviest (wsW_ yX0_heaviest cX0_heaviest 4 (some .int) [((0 : Nat), (9 : Nat), (12 : Nat), (13 : Nat)), ((0 : Nat), (9 : Nat), (15 : Nat), (55 : Nat))]) ({ frames := 8, cells := 2, slots := 12, locals := 162 }) (va_Pc [.ref a, .int x, .ref o] (wP E t M)) (va_Qi (fun (r : Int32) (u : mm) => (C0_heaviest t M a x o).1 = 0 ∧ r = (C0_heaviest t M a x o).2.1 ∧ u = (C0_heaviest t M a x o).2.2) (fun u U => mw E t u U.heap) (eA E)) (vx_X (fun (u : mm) => ¬ (C0_heaviest t M a x o).1 = 0 ∧ u = (C0_heaviest t M a x o).2.2) (fun En q u U => XS E t (C0_heaviest t M a x o).1 En q u U.heap) (eA E)) 2 12 (eA E) := by
  refine vx_ofWH (cc := cX0_heaviest) (maxL := 4) (ret := (some .int)) (hh := [((0 : Nat), (9 : Nat), (12 : Nat), (13 : Nat)), ((0 : Nat), (9 : Nat), (15 : Nat), (55 : Nat))]) (by decide) rfl ?_
  intro p e s m args below meth c0 s₁ B hml hv
  obtain ⟨rfl, hs, hm⟩ := hv
  have hx := B.exec
  have hb := B.bytes
  have hr := B.returns
  have hts := atoms_spec (ws := wsW_ yX0_heaviest cX0_heaviest 4 (some .int) [((0 : Nat), (9 : Nat), (12 : Nat), (13 : Nat)), ((0 : Nat), (9 : Nat), (15 : Nat), (55 : Nat))]) B.pre
  have hts : ∀ w ∈ lw_all, w.before _ s = true := fun w h => hts w (List.mem_cons_of_mem _ h)
  have hown : s.vm.findClass RX0 = some m.cls := findClass_of_methodNamed B.named
  have hlocks := B.notSynchronized
  have htab := vx_table (x := yX0_heaviest) B (atoms_spec (ws := wsW_ yX0_heaviest cX0_heaviest 4 (some .int) [((0 : Nat), (9 : Nat), (12 : Nat), (13 : Nat)), ((0 : Nat), (9 : Nat), (15 : Nat), (55 : Nat))]) B.pre _ List.mem_cons_self)
  have hS : va_S (eA E) s.heap s.heap [] := va_S.rf
  have hl := lv_entry ([.ref a, .int x, .ref o]) (n := 4) (Nat.le_of_ble_eq_true rfl)
  rw [lg_entry_eq]
  generalize (lg_sl ([.ref a, .int x, .ref o]) ++ List.replicate (4 - (lg_sl ([.ref a, .int x, .ref o])).length) Slot.unset).toArray = ls at hl ⊢
  have hl : lv_has ls 4 [(0, .ref (a)), (1, .int (x)), (2, .ref (o))] := hl
  refine lv_aload_n hx hb dX0_heaviest_0 rfl (lv_at hl 2 rfl) ?_
  refine lv_iconst (v := (0 : Int32)) hx hb dX0_heaviest_1 (by decide) ?_
  refine lv_aload_n hx hb dX0_heaviest_2 rfl (lv_at hl 0 rfl) ?_
  refine lv_iload_n hx hb dX0_heaviest_3 rfl (lv_at hl 1 rfl) ?_
  refine kx_calli (BX := fun En q u H => XS E t (C1_heaviest t M (a) (x)).1 En q u H) (vx_runV (As := [.int (x)]) (rest := [.int ((0 : Int32)), .ref (o)]) ⟨hx, hb, hml, hown, hts⟩ (cm1_heaviest l E hl9 t M  (a) (x) hA K S hw) (cwV 1 hts (lw_V q1109 q1110 q1111 q58 q1112) rfl rfl rfl (by decide +kernel) ⟨Nat.le_of_ble_eq_true rfl, Nat.le_of_ble_eq_true rfl⟩) (k_preV hs hm hS (mw.recv hs hm (mt_ne hA.z (by decide)) (ct1 hA.z) rfl)) rfl rfl hl.1 rfl (lv_room (Nat.le_of_ble_eq_true rfl)) dX0_heaviest_4 ⟨Nat.le_of_ble_eq_true rfl, Nat.le_of_ble_eq_true rfl⟩) hS (fun En_1 ce_1 q_1 u9_1 H locs hp_1 hB_1 hS h1_1 h2_1 h3_1 => ?_) (fun r_1 u_1 H locs hw_1 hm_1 hS => ?_)
  · obtain ⟨c_1, hu9_1⟩ := hp_1
    replace hu9_1 := hu9_1.symm
    subst hu9_1
    obtain ⟨hE_1, hm⟩ := hB_1
    have hk_1 := xc_heaviest t M a x
    by_cases d_1_0 : (C1_heaviest t M (a) (x)).1 = (1 : Int32)
    · have hE9 : En_1 = "java/lang/IllegalArgumentException" := by rw [hE_1, d_1_0]; rfl
      subst hE9
      refine vx_catch (name := "java/lang/IllegalArgumentException") hown [] ⟨0, 9, 12, 13⟩ [⟨0, 9, 15, 55⟩] htab (fun z hz => nomatch hz) (by decide) (by decide) (hts _ q694) (hs.2.2.1.at q707 rfl rfl) h1_1 h2_1 h3_1 ?_
      refine lv_astore_n (lv' := [(3, _), (0, _), (1, _), (2, _)]) hx hb dX0_heaviest_12 rfl hl (by decide) rfl (fun ls hl => ?_)
      refine lv_iconst (v := (1 : Int32)) hx hb dX0_heaviest_13 (by decide) ?_
      refine vx_ret ?_
      refine W.widen (k := 2) (n := 12) (Nat.le_of_ble_eq_true rfl) (Nat.le_of_ble_eq_true rfl) ?_
      exact W.iret (v := _) hx hb hr (fun t9 ht9 _ => ⟨⟨_, _, rfl, pp3 ((if_neg c_1).trans ((if_pos d_1_0).trans (rfl))), hb9 ht9 hm⟩, hS.F ht9⟩) hS.2.2 dX0_heaviest_14
    · skip
      by_cases d_1_1 : (C1_heaviest t M (a) (x)).1 = (4 : Int32)
      · have hE9 : En_1 = "java/util/NoSuchElementException" := by rw [hE_1, d_1_1]; rfl
        subst hE9
        refine vx_catch (name := "java/util/NoSuchElementException") hown [⟨0, 9, 12, 13⟩] ⟨0, 9, 15, 55⟩ [] htab (fun z hz => by
          rcases List.mem_singleton.mp hz with rfl
          exact Or.inr ⟨by decide, "java/lang/IllegalArgumentException", hts _ q694, hs.2.2.2.2.2.2.2 ("java/util/NoSuchElementException", "java/lang/IllegalArgumentException") (by decide +kernel)⟩) (by decide) (by decide) (hts _ q1034) (hs.2.2.1.at q1048 rfl rfl) h1_1 h2_1 h3_1 ?_
        refine lv_astore_n (lv' := [(3, _), (0, _), (1, _), (2, _)]) hx hb dX0_heaviest_15 rfl hl (by decide) rfl (fun ls hl => ?_)
        refine lv_iconst (v := (2 : Int32)) hx hb dX0_heaviest_16 (by decide) ?_
        refine vx_ret ?_
        refine W.widen (k := 2) (n := 12) (Nat.le_of_ble_eq_true rfl) (Nat.le_of_ble_eq_true rfl) ?_
        exact W.iret (v := _) hx hb hr (fun t9 ht9 _ => ⟨⟨_, _, rfl, pp3 ((if_neg c_1).trans ((if_neg d_1_0).trans ((if_pos d_1_1).trans (rfl)))), hb9 ht9 hm⟩, hS.F ht9⟩) hS.2.2 dX0_heaviest_17
      · rcases hk_1 with h9 | h9 | h9
        · exact absurd h9 c_1
        · exact absurd h9 d_1_0
        · exact absurd h9 d_1_1
  · obtain ⟨c_1, hr_1, hu_1⟩ := hw_1
    have hm := hm_1
    refine lv_i2l hx hb dX0_heaviest_7 rfl ?_
    refine k_last hx hb hs hm hS ho (vi 0 (by decide) (by decide)) dX0_heaviest_8 (fun H locs hm hS => ?_)
    have hm : mw E t ((wL u_1 o (vp_updL (aL u_1 o) 0 (r_1).toInt64))) H := hm
    refine lv_goto (tgt := 18) hx hb dX0_heaviest_9 (by decide) ?_
    refine lv_iconst (v := (0 : Int32)) hx hb dX0_heaviest_18 (by decide) ?_
    subst hu_1
    subst hr_1
    refine vx_ret ?_
    refine W.widen (k := 2) (n := 12) (Nat.le_of_ble_eq_true rfl) (Nat.le_of_ble_eq_true rfl) ?_
    exact W.iret (v := _) hx hb hr (fun t9 ht9 _ => ⟨⟨_, _, rfl, pp3 ((if_pos c_1).trans (rfl)), hb9 ht9 hm⟩, hS.F ht9⟩) hS.2.2 dX0_heaviest_19
theorem xc_prize (t : mt) (M : mm) (c : Nat) (x : Int32) (y : Int32) : (C1_prize t M c x y).1 = (0 : Int32) ∨ (C1_prize t M c x y).1 = (4 : Int32) ∨ (C1_prize t M c x y).1 = (1 : Int32) := by
  unfold C1_prize
  (try dsimp only)
  (repeat' split) <;> first | exact .inl rfl | exact .inr rfl | exact .inr (.inl rfl) | exact .inr (.inr rfl) | exact .inr (.inr (.inl rfl)) | exact .inr (.inr (.inr rfl))
def C0_prize (t : mt) (M : mm) (a : Nat) (x : Int32) (y : Int32) (o : Nat) : Int32 × Int32 × mm :=
  let r_1 := (C1_prize t M (a) (x) (y)).2.1;
  let u_1 := (C1_prize t M (a) (x) (y)).2.2;
  if (C1_prize t M (a) (x) (y)).1 = 0 then
    ((0 : Int32), (0 : Int32), (wL u_1 o (vp_updL (aL u_1 o) 0 (r_1).toInt64)))
  else
    if (C1_prize t M (a) (x) (y)).1 = (4 : Int32) then
      ((0 : Int32), (1 : Int32), (C1_prize t M (a) (x) (y)).2.2)
    else
      if (C1_prize t M (a) (x) (y)).1 = (1 : Int32) then
        ((0 : Int32), (2 : Int32), (C1_prize t M (a) (x) (y)).2.2)
      else
        ((0 : Int32), (0 : Int32), M)
set_option maxHeartbeats 4000000 in
theorem cm0_prize (l : Launch) (E : mE) (hl9 : l.stackTraces = false) (t : mt) (M : mm) (a : Nat) (x : Int32) (y : Int32) (o : Nat) (hA : layA t a) (ho : t o = (60, 1)) (K S : List Nat) (hw : wfA M a K S) : vx_Met l yX0_prize (wsW_ yX0_prize cX0_prize 5 (some .int) [((0 : Nat), (10 : Nat), (13 : Nat), (55 : Nat)), ((0 : Nat), (10 : Nat), (17 : Nat), (13 : Nat))]) ({ frames := 8, cells := 2, slots := 12, locals := 163 }) (va_Pc [.ref a, .int x, .int y, .ref o] (wP E t M)) (va_Qi (fun (r : Int32) (u : mm) => (C0_prize t M a x y o).1 = 0 ∧ r = (C0_prize t M a x y o).2.1 ∧ u = (C0_prize t M a x y o).2.2) (fun u U => mw E t u U.heap) (eA E)) (vx_X (fun (u : mm) => ¬ (C0_prize t M a x y o).1 = 0 ∧ u = (C0_prize t M a x y o).2.2) (fun En q u U => XS E t (C0_prize t M a x y o).1 En q u U.heap) (eA E)) 2 12 (eA E) := by
  refine vx_ofWH (cc := cX0_prize) (maxL := 5) (ret := (some .int)) (hh := [((0 : Nat), (10 : Nat), (13 : Nat), (55 : Nat)), ((0 : Nat), (10 : Nat), (17 : Nat), (13 : Nat))]) (by decide) rfl ?_
  intro p e s m args below meth c0 s₁ B hml hv
  obtain ⟨rfl, hs, hm⟩ := hv
  have hx := B.exec
  have hb := B.bytes
  have hr := B.returns
  have hts := atoms_spec (ws := wsW_ yX0_prize cX0_prize 5 (some .int) [((0 : Nat), (10 : Nat), (13 : Nat), (55 : Nat)), ((0 : Nat), (10 : Nat), (17 : Nat), (13 : Nat))]) B.pre
  have hts : ∀ w ∈ lw_all, w.before _ s = true := fun w h => hts w (List.mem_cons_of_mem _ h)
  have hown : s.vm.findClass RX0 = some m.cls := findClass_of_methodNamed B.named
  have hlocks := B.notSynchronized
  have htab := vx_table (x := yX0_prize) B (atoms_spec (ws := wsW_ yX0_prize cX0_prize 5 (some .int) [((0 : Nat), (10 : Nat), (13 : Nat), (55 : Nat)), ((0 : Nat), (10 : Nat), (17 : Nat), (13 : Nat))]) B.pre _ List.mem_cons_self)
  have hS : va_S (eA E) s.heap s.heap [] := va_S.rf
  have hl := lv_entry ([.ref a, .int x, .int y, .ref o]) (n := 5) (Nat.le_of_ble_eq_true rfl)
  rw [lg_entry_eq]
  generalize (lg_sl ([.ref a, .int x, .int y, .ref o]) ++ List.replicate (5 - (lg_sl ([.ref a, .int x, .int y, .ref o])).length) Slot.unset).toArray = ls at hl ⊢
  have hl : lv_has ls 5 [(0, .ref (a)), (1, .int (x)), (2, .int (y)), (3, .ref (o))] := hl
  refine lv_aload_n hx hb dX0_prize_0 rfl (lv_at hl 3 rfl) ?_
  refine lv_iconst (v := (0 : Int32)) hx hb dX0_prize_1 (by decide) ?_
  refine lv_aload_n hx hb dX0_prize_2 rfl (lv_at hl 0 rfl) ?_
  refine lv_iload_n hx hb dX0_prize_3 rfl (lv_at hl 1 rfl) ?_
  refine lv_iload_n hx hb dX0_prize_4 rfl (lv_at hl 2 rfl) ?_
  refine kx_calli (BX := fun En q u H => XS E t (C1_prize t M (a) (x) (y)).1 En q u H) (vx_runV (As := [.int (x), .int (y)]) (rest := [.int ((0 : Int32)), .ref (o)]) ⟨hx, hb, hml, hown, hts⟩ (cm1_prize l E hl9 t M  (a) (x) (y) hA K S hw) (cwV 2 hts (lw_V q1136 q1137 q1138 q58 q1139) rfl rfl rfl (by decide +kernel) ⟨Nat.le_of_ble_eq_true rfl, Nat.le_of_ble_eq_true rfl⟩) (k_preV hs hm hS (mw.recv hs hm (mt_ne hA.z (by decide)) (ct1 hA.z) rfl)) rfl rfl hl.1 rfl (lv_room (Nat.le_of_ble_eq_true rfl)) dX0_prize_5 ⟨Nat.le_of_ble_eq_true rfl, Nat.le_of_ble_eq_true rfl⟩) hS (fun En_1 ce_1 q_1 u9_1 H locs hp_1 hB_1 hS h1_1 h2_1 h3_1 => ?_) (fun r_1 u_1 H locs hw_1 hm_1 hS => ?_)
  · obtain ⟨c_1, hu9_1⟩ := hp_1
    replace hu9_1 := hu9_1.symm
    subst hu9_1
    obtain ⟨hE_1, hm⟩ := hB_1
    have hk_1 := xc_prize t M a x y
    by_cases d_1_0 : (C1_prize t M (a) (x) (y)).1 = (4 : Int32)
    · have hE9 : En_1 = "java/util/NoSuchElementException" := by rw [hE_1, d_1_0]; rfl
      subst hE9
      refine vx_catch (name := "java/util/NoSuchElementException") hown [] ⟨0, 10, 13, 55⟩ [⟨0, 10, 17, 13⟩] htab (fun z hz => nomatch hz) (by decide) (by decide) (hts _ q1034) (hs.2.2.1.at q1048 rfl rfl) h1_1 h2_1 h3_1 ?_
      refine lv_astore (lv' := [(4, _), (0, _), (1, _), (2, _), (3, _)]) hx hb dX0_prize_13 hl (by decide) rfl (fun ls hl => ?_)
      refine lv_iconst (v := (1 : Int32)) hx hb dX0_prize_15 (by decide) ?_
      refine vx_ret ?_
      refine W.widen (k := 2) (n := 12) (Nat.le_of_ble_eq_true rfl) (Nat.le_of_ble_eq_true rfl) ?_
      exact W.iret (v := _) hx hb hr (fun t9 ht9 _ => ⟨⟨_, _, rfl, pp3 ((if_neg c_1).trans ((if_pos d_1_0).trans (rfl))), hb9 ht9 hm⟩, hS.F ht9⟩) hS.2.2 dX0_prize_16
    · skip
      by_cases d_1_1 : (C1_prize t M (a) (x) (y)).1 = (1 : Int32)
      · have hE9 : En_1 = "java/lang/IllegalArgumentException" := by rw [hE_1, d_1_1]; rfl
        subst hE9
        refine vx_catch (name := "java/lang/IllegalArgumentException") hown [⟨0, 10, 13, 55⟩] ⟨0, 10, 17, 13⟩ [] htab (fun z hz => by
          rcases List.mem_singleton.mp hz with rfl
          exact Or.inr ⟨by decide, "java/util/NoSuchElementException", hts _ q1034, hs.2.2.2.2.2.2.2 ("java/lang/IllegalArgumentException", "java/util/NoSuchElementException") (by decide +kernel)⟩) (by decide) (by decide) (hts _ q694) (hs.2.2.1.at q707 rfl rfl) h1_1 h2_1 h3_1 ?_
        refine lv_astore (lv' := [(4, _), (0, _), (1, _), (2, _), (3, _)]) hx hb dX0_prize_17 hl (by decide) rfl (fun ls hl => ?_)
        refine lv_iconst (v := (2 : Int32)) hx hb dX0_prize_19 (by decide) ?_
        refine vx_ret ?_
        refine W.widen (k := 2) (n := 12) (Nat.le_of_ble_eq_true rfl) (Nat.le_of_ble_eq_true rfl) ?_
        exact W.iret (v := _) hx hb hr (fun t9 ht9 _ => ⟨⟨_, _, rfl, pp3 ((if_neg c_1).trans ((if_neg d_1_0).trans ((if_pos d_1_1).trans (rfl)))), hb9 ht9 hm⟩, hS.F ht9⟩) hS.2.2 dX0_prize_20
      · rcases hk_1 with h9 | h9 | h9
        · exact absurd h9 c_1
        · exact absurd h9 d_1_0
        · exact absurd h9 d_1_1
  · obtain ⟨c_1, hr_1, hu_1⟩ := hw_1
    have hm := hm_1
    refine lv_i2l hx hb dX0_prize_8 rfl ?_
    refine k_last hx hb hs hm hS ho (vi 0 (by decide) (by decide)) dX0_prize_9 (fun H locs hm hS => ?_)
    have hm : mw E t ((wL u_1 o (vp_updL (aL u_1 o) 0 (r_1).toInt64))) H := hm
    refine lv_goto (tgt := 21) hx hb dX0_prize_10 (by decide) ?_
    refine lv_iconst (v := (0 : Int32)) hx hb dX0_prize_21 (by decide) ?_
    subst hu_1
    subst hr_1
    refine vx_ret ?_
    refine W.widen (k := 2) (n := 12) (Nat.le_of_ble_eq_true rfl) (Nat.le_of_ble_eq_true rfl) ?_
    exact W.iret (v := _) hx hb hr (fun t9 ht9 _ => ⟨⟨_, _, rfl, pp3 ((if_pos c_1).trans (rfl)), hb9 ht9 hm⟩, hS.F ht9⟩) hS.2.2 dX0_prize_22
theorem xc_shedOf (t : mt) (M : mm) (c : Nat) (x : Int32) (y : Int32) : (C1_shedOf t M c x y).1 = (0 : Int32) ∨ (C1_shedOf t M c x y).1 = (3 : Int32) ∨ (C1_shedOf t M c x y).1 = (1 : Int32) := by
  unfold C1_shedOf
  (try dsimp only)
  (repeat' split) <;> first | exact .inl rfl | exact .inr rfl | exact .inr (.inl rfl) | exact .inr (.inr rfl) | exact .inr (.inr (.inl rfl)) | exact .inr (.inr (.inr rfl))
def C0_shedOf (t : mt) (M : mm) (a : Nat) (x : Int32) (y : Int32) (o : Nat) : Int32 × Int32 × mm :=
  let r_1 := (C1_shedOf t M (a) (x) (y)).2.1;
  let u_1 := (C1_shedOf t M (a) (x) (y)).2.2;
  if (C1_shedOf t M (a) (x) (y)).1 = 0 then
    ((0 : Int32), (0 : Int32), (wL u_1 o (vp_updL (aL u_1 o) 0 (r_1).toInt64)))
  else
    if (C1_shedOf t M (a) (x) (y)).1 = (3 : Int32) then
      ((0 : Int32), (1 : Int32), (C1_shedOf t M (a) (x) (y)).2.2)
    else
      if (C1_shedOf t M (a) (x) (y)).1 = (1 : Int32) then
        ((0 : Int32), (2 : Int32), (C1_shedOf t M (a) (x) (y)).2.2)
      else
        ((0 : Int32), (0 : Int32), M)
set_option maxHeartbeats 4000000 in
theorem cm0_shedOf (l : Launch) (E : mE) (hl9 : l.stackTraces = false) (t : mt) (M : mm) (a : Nat) (x : Int32) (y : Int32) (o : Nat) (hA : layA t a) (ho : t o = (60, 1)) (K S : List Nat) (hw : wfA M a K S) : vx_Met l yX0_shedOf (wsW_ yX0_shedOf cX0_shedOf 5 (some .int) [((0 : Nat), (10 : Nat), (13 : Nat), (28 : Nat)), ((0 : Nat), (10 : Nat), (17 : Nat), (13 : Nat))]) ({ frames := 8, cells := 2, slots := 12, locals := 163 }) (va_Pc [.ref a, .int x, .int y, .ref o] (wP E t M)) (va_Qi (fun (r : Int32) (u : mm) => (C0_shedOf t M a x y o).1 = 0 ∧ r = (C0_shedOf t M a x y o).2.1 ∧ u = (C0_shedOf t M a x y o).2.2) (fun u U => mw E t u U.heap) (eA E)) (vx_X (fun (u : mm) => ¬ (C0_shedOf t M a x y o).1 = 0 ∧ u = (C0_shedOf t M a x y o).2.2) (fun En q u U => XS E t (C0_shedOf t M a x y o).1 En q u U.heap) (eA E)) 2 12 (eA E) := by
  refine vx_ofWH (cc := cX0_shedOf) (maxL := 5) (ret := (some .int)) (hh := [((0 : Nat), (10 : Nat), (13 : Nat), (28 : Nat)), ((0 : Nat), (10 : Nat), (17 : Nat), (13 : Nat))]) (by decide) rfl ?_
  intro p e s m args below meth c0 s₁ B hml hv
  obtain ⟨rfl, hs, hm⟩ := hv
  have hx := B.exec
  have hb := B.bytes
  have hr := B.returns
  have hts := atoms_spec (ws := wsW_ yX0_shedOf cX0_shedOf 5 (some .int) [((0 : Nat), (10 : Nat), (13 : Nat), (28 : Nat)), ((0 : Nat), (10 : Nat), (17 : Nat), (13 : Nat))]) B.pre
  have hts : ∀ w ∈ lw_all, w.before _ s = true := fun w h => hts w (List.mem_cons_of_mem _ h)
  have hown : s.vm.findClass RX0 = some m.cls := findClass_of_methodNamed B.named
  have hlocks := B.notSynchronized
  have htab := vx_table (x := yX0_shedOf) B (atoms_spec (ws := wsW_ yX0_shedOf cX0_shedOf 5 (some .int) [((0 : Nat), (10 : Nat), (13 : Nat), (28 : Nat)), ((0 : Nat), (10 : Nat), (17 : Nat), (13 : Nat))]) B.pre _ List.mem_cons_self)
  have hS : va_S (eA E) s.heap s.heap [] := va_S.rf
  have hl := lv_entry ([.ref a, .int x, .int y, .ref o]) (n := 5) (Nat.le_of_ble_eq_true rfl)
  rw [lg_entry_eq]
  generalize (lg_sl ([.ref a, .int x, .int y, .ref o]) ++ List.replicate (5 - (lg_sl ([.ref a, .int x, .int y, .ref o])).length) Slot.unset).toArray = ls at hl ⊢
  have hl : lv_has ls 5 [(0, .ref (a)), (1, .int (x)), (2, .int (y)), (3, .ref (o))] := hl
  refine lv_aload_n hx hb dX0_shedOf_0 rfl (lv_at hl 3 rfl) ?_
  refine lv_iconst (v := (0 : Int32)) hx hb dX0_shedOf_1 (by decide) ?_
  refine lv_aload_n hx hb dX0_shedOf_2 rfl (lv_at hl 0 rfl) ?_
  refine lv_iload_n hx hb dX0_shedOf_3 rfl (lv_at hl 1 rfl) ?_
  refine lv_iload_n hx hb dX0_shedOf_4 rfl (lv_at hl 2 rfl) ?_
  refine kx_calli (BX := fun En q u H => XS E t (C1_shedOf t M (a) (x) (y)).1 En q u H) (vx_runV (As := [.int (x), .int (y)]) (rest := [.int ((0 : Int32)), .ref (o)]) ⟨hx, hb, hml, hown, hts⟩ (cm1_shedOf l E hl9 t M  (a) (x) (y) hA K S hw) (cwV 2 hts (lw_V q1174 q1175 q1176 q58 q1177) rfl rfl rfl (by decide +kernel) ⟨Nat.le_of_ble_eq_true rfl, Nat.le_of_ble_eq_true rfl⟩) (k_preV hs hm hS (mw.recv hs hm (mt_ne hA.z (by decide)) (ct1 hA.z) rfl)) rfl rfl hl.1 rfl (lv_room (Nat.le_of_ble_eq_true rfl)) dX0_shedOf_5 ⟨Nat.le_of_ble_eq_true rfl, Nat.le_of_ble_eq_true rfl⟩) hS (fun En_1 ce_1 q_1 u9_1 H locs hp_1 hB_1 hS h1_1 h2_1 h3_1 => ?_) (fun r_1 u_1 H locs hw_1 hm_1 hS => ?_)
  · obtain ⟨c_1, hu9_1⟩ := hp_1
    replace hu9_1 := hu9_1.symm
    subst hu9_1
    obtain ⟨hE_1, hm⟩ := hB_1
    have hk_1 := xc_shedOf t M a x y
    by_cases d_1_0 : (C1_shedOf t M (a) (x) (y)).1 = (3 : Int32)
    · have hE9 : En_1 = "java/lang/IndexOutOfBoundsException" := by rw [hE_1, d_1_0]; rfl
      subst hE9
      refine vx_catch (name := "java/lang/IndexOutOfBoundsException") hown [] ⟨0, 10, 13, 28⟩ [⟨0, 10, 17, 13⟩] htab (fun z hz => nomatch hz) (by decide) (by decide) (hts _ q805) (hs.2.2.1.at q846 rfl rfl) h1_1 h2_1 h3_1 ?_
      refine lv_astore (lv' := [(4, _), (0, _), (1, _), (2, _), (3, _)]) hx hb dX0_shedOf_13 hl (by decide) rfl (fun ls hl => ?_)
      refine lv_iconst (v := (1 : Int32)) hx hb dX0_shedOf_15 (by decide) ?_
      refine vx_ret ?_
      refine W.widen (k := 2) (n := 12) (Nat.le_of_ble_eq_true rfl) (Nat.le_of_ble_eq_true rfl) ?_
      exact W.iret (v := _) hx hb hr (fun t9 ht9 _ => ⟨⟨_, _, rfl, pp3 ((if_neg c_1).trans ((if_pos d_1_0).trans (rfl))), hb9 ht9 hm⟩, hS.F ht9⟩) hS.2.2 dX0_shedOf_16
    · skip
      by_cases d_1_1 : (C1_shedOf t M (a) (x) (y)).1 = (1 : Int32)
      · have hE9 : En_1 = "java/lang/IllegalArgumentException" := by rw [hE_1, d_1_1]; rfl
        subst hE9
        refine vx_catch (name := "java/lang/IllegalArgumentException") hown [⟨0, 10, 13, 28⟩] ⟨0, 10, 17, 13⟩ [] htab (fun z hz => by
          rcases List.mem_singleton.mp hz with rfl
          exact Or.inr ⟨by decide, "java/lang/IndexOutOfBoundsException", hts _ q805, hs.2.2.2.2.2.2.2 ("java/lang/IllegalArgumentException", "java/lang/IndexOutOfBoundsException") (by decide +kernel)⟩) (by decide) (by decide) (hts _ q694) (hs.2.2.1.at q707 rfl rfl) h1_1 h2_1 h3_1 ?_
        refine lv_astore (lv' := [(4, _), (0, _), (1, _), (2, _), (3, _)]) hx hb dX0_shedOf_17 hl (by decide) rfl (fun ls hl => ?_)
        refine lv_iconst (v := (2 : Int32)) hx hb dX0_shedOf_19 (by decide) ?_
        refine vx_ret ?_
        refine W.widen (k := 2) (n := 12) (Nat.le_of_ble_eq_true rfl) (Nat.le_of_ble_eq_true rfl) ?_
        exact W.iret (v := _) hx hb hr (fun t9 ht9 _ => ⟨⟨_, _, rfl, pp3 ((if_neg c_1).trans ((if_neg d_1_0).trans ((if_pos d_1_1).trans (rfl)))), hb9 ht9 hm⟩, hS.F ht9⟩) hS.2.2 dX0_shedOf_20
      · rcases hk_1 with h9 | h9 | h9
        · exact absurd h9 c_1
        · exact absurd h9 d_1_0
        · exact absurd h9 d_1_1
  · obtain ⟨c_1, hr_1, hu_1⟩ := hw_1
    have hm := hm_1
    refine lv_i2l hx hb dX0_shedOf_8 rfl ?_
    refine k_last hx hb hs hm hS ho (vi 0 (by decide) (by decide)) dX0_shedOf_9 (fun H locs hm hS => ?_)
    have hm : mw E t ((wL u_1 o (vp_updL (aL u_1 o) 0 (r_1).toInt64))) H := hm
    refine lv_goto (tgt := 21) hx hb dX0_shedOf_10 (by decide) ?_
    refine lv_iconst (v := (0 : Int32)) hx hb dX0_shedOf_21 (by decide) ?_
    subst hu_1
    subst hr_1
    refine vx_ret ?_
    refine W.widen (k := 2) (n := 12) (Nat.le_of_ble_eq_true rfl) (Nat.le_of_ble_eq_true rfl) ?_
    exact W.iret (v := _) hx hb hr (fun t9 ht9 _ => ⟨⟨_, _, rfl, pp3 ((if_pos c_1).trans (rfl)), hb9 ht9 hm⟩, hS.F ht9⟩) hS.2.2 dX0_shedOf_22
theorem xc_sign (t : mt) (M : mm) (c : Nat) (x : Int32) : (C1_sign t M c x).1 = (0 : Int32) ∨ (C1_sign t M c x).1 = (3 : Int32) := by
  unfold C1_sign
  (try dsimp only)
  (repeat' split) <;> first | exact .inl rfl | exact .inr rfl | exact .inr (.inl rfl) | exact .inr (.inr rfl) | exact .inr (.inr (.inl rfl)) | exact .inr (.inr (.inr rfl))
def C0_sign (t : mt) (M : mm) (a : Nat) (x : Int32) (o : Nat) : Int32 × Int32 × mm :=
  let r_1 := (C1_sign t M (a) (x)).2.1;
  let u_1 := (C1_sign t M (a) (x)).2.2;
  if (C1_sign t M (a) (x)).1 = 0 then
    ((0 : Int32), (0 : Int32), (wL u_1 o (vp_updL (aL u_1 o) 0 (r_1).toInt64)))
  else
    if (C1_sign t M (a) (x)).1 = (3 : Int32) then
      ((0 : Int32), (1 : Int32), (C1_sign t M (a) (x)).2.2)
    else
      ((0 : Int32), (0 : Int32), M)
set_option maxHeartbeats 4000000 in
theorem cm0_sign (l : Launch) (E : mE) (hl9 : l.stackTraces = false) (t : mt) (M : mm) (a : Nat) (x : Int32) (o : Nat) (hA : layA t a) (ho : t o = (60, 1)) (K S : List Nat) (hw : wfA M a K S) : vx_Met l yX0_sign (wsW_ yX0_sign cX0_sign 4 (some .int) [((0 : Nat), (9 : Nat), (12 : Nat), (28 : Nat))]) ({ frames := 8, cells := 1, slots := 6, locals := 161 }) (va_Pc [.ref a, .int x, .ref o] (wP E t M)) (va_Qi (fun (r : Int32) (u : mm) => (C0_sign t M a x o).1 = 0 ∧ r = (C0_sign t M a x o).2.1 ∧ u = (C0_sign t M a x o).2.2) (fun u U => mw E t u U.heap) (eA E)) (vx_X (fun (u : mm) => ¬ (C0_sign t M a x o).1 = 0 ∧ u = (C0_sign t M a x o).2.2) (fun En q u U => XS E t (C0_sign t M a x o).1 En q u U.heap) (eA E)) 1 6 (eA E) := by
  refine vx_ofWH (cc := cX0_sign) (maxL := 4) (ret := (some .int)) (hh := [((0 : Nat), (9 : Nat), (12 : Nat), (28 : Nat))]) (by decide) rfl ?_
  intro p e s m args below meth c0 s₁ B hml hv
  obtain ⟨rfl, hs, hm⟩ := hv
  have hx := B.exec
  have hb := B.bytes
  have hr := B.returns
  have hts := atoms_spec (ws := wsW_ yX0_sign cX0_sign 4 (some .int) [((0 : Nat), (9 : Nat), (12 : Nat), (28 : Nat))]) B.pre
  have hts : ∀ w ∈ lw_all, w.before _ s = true := fun w h => hts w (List.mem_cons_of_mem _ h)
  have hown : s.vm.findClass RX0 = some m.cls := findClass_of_methodNamed B.named
  have hlocks := B.notSynchronized
  have htab := vx_table (x := yX0_sign) B (atoms_spec (ws := wsW_ yX0_sign cX0_sign 4 (some .int) [((0 : Nat), (9 : Nat), (12 : Nat), (28 : Nat))]) B.pre _ List.mem_cons_self)
  have hS : va_S (eA E) s.heap s.heap [] := va_S.rf
  have hl := lv_entry ([.ref a, .int x, .ref o]) (n := 4) (Nat.le_of_ble_eq_true rfl)
  rw [lg_entry_eq]
  generalize (lg_sl ([.ref a, .int x, .ref o]) ++ List.replicate (4 - (lg_sl ([.ref a, .int x, .ref o])).length) Slot.unset).toArray = ls at hl ⊢
  have hl : lv_has ls 4 [(0, .ref (a)), (1, .int (x)), (2, .ref (o))] := hl
  refine lv_aload_n hx hb dX0_sign_0 rfl (lv_at hl 2 rfl) ?_
  refine lv_iconst (v := (0 : Int32)) hx hb dX0_sign_1 (by decide) ?_
  refine lv_aload_n hx hb dX0_sign_2 rfl (lv_at hl 0 rfl) ?_
  refine lv_iload_n hx hb dX0_sign_3 rfl (lv_at hl 1 rfl) ?_
  refine kx_calli (BX := fun En q u H => XS E t (C1_sign t M (a) (x)).1 En q u H) (vx_runV (As := [.int (x)]) (rest := [.int ((0 : Int32)), .ref (o)]) ⟨hx, hb, hml, hown, hts⟩ (cm1_sign l E hl9 t M  (a) (x) hA K S hw) (cwV 1 hts (lw_V q1221 q1222 q1223 q58 q1224) rfl rfl rfl (by decide +kernel) ⟨Nat.le_of_ble_eq_true rfl, Nat.le_of_ble_eq_true rfl⟩) (k_preV hs hm hS (mw.recv hs hm (mt_ne hA.z (by decide)) (ct1 hA.z) rfl)) rfl rfl hl.1 rfl (lv_room (Nat.le_of_ble_eq_true rfl)) dX0_sign_4 ⟨Nat.le_of_ble_eq_true rfl, Nat.le_of_ble_eq_true rfl⟩) hS (fun En_1 ce_1 q_1 u9_1 H locs hp_1 hB_1 hS h1_1 h2_1 h3_1 => ?_) (fun r_1 u_1 H locs hw_1 hm_1 hS => ?_)
  · obtain ⟨c_1, hu9_1⟩ := hp_1
    replace hu9_1 := hu9_1.symm
    subst hu9_1
    obtain ⟨hE_1, hm⟩ := hB_1
    have hk_1 := xc_sign t M a x
    by_cases d_1_0 : (C1_sign t M (a) (x)).1 = (3 : Int32)
    · have hE9 : En_1 = "java/lang/IndexOutOfBoundsException" := by rw [hE_1, d_1_0]; rfl
      subst hE9
      refine vx_catch (name := "java/lang/IndexOutOfBoundsException") hown [] ⟨0, 9, 12, 28⟩ [] htab (fun z hz => nomatch hz) (by decide) (by decide) (hts _ q805) (hs.2.2.1.at q846 rfl rfl) h1_1 h2_1 h3_1 ?_
      refine lv_astore_n (lv' := [(3, _), (0, _), (1, _), (2, _)]) hx hb dX0_sign_12 rfl hl (by decide) rfl (fun ls hl => ?_)
      refine lv_iconst (v := (1 : Int32)) hx hb dX0_sign_13 (by decide) ?_
      refine vx_ret ?_
      refine W.widen (k := 1) (n := 6) (Nat.le_of_ble_eq_true rfl) (Nat.le_of_ble_eq_true rfl) ?_
      exact W.iret (v := _) hx hb hr (fun t9 ht9 _ => ⟨⟨_, _, rfl, pp3 ((if_neg c_1).trans ((if_pos d_1_0).trans (rfl))), hb9 ht9 hm⟩, hS.F ht9⟩) hS.2.2 dX0_sign_14
    · rcases hk_1 with h9 | h9
      · exact absurd h9 c_1
      · exact absurd h9 d_1_0
  · obtain ⟨c_1, hr_1, hu_1⟩ := hw_1
    have hm := hm_1
    refine lv_i2l hx hb dX0_sign_7 rfl ?_
    refine k_last hx hb hs hm hS ho (vi 0 (by decide) (by decide)) dX0_sign_8 (fun H locs hm hS => ?_)
    have hm : mw E t ((wL u_1 o (vp_updL (aL u_1 o) 0 (r_1).toInt64))) H := hm
    refine lv_goto (tgt := 15) hx hb dX0_sign_9 (by decide) ?_
    refine lv_iconst (v := (0 : Int32)) hx hb dX0_sign_15 (by decide) ?_
    subst hu_1
    subst hr_1
    refine vx_ret ?_
    refine W.widen (k := 1) (n := 6) (Nat.le_of_ble_eq_true rfl) (Nat.le_of_ble_eq_true rfl) ?_
    exact W.iret (v := _) hx hb hr (fun t9 ht9 _ => ⟨⟨_, _, rfl, pp3 ((if_pos c_1).trans (rfl)), hb9 ht9 hm⟩, hS.F ht9⟩) hS.2.2 dX0_sign_16
theorem xc_refusal (t : mt) (M : mm) (c : Nat) (x : Int32) : (C1_refusal t M c x).1 = (0 : Int32) ∨ (C1_refusal t M c x).1 = (4 : Int32) := by
  unfold C1_refusal
  (try dsimp only)
  (repeat' split) <;> first | exact .inl rfl | exact .inr rfl | exact .inr (.inl rfl) | exact .inr (.inr rfl) | exact .inr (.inr (.inl rfl)) | exact .inr (.inr (.inr rfl))
def C0_refusal (t : mt) (M : mm) (a : Nat) (x : Int32) (o : Nat) : Int32 × Int32 × mm :=
  let r_1 := (C1_refusal t M (a) (x)).2.1;
  let u_1 := (C1_refusal t M (a) (x)).2.2;
  if (C1_refusal t M (a) (x)).1 = 0 then
    ((0 : Int32), (0 : Int32), (wL u_1 o (vp_updL (aL u_1 o) 0 (r_1).toInt64)))
  else
    if (C1_refusal t M (a) (x)).1 = (4 : Int32) then
      ((0 : Int32), (1 : Int32), (C1_refusal t M (a) (x)).2.2)
    else
      ((0 : Int32), (0 : Int32), M)
set_option maxHeartbeats 4000000 in
theorem cm0_refusal (l : Launch) (E : mE) (hl9 : l.stackTraces = false) (t : mt) (M : mm) (a : Nat) (x : Int32) (o : Nat) (hA : layA t a) (ho : t o = (60, 1)) (K S : List Nat) (hw : wfA M a K S) : vx_Met l yX0_refusal (wsW_ yX0_refusal cX0_refusal 4 (some .int) [((0 : Nat), (9 : Nat), (12 : Nat), (55 : Nat))]) ({ frames := 8, cells := 1, slots := 6, locals := 161 }) (va_Pc [.ref a, .int x, .ref o] (wP E t M)) (va_Qi (fun (r : Int32) (u : mm) => (C0_refusal t M a x o).1 = 0 ∧ r = (C0_refusal t M a x o).2.1 ∧ u = (C0_refusal t M a x o).2.2) (fun u U => mw E t u U.heap) (eA E)) (vx_X (fun (u : mm) => ¬ (C0_refusal t M a x o).1 = 0 ∧ u = (C0_refusal t M a x o).2.2) (fun En q u U => XS E t (C0_refusal t M a x o).1 En q u U.heap) (eA E)) 1 6 (eA E) := by
  refine vx_ofWH (cc := cX0_refusal) (maxL := 4) (ret := (some .int)) (hh := [((0 : Nat), (9 : Nat), (12 : Nat), (55 : Nat))]) (by decide) rfl ?_
  intro p e s m args below meth c0 s₁ B hml hv
  obtain ⟨rfl, hs, hm⟩ := hv
  have hx := B.exec
  have hb := B.bytes
  have hr := B.returns
  have hts := atoms_spec (ws := wsW_ yX0_refusal cX0_refusal 4 (some .int) [((0 : Nat), (9 : Nat), (12 : Nat), (55 : Nat))]) B.pre
  have hts : ∀ w ∈ lw_all, w.before _ s = true := fun w h => hts w (List.mem_cons_of_mem _ h)
  have hown : s.vm.findClass RX0 = some m.cls := findClass_of_methodNamed B.named
  have hlocks := B.notSynchronized
  have htab := vx_table (x := yX0_refusal) B (atoms_spec (ws := wsW_ yX0_refusal cX0_refusal 4 (some .int) [((0 : Nat), (9 : Nat), (12 : Nat), (55 : Nat))]) B.pre _ List.mem_cons_self)
  have hS : va_S (eA E) s.heap s.heap [] := va_S.rf
  have hl := lv_entry ([.ref a, .int x, .ref o]) (n := 4) (Nat.le_of_ble_eq_true rfl)
  rw [lg_entry_eq]
  generalize (lg_sl ([.ref a, .int x, .ref o]) ++ List.replicate (4 - (lg_sl ([.ref a, .int x, .ref o])).length) Slot.unset).toArray = ls at hl ⊢
  have hl : lv_has ls 4 [(0, .ref (a)), (1, .int (x)), (2, .ref (o))] := hl
  refine lv_aload_n hx hb dX0_refusal_0 rfl (lv_at hl 2 rfl) ?_
  refine lv_iconst (v := (0 : Int32)) hx hb dX0_refusal_1 (by decide) ?_
  refine lv_aload_n hx hb dX0_refusal_2 rfl (lv_at hl 0 rfl) ?_
  refine lv_iload_n hx hb dX0_refusal_3 rfl (lv_at hl 1 rfl) ?_
  refine kx_calli (BX := fun En q u H => XS E t (C1_refusal t M (a) (x)).1 En q u H) (vx_runV (As := [.int (x)]) (rest := [.int ((0 : Int32)), .ref (o)]) ⟨hx, hb, hml, hown, hts⟩ (cm1_refusal l E hl9 t M  (a) (x) hA K S hw) (cwV 1 hts (lw_V q1618 q1619 q1620 q58 q1621) rfl rfl rfl (by decide +kernel) ⟨Nat.le_of_ble_eq_true rfl, Nat.le_of_ble_eq_true rfl⟩) (k_preV hs hm hS (mw.recv hs hm (mt_ne hA.z (by decide)) (ct1 hA.z) rfl)) rfl rfl hl.1 rfl (lv_room (Nat.le_of_ble_eq_true rfl)) dX0_refusal_4 ⟨Nat.le_of_ble_eq_true rfl, Nat.le_of_ble_eq_true rfl⟩) hS (fun En_1 ce_1 q_1 u9_1 H locs hp_1 hB_1 hS h1_1 h2_1 h3_1 => ?_) (fun r_1 u_1 H locs hw_1 hm_1 hS => ?_)
  · obtain ⟨c_1, hu9_1⟩ := hp_1
    replace hu9_1 := hu9_1.symm
    subst hu9_1
    obtain ⟨hE_1, hm⟩ := hB_1
    have hk_1 := xc_refusal t M a x
    by_cases d_1_0 : (C1_refusal t M (a) (x)).1 = (4 : Int32)
    · have hE9 : En_1 = "java/util/NoSuchElementException" := by rw [hE_1, d_1_0]; rfl
      subst hE9
      refine vx_catch (name := "java/util/NoSuchElementException") hown [] ⟨0, 9, 12, 55⟩ [] htab (fun z hz => nomatch hz) (by decide) (by decide) (hts _ q1034) (hs.2.2.1.at q1048 rfl rfl) h1_1 h2_1 h3_1 ?_
      refine lv_astore_n (lv' := [(3, _), (0, _), (1, _), (2, _)]) hx hb dX0_refusal_12 rfl hl (by decide) rfl (fun ls hl => ?_)
      refine lv_iconst (v := (1 : Int32)) hx hb dX0_refusal_13 (by decide) ?_
      refine vx_ret ?_
      refine W.widen (k := 1) (n := 6) (Nat.le_of_ble_eq_true rfl) (Nat.le_of_ble_eq_true rfl) ?_
      exact W.iret (v := _) hx hb hr (fun t9 ht9 _ => ⟨⟨_, _, rfl, pp3 ((if_neg c_1).trans ((if_pos d_1_0).trans (rfl))), hb9 ht9 hm⟩, hS.F ht9⟩) hS.2.2 dX0_refusal_14
    · rcases hk_1 with h9 | h9
      · exact absurd h9 c_1
      · exact absurd h9 d_1_0
  · obtain ⟨c_1, hr_1, hu_1⟩ := hw_1
    have hm := hm_1
    refine lv_i2l hx hb dX0_refusal_7 rfl ?_
    refine k_last hx hb hs hm hS ho (vi 0 (by decide) (by decide)) dX0_refusal_8 (fun H locs hm hS => ?_)
    have hm : mw E t ((wL u_1 o (vp_updL (aL u_1 o) 0 (r_1).toInt64))) H := hm
    refine lv_goto (tgt := 15) hx hb dX0_refusal_9 (by decide) ?_
    refine lv_iconst (v := (0 : Int32)) hx hb dX0_refusal_15 (by decide) ?_
    subst hu_1
    subst hr_1
    refine vx_ret ?_
    refine W.widen (k := 1) (n := 6) (Nat.le_of_ble_eq_true rfl) (Nat.le_of_ble_eq_true rfl) ?_
    exact W.iret (v := _) hx hb hr (fun t9 ht9 _ => ⟨⟨_, _, rfl, pp3 ((if_pos c_1).trans (rfl)), hb9 ht9 hm⟩, hS.F ht9⟩) hS.2.2 dX0_refusal_16
theorem xc_undo (t : mt) (M : mm) (c : Nat) : (C1_undo t M c ).1 = (0 : Int32) ∨ (C1_undo t M c ).1 = (5 : Int32) := by
  unfold C1_undo
  (try dsimp only)
  (repeat' split) <;> first | exact .inl rfl | exact .inr rfl | exact .inr (.inl rfl) | exact .inr (.inr rfl) | exact .inr (.inr (.inl rfl)) | exact .inr (.inr (.inr rfl))
def C0_undo (t : mt) (M : mm) (a : Nat) (o : Nat) : Int32 × Int32 × mm :=
  let r_1 := (C1_undo t M (a) ).2.1;
  let u_1 := (C1_undo t M (a) ).2.2;
  if (C1_undo t M (a) ).1 = 0 then
    ((0 : Int32), (0 : Int32), (wL u_1 o (vp_updL (aL u_1 o) 0 (r_1).toInt64)))
  else
    if (C1_undo t M (a) ).1 = (5 : Int32) then
      ((0 : Int32), (1 : Int32), (C1_undo t M (a) ).2.2)
    else
      ((0 : Int32), (0 : Int32), M)
set_option maxHeartbeats 4000000 in
theorem cm0_undo (l : Launch) (E : mE) (hl9 : l.stackTraces = false) (t : mt) (M : mm) (a : Nat) (o : Nat) (hA : layA t a) (ho : t o = (60, 1)) (K S : List Nat) (hw : wfA M a K S) : vx_Met l yX0_undo (wsW_ yX0_undo cX0_undo 3 (some .int) [((0 : Nat), (8 : Nat), (11 : Nat), (109 : Nat))]) ({ frames := 8, cells := 1, slots := 6, locals := 161 }) (va_Pc [.ref a, .ref o] (wP E t M)) (va_Qi (fun (r : Int32) (u : mm) => (C0_undo t M a o).1 = 0 ∧ r = (C0_undo t M a o).2.1 ∧ u = (C0_undo t M a o).2.2) (fun u U => mw E t u U.heap) (eA E)) (vx_X (fun (u : mm) => ¬ (C0_undo t M a o).1 = 0 ∧ u = (C0_undo t M a o).2.2) (fun En q u U => XS E t (C0_undo t M a o).1 En q u U.heap) (eA E)) 1 6 (eA E) := by
  refine vx_ofWH (cc := cX0_undo) (maxL := 3) (ret := (some .int)) (hh := [((0 : Nat), (8 : Nat), (11 : Nat), (109 : Nat))]) (by decide) rfl ?_
  intro p e s m args below meth c0 s₁ B hml hv
  obtain ⟨rfl, hs, hm⟩ := hv
  have hx := B.exec
  have hb := B.bytes
  have hr := B.returns
  have hts := atoms_spec (ws := wsW_ yX0_undo cX0_undo 3 (some .int) [((0 : Nat), (8 : Nat), (11 : Nat), (109 : Nat))]) B.pre
  have hts : ∀ w ∈ lw_all, w.before _ s = true := fun w h => hts w (List.mem_cons_of_mem _ h)
  have hown : s.vm.findClass RX0 = some m.cls := findClass_of_methodNamed B.named
  have hlocks := B.notSynchronized
  have htab := vx_table (x := yX0_undo) B (atoms_spec (ws := wsW_ yX0_undo cX0_undo 3 (some .int) [((0 : Nat), (8 : Nat), (11 : Nat), (109 : Nat))]) B.pre _ List.mem_cons_self)
  have hS : va_S (eA E) s.heap s.heap [] := va_S.rf
  have hl := lv_entry ([.ref a, .ref o]) (n := 3) (Nat.le_of_ble_eq_true rfl)
  rw [lg_entry_eq]
  generalize (lg_sl ([.ref a, .ref o]) ++ List.replicate (3 - (lg_sl ([.ref a, .ref o])).length) Slot.unset).toArray = ls at hl ⊢
  have hl : lv_has ls 3 [(0, .ref (a)), (1, .ref (o))] := hl
  refine lv_aload_n hx hb dX0_undo_0 rfl (lv_at hl 1 rfl) ?_
  refine lv_iconst (v := (0 : Int32)) hx hb dX0_undo_1 (by decide) ?_
  refine lv_aload_n hx hb dX0_undo_2 rfl (lv_at hl 0 rfl) ?_
  refine kx_calli (BX := fun En q u H => XS E t (C1_undo t M (a) ).1 En q u H) (vx_runV (As := []) (rest := [.int ((0 : Int32)), .ref (o)]) ⟨hx, hb, hml, hown, hts⟩ (cm1_undo l E hl9 t M  (a)  hA K S hw) (cwV 0 hts (lw_V q1649 q1650 q1651 q58 q1652) rfl rfl rfl (by decide +kernel) ⟨Nat.le_of_ble_eq_true rfl, Nat.le_of_ble_eq_true rfl⟩) (k_preV hs hm hS (mw.recv hs hm (mt_ne hA.z (by decide)) (ct1 hA.z) rfl)) rfl rfl hl.1 rfl (lv_room (Nat.le_of_ble_eq_true rfl)) dX0_undo_3 ⟨Nat.le_of_ble_eq_true rfl, Nat.le_of_ble_eq_true rfl⟩) hS (fun En_1 ce_1 q_1 u9_1 H locs hp_1 hB_1 hS h1_1 h2_1 h3_1 => ?_) (fun r_1 u_1 H locs hw_1 hm_1 hS => ?_)
  · obtain ⟨c_1, hu9_1⟩ := hp_1
    replace hu9_1 := hu9_1.symm
    subst hu9_1
    obtain ⟨hE_1, hm⟩ := hB_1
    have hk_1 := xc_undo t M a 
    by_cases d_1_0 : (C1_undo t M (a) ).1 = (5 : Int32)
    · have hE9 : En_1 = "java/lang/IllegalStateException" := by rw [hE_1, d_1_0]; rfl
      subst hE9
      refine vx_catch (name := "java/lang/IllegalStateException") hown [] ⟨0, 8, 11, 109⟩ [] htab (fun z hz => nomatch hz) (by decide) (by decide) (hts _ q1244) (hs.2.2.1.at q405 rfl rfl) h1_1 h2_1 h3_1 ?_
      refine lv_astore_n (lv' := [(2, _), (0, _), (1, _)]) hx hb dX0_undo_11 rfl hl (by decide) rfl (fun ls hl => ?_)
      refine lv_iconst (v := (1 : Int32)) hx hb dX0_undo_12 (by decide) ?_
      refine vx_ret ?_
      refine W.widen (k := 1) (n := 6) (Nat.le_of_ble_eq_true rfl) (Nat.le_of_ble_eq_true rfl) ?_
      exact W.iret (v := _) hx hb hr (fun t9 ht9 _ => ⟨⟨_, _, rfl, pp3 ((if_neg c_1).trans ((if_pos d_1_0).trans (rfl))), hb9 ht9 hm⟩, hS.F ht9⟩) hS.2.2 dX0_undo_13
    · rcases hk_1 with h9 | h9
      · exact absurd h9 c_1
      · exact absurd h9 d_1_0
  · obtain ⟨c_1, hr_1, hu_1⟩ := hw_1
    have hm := hm_1
    refine lv_i2l hx hb dX0_undo_6 rfl ?_
    refine k_last hx hb hs hm hS ho (vi 0 (by decide) (by decide)) dX0_undo_7 (fun H locs hm hS => ?_)
    have hm : mw E t ((wL u_1 o (vp_updL (aL u_1 o) 0 (r_1).toInt64))) H := hm
    refine lv_goto (tgt := 14) hx hb dX0_undo_8 (by decide) ?_
    refine lv_iconst (v := (0 : Int32)) hx hb dX0_undo_14 (by decide) ?_
    subst hu_1
    subst hr_1
    refine vx_ret ?_
    refine W.widen (k := 1) (n := 6) (Nat.le_of_ble_eq_true rfl) (Nat.le_of_ble_eq_true rfl) ?_
    exact W.iret (v := _) hx hb hr (fun t9 ht9 _ => ⟨⟨_, _, rfl, pp3 ((if_pos c_1).trans (rfl)), hb9 ht9 hm⟩, hS.F ht9⟩) hS.2.2 dX0_undo_15
theorem xc_cropOf (t : mt) (M : mm) (c : Nat) (x : Int32) : (C1_cropOf t M c x).1 = 0 ∨ (C1_cropOf t M c x).1 = 4 := by
  unfold C1_cropOf
  dsimp only
  (repeat' split) <;> first | exact .inl rfl | exact .inr rfl
theorem xc_weight (t : mt) (M : mm) (c : Nat) (x : Int32) : (C1_weight t M c x).1 = (0 : Int32) ∨ (C1_weight t M c x).1 = (3 : Int32) ∨ (C1_weight t M c x).1 = (4 : Int32) := by
  unfold C1_weight
  (try dsimp only)
  (repeat' split) <;> first | exact .inl rfl | exact .inr (.inl rfl) | exact .inr (.inr rfl) | exact (xc_cropOf t M c x).elim .inl (fun h => .inr (.inr h))
def C0_weight (t : mt) (M : mm) (a : Nat) (x : Int32) (o : Nat) : Int32 × Int32 × mm :=
  let r_1 := (C1_weight t M (a) (x)).2.1;
  let u_1 := (C1_weight t M (a) (x)).2.2;
  if (C1_weight t M (a) (x)).1 = 0 then
    ((0 : Int32), (0 : Int32), (wL u_1 o (vp_updL (aL u_1 o) 0 (r_1).toInt64)))
  else
    if (C1_weight t M (a) (x)).1 = (3 : Int32) then
      ((0 : Int32), (1 : Int32), (C1_weight t M (a) (x)).2.2)
    else
      if (C1_weight t M (a) (x)).1 = (4 : Int32) then
        ((0 : Int32), (2 : Int32), (C1_weight t M (a) (x)).2.2)
      else
        ((0 : Int32), (0 : Int32), M)
set_option maxHeartbeats 4000000 in
theorem cm0_weight (l : Launch) (E : mE) (hl9 : l.stackTraces = false) (t : mt) (M : mm) (a : Nat) (x : Int32) (o : Nat) (hA : layA t a) (ho : t o = (60, 1)) (K S : List Nat) (hw : wfA M a K S) : vx_Met l yX0_weight (wsW_ yX0_weight cX0_weight 4 (some .int) [((0 : Nat), (9 : Nat), (12 : Nat), (28 : Nat)), ((0 : Nat), (9 : Nat), (15 : Nat), (55 : Nat))]) ({ frames := 9, cells := 2, slots := 12, locals := 182 }) (va_Pc [.ref a, .int x, .ref o] (wP E t M)) (va_Qi (fun (r : Int32) (u : mm) => (C0_weight t M a x o).1 = 0 ∧ r = (C0_weight t M a x o).2.1 ∧ u = (C0_weight t M a x o).2.2) (fun u U => mw E t u U.heap) (eA E)) (vx_X (fun (u : mm) => ¬ (C0_weight t M a x o).1 = 0 ∧ u = (C0_weight t M a x o).2.2) (fun En q u U => XS E t (C0_weight t M a x o).1 En q u U.heap) (eA E)) 2 12 (eA E) := by
  refine vx_ofWH (cc := cX0_weight) (maxL := 4) (ret := (some .int)) (hh := [((0 : Nat), (9 : Nat), (12 : Nat), (28 : Nat)), ((0 : Nat), (9 : Nat), (15 : Nat), (55 : Nat))]) (by decide) rfl ?_
  intro p e s m args below meth c0 s₁ B hml hv
  obtain ⟨rfl, hs, hm⟩ := hv
  have hx := B.exec
  have hb := B.bytes
  have hr := B.returns
  have hts := atoms_spec (ws := wsW_ yX0_weight cX0_weight 4 (some .int) [((0 : Nat), (9 : Nat), (12 : Nat), (28 : Nat)), ((0 : Nat), (9 : Nat), (15 : Nat), (55 : Nat))]) B.pre
  have hts : ∀ w ∈ lw_all, w.before _ s = true := fun w h => hts w (List.mem_cons_of_mem _ h)
  have hown : s.vm.findClass RX0 = some m.cls := findClass_of_methodNamed B.named
  have hlocks := B.notSynchronized
  have htab := vx_table (x := yX0_weight) B (atoms_spec (ws := wsW_ yX0_weight cX0_weight 4 (some .int) [((0 : Nat), (9 : Nat), (12 : Nat), (28 : Nat)), ((0 : Nat), (9 : Nat), (15 : Nat), (55 : Nat))]) B.pre _ List.mem_cons_self)
  have hS : va_S (eA E) s.heap s.heap [] := va_S.rf
  have hl := lv_entry ([.ref a, .int x, .ref o]) (n := 4) (Nat.le_of_ble_eq_true rfl)
  rw [lg_entry_eq]
  generalize (lg_sl ([.ref a, .int x, .ref o]) ++ List.replicate (4 - (lg_sl ([.ref a, .int x, .ref o])).length) Slot.unset).toArray = ls at hl ⊢
  have hl : lv_has ls 4 [(0, .ref (a)), (1, .int (x)), (2, .ref (o))] := hl
  refine lv_aload_n hx hb dX0_weight_0 rfl (lv_at hl 2 rfl) ?_
  refine lv_iconst (v := (0 : Int32)) hx hb dX0_weight_1 (by decide) ?_
  refine lv_aload_n hx hb dX0_weight_2 rfl (lv_at hl 0 rfl) ?_
  refine lv_iload_n hx hb dX0_weight_3 rfl (lv_at hl 1 rfl) ?_
  refine kx_calli (BX := fun En q u H => XS E t (C1_weight t M (a) (x)).1 En q u H) (vx_runV (As := [.int (x)]) (rest := [.int ((0 : Int32)), .ref (o)]) ⟨hx, hb, hml, hown, hts⟩ (cm1_weight l E hl9 t M  (a) (x) hA K S hw) (cwV 1 hts (lw_V q1091 q1092 q1093 q58 q1094) rfl rfl rfl (by decide +kernel) ⟨Nat.le_of_ble_eq_true rfl, Nat.le_of_ble_eq_true rfl⟩) (k_preV hs hm hS (mw.recv hs hm (mt_ne hA.z (by decide)) (ct1 hA.z) rfl)) rfl rfl hl.1 rfl (lv_room (Nat.le_of_ble_eq_true rfl)) dX0_weight_4 ⟨Nat.le_of_ble_eq_true rfl, Nat.le_of_ble_eq_true rfl⟩) hS (fun En_1 ce_1 q_1 u9_1 H locs hp_1 hB_1 hS h1_1 h2_1 h3_1 => ?_) (fun r_1 u_1 H locs hw_1 hm_1 hS => ?_)
  · obtain ⟨c_1, hu9_1⟩ := hp_1
    replace hu9_1 := hu9_1.symm
    subst hu9_1
    obtain ⟨hE_1, hm⟩ := hB_1
    have hk_1 := xc_weight t M a x
    by_cases d_1_0 : (C1_weight t M (a) (x)).1 = (3 : Int32)
    · have hE9 : En_1 = "java/lang/IndexOutOfBoundsException" := by rw [hE_1, d_1_0]; rfl
      subst hE9
      refine vx_catch (name := "java/lang/IndexOutOfBoundsException") hown [] ⟨0, 9, 12, 28⟩ [⟨0, 9, 15, 55⟩] htab (fun z hz => nomatch hz) (by decide) (by decide) (hts _ q805) (hs.2.2.1.at q846 rfl rfl) h1_1 h2_1 h3_1 ?_
      refine lv_astore_n (lv' := [(3, _), (0, _), (1, _), (2, _)]) hx hb dX0_weight_12 rfl hl (by decide) rfl (fun ls hl => ?_)
      refine lv_iconst (v := (1 : Int32)) hx hb dX0_weight_13 (by decide) ?_
      refine vx_ret ?_
      refine W.widen (k := 2) (n := 12) (Nat.le_of_ble_eq_true rfl) (Nat.le_of_ble_eq_true rfl) ?_
      exact W.iret (v := _) hx hb hr (fun t9 ht9 _ => ⟨⟨_, _, rfl, pp3 ((if_neg c_1).trans ((if_pos d_1_0).trans (rfl))), hb9 ht9 hm⟩, hS.F ht9⟩) hS.2.2 dX0_weight_14
    · skip
      by_cases d_1_1 : (C1_weight t M (a) (x)).1 = (4 : Int32)
      · have hE9 : En_1 = "java/util/NoSuchElementException" := by rw [hE_1, d_1_1]; rfl
        subst hE9
        refine vx_catch (name := "java/util/NoSuchElementException") hown [⟨0, 9, 12, 28⟩] ⟨0, 9, 15, 55⟩ [] htab (fun z hz => by
          rcases List.mem_singleton.mp hz with rfl
          exact Or.inr ⟨by decide, "java/lang/IndexOutOfBoundsException", hts _ q805, hs.2.2.2.2.2.2.2 ("java/util/NoSuchElementException", "java/lang/IndexOutOfBoundsException") (by decide +kernel)⟩) (by decide) (by decide) (hts _ q1034) (hs.2.2.1.at q1048 rfl rfl) h1_1 h2_1 h3_1 ?_
        refine lv_astore_n (lv' := [(3, _), (0, _), (1, _), (2, _)]) hx hb dX0_weight_15 rfl hl (by decide) rfl (fun ls hl => ?_)
        refine lv_iconst (v := (2 : Int32)) hx hb dX0_weight_16 (by decide) ?_
        refine vx_ret ?_
        refine W.widen (k := 2) (n := 12) (Nat.le_of_ble_eq_true rfl) (Nat.le_of_ble_eq_true rfl) ?_
        exact W.iret (v := _) hx hb hr (fun t9 ht9 _ => ⟨⟨_, _, rfl, pp3 ((if_neg c_1).trans ((if_neg d_1_0).trans ((if_pos d_1_1).trans (rfl)))), hb9 ht9 hm⟩, hS.F ht9⟩) hS.2.2 dX0_weight_17
      · rcases hk_1 with h9 | h9 | h9
        · exact absurd h9 c_1
        · exact absurd h9 d_1_0
        · exact absurd h9 d_1_1
  · obtain ⟨c_1, hr_1, hu_1⟩ := hw_1
    have hm := hm_1
    refine lv_i2l hx hb dX0_weight_7 rfl ?_
    refine k_last hx hb hs hm hS ho (vi 0 (by decide) (by decide)) dX0_weight_8 (fun H locs hm hS => ?_)
    have hm : mw E t ((wL u_1 o (vp_updL (aL u_1 o) 0 (r_1).toInt64))) H := hm
    refine lv_goto (tgt := 18) hx hb dX0_weight_9 (by decide) ?_
    refine lv_iconst (v := (0 : Int32)) hx hb dX0_weight_18 (by decide) ?_
    subst hu_1
    subst hr_1
    refine vx_ret ?_
    refine W.widen (k := 2) (n := 12) (Nat.le_of_ble_eq_true rfl) (Nat.le_of_ble_eq_true rfl) ?_
    exact W.iret (v := _) hx hb hr (fun t9 ht9 _ => ⟨⟨_, _, rfl, pp3 ((if_pos c_1).trans (rfl)), hb9 ht9 hm⟩, hS.F ht9⟩) hS.2.2 dX0_weight_19
theorem xc_weightIn (t : mt) (M : mm) (c : Nat) (x : Int32) (y : Int32) : (C1_weightIn t M c x y).1 = (0 : Int32) ∨ (C1_weightIn t M c x y).1 = (3 : Int32) ∨ (C1_weightIn t M c x y).1 = (1 : Int32) ∨ (C1_weightIn t M c x y).1 = (4 : Int32) := by
  unfold C1_weightIn
  (try dsimp only)
  (repeat' split) <;> first | exact .inl rfl | exact .inr (.inl rfl) | exact .inr (.inr (.inl rfl)) | exact (xc_cropOf t M c x).elim .inl (fun h => .inr (.inr (.inr h)))
def C0_weightIn (t : mt) (M : mm) (a : Nat) (x : Int32) (y : Int32) (o : Nat) : Int32 × Int32 × mm :=
  let r_1 := (C1_weightIn t M (a) (x) (y)).2.1;
  let u_1 := (C1_weightIn t M (a) (x) (y)).2.2;
  if (C1_weightIn t M (a) (x) (y)).1 = 0 then
    ((0 : Int32), (0 : Int32), (wL u_1 o (vp_updL (aL u_1 o) 0 (r_1).toInt64)))
  else
    if (C1_weightIn t M (a) (x) (y)).1 = (3 : Int32) then
      ((0 : Int32), (1 : Int32), (C1_weightIn t M (a) (x) (y)).2.2)
    else
      if (C1_weightIn t M (a) (x) (y)).1 = (1 : Int32) then
        ((0 : Int32), (2 : Int32), (C1_weightIn t M (a) (x) (y)).2.2)
      else
        if (C1_weightIn t M (a) (x) (y)).1 = (4 : Int32) then
          ((0 : Int32), (3 : Int32), (C1_weightIn t M (a) (x) (y)).2.2)
        else
          ((0 : Int32), (0 : Int32), M)
set_option maxHeartbeats 4000000 in
theorem cm0_weightIn (l : Launch) (E : mE) (hl9 : l.stackTraces = false) (t : mt) (M : mm) (a : Nat) (x : Int32) (y : Int32) (o : Nat) (hA : layA t a) (ho : t o = (60, 1)) (K S : List Nat) (hw : wfA M a K S) (hT : wfK (C1_tryOn t M a).2 (a + 65)) (hC : ¬ C1_isPlot x = 0 → ¬ aR M ((a + 1) + 4) x.toNatClampNeg = none → ¬ aR (C1_tryOn t M a).2 ((a + 65) + 4) x.toNatClampNeg = none) : vx_Met l yX0_weightIn (wsW_ yX0_weightIn cX0_weightIn 5 (some .int) [((0 : Nat), (10 : Nat), (13 : Nat), (28 : Nat)), ((0 : Nat), (10 : Nat), (17 : Nat), (13 : Nat)), ((0 : Nat), (10 : Nat), (21 : Nat), (55 : Nat))]) ({ frames := 9, cells := 63, slots := 738, locals := 185 }) (va_Pc [.ref a, .int x, .int y, .ref o] (wP E t M)) (va_Qi (fun (r : Int32) (u : mm) => (C0_weightIn t M a x y o).1 = 0 ∧ r = (C0_weightIn t M a x y o).2.1 ∧ u = (C0_weightIn t M a x y o).2.2) (fun u U => mw E t u U.heap) (eA E)) (vx_X (fun (u : mm) => ¬ (C0_weightIn t M a x y o).1 = 0 ∧ u = (C0_weightIn t M a x y o).2.2) (fun En q u U => XS E t (C0_weightIn t M a x y o).1 En q u U.heap) (eA E)) 63 738 (eA E) := by
  refine vx_ofWH (cc := cX0_weightIn) (maxL := 5) (ret := (some .int)) (hh := [((0 : Nat), (10 : Nat), (13 : Nat), (28 : Nat)), ((0 : Nat), (10 : Nat), (17 : Nat), (13 : Nat)), ((0 : Nat), (10 : Nat), (21 : Nat), (55 : Nat))]) (by decide) rfl ?_
  intro p e s m args below meth c0 s₁ B hml hv
  obtain ⟨rfl, hs, hm⟩ := hv
  have hx := B.exec
  have hb := B.bytes
  have hr := B.returns
  have hts := atoms_spec (ws := wsW_ yX0_weightIn cX0_weightIn 5 (some .int) [((0 : Nat), (10 : Nat), (13 : Nat), (28 : Nat)), ((0 : Nat), (10 : Nat), (17 : Nat), (13 : Nat)), ((0 : Nat), (10 : Nat), (21 : Nat), (55 : Nat))]) B.pre
  have hts : ∀ w ∈ lw_all, w.before _ s = true := fun w h => hts w (List.mem_cons_of_mem _ h)
  have hown : s.vm.findClass RX0 = some m.cls := findClass_of_methodNamed B.named
  have hlocks := B.notSynchronized
  have htab := vx_table (x := yX0_weightIn) B (atoms_spec (ws := wsW_ yX0_weightIn cX0_weightIn 5 (some .int) [((0 : Nat), (10 : Nat), (13 : Nat), (28 : Nat)), ((0 : Nat), (10 : Nat), (17 : Nat), (13 : Nat)), ((0 : Nat), (10 : Nat), (21 : Nat), (55 : Nat))]) B.pre _ List.mem_cons_self)
  have hS : va_S (eA E) s.heap s.heap [] := va_S.rf
  have hl := lv_entry ([.ref a, .int x, .int y, .ref o]) (n := 5) (Nat.le_of_ble_eq_true rfl)
  rw [lg_entry_eq]
  generalize (lg_sl ([.ref a, .int x, .int y, .ref o]) ++ List.replicate (5 - (lg_sl ([.ref a, .int x, .int y, .ref o])).length) Slot.unset).toArray = ls at hl ⊢
  have hl : lv_has ls 5 [(0, .ref (a)), (1, .int (x)), (2, .int (y)), (3, .ref (o))] := hl
  refine lv_aload_n hx hb dX0_weightIn_0 rfl (lv_at hl 3 rfl) ?_
  refine lv_iconst (v := (0 : Int32)) hx hb dX0_weightIn_1 (by decide) ?_
  refine lv_aload_n hx hb dX0_weightIn_2 rfl (lv_at hl 0 rfl) ?_
  refine lv_iload_n hx hb dX0_weightIn_3 rfl (lv_at hl 1 rfl) ?_
  refine lv_iload_n hx hb dX0_weightIn_4 rfl (lv_at hl 2 rfl) ?_
  refine kx_calli (BX := fun En q u H => XS E t (C1_weightIn t M (a) (x) (y)).1 En q u H) (vx_runV (As := [.int (x), .int (y)]) (rest := [.int ((0 : Int32)), .ref (o)]) ⟨hx, hb, hml, hown, hts⟩ (cm1_weightIn l E hl9 t M  (a) (x) (y) hA K S hw hT hC) (cwV 2 hts (lw_V q1102 q1103 q1104 q58 q1105) rfl rfl rfl (by decide +kernel) ⟨Nat.le_of_ble_eq_true rfl, Nat.le_of_ble_eq_true rfl⟩) (k_preV hs hm hS (mw.recv hs hm (mt_ne hA.z (by decide)) (ct1 hA.z) rfl)) rfl rfl hl.1 rfl (lv_room (Nat.le_of_ble_eq_true rfl)) dX0_weightIn_5 ⟨Nat.le_of_ble_eq_true rfl, Nat.le_of_ble_eq_true rfl⟩) hS (fun En_1 ce_1 q_1 u9_1 H locs hp_1 hB_1 hS h1_1 h2_1 h3_1 => ?_) (fun r_1 u_1 H locs hw_1 hm_1 hS => ?_)
  · obtain ⟨c_1, hu9_1⟩ := hp_1
    replace hu9_1 := hu9_1.symm
    subst hu9_1
    obtain ⟨hE_1, hm⟩ := hB_1
    have hk_1 := xc_weightIn t M a x y
    by_cases d_1_0 : (C1_weightIn t M (a) (x) (y)).1 = (3 : Int32)
    · have hE9 : En_1 = "java/lang/IndexOutOfBoundsException" := by rw [hE_1, d_1_0]; rfl
      subst hE9
      refine vx_catch (name := "java/lang/IndexOutOfBoundsException") hown [] ⟨0, 10, 13, 28⟩ [⟨0, 10, 17, 13⟩, ⟨0, 10, 21, 55⟩] htab (fun z hz => nomatch hz) (by decide) (by decide) (hts _ q805) (hs.2.2.1.at q846 rfl rfl) h1_1 h2_1 h3_1 ?_
      refine lv_astore (lv' := [(4, _), (0, _), (1, _), (2, _), (3, _)]) hx hb dX0_weightIn_13 hl (by decide) rfl (fun ls hl => ?_)
      refine lv_iconst (v := (1 : Int32)) hx hb dX0_weightIn_15 (by decide) ?_
      refine vx_ret ?_
      refine W.widen (k := 63) (n := 738) (Nat.le_of_ble_eq_true rfl) (Nat.le_of_ble_eq_true rfl) ?_
      exact W.iret (v := _) hx hb hr (fun t9 ht9 _ => ⟨⟨_, _, rfl, pp3 ((if_neg c_1).trans ((if_pos d_1_0).trans (rfl))), hb9 ht9 hm⟩, hS.F ht9⟩) hS.2.2 dX0_weightIn_16
    · skip
      by_cases d_1_1 : (C1_weightIn t M (a) (x) (y)).1 = (1 : Int32)
      · have hE9 : En_1 = "java/lang/IllegalArgumentException" := by rw [hE_1, d_1_1]; rfl
        subst hE9
        refine vx_catch (name := "java/lang/IllegalArgumentException") hown [⟨0, 10, 13, 28⟩] ⟨0, 10, 17, 13⟩ [⟨0, 10, 21, 55⟩] htab (fun z hz => by
          rcases List.mem_singleton.mp hz with rfl
          exact Or.inr ⟨by decide, "java/lang/IndexOutOfBoundsException", hts _ q805, hs.2.2.2.2.2.2.2 ("java/lang/IllegalArgumentException", "java/lang/IndexOutOfBoundsException") (by decide +kernel)⟩) (by decide) (by decide) (hts _ q694) (hs.2.2.1.at q707 rfl rfl) h1_1 h2_1 h3_1 ?_
        refine lv_astore (lv' := [(4, _), (0, _), (1, _), (2, _), (3, _)]) hx hb dX0_weightIn_17 hl (by decide) rfl (fun ls hl => ?_)
        refine lv_iconst (v := (2 : Int32)) hx hb dX0_weightIn_19 (by decide) ?_
        refine vx_ret ?_
        refine W.widen (k := 63) (n := 738) (Nat.le_of_ble_eq_true rfl) (Nat.le_of_ble_eq_true rfl) ?_
        exact W.iret (v := _) hx hb hr (fun t9 ht9 _ => ⟨⟨_, _, rfl, pp3 ((if_neg c_1).trans ((if_neg d_1_0).trans ((if_pos d_1_1).trans (rfl)))), hb9 ht9 hm⟩, hS.F ht9⟩) hS.2.2 dX0_weightIn_20
      · skip
        by_cases d_1_2 : (C1_weightIn t M (a) (x) (y)).1 = (4 : Int32)
        · have hE9 : En_1 = "java/util/NoSuchElementException" := by rw [hE_1, d_1_2]; rfl
          subst hE9
          refine vx_catch (name := "java/util/NoSuchElementException") hown [⟨0, 10, 13, 28⟩, ⟨0, 10, 17, 13⟩] ⟨0, 10, 21, 55⟩ [] htab (fun z hz => by
            rcases List.mem_cons.mp hz with rfl | hz
            · exact Or.inr ⟨by decide, "java/lang/IndexOutOfBoundsException", hts _ q805, hs.2.2.2.2.2.2.2 ("java/util/NoSuchElementException", "java/lang/IndexOutOfBoundsException") (by decide +kernel)⟩
            rcases List.mem_singleton.mp hz with rfl
            exact Or.inr ⟨by decide, "java/lang/IllegalArgumentException", hts _ q694, hs.2.2.2.2.2.2.2 ("java/util/NoSuchElementException", "java/lang/IllegalArgumentException") (by decide +kernel)⟩) (by decide) (by decide) (hts _ q1034) (hs.2.2.1.at q1048 rfl rfl) h1_1 h2_1 h3_1 ?_
          refine lv_astore (lv' := [(4, _), (0, _), (1, _), (2, _), (3, _)]) hx hb dX0_weightIn_21 hl (by decide) rfl (fun ls hl => ?_)
          refine lv_iconst (v := (3 : Int32)) hx hb dX0_weightIn_23 (by decide) ?_
          refine vx_ret ?_
          refine W.widen (k := 63) (n := 738) (Nat.le_of_ble_eq_true rfl) (Nat.le_of_ble_eq_true rfl) ?_
          exact W.iret (v := _) hx hb hr (fun t9 ht9 _ => ⟨⟨_, _, rfl, pp3 ((if_neg c_1).trans ((if_neg d_1_0).trans ((if_neg d_1_1).trans ((if_pos d_1_2).trans (rfl))))), hb9 ht9 hm⟩, hS.F ht9⟩) hS.2.2 dX0_weightIn_24
        · rcases hk_1 with h9 | h9 | h9 | h9
          · exact absurd h9 c_1
          · exact absurd h9 d_1_0
          · exact absurd h9 d_1_1
          · exact absurd h9 d_1_2
  · obtain ⟨c_1, hr_1, hu_1⟩ := hw_1
    have hm := hm_1
    refine lv_i2l hx hb dX0_weightIn_8 rfl ?_
    refine k_last hx hb hs hm hS ho (vi 0 (by decide) (by decide)) dX0_weightIn_9 (fun H locs hm hS => ?_)
    have hm : mw E t ((wL u_1 o (vp_updL (aL u_1 o) 0 (r_1).toInt64))) H := hm
    refine lv_goto (tgt := 25) hx hb dX0_weightIn_10 (by decide) ?_
    refine lv_iconst (v := (0 : Int32)) hx hb dX0_weightIn_25 (by decide) ?_
    subst hu_1
    subst hr_1
    refine vx_ret ?_
    refine W.widen (k := 63) (n := 738) (Nat.le_of_ble_eq_true rfl) (Nat.le_of_ble_eq_true rfl) ?_
    exact W.iret (v := _) hx hb hr (fun t9 ht9 _ => ⟨⟨_, _, rfl, pp3 ((if_pos c_1).trans (rfl)), hb9 ht9 hm⟩, hS.F ht9⟩) hS.2.2 dX0_weightIn_26
theorem xc_restore (t : mt) (M : mm) (c : Nat) : (C1_restore t M c ).1 = (0 : Int32) ∨ (C1_restore t M c ).1 = (5 : Int32) := by
  unfold C1_restore
  (try dsimp only)
  split <;> first | exact .inl rfl | exact .inr rfl
def C0_restore (t : mt) (M : mm) (a : Nat) (o : Nat) : Int32 × Int32 × mm :=
  let r_1 := (C1_restore t M (a) ).2.1;
  let u_1 := (C1_restore t M (a) ).2.2;
  if (C1_restore t M (a) ).1 = 0 then
    ((0 : Int32), (0 : Int32), (wL u_1 o (vp_updL (aL u_1 o) 0 (r_1).toInt64)))
  else
    if (C1_restore t M (a) ).1 = (5 : Int32) then
      ((0 : Int32), (1 : Int32), (C1_restore t M (a) ).2.2)
    else
      ((0 : Int32), (0 : Int32), M)
set_option maxHeartbeats 4000000 in
theorem cm0_restore (l : Launch) (E : mE) (hl9 : l.stackTraces = false) (t : mt) (M : mm) (a : Nat) (o : Nat) (hA : layA t a) (ho : t o = (60, 1)) (K S : List Nat) (hw : wfA M a K S) : vx_Met l yX0_restore (wsW_ yX0_restore cX0_restore 3 (some .int) [((0 : Nat), (8 : Nat), (11 : Nat), (109 : Nat))]) ({ frames := 8, cells := 1, slots := 6, locals := 160 }) (va_Pc [.ref a, .ref o] (wP E t M)) (va_Qi (fun (r : Int32) (u : mm) => (C0_restore t M a o).1 = 0 ∧ r = (C0_restore t M a o).2.1 ∧ u = (C0_restore t M a o).2.2) (fun u U => mw E t u U.heap) (eA E)) (vx_X (fun (u : mm) => ¬ (C0_restore t M a o).1 = 0 ∧ u = (C0_restore t M a o).2.2) (fun En q u U => XS E t (C0_restore t M a o).1 En q u U.heap) (eA E)) 1 6 (eA E) := by
  refine vx_ofWH (cc := cX0_restore) (maxL := 3) (ret := (some .int)) (hh := [((0 : Nat), (8 : Nat), (11 : Nat), (109 : Nat))]) (by decide) rfl ?_
  intro p e s m args below meth c0 s₁ B hml hv
  obtain ⟨rfl, hs, hm⟩ := hv
  have hx := B.exec
  have hb := B.bytes
  have hr := B.returns
  have hts := atoms_spec (ws := wsW_ yX0_restore cX0_restore 3 (some .int) [((0 : Nat), (8 : Nat), (11 : Nat), (109 : Nat))]) B.pre
  have hts : ∀ w ∈ lw_all, w.before _ s = true := fun w h => hts w (List.mem_cons_of_mem _ h)
  have hown : s.vm.findClass RX0 = some m.cls := findClass_of_methodNamed B.named
  have hlocks := B.notSynchronized
  have htab := vx_table (x := yX0_restore) B (atoms_spec (ws := wsW_ yX0_restore cX0_restore 3 (some .int) [((0 : Nat), (8 : Nat), (11 : Nat), (109 : Nat))]) B.pre _ List.mem_cons_self)
  have hS : va_S (eA E) s.heap s.heap [] := va_S.rf
  have hl := lv_entry ([.ref a, .ref o]) (n := 3) (Nat.le_of_ble_eq_true rfl)
  rw [lg_entry_eq]
  generalize (lg_sl ([.ref a, .ref o]) ++ List.replicate (3 - (lg_sl ([.ref a, .ref o])).length) Slot.unset).toArray = ls at hl ⊢
  have hl : lv_has ls 3 [(0, .ref (a)), (1, .ref (o))] := hl
  refine lv_aload_n hx hb dX0_restore_0 rfl (lv_at hl 1 rfl) ?_
  refine lv_iconst (v := (0 : Int32)) hx hb dX0_restore_1 (by decide) ?_
  refine lv_aload_n hx hb dX0_restore_2 rfl (lv_at hl 0 rfl) ?_
  refine kx_calli (BX := fun En q u H => XS E t (C1_restore t M (a) ).1 En q u H) (vx_runV (As := []) (rest := [.int ((0 : Int32)), .ref (o)]) ⟨hx, hb, hml, hown, hts⟩ (cm1_restore l E hl9 t M  (a)  hA K S hw) (cwV 0 hts (lw_V q1663 q1664 q1665 q58 q1666) rfl rfl rfl (by decide +kernel) ⟨Nat.le_of_ble_eq_true rfl, Nat.le_of_ble_eq_true rfl⟩) (k_preV hs hm hS (mw.recv hs hm (mt_ne hA.z (by decide)) (ct1 hA.z) rfl)) rfl rfl hl.1 rfl (lv_room (Nat.le_of_ble_eq_true rfl)) dX0_restore_3 ⟨Nat.le_of_ble_eq_true rfl, Nat.le_of_ble_eq_true rfl⟩) hS (fun En_1 ce_1 q_1 u9_1 H locs hp_1 hB_1 hS h1_1 h2_1 h3_1 => ?_) (fun r_1 u_1 H locs hw_1 hm_1 hS => ?_)
  · obtain ⟨c_1, hu9_1⟩ := hp_1
    replace hu9_1 := hu9_1.symm
    subst hu9_1
    obtain ⟨hE_1, hm⟩ := hB_1
    have hk_1 := xc_restore t M a 
    by_cases d_1_0 : (C1_restore t M (a) ).1 = (5 : Int32)
    · have hE9 : En_1 = "java/lang/IllegalStateException" := by rw [hE_1, d_1_0]; rfl
      subst hE9
      refine vx_catch (name := "java/lang/IllegalStateException") hown [] ⟨0, 8, 11, 109⟩ [] htab (fun z hz => nomatch hz) (by decide) (by decide) (hts _ q1244) (hs.2.2.1.at q405 rfl rfl) h1_1 h2_1 h3_1 ?_
      refine lv_astore_n (lv' := [(2, _), (0, _), (1, _)]) hx hb dX0_restore_11 rfl hl (by decide) rfl (fun ls hl => ?_)
      refine lv_iconst (v := (1 : Int32)) hx hb dX0_restore_12 (by decide) ?_
      refine vx_ret ?_
      refine W.widen (k := 1) (n := 6) (Nat.le_of_ble_eq_true rfl) (Nat.le_of_ble_eq_true rfl) ?_
      exact W.iret (v := _) hx hb hr (fun t9 ht9 _ => ⟨⟨_, _, rfl, pp3 ((if_neg c_1).trans ((if_pos d_1_0).trans (rfl))), hb9 ht9 hm⟩, hS.F ht9⟩) hS.2.2 dX0_restore_13
    · rcases hk_1 with h9 | h9
      · exact absurd h9 c_1
      · exact absurd h9 d_1_0
  · obtain ⟨c_1, hr_1, hu_1⟩ := hw_1
    have hm := hm_1
    refine lv_i2l hx hb dX0_restore_6 rfl ?_
    refine k_last hx hb hs hm hS ho (vi 0 (by decide) (by decide)) dX0_restore_7 (fun H locs hm hS => ?_)
    have hm : mw E t ((wL u_1 o (vp_updL (aL u_1 o) 0 (r_1).toInt64))) H := hm
    refine lv_goto (tgt := 14) hx hb dX0_restore_8 (by decide) ?_
    refine lv_iconst (v := (0 : Int32)) hx hb dX0_restore_14 (by decide) ?_
    subst hu_1
    subst hr_1
    refine vx_ret ?_
    refine W.widen (k := 1) (n := 6) (Nat.le_of_ble_eq_true rfl) (Nat.le_of_ble_eq_true rfl) ?_
    exact W.iret (v := _) hx hb hr (fun t9 ht9 _ => ⟨⟨_, _, rfl, pp3 ((if_pos c_1).trans (rfl)), hb9 ht9 hm⟩, hS.F ht9⟩) hS.2.2 dX0_restore_15
