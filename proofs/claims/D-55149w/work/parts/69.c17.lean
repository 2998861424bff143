set_option maxRecDepth 100000
/-! CliffPlots: what may be refused -/
def C1_member (t : mt) (M : mm) (c : Nat)  : Int32 × Int32 × mm :=
  let u_1 := (C1_tryOn t M (c) ).2;
  let r_2 := (C2_member t u_1 ((c + 65)) ).2.2.1;
  let u_2 := (C2_member t u_1 ((c + 65)) ).2.2.2;
  let r_3 := (C1_becomes t u_2 (c) (r_2)).1;
  let u_3 := (C1_becomes t u_2 (c) (r_2)).2;
  if (C2_member t u_1 ((c + 65)) ).1 = 0 then
    let r_3 := (C1_becomes t u_2 (c) (r_2)).1;
    let u_3 := (C1_becomes t u_2 (c) (r_2)).2;
    ((0 : Int32), r_3, u_3)
  else
    ((2 : Int32), (0 : Int32), (refM (C2_member t u_1 ((c + 65)) ).2.2.2 c (C2_member t u_1 ((c + 65)) ).1 (C2_member t u_1 ((c + 65)) ).2.1))
set_option maxHeartbeats 4000000 in
theorem cm1_member (l : Launch) (E : mE) (hl9 : l.stackTraces = false) (t : mt) (M : mm) (c : Nat)  (hA : layA t c) (K S : List Nat) (hw : wfA M c K S) (hT : wfK (C1_tryOn t M c).2 (c + 65)) (hO : wfK (C2_member t (C1_tryOn t M c).2 (c + 65) ).2.2.2 (c + 65)) : vx_Met l yX1_member (wsW_ yX1_member cX1_member 2 (some .int) [((0 : Nat), (11 : Nat), (12 : Nat), (7 : Nat))]) ({ frames := 10, cells := 2, slots := 14, locals := 202 }) (va_Pc [.ref c] (wP E t M)) (va_Qi (fun (r : Int32) (u : mm) => (C1_member t M c ).1 = 0 ∧ r = (C1_member t M c ).2.1 ∧ u = (C1_member t M c ).2.2) (fun u U => mw E t u U.heap) (eA E)) (vx_X (fun (u : mm) => ¬ (C1_member t M c ).1 = 0 ∧ u = (C1_member t M c ).2.2) (fun En q u U => XS E t (C1_member t M c ).1 En q u U.heap) (eA E)) 2 14 (eA E) := by
  refine vx_ofWH (cc := cX1_member) (maxL := 2) (ret := (some .int)) (hh := [((0 : Nat), (11 : Nat), (12 : Nat), (7 : Nat))]) (by decide) rfl ?_
  intro p e s m args below meth c0 s₁ B hml hv
  obtain ⟨rfl, hs, hm⟩ := hv
  have hx := B.exec
  have hb := B.bytes
  have hr := B.returns
  have hts := atoms_spec (ws := wsW_ yX1_member cX1_member 2 (some .int) [((0 : Nat), (11 : Nat), (12 : Nat), (7 : Nat))]) B.pre
  have hts : ∀ w ∈ lw_all, w.before _ s = true := fun w h => hts w (List.mem_cons_of_mem _ h)
  have hown : s.vm.findClass RX1 = some m.cls := findClass_of_methodNamed B.named
  have hlocks := B.notSynchronized
  have htab := vx_table (x := yX1_member) B (atoms_spec (ws := wsW_ yX1_member cX1_member 2 (some .int) [((0 : Nat), (11 : Nat), (12 : Nat), (7 : Nat))]) B.pre _ List.mem_cons_self)
  have hS : va_S (eA E) s.heap s.heap [] := va_S.rf
  have hl := lv_entry ([.ref c]) (n := 2) (Nat.le_of_ble_eq_true rfl)
  rw [lg_entry_eq]
  generalize (lg_sl ([.ref c]) ++ List.replicate (2 - (lg_sl ([.ref c])).length) Slot.unset).toArray = ls at hl ⊢
  have hl : lv_has ls 2 [(0, .ref (c))] := hl
  refine lv_aload_n hx hb dX1_member_0 rfl (lv_at hl 0 rfl) ?_
  refine lv_aload_n hx hb dX1_member_1 rfl (lv_at hl 0 rfl) ?_
  refine k_callq (va_runV (As := []) (rest := [.ref (c)]) ⟨hx, hb, hml, hown, hts⟩ (cm1_tryOn l E t M  (c)  hA K S hw) (cwV 0 hts (lw_V q742 q744 qs7 q58 q745) rfl rfl rfl (by decide +kernel) ⟨Nat.le_of_ble_eq_true rfl, Nat.le_of_ble_eq_true rfl⟩) (k_preV hs hm hS (mw.recv hs hm (mt_ne hA.z (by decide)) (ct1 hA.z) rfl)) rfl rfl hl.1 rfl (lv_room (Nat.le_of_ble_eq_true rfl)) dX1_member_2 ⟨Nat.le_of_ble_eq_true rfl, Nat.le_of_ble_eq_true rfl⟩) hS (fun r_1 u_1 H locs hw_1 hm_1 hS => ?_)
  obtain ⟨hr_1, hu_1⟩ := hw_1
  have hm := hm_1
  obtain ⟨n_1, hn_1⟩ : ∃ n, n = (C1_tryOn t M (c) ).1 := ⟨_, rfl⟩
  rw [← hn_1] at hr_1
  subst hr_1
  have hr_1 := hn_1
  clear hn_1
  obtain rfl : n_1 = (c + 65) := hr_1
  refine kx_calli (BX := fun En q u H => XR E t (C2_member t u_1 ((c + 65)) ).1 (C2_member t u_1 ((c + 65)) ).2.1 En q u H) (vx_runV (As := []) (rest := [.ref (c)]) ⟨hx, hb, hml, hown, hts⟩ (cm2_member l E hl9 t u_1  ((c + 65))  hA.c2 (show wfK u_1 (c + 65) from by rw [hu_1]; exact hT).n1) (cwV 0 hts (lw_V q746 q747 q748 q59 q749) rfl rfl rfl (by decide +kernel) ⟨Nat.le_of_ble_eq_true rfl, Nat.le_of_ble_eq_true rfl⟩) (k_preV hs hm hS (mw.recv hs hm (mt_ne (lay.z hA.c2) (by decide)) (ct2 (lay.z hA.c2)) rfl)) rfl rfl hl.1 rfl (lv_room (Nat.le_of_ble_eq_true rfl)) dX1_member_5 ⟨Nat.le_of_ble_eq_true rfl, Nat.le_of_ble_eq_true rfl⟩) hS (fun En_2 ce_2 q_2 u9_2 H locs hp_2 hB_2 hS h1_2 h2_2 h3_2 => ?_) (fun r_2 u_2 H locs hw_2 hm_2 hS => ?_)
  · obtain ⟨c_2, hu9_2⟩ := hp_2
    replace hu9_2 := hu9_2.symm
    subst hu9_2
    obtain ⟨hE_2, hq0_2, hm⟩ := hB_2
    subst hE_2
    refine vx_catch (name := "CliffPlots$Refused") hown [] ⟨0, 11, 12, 7⟩ [] htab (fun z hz => Or.inl (by revert z; decide)) (by decide) (by decide) (hts _ q741) (hs.2.2.1.at q754 rfl rfl) h1_2 h2_2 h3_2 ?_
    refine lv_astore_n (lv' := [(1, _), (0, _)]) hx hb dX1_member_12 rfl hl (by decide) rfl (fun ls hl => ?_)
    refine lv_aload_n hx hb dX1_member_13 rfl (lv_at hl 1 rfl) ?_
    refine lv_aload_n hx hb dX1_member_14 rfl (lv_at hl 0 rfl) ?_
    refine k_callr (B := fun (u : mm) r H => mw E t u H ∧ va_at E.1 clA (r, .inr (14, [])) H) (va_runV (As := [.ref q_2]) (rest := []) ⟨hx, hb, hml, hown, hts⟩ (cm1_because l E hl9 t ((C2_member t u_1 ((c + 65)) ).2.2.2) c q_2 ((C2_member t u_1 ((c + 65)) ).1) ((C2_member t u_1 ((c + 65)) ).2.1) hA.z hq0_2) (cwV 1 hts (lw_V q783 q785 qs9 q58 q786) rfl rfl rfl (by decide +kernel) ⟨Nat.le_of_ble_eq_true rfl, Nat.le_of_ble_eq_true rfl⟩) (k_preV hs hm hS (mw.recv hs hm (mt_ne (push_at hq0_2 hA.z) (by decide)) (ct1 (push_at hq0_2 hA.z)) rfl)) rfl rfl hl.1 rfl (lv_room (Nat.le_of_ble_eq_true rfl)) dX1_member_15 ⟨Nat.le_of_ble_eq_true rfl, Nat.le_of_ble_eq_true rfl⟩) hS (fun r9 u8 H locs hu8 hm8 hS => ?_)
    subst hu8
    obtain ⟨hm, hat8⟩ := hm8
    refine vx_athrow hx hb dX1_member_18 ?_
    obtain ⟨ce8, h1_2, h2_2, h3_2⟩ := kx_cell hs hat8 (show clA[14]? = some (RJ13, TJ13, 0) from rfl)
    subst hu_1
    have e9 : C1_member t M c  = _ := (if_neg c_2).trans (rfl)
    exact kx_out (BX := fun En q u H => XS E t (C1_member t M c ).1 En q u H) (u := _) (by rw [htab]; decide) hlocks (xs_leaf e9 (by decide) (show XS E t 2 (exN 2) r9 _ H from ⟨rfl, hm⟩)).1 (xs_leaf e9 (by decide) (show XS E t 2 (exN 2) r9 _ H from ⟨rfl, hm⟩)).2 hS h1_2 h2_2 h3_2 (Nat.le_of_ble_eq_true rfl) (Nat.le_of_ble_eq_true rfl)
  · obtain ⟨c_2, hr_2, hu_2⟩ := hw_2
    have hm := hm_2
    refine k_calli (va_runV (As := [.int (r_2)]) (rest := []) ⟨hx, hb, hml, hown, hts⟩ (cm1_becomes l E t u_2  (c) (r_2) hA K S (show wfA u_2 c K S from by rw [hu_2, hu_1]; exact (tryOn_wf hw hT).tried (far_member hT.n1) (hO))) (cwV 1 hts (lw_V q779 q781 qs8 q58 q782) rfl rfl rfl (by decide +kernel) ⟨Nat.le_of_ble_eq_true rfl, Nat.le_of_ble_eq_true rfl⟩) (k_preV hs hm hS (mw.recv hs hm (mt_ne hA.z (by decide)) (ct1 hA.z) rfl)) rfl rfl hl.1 rfl (lv_room (Nat.le_of_ble_eq_true rfl)) dX1_member_8 ⟨Nat.le_of_ble_eq_true rfl, Nat.le_of_ble_eq_true rfl⟩) hS (fun r_3 u_3 H locs hw_3 hm_3 hS => ?_)
    obtain ⟨hr_3, hu_3⟩ := hw_3
    have hm := hm_3
    subst hu_3
    subst hr_3
    subst hu_2
    subst hr_2
    subst hu_1
    refine vx_ret ?_
    refine W.widen (k := 2) (n := 14) (Nat.le_of_ble_eq_true rfl) (Nat.le_of_ble_eq_true rfl) ?_
    exact W.iret (v := _) hx hb hr (fun t9 ht9 _ => ⟨⟨_, _, rfl, pp3 ((if_pos c_2).trans (rfl)), hb9 ht9 hm⟩, hS.F ht9⟩) hS.2.2 dX1_member_11
def C1_dig (t : mt) (M : mm) (c : Nat) (x : Int32) (y : Int32) : Int32 × Int32 × mm :=
  let r_1 := C2_isMember t M ((c + 1)) (x);
  let x3 := if r_1 = 0 then (0 : Int32) else let r_8 := C1_isPlot (y); if r_8 = 0 then (0 : Int32) else (1 : Int32);
  let u_5 := (C1_tryOn t M (c) ).2;
  let r_6 := (C2_dig t u_5 ((c + 65)) (x) (y)).2.2.1;
  let u_6 := (C2_dig t u_5 ((c + 65)) (x) (y)).2.2.2;
  let r_7 := (C1_becomes t u_6 (c) (r_6)).1;
  let u_7 := (C1_becomes t u_6 (c) (r_6)).2;
  if x3 = 0 then
    ((3 : Int32), (0 : Int32), M)
  else
    let u_5 := (C1_tryOn t M (c) ).2;
    let r_6 := (C2_dig t u_5 ((c + 65)) (x) (y)).2.2.1;
    let u_6 := (C2_dig t u_5 ((c + 65)) (x) (y)).2.2.2;
    let r_7 := (C1_becomes t u_6 (c) (r_6)).1;
    let u_7 := (C1_becomes t u_6 (c) (r_6)).2;
    if (C2_dig t u_5 ((c + 65)) (x) (y)).1 = 0 then
      let r_7 := (C1_becomes t u_6 (c) (r_6)).1;
      let u_7 := (C1_becomes t u_6 (c) (r_6)).2;
      ((0 : Int32), r_7, u_7)
    else
      ((2 : Int32), (0 : Int32), (refM (C2_dig t u_5 ((c + 65)) (x) (y)).2.2.2 c (C2_dig t u_5 ((c + 65)) (x) (y)).1 (C2_dig t u_5 ((c + 65)) (x) (y)).2.1))
set_option maxHeartbeats 4000000 in
theorem cm1_dig (l : Launch) (E : mE) (hl9 : l.stackTraces = false) (t : mt) (M : mm) (c : Nat) (x : Int32) (y : Int32) (hA : layA t c) (K S : List Nat) (hw : wfA M c K S) (hT : wfK (C1_tryOn t M c).2 (c + 65)) (hO : (¬ C2_isMember t M (c + 1) x = 0) → ¬ C1_isPlot y = 0 → wfK (C2_dig t (C1_tryOn t M c).2 (c + 65) x y).2.2.2 (c + 65)) : vx_Met l yX1_dig (wsW_ yX1_dig cX1_dig 4 (some .int) [((26 : Nat), (39 : Nat), (40 : Nat), (7 : Nat))]) ({ frames := 10, cells := 4, slots := 28, locals := 205 }) (va_Pc [.ref c, .int x, .int y] (wP E t M)) (va_Qi (fun (r : Int32) (u : mm) => (C1_dig t M c x y).1 = 0 ∧ r = (C1_dig t M c x y).2.1 ∧ u = (C1_dig t M c x y).2.2) (fun u U => mw E t u U.heap) (eA E)) (vx_X (fun (u : mm) => ¬ (C1_dig t M c x y).1 = 0 ∧ u = (C1_dig t M c x y).2.2) (fun En q u U => XS E t (C1_dig t M c x y).1 En q u U.heap) (eA E)) 4 28 (eA E) := by
  refine vx_ofWH (cc := cX1_dig) (maxL := 4) (ret := (some .int)) (hh := [((26 : Nat), (39 : Nat), (40 : Nat), (7 : Nat))]) (by decide) rfl ?_
  intro p e s m args below meth c0 s₁ B hml hv
  obtain ⟨rfl, hs, hm⟩ := hv
  have hx := B.exec
  have hb := B.bytes
  have hr := B.returns
  have hts := atoms_spec (ws := wsW_ yX1_dig cX1_dig 4 (some .int) [((26 : Nat), (39 : Nat), (40 : Nat), (7 : Nat))]) B.pre
  have hts : ∀ w ∈ lw_all, w.before _ s = true := fun w h => hts w (List.mem_cons_of_mem _ h)
  have hown : s.vm.findClass RX1 = some m.cls := findClass_of_methodNamed B.named
  have hlocks := B.notSynchronized
  have htab := vx_table (x := yX1_dig) B (atoms_spec (ws := wsW_ yX1_dig cX1_dig 4 (some .int) [((26 : Nat), (39 : Nat), (40 : Nat), (7 : Nat))]) B.pre _ List.mem_cons_self)
  have hS : va_S (eA E) s.heap s.heap [] := va_S.rf
  have hl := lv_entry ([.ref c, .int x, .int y]) (n := 4) (Nat.le_of_ble_eq_true rfl)
  rw [lg_entry_eq]
  generalize (lg_sl ([.ref c, .int x, .int y]) ++ List.replicate (4 - (lg_sl ([.ref c, .int x, .int y])).length) Slot.unset).toArray = ls at hl ⊢
  have hl : lv_has ls 4 [(0, .ref (c)), (1, .int (x)), (2, .int (y))] := hl
  refine lv_aload_n hx hb dX1_dig_0 rfl (lv_at hl 0 rfl) ?_
  refine gf_100 hx hb hts hown hs hm hA.z (hts _ q519) dX1_dig_1 ?_
  refine lv_iload_n hx hb dX1_dig_4 rfl (lv_at hl 1 rfl) ?_
  refine k_calli (va_runV (As := [.int (x)]) (rest := []) ⟨hx, hb, hml, hown, hts⟩ (cm2_isMember l E t M  ((c + 1)) (x) hA.c1 ) (cwV 1 hts (lw_V q833 q834 q835 q59 q836) rfl rfl rfl (by decide +kernel) ⟨Nat.le_of_ble_eq_true rfl, Nat.le_of_ble_eq_true rfl⟩) (k_preV hs hm hS (mw.recv hs hm (mt_ne (lay.z hA.c1) (by decide)) (ct2 (lay.z hA.c1)) rfl)) rfl rfl hl.1 rfl (lv_room (Nat.le_of_ble_eq_true rfl)) dX1_dig_5 ⟨Nat.le_of_ble_eq_true rfl, Nat.le_of_ble_eq_true rfl⟩) hS (fun r_1 u_1 H locs hw_1 hm_1 hS => ?_)
  obtain ⟨hr_1, hu_1⟩ := hw_1
  replace hu_1 := hu_1.symm
  subst hu_1
  have hm := hm_1
  refine k_join (fun (x3 : Int32) H locs ls => x3 = (if r_1 = 0 then (0 : Int32) else let r_8 := C1_isPlot (y); if r_8 = 0 then (0 : Int32) else (1 : Int32)) ∧ mw E t (M) H ∧ va_S (eA E) s.heap H locs ∧ lv_has ls 4 [(0, .ref (c)), (1, .int (x)), (2, .int (y))]) (fun (x3 : Int32) ls => F0 m 23 ls [.int (x3)]) (fun x3 H locs ls hJ => ?_) (fun J3 => ?_)
  · obtain ⟨hX3, hm, hS, hl⟩ := hJ
    refine kx_callv (BX := fun En q u H => XS E t 3 En q u H) (vx_runS (As := [.int (x3)]) (rest := []) ⟨hx, hb, hml, hown, hts⟩ (cm1_checkIndex l E hl9 t M  (x3) ) (va_cwS 1 hts (lw_S q841 q842 q58 q843) rfl rfl rfl (by decide +kernel) ⟨Nat.le_of_ble_eq_true rfl, Nat.le_of_ble_eq_true rfl⟩) (k_preS hs hm hS) rfl rfl hl.1 rfl (lv_room (Nat.le_of_ble_eq_true rfl)) dX1_dig_23 ⟨Nat.le_of_ble_eq_true rfl, Nat.le_of_ble_eq_true rfl⟩) hS (fun En_4 ce_4 q_4 u9_4 H locs hp_4 hB_4 hS h1_4 h2_4 h3_4 => ?_) (fun u_4 H locs hw_4 hm_4 hS => ?_)
    · obtain ⟨c_4, hu9_4⟩ := hp_4
      replace hu9_4 := hu9_4.symm
      subst hu9_4
      subst hX3
      subst hr_1
      have e9 : C1_dig t M c x y = _ := (if_pos c_4).trans (rfl)
      exact kx_out (BX := fun En q u H => XS E t (C1_dig t M c x y).1 En q u H) (u := _) (by rw [htab]; decide) hlocks (xs_leaf e9 (by decide) hB_4).1 (xs_leaf e9 (by decide) hB_4).2 hS h1_4 h2_4 h3_4 (Nat.le_of_ble_eq_true rfl) (Nat.le_of_ble_eq_true rfl)
    · obtain ⟨c_4, hu_4⟩ := hw_4
      replace hu_4 := hu_4.symm
      subst hu_4
      have hm := hm_4
      have hp := and2 hX3 c_4
      have hp1 := cmem_ix hw.w1.n1 (hr_1 ▸ hp.1)
      have hp2 : ix 12 y := cplot_ix hp.2
      refine lv_aload_n hx hb dX1_dig_26 rfl (lv_at hl 0 rfl) ?_
      refine lv_aload_n hx hb dX1_dig_27 rfl (lv_at hl 0 rfl) ?_
      refine k_callq (va_runV (As := []) (rest := [.ref (c)]) ⟨hx, hb, hml, hown, hts⟩ (cm1_tryOn l E t M  (c)  hA K S hw) (cwV 0 hts (lw_V q742 q744 qs7 q58 q745) rfl rfl rfl (by decide +kernel) ⟨Nat.le_of_ble_eq_true rfl, Nat.le_of_ble_eq_true rfl⟩) (k_preV hs hm hS (mw.recv hs hm (mt_ne hA.z (by decide)) (ct1 hA.z) rfl)) rfl rfl hl.1 rfl (lv_room (Nat.le_of_ble_eq_true rfl)) dX1_dig_28 ⟨Nat.le_of_ble_eq_true rfl, Nat.le_of_ble_eq_true rfl⟩) hS (fun r_5 u_5 H locs hw_5 hm_5 hS => ?_)
      obtain ⟨hr_5, hu_5⟩ := hw_5
      have hm := hm_5
      obtain ⟨n_5, hn_5⟩ : ∃ n, n = (C1_tryOn t M (c) ).1 := ⟨_, rfl⟩
      rw [← hn_5] at hr_5
      subst hr_5
      have hr_5 := hn_5
      clear hn_5
      obtain rfl : n_5 = (c + 65) := hr_5
      refine lv_iload_n hx hb dX1_dig_31 rfl (lv_at hl 1 rfl) ?_
      refine lv_iload_n hx hb dX1_dig_32 rfl (lv_at hl 2 rfl) ?_
      refine kx_calli (BX := fun En q u H => XR E t (C2_dig t u_5 ((c + 65)) (x) (y)).1 (C2_dig t u_5 ((c + 65)) (x) (y)).2.1 En q u H) (vx_runV (As := [.int (x), .int (y)]) (rest := [.ref (c)]) ⟨hx, hb, hml, hown, hts⟩ (cm2_dig l E hl9 t u_5  ((c + 65)) (x) (y) hA.c2 hp1.1 hp2) (cwV 2 hts (lw_V q859 q860 q861 q59 q862) rfl rfl rfl (by decide +kernel) ⟨Nat.le_of_ble_eq_true rfl, Nat.le_of_ble_eq_true rfl⟩) (k_preV hs hm hS (mw.recv hs hm (mt_ne (lay.z hA.c2) (by decide)) (ct2 (lay.z hA.c2)) rfl)) rfl rfl hl.1 rfl (lv_room (Nat.le_of_ble_eq_true rfl)) dX1_dig_33 ⟨Nat.le_of_ble_eq_true rfl, Nat.le_of_ble_eq_true rfl⟩) hS (fun En_6 ce_6 q_6 u9_6 H locs hp_6 hB_6 hS h1_6 h2_6 h3_6 => ?_) (fun r_6 u_6 H locs hw_6 hm_6 hS => ?_)
      · obtain ⟨c_6, hu9_6⟩ := hp_6
        replace hu9_6 := hu9_6.symm
        subst hu9_6
        obtain ⟨hE_6, hq0_6, hm⟩ := hB_6
        subst hE_6
        refine vx_catch (name := "CliffPlots$Refused") hown [] ⟨26, 39, 40, 7⟩ [] htab (fun z hz => Or.inl (by revert z; decide)) (by decide) (by decide) (hts _ q741) (hs.2.2.1.at q754 rfl rfl) h1_6 h2_6 h3_6 ?_
        refine lv_astore_n (lv' := [(3, _), (0, _), (1, _), (2, _)]) hx hb dX1_dig_40 rfl hl (by decide) rfl (fun ls hl => ?_)
        refine lv_aload_n hx hb dX1_dig_41 rfl (lv_at hl 1 rfl) ?_
        refine lv_aload_n hx hb dX1_dig_42 rfl (lv_at hl 0 rfl) ?_
        refine k_callr (B := fun (u : mm) r H => mw E t u H ∧ va_at E.1 clA (r, .inr (14, [])) H) (va_runV (As := [.ref q_6]) (rest := []) ⟨hx, hb, hml, hown, hts⟩ (cm1_because l E hl9 t ((C2_dig t u_5 ((c + 65)) (x) (y)).2.2.2) c q_6 ((C2_dig t u_5 ((c + 65)) (x) (y)).1) ((C2_dig t u_5 ((c + 65)) (x) (y)).2.1) hA.z hq0_6) (cwV 1 hts (lw_V q783 q785 qs9 q58 q786) rfl rfl rfl (by decide +kernel) ⟨Nat.le_of_ble_eq_true rfl, Nat.le_of_ble_eq_true rfl⟩) (k_preV hs hm hS (mw.recv hs hm (mt_ne (push_at hq0_6 hA.z) (by decide)) (ct1 (push_at hq0_6 hA.z)) rfl)) rfl rfl hl.1 rfl (lv_room (Nat.le_of_ble_eq_true rfl)) dX1_dig_43 ⟨Nat.le_of_ble_eq_true rfl, Nat.le_of_ble_eq_true rfl⟩) hS (fun r9 u8 H locs hu8 hm8 hS => ?_)
        subst hu8
        obtain ⟨hm, hat8⟩ := hm8
        refine vx_athrow hx hb dX1_dig_46 ?_
        obtain ⟨ce8, h1_6, h2_6, h3_6⟩ := kx_cell hs hat8 (show clA[14]? = some (RJ13, TJ13, 0) from rfl)
        subst hu_5
        subst hX3
        subst hr_1
        have e9 : C1_dig t M c x y = _ := (if_neg c_4).trans ((if_neg c_6).trans (rfl))
        exact kx_out (BX := fun En q u H => XS E t (C1_dig t M c x y).1 En q u H) (u := _) (by rw [htab]; decide) hlocks (xs_leaf e9 (by decide) (show XS E t 2 (exN 2) r9 _ H from ⟨rfl, hm⟩)).1 (xs_leaf e9 (by decide) (show XS E t 2 (exN 2) r9 _ H from ⟨rfl, hm⟩)).2 hS h1_6 h2_6 h3_6 (Nat.le_of_ble_eq_true rfl) (Nat.le_of_ble_eq_true rfl)
      · obtain ⟨c_6, hr_6, hu_6⟩ := hw_6
        have hm := hm_6
        refine k_calli (va_runV (As := [.int (r_6)]) (rest := []) ⟨hx, hb, hml, hown, hts⟩ (cm1_becomes l E t u_6  (c) (r_6) hA K S (show wfA u_6 c K S from by rw [hu_6, hu_5]; exact (tryOn_wf hw hT).tried (far_dig hp1.1) (hO (hr_1 ▸ hp.1) (hp.2)))) (cwV 1 hts (lw_V q779 q781 qs8 q58 q782) rfl rfl rfl (by decide +kernel) ⟨Nat.le_of_ble_eq_true rfl, Nat.le_of_ble_eq_true rfl⟩) (k_preV hs hm hS (mw.recv hs hm (mt_ne hA.z (by decide)) (ct1 hA.z) rfl)) rfl rfl hl.1 rfl (lv_room (Nat.le_of_ble_eq_true rfl)) dX1_dig_36 ⟨Nat.le_of_ble_eq_true rfl, Nat.le_of_ble_eq_true rfl⟩) hS (fun r_7 u_7 H locs hw_7 hm_7 hS => ?_)
        obtain ⟨hr_7, hu_7⟩ := hw_7
        have hm := hm_7
        subst hu_7
        subst hr_7
        subst hu_6
        subst hr_6
        subst hu_5
        subst hX3
        subst hr_1
        refine vx_ret ?_
        refine W.widen (k := 4) (n := 28) (Nat.le_of_ble_eq_true rfl) (Nat.le_of_ble_eq_true rfl) ?_
        exact W.iret (v := _) hx hb hr (fun t9 ht9 _ => ⟨⟨_, _, rfl, pp3 ((if_neg c_4).trans ((if_pos c_6).trans (rfl))), hb9 ht9 hm⟩, hS.F ht9⟩) hS.2.2 dX1_dig_39
  · refine lv_if_eq (tgt := 22) hx hb dX1_dig_8 (by decide) (fun c_2 => ?_) (fun c_2 => ?_)
    · refine lv_iconst (v := (0 : Int32)) hx hb dX1_dig_22 (by decide) ?_
      exact J3 ((0 : Int32)) _ _ _ ⟨((if_pos c_2).trans (rfl)).symm, hm, hS, lv_sub hl [0, 1, 2] rfl⟩
    · refine lv_iload_n hx hb dX1_dig_11 rfl (lv_at hl 2 rfl) ?_
      refine k_calli (va_runS (As := [.int (y)]) (rest := []) ⟨hx, hb, hml, hown, hts⟩ (cm1_isPlot l E (y) _) (va_cwS 1 hts (lw_S q838 q839 q58 q840) rfl rfl rfl (by decide +kernel) ⟨Nat.le_of_ble_eq_true rfl, Nat.le_of_ble_eq_true rfl⟩) (k_pure hs hS) rfl rfl hl.1 rfl (lv_room (Nat.le_of_ble_eq_true rfl)) dX1_dig_12 ⟨Nat.le_of_ble_eq_true rfl, Nat.le_of_ble_eq_true rfl⟩) hS (fun r_8 u_8 H9 locs hw_8 hm_8 hS => ?_)
      replace hm_8 : _ = H9 := Eq.symm hm_8
      subst hm_8
      have hr_8 := hw_8
      refine lv_if_eq (tgt := 22) hx hb dX1_dig_15 (by decide) (fun c_9 => ?_) (fun c_9 => ?_)
      · refine lv_iconst (v := (0 : Int32)) hx hb dX1_dig_22 (by decide) ?_
        subst hr_8
        exact J3 (_) _ _ _ ⟨((if_neg c_2).trans ((if_pos c_9).trans (rfl))).symm, hm, hS, lv_sub hl [0, 1, 2] rfl⟩
      · refine lv_iconst (v := (1 : Int32)) hx hb dX1_dig_18 (by decide) ?_
        refine lv_goto (tgt := 23) hx hb dX1_dig_19 (by decide) ?_
        subst hr_8
        exact J3 (_) _ _ _ ⟨((if_neg c_2).trans ((if_neg c_9).trans (rfl))).symm, hm, hS, lv_sub hl [0, 1, 2] rfl⟩
def C1_rest (t : mt) (M : mm) (c : Nat) (x : Int32) : Int32 × Int32 × mm :=
  let r_1 := C2_isMember t M ((c + 1)) (x);
  let u_3 := (C1_tryOn t M (c) ).2;
  let r_4 := (C2_rest t u_3 ((c + 65)) (x)).2.2.1;
  let u_4 := (C2_rest t u_3 ((c + 65)) (x)).2.2.2;
  let r_5 := (C1_becomes t u_4 (c) (r_4)).1;
  let u_5 := (C1_becomes t u_4 (c) (r_4)).2;
  if r_1 = 0 then
    ((3 : Int32), (0 : Int32), M)
  else
    let u_3 := (C1_tryOn t M (c) ).2;
    let r_4 := (C2_rest t u_3 ((c + 65)) (x)).2.2.1;
    let u_4 := (C2_rest t u_3 ((c + 65)) (x)).2.2.2;
    let r_5 := (C1_becomes t u_4 (c) (r_4)).1;
    let u_5 := (C1_becomes t u_4 (c) (r_4)).2;
    if (C2_rest t u_3 ((c + 65)) (x)).1 = 0 then
      let r_5 := (C1_becomes t u_4 (c) (r_4)).1;
      let u_5 := (C1_becomes t u_4 (c) (r_4)).2;
      ((0 : Int32), r_5, u_5)
    else
      ((2 : Int32), (0 : Int32), (refM (C2_rest t u_3 ((c + 65)) (x)).2.2.2 c (C2_rest t u_3 ((c + 65)) (x)).1 (C2_rest t u_3 ((c + 65)) (x)).2.1))
set_option maxHeartbeats 4000000 in
theorem cm1_rest (l : Launch) (E : mE) (hl9 : l.stackTraces = false) (t : mt) (M : mm) (c : Nat) (x : Int32) (hA : layA t c) (K S : List Nat) (hw : wfA M c K S) (hT : wfK (C1_tryOn t M c).2 (c + 65)) (hO : (¬ C2_isMember t M (c + 1) x = 0) → wfK (C2_rest t (C1_tryOn t M c).2 (c + 65) x).2.2.2 (c + 65)) : vx_Met l yX1_rest (wsW_ yX1_rest cX1_rest 3 (some .int) [((11 : Nat), (23 : Nat), (24 : Nat), (7 : Nat))]) ({ frames := 10, cells := 3, slots := 20, locals := 205 }) (va_Pc [.ref c, .int x] (wP E t M)) (va_Qi (fun (r : Int32) (u : mm) => (C1_rest t M c x).1 = 0 ∧ r = (C1_rest t M c x).2.1 ∧ u = (C1_rest t M c x).2.2) (fun u U => mw E t u U.heap) (eA E)) (vx_X (fun (u : mm) => ¬ (C1_rest t M c x).1 = 0 ∧ u = (C1_rest t M c x).2.2) (fun En q u U => XS E t (C1_rest t M c x).1 En q u U.heap) (eA E)) 3 20 (eA E) := by
  refine vx_ofWH (cc := cX1_rest) (maxL := 3) (ret := (some .int)) (hh := [((11 : Nat), (23 : Nat), (24 : Nat), (7 : Nat))]) (by decide) rfl ?_
  intro p e s m args below meth c0 s₁ B hml hv
  obtain ⟨rfl, hs, hm⟩ := hv
  have hx := B.exec
  have hb := B.bytes
  have hr := B.returns
  have hts := atoms_spec (ws := wsW_ yX1_rest cX1_rest 3 (some .int) [((11 : Nat), (23 : Nat), (24 : Nat), (7 : Nat))]) B.pre
  have hts : ∀ w ∈ lw_all, w.before _ s = true := fun w h => hts w (List.mem_cons_of_mem _ h)
  have hown : s.vm.findClass RX1 = some m.cls := findClass_of_methodNamed B.named
  have hlocks := B.notSynchronized
  have htab := vx_table (x := yX1_rest) B (atoms_spec (ws := wsW_ yX1_rest cX1_rest 3 (some .int) [((11 : Nat), (23 : Nat), (24 : Nat), (7 : Nat))]) B.pre _ List.mem_cons_self)
  have hS : va_S (eA E) s.heap s.heap [] := va_S.rf
  have hl := lv_entry ([.ref c, .int x]) (n := 3) (Nat.le_of_ble_eq_true rfl)
  rw [lg_entry_eq]
  generalize (lg_sl ([.ref c, .int x]) ++ List.replicate (3 - (lg_sl ([.ref c, .int x])).length) Slot.unset).toArray = ls at hl ⊢
  have hl : lv_has ls 3 [(0, .ref (c)), (1, .int (x))] := hl
  refine lv_aload_n hx hb dX1_rest_0 rfl (lv_at hl 0 rfl) ?_
  refine gf_100 hx hb hts hown hs hm hA.z (hts _ q519) dX1_rest_1 ?_
  refine lv_iload_n hx hb dX1_rest_4 rfl (lv_at hl 1 rfl) ?_
  refine k_calli (va_runV (As := [.int (x)]) (rest := []) ⟨hx, hb, hml, hown, hts⟩ (cm2_isMember l E t M  ((c + 1)) (x) hA.c1 ) (cwV 1 hts (lw_V q833 q834 q835 q59 q836) rfl rfl rfl (by decide +kernel) ⟨Nat.le_of_ble_eq_true rfl, Nat.le_of_ble_eq_true rfl⟩) (k_preV hs hm hS (mw.recv hs hm (mt_ne (lay.z hA.c1) (by decide)) (ct2 (lay.z hA.c1)) rfl)) rfl rfl hl.1 rfl (lv_room (Nat.le_of_ble_eq_true rfl)) dX1_rest_5 ⟨Nat.le_of_ble_eq_true rfl, Nat.le_of_ble_eq_true rfl⟩) hS (fun r_1 u_1 H locs hw_1 hm_1 hS => ?_)
  obtain ⟨hr_1, hu_1⟩ := hw_1
  replace hu_1 := hu_1.symm
  subst hu_1
  have hm := hm_1
  refine kx_callv (BX := fun En q u H => XS E t 3 En q u H) (vx_runS (As := [.int (r_1)]) (rest := []) ⟨hx, hb, hml, hown, hts⟩ (cm1_checkIndex l E hl9 t M  (r_1) ) (va_cwS 1 hts (lw_S q841 q842 q58 q843) rfl rfl rfl (by decide +kernel) ⟨Nat.le_of_ble_eq_true rfl, Nat.le_of_ble_eq_true rfl⟩) (k_preS hs hm hS) rfl rfl hl.1 rfl (lv_room (Nat.le_of_ble_eq_true rfl)) dX1_rest_8 ⟨Nat.le_of_ble_eq_true rfl, Nat.le_of_ble_eq_true rfl⟩) hS (fun En_2 ce_2 q_2 u9_2 H locs hp_2 hB_2 hS h1_2 h2_2 h3_2 => ?_) (fun u_2 H locs hw_2 hm_2 hS => ?_)
  · obtain ⟨c_2, hu9_2⟩ := hp_2
    replace hu9_2 := hu9_2.symm
    subst hu9_2
    subst hr_1
    have e9 : C1_rest t M c x = _ := (if_pos c_2).trans (rfl)
    exact kx_out (BX := fun En q u H => XS E t (C1_rest t M c x).1 En q u H) (u := _) (by rw [htab]; decide) hlocks (xs_leaf e9 (by decide) hB_2).1 (xs_leaf e9 (by decide) hB_2).2 hS h1_2 h2_2 h3_2 (Nat.le_of_ble_eq_true rfl) (Nat.le_of_ble_eq_true rfl)
  · obtain ⟨c_2, hu_2⟩ := hw_2
    replace hu_2 := hu_2.symm
    subst hu_2
    have hm := hm_2
    have hp := c_2
    have hp1 := cmem_ix hw.w1.n1 (hr_1 ▸ hp)
    refine lv_aload_n hx hb dX1_rest_11 rfl (lv_at hl 0 rfl) ?_
    refine lv_aload_n hx hb dX1_rest_12 rfl (lv_at hl 0 rfl) ?_
    refine k_callq (va_runV (As := []) (rest := [.ref (c)]) ⟨hx, hb, hml, hown, hts⟩ (cm1_tryOn l E t M  (c)  hA K S hw) (cwV 0 hts (lw_V q742 q744 qs7 q58 q745) rfl rfl rfl (by decide +kernel) ⟨Nat.le_of_ble_eq_true rfl, Nat.le_of_ble_eq_true rfl⟩) (k_preV hs hm hS (mw.recv hs hm (mt_ne hA.z (by decide)) (ct1 hA.z) rfl)) rfl rfl hl.1 rfl (lv_room (Nat.le_of_ble_eq_true rfl)) dX1_rest_13 ⟨Nat.le_of_ble_eq_true rfl, Nat.le_of_ble_eq_true rfl⟩) hS (fun r_3 u_3 H locs hw_3 hm_3 hS => ?_)
    obtain ⟨hr_3, hu_3⟩ := hw_3
    have hm := hm_3
    obtain ⟨n_3, hn_3⟩ : ∃ n, n = (C1_tryOn t M (c) ).1 := ⟨_, rfl⟩
    rw [← hn_3] at hr_3
    subst hr_3
    have hr_3 := hn_3
    clear hn_3
    obtain rfl : n_3 = (c + 65) := hr_3
    refine lv_iload_n hx hb dX1_rest_16 rfl (lv_at hl 1 rfl) ?_
    refine kx_calli (BX := fun En q u H => XR E t (C2_rest t u_3 ((c + 65)) (x)).1 (C2_rest t u_3 ((c + 65)) (x)).2.1 En q u H) (vx_runV (As := [.int (x)]) (rest := [.ref (c)]) ⟨hx, hb, hml, hown, hts⟩ (cm2_rest l E hl9 t u_3  ((c + 65)) (x) hA.c2 hp1.1 (by rw [hu_3]; exact hT.mp _ hp1.1.nlt (by rw [(show gI (C1_tryOn t M c).2 211 (c + 65) = gI M 211 (c + 1) from take_gI t M (c + 65) (c + 1) (by decide) (by decide))]; exact hp1.2))) (cwV 1 hts (lw_V q871 q872 q873 q59 q874) rfl rfl rfl (by decide +kernel) ⟨Nat.le_of_ble_eq_true rfl, Nat.le_of_ble_eq_true rfl⟩) (k_preV hs hm hS (mw.recv hs hm (mt_ne (lay.z hA.c2) (by decide)) (ct2 (lay.z hA.c2)) rfl)) rfl rfl hl.1 rfl (lv_room (Nat.le_of_ble_eq_true rfl)) dX1_rest_17 ⟨Nat.le_of_ble_eq_true rfl, Nat.le_of_ble_eq_true rfl⟩) hS (fun En_4 ce_4 q_4 u9_4 H locs hp_4 hB_4 hS h1_4 h2_4 h3_4 => ?_) (fun r_4 u_4 H locs hw_4 hm_4 hS => ?_)
    · obtain ⟨c_4, hu9_4⟩ := hp_4
      replace hu9_4 := hu9_4.symm
      subst hu9_4
      obtain ⟨hE_4, hq0_4, hm⟩ := hB_4
      subst hE_4
      refine vx_catch (name := "CliffPlots$Refused") hown [] ⟨11, 23, 24, 7⟩ [] htab (fun z hz => Or.inl (by revert z; decide)) (by decide) (by decide) (hts _ q741) (hs.2.2.1.at q754 rfl rfl) h1_4 h2_4 h3_4 ?_
      refine lv_astore_n (lv' := [(2, _), (0, _), (1, _)]) hx hb dX1_rest_24 rfl hl (by decide) rfl (fun ls hl => ?_)
      refine lv_aload_n hx hb dX1_rest_25 rfl (lv_at hl 1 rfl) ?_
      refine lv_aload_n hx hb dX1_rest_26 rfl (lv_at hl 0 rfl) ?_
      refine k_callr (B := fun (u : mm) r H => mw E t u H ∧ va_at E.1 clA (r, .inr (14, [])) H) (va_runV (As := [.ref q_4]) (rest := []) ⟨hx, hb, hml, hown, hts⟩ (cm1_because l E hl9 t ((C2_rest t u_3 ((c + 65)) (x)).2.2.2) c q_4 ((C2_rest t u_3 ((c + 65)) (x)).1) ((C2_rest t u_3 ((c + 65)) (x)).2.1) hA.z hq0_4) (cwV 1 hts (lw_V q783 q785 qs9 q58 q786) rfl rfl rfl (by decide +kernel) ⟨Nat.le_of_ble_eq_true rfl, Nat.le_of_ble_eq_true rfl⟩) (k_preV hs hm hS (mw.recv hs hm (mt_ne (push_at hq0_4 hA.z) (by decide)) (ct1 (push_at hq0_4 hA.z)) rfl)) rfl rfl hl.1 rfl (lv_room (Nat.le_of_ble_eq_true rfl)) dX1_rest_27 ⟨Nat.le_of_ble_eq_true rfl, Nat.le_of_ble_eq_true rfl⟩) hS (fun r9 u8 H locs hu8 hm8 hS => ?_)
      subst hu8
      obtain ⟨hm, hat8⟩ := hm8
      refine vx_athrow hx hb dX1_rest_30 ?_
      obtain ⟨ce8, h1_4, h2_4, h3_4⟩ := kx_cell hs hat8 (show clA[14]? = some (RJ13, TJ13, 0) from rfl)
      subst hu_3
      subst hr_1
      have e9 : C1_rest t M c x = _ := (if_neg c_2).trans ((if_neg c_4).trans (rfl))
      exact kx_out (BX := fun En q u H => XS E t (C1_rest t M c x).1 En q u H) (u := _) (by rw [htab]; decide) hlocks (xs_leaf e9 (by decide) (show XS E t 2 (exN 2) r9 _ H from ⟨rfl, hm⟩)).1 (xs_leaf e9 (by decide) (show XS E t 2 (exN 2) r9 _ H from ⟨rfl, hm⟩)).2 hS h1_4 h2_4 h3_4 (Nat.le_of_ble_eq_true rfl) (Nat.le_of_ble_eq_true rfl)
    · obtain ⟨c_4, hr_4, hu_4⟩ := hw_4
      have hm := hm_4
      refine k_calli (va_runV (As := [.int (r_4)]) (rest := []) ⟨hx, hb, hml, hown, hts⟩ (cm1_becomes l E t u_4  (c) (r_4) hA K S (show wfA u_4 c K S from by rw [hu_4, hu_3]; exact (tryOn_wf hw hT).tried (far_rest hp1.1) (hO (hr_1 ▸ hp)))) (cwV 1 hts (lw_V q779 q781 qs8 q58 q782) rfl rfl rfl (by decide +kernel) ⟨Nat.le_of_ble_eq_true rfl, Nat.le_of_ble_eq_true rfl⟩) (k_preV hs hm hS (mw.recv hs hm (mt_ne hA.z (by decide)) (ct1 hA.z) rfl)) rfl rfl hl.1 rfl (lv_room (Nat.le_of_ble_eq_true rfl)) dX1_rest_20 ⟨Nat.le_of_ble_eq_true rfl, Nat.le_of_ble_eq_true rfl⟩) hS (fun r_5 u_5 H locs hw_5 hm_5 hS => ?_)
      obtain ⟨hr_5, hu_5⟩ := hw_5
      have hm := hm_5
      subst hu_5
      subst hr_5
      subst hu_4
      subst hr_4
      subst hu_3
      subst hr_1
      refine vx_ret ?_
      refine W.widen (k := 3) (n := 20) (Nat.le_of_ble_eq_true rfl) (Nat.le_of_ble_eq_true rfl) ?_
      exact W.iret (v := _) hx hb hr (fun t9 ht9 _ => ⟨⟨_, _, rfl, pp3 ((if_neg c_2).trans ((if_pos c_4).trans (rfl))), hb9 ht9 hm⟩, hS.F ht9⟩) hS.2.2 dX1_rest_23
def C1_shed (t : mt) (M : mm) (c : Nat) (x : Int32) : Int32 × Int32 × mm :=
  let r_1 := C1_isPlot (x);
  let u_3 := (C1_tryOn t M (c) ).2;
  let r_4 := (C2_shed t u_3 ((c + 65)) (x)).2.2.1;
  let u_4 := (C2_shed t u_3 ((c + 65)) (x)).2.2.2;
  let r_5 := (C1_becomes t u_4 (c) (r_4)).1;
  let u_5 := (C1_becomes t u_4 (c) (r_4)).2;
  if r_1 = 0 then
    ((3 : Int32), (0 : Int32), M)
  else
    let u_3 := (C1_tryOn t M (c) ).2;
    let r_4 := (C2_shed t u_3 ((c + 65)) (x)).2.2.1;
    let u_4 := (C2_shed t u_3 ((c + 65)) (x)).2.2.2;
    let r_5 := (C1_becomes t u_4 (c) (r_4)).1;
    let u_5 := (C1_becomes t u_4 (c) (r_4)).2;
    if (C2_shed t u_3 ((c + 65)) (x)).1 = 0 then
      let r_5 := (C1_becomes t u_4 (c) (r_4)).1;
      let u_5 := (C1_becomes t u_4 (c) (r_4)).2;
      ((0 : Int32), r_5, u_5)
    else
      ((2 : Int32), (0 : Int32), (refM (C2_shed t u_3 ((c + 65)) (x)).2.2.2 c (C2_shed t u_3 ((c + 65)) (x)).1 (C2_shed t u_3 ((c + 65)) (x)).2.1))
set_option maxHeartbeats 4000000 in
theorem cm1_shed (l : Launch) (E : mE) (hl9 : l.stackTraces = false) (t : mt) (M : mm) (c : Nat) (x : Int32) (hA : layA t c) (K S : List Nat) (hw : wfA M c K S) (hT : wfK (C1_tryOn t M c).2 (c + 65)) (hO : ¬ C1_isPlot x = 0 → wfK (C2_shed t (C1_tryOn t M c).2 (c + 65) x).2.2.2 (c + 65)) : vx_Met l yX1_shed (wsW_ yX1_shed cX1_shed 3 (some .int) [((7 : Nat), (19 : Nat), (20 : Nat), (7 : Nat))]) ({ frames := 10, cells := 4, slots := 28, locals := 204 }) (va_Pc [.ref c, .int x] (wP E t M)) (va_Qi (fun (r : Int32) (u : mm) => (C1_shed t M c x).1 = 0 ∧ r = (C1_shed t M c x).2.1 ∧ u = (C1_shed t M c x).2.2) (fun u U => mw E t u U.heap) (eA E)) (vx_X (fun (u : mm) => ¬ (C1_shed t M c x).1 = 0 ∧ u = (C1_shed t M c x).2.2) (fun En q u U => XS E t (C1_shed t M c x).1 En q u U.heap) (eA E)) 4 28 (eA E) := by
  refine vx_ofWH (cc := cX1_shed) (maxL := 3) (ret := (some .int)) (hh := [((7 : Nat), (19 : Nat), (20 : Nat), (7 : Nat))]) (by decide) rfl ?_
  intro p e s m args below meth c0 s₁ B hml hv
  obtain ⟨rfl, hs, hm⟩ := hv
  have hx := B.exec
  have hb := B.bytes
  have hr := B.returns
  have hts := atoms_spec (ws := wsW_ yX1_shed cX1_shed 3 (some .int) [((7 : Nat), (19 : Nat), (20 : Nat), (7 : Nat))]) B.pre
  have hts : ∀ w ∈ lw_all, w.before _ s = true := fun w h => hts w (List.mem_cons_of_mem _ h)
  have hown : s.vm.findClass RX1 = some m.cls := findClass_of_methodNamed B.named
  have hlocks := B.notSynchronized
  have htab := vx_table (x := yX1_shed) B (atoms_spec (ws := wsW_ yX1_shed cX1_shed 3 (some .int) [((7 : Nat), (19 : Nat), (20 : Nat), (7 : Nat))]) B.pre _ List.mem_cons_self)
  have hS : va_S (eA E) s.heap s.heap [] := va_S.rf
  have hl := lv_entry ([.ref c, .int x]) (n := 3) (Nat.le_of_ble_eq_true rfl)
  rw [lg_entry_eq]
  generalize (lg_sl ([.ref c, .int x]) ++ List.replicate (3 - (lg_sl ([.ref c, .int x])).length) Slot.unset).toArray = ls at hl ⊢
  have hl : lv_has ls 3 [(0, .ref (c)), (1, .int (x))] := hl
  refine lv_iload_n hx hb dX1_shed_0 rfl (lv_at hl 1 rfl) ?_
  refine k_calli (va_runS (As := [.int (x)]) (rest := []) ⟨hx, hb, hml, hown, hts⟩ (cm1_isPlot l E (x) _) (va_cwS 1 hts (lw_S q838 q839 q58 q840) rfl rfl rfl (by decide +kernel) ⟨Nat.le_of_ble_eq_true rfl, Nat.le_of_ble_eq_true rfl⟩) (k_pure hs hS) rfl rfl hl.1 rfl (lv_room (Nat.le_of_ble_eq_true rfl)) dX1_shed_1 ⟨Nat.le_of_ble_eq_true rfl, Nat.le_of_ble_eq_true rfl⟩) hS (fun r_1 u_1 H9 locs hw_1 hm_1 hS => ?_)
  replace hm_1 : _ = H9 := Eq.symm hm_1
  subst hm_1
  have hr_1 := hw_1
  refine kx_callv (BX := fun En q u H => XS E t 3 En q u H) (vx_runS (As := [.int (r_1)]) (rest := []) ⟨hx, hb, hml, hown, hts⟩ (cm1_checkIndex l E hl9 t M  (r_1) ) (va_cwS 1 hts (lw_S q841 q842 q58 q843) rfl rfl rfl (by decide +kernel) ⟨Nat.le_of_ble_eq_true rfl, Nat.le_of_ble_eq_true rfl⟩) (k_preS hs hm hS) rfl rfl hl.1 rfl (lv_room (Nat.le_of_ble_eq_true rfl)) dX1_shed_4 ⟨Nat.le_of_ble_eq_true rfl, Nat.le_of_ble_eq_true rfl⟩) hS (fun En_2 ce_2 q_2 u9_2 H locs hp_2 hB_2 hS h1_2 h2_2 h3_2 => ?_) (fun u_2 H locs hw_2 hm_2 hS => ?_)
  · obtain ⟨c_2, hu9_2⟩ := hp_2
    replace hu9_2 := hu9_2.symm
    subst hu9_2
    subst hr_1
    have e9 : C1_shed t M c x = _ := (if_pos c_2).trans (rfl)
    exact kx_out (BX := fun En q u H => XS E t (C1_shed t M c x).1 En q u H) (u := _) (by rw [htab]; decide) hlocks (xs_leaf e9 (by decide) hB_2).1 (xs_leaf e9 (by decide) hB_2).2 hS h1_2 h2_2 h3_2 (Nat.le_of_ble_eq_true rfl) (Nat.le_of_ble_eq_true rfl)
  · obtain ⟨c_2, hu_2⟩ := hw_2
    replace hu_2 := hu_2.symm
    subst hu_2
    have hm := hm_2
    have hp := c_2
    refine lv_aload_n hx hb dX1_shed_7 rfl (lv_at hl 0 rfl) ?_
    refine lv_aload_n hx hb dX1_shed_8 rfl (lv_at hl 0 rfl) ?_
    refine k_callq (va_runV (As := []) (rest := [.ref (c)]) ⟨hx, hb, hml, hown, hts⟩ (cm1_tryOn l E t M  (c)  hA K S hw) (cwV 0 hts (lw_V q742 q744 qs7 q58 q745) rfl rfl rfl (by decide +kernel) ⟨Nat.le_of_ble_eq_true rfl, Nat.le_of_ble_eq_true rfl⟩) (k_preV hs hm hS (mw.recv hs hm (mt_ne hA.z (by decide)) (ct1 hA.z) rfl)) rfl rfl hl.1 rfl (lv_room (Nat.le_of_ble_eq_true rfl)) dX1_shed_9 ⟨Nat.le_of_ble_eq_true rfl, Nat.le_of_ble_eq_true rfl⟩) hS (fun r_3 u_3 H locs hw_3 hm_3 hS => ?_)
    obtain ⟨hr_3, hu_3⟩ := hw_3
    have hm := hm_3
    obtain ⟨n_3, hn_3⟩ : ∃ n, n = (C1_tryOn t M (c) ).1 := ⟨_, rfl⟩
    rw [← hn_3] at hr_3
    subst hr_3
    have hr_3 := hn_3
    clear hn_3
    obtain rfl : n_3 = (c + 65) := hr_3
    refine lv_iload_n hx hb dX1_shed_12 rfl (lv_at hl 1 rfl) ?_
    refine kx_calli (BX := fun En q u H => XR E t (C2_shed t u_3 ((c + 65)) (x)).1 (C2_shed t u_3 ((c + 65)) (x)).2.1 En q u H) (vx_runV (As := [.int (x)]) (rest := [.ref (c)]) ⟨hx, hb, hml, hown, hts⟩ (cm2_shed l E hl9 t u_3  ((c + 65)) (x) hA.c2 (show wfK u_3 (c + 65) from by rw [hu_3]; exact hT).n2) (cwV 1 hts (lw_V q1147 q1148 q1149 q59 q1150) rfl rfl rfl (by decide +kernel) ⟨Nat.le_of_ble_eq_true rfl, Nat.le_of_ble_eq_true rfl⟩) (k_preV hs hm hS (mw.recv hs hm (mt_ne (lay.z hA.c2) (by decide)) (ct2 (lay.z hA.c2)) rfl)) rfl rfl hl.1 rfl (lv_room (Nat.le_of_ble_eq_true rfl)) dX1_shed_13 ⟨Nat.le_of_ble_eq_true rfl, Nat.le_of_ble_eq_true rfl⟩) hS (fun En_4 ce_4 q_4 u9_4 H locs hp_4 hB_4 hS h1_4 h2_4 h3_4 => ?_) (fun r_4 u_4 H locs hw_4 hm_4 hS => ?_)
    · obtain ⟨c_4, hu9_4⟩ := hp_4
      replace hu9_4 := hu9_4.symm
      subst hu9_4
      obtain ⟨hE_4, hq0_4, hm⟩ := hB_4
      subst hE_4
      refine vx_catch (name := "CliffPlots$Refused") hown [] ⟨7, 19, 20, 7⟩ [] htab (fun z hz => Or.inl (by revert z; decide)) (by decide) (by decide) (hts _ q741) (hs.2.2.1.at q754 rfl rfl) h1_4 h2_4 h3_4 ?_
      refine lv_astore_n (lv' := [(2, _), (0, _), (1, _)]) hx hb dX1_shed_20 rfl hl (by decide) rfl (fun ls hl => ?_)
      refine lv_aload_n hx hb dX1_shed_21 rfl (lv_at hl 1 rfl) ?_
      refine lv_aload_n hx hb dX1_shed_22 rfl (lv_at hl 0 rfl) ?_
      refine k_callr (B := fun (u : mm) r H => mw E t u H ∧ va_at E.1 clA (r, .inr (14, [])) H) (va_runV (As := [.ref q_4]) (rest := []) ⟨hx, hb, hml, hown, hts⟩ (cm1_because l E hl9 t ((C2_shed t u_3 ((c + 65)) (x)).2.2.2) c q_4 ((C2_shed t u_3 ((c + 65)) (x)).1) ((C2_shed t u_3 ((c + 65)) (x)).2.1) hA.z hq0_4) (cwV 1 hts (lw_V q783 q785 qs9 q58 q786) rfl rfl rfl (by decide +kernel) ⟨Nat.le_of_ble_eq_true rfl, Nat.le_of_ble_eq_true rfl⟩) (k_preV hs hm hS (mw.recv hs hm (mt_ne (push_at hq0_4 hA.z) (by decide)) (ct1 (push_at hq0_4 hA.z)) rfl)) rfl rfl hl.1 rfl (lv_room (Nat.le_of_ble_eq_true rfl)) dX1_shed_23 ⟨Nat.le_of_ble_eq_true rfl, Nat.le_of_ble_eq_true rfl⟩) hS (fun r9 u8 H locs hu8 hm8 hS => ?_)
      subst hu8
      obtain ⟨hm, hat8⟩ := hm8
      refine vx_athrow hx hb dX1_shed_26 ?_
      obtain ⟨ce8, h1_4, h2_4, h3_4⟩ := kx_cell hs hat8 (show clA[14]? = some (RJ13, TJ13, 0) from rfl)
      subst hu_3
      subst hr_1
      have e9 : C1_shed t M c x = _ := (if_neg c_2).trans ((if_neg c_4).trans (rfl))
      exact kx_out (BX := fun En q u H => XS E t (C1_shed t M c x).1 En q u H) (u := _) (by rw [htab]; decide) hlocks (xs_leaf e9 (by decide) (show XS E t 2 (exN 2) r9 _ H from ⟨rfl, hm⟩)).1 (xs_leaf e9 (by decide) (show XS E t 2 (exN 2) r9 _ H from ⟨rfl, hm⟩)).2 hS h1_4 h2_4 h3_4 (Nat.le_of_ble_eq_true rfl) (Nat.le_of_ble_eq_true rfl)
    · obtain ⟨c_4, hr_4, hu_4⟩ := hw_4
      have hm := hm_4
      refine k_calli (va_runV (As := [.int (r_4)]) (rest := []) ⟨hx, hb, hml, hown, hts⟩ (cm1_becomes l E t u_4  (c) (r_4) hA K S (show wfA u_4 c K S from by rw [hu_4, hu_3]; exact (tryOn_wf hw hT).tried (far_shed hT.n2) (hO (hr_1 ▸ hp)))) (cwV 1 hts (lw_V q779 q781 qs8 q58 q782) rfl rfl rfl (by decide +kernel) ⟨Nat.le_of_ble_eq_true rfl, Nat.le_of_ble_eq_true rfl⟩) (k_preV hs hm hS (mw.recv hs hm (mt_ne hA.z (by decide)) (ct1 hA.z) rfl)) rfl rfl hl.1 rfl (lv_room (Nat.le_of_ble_eq_true rfl)) dX1_shed_16 ⟨Nat.le_of_ble_eq_true rfl, Nat.le_of_ble_eq_true rfl⟩) hS (fun r_5 u_5 H locs hw_5 hm_5 hS => ?_)
      obtain ⟨hr_5, hu_5⟩ := hw_5
      have hm := hm_5
      subst hu_5
      subst hr_5
      subst hu_4
      subst hr_4
      subst hu_3
      subst hr_1
      refine vx_ret ?_
      refine W.widen (k := 4) (n := 28) (Nat.le_of_ble_eq_true rfl) (Nat.le_of_ble_eq_true rfl) ?_
      exact W.iret (v := _) hx hb hr (fun t9 ht9 _ => ⟨⟨_, _, rfl, pp3 ((if_neg c_2).trans ((if_pos c_4).trans (rfl))), hb9 ht9 hm⟩, hS.F ht9⟩) hS.2.2 dX1_shed_19
def C1_rope (t : mt) (M : mm) (c : Nat) (x : Int32) : Int32 × Int32 × mm :=
  let r_1 := C2_isShed t M ((c + 1)) (x);
  let u_3 := (C1_tryOn t M (c) ).2;
  let r_4 := (C2_rope t u_3 ((c + 65)) (x)).2.2.1;
  let u_4 := (C2_rope t u_3 ((c + 65)) (x)).2.2.2;
  let r_5 := (C1_becomes t u_4 (c) (r_4)).1;
  let u_5 := (C1_becomes t u_4 (c) (r_4)).2;
  if r_1 = 0 then
    ((3 : Int32), (0 : Int32), M)
  else
    let u_3 := (C1_tryOn t M (c) ).2;
    let r_4 := (C2_rope t u_3 ((c + 65)) (x)).2.2.1;
    let u_4 := (C2_rope t u_3 ((c + 65)) (x)).2.2.2;
    let r_5 := (C1_becomes t u_4 (c) (r_4)).1;
    let u_5 := (C1_becomes t u_4 (c) (r_4)).2;
    if (C2_rope t u_3 ((c + 65)) (x)).1 = 0 then
      let r_5 := (C1_becomes t u_4 (c) (r_4)).1;
      let u_5 := (C1_becomes t u_4 (c) (r_4)).2;
      ((0 : Int32), r_5, u_5)
    else
      ((2 : Int32), (0 : Int32), (refM (C2_rope t u_3 ((c + 65)) (x)).2.2.2 c (C2_rope t u_3 ((c + 65)) (x)).1 (C2_rope t u_3 ((c + 65)) (x)).2.1))
set_option maxHeartbeats 4000000 in
theorem cm1_rope (l : Launch) (E : mE) (hl9 : l.stackTraces = false) (t : mt) (M : mm) (c : Nat) (x : Int32) (hA : layA t c) (K S : List Nat) (hw : wfA M c K S) (hT : wfK (C1_tryOn t M c).2 (c + 65)) (hO : (¬ C2_isShed t M (c + 1) x = 0) → wfK (C2_rope t (C1_tryOn t M c).2 (c + 65) x).2.2.2 (c + 65)) : vx_Met l yX1_rope (wsW_ yX1_rope cX1_rope 3 (some .int) [((11 : Nat), (23 : Nat), (24 : Nat), (7 : Nat))]) ({ frames := 10, cells := 4, slots := 28, locals := 204 }) (va_Pc [.ref c, .int x] (wP E t M)) (va_Qi (fun (r : Int32) (u : mm) => (C1_rope t M c x).1 = 0 ∧ r = (C1_rope t M c x).2.1 ∧ u = (C1_rope t M c x).2.2) (fun u U => mw E t u U.heap) (eA E)) (vx_X (fun (u : mm) => ¬ (C1_rope t M c x).1 = 0 ∧ u = (C1_rope t M c x).2.2) (fun En q u U => XS E t (C1_rope t M c x).1 En q u U.heap) (eA E)) 4 28 (eA E) := by
  refine vx_ofWH (cc := cX1_rope) (maxL := 3) (ret := (some .int)) (hh := [((11 : Nat), (23 : Nat), (24 : Nat), (7 : Nat))]) (by decide) rfl ?_
  intro p e s m args below meth c0 s₁ B hml hv
  obtain ⟨rfl, hs, hm⟩ := hv
  have hx := B.exec
  have hb := B.bytes
  have hr := B.returns
  have hts := atoms_spec (ws := wsW_ yX1_rope cX1_rope 3 (some .int) [((11 : Nat), (23 : Nat), (24 : Nat), (7 : Nat))]) B.pre
  have hts : ∀ w ∈ lw_all, w.before _ s = true := fun w h => hts w (List.mem_cons_of_mem _ h)
  have hown : s.vm.findClass RX1 = some m.cls := findClass_of_methodNamed B.named
  have hlocks := B.notSynchronized
  have htab := vx_table (x := yX1_rope) B (atoms_spec (ws := wsW_ yX1_rope cX1_rope 3 (some .int) [((11 : Nat), (23 : Nat), (24 : Nat), (7 : Nat))]) B.pre _ List.mem_cons_self)
  have hS : va_S (eA E) s.heap s.heap [] := va_S.rf
  have hl := lv_entry ([.ref c, .int x]) (n := 3) (Nat.le_of_ble_eq_true rfl)
  rw [lg_entry_eq]
  generalize (lg_sl ([.ref c, .int x]) ++ List.replicate (3 - (lg_sl ([.ref c, .int x])).length) Slot.unset).toArray = ls at hl ⊢
  have hl : lv_has ls 3 [(0, .ref (c)), (1, .int (x))] := hl
  refine lv_aload_n hx hb dX1_rope_0 rfl (lv_at hl 0 rfl) ?_
  refine gf_100 hx hb hts hown hs hm hA.z (hts _ q519) dX1_rope_1 ?_
  refine lv_iload_n hx hb dX1_rope_4 rfl (lv_at hl 1 rfl) ?_
  refine k_calli (va_runV (As := [.int (x)]) (rest := []) ⟨hx, hb, hml, hown, hts⟩ (cm2_isShed l E t M  ((c + 1)) (x) hA.c1 ) (cwV 1 hts (lw_V q1163 q1164 q1165 q59 q1166) rfl rfl rfl (by decide +kernel) ⟨Nat.le_of_ble_eq_true rfl, Nat.le_of_ble_eq_true rfl⟩) (k_preV hs hm hS (mw.recv hs hm (mt_ne (lay.z hA.c1) (by decide)) (ct2 (lay.z hA.c1)) rfl)) rfl rfl hl.1 rfl (lv_room (Nat.le_of_ble_eq_true rfl)) dX1_rope_5 ⟨Nat.le_of_ble_eq_true rfl, Nat.le_of_ble_eq_true rfl⟩) hS (fun r_1 u_1 H locs hw_1 hm_1 hS => ?_)
  obtain ⟨hr_1, hu_1⟩ := hw_1
  replace hu_1 := hu_1.symm
  subst hu_1
  have hm := hm_1
  refine kx_callv (BX := fun En q u H => XS E t 3 En q u H) (vx_runS (As := [.int (r_1)]) (rest := []) ⟨hx, hb, hml, hown, hts⟩ (cm1_checkIndex l E hl9 t M  (r_1) ) (va_cwS 1 hts (lw_S q841 q842 q58 q843) rfl rfl rfl (by decide +kernel) ⟨Nat.le_of_ble_eq_true rfl, Nat.le_of_ble_eq_true rfl⟩) (k_preS hs hm hS) rfl rfl hl.1 rfl (lv_room (Nat.le_of_ble_eq_true rfl)) dX1_rope_8 ⟨Nat.le_of_ble_eq_true rfl, Nat.le_of_ble_eq_true rfl⟩) hS (fun En_2 ce_2 q_2 u9_2 H locs hp_2 hB_2 hS h1_2 h2_2 h3_2 => ?_) (fun u_2 H locs hw_2 hm_2 hS => ?_)
  · obtain ⟨c_2, hu9_2⟩ := hp_2
    replace hu9_2 := hu9_2.symm
    subst hu9_2
    subst hr_1
    have e9 : C1_rope t M c x = _ := (if_pos c_2).trans (rfl)
    exact kx_out (BX := fun En q u H => XS E t (C1_rope t M c x).1 En q u H) (u := _) (by rw [htab]; decide) hlocks (xs_leaf e9 (by decide) hB_2).1 (xs_leaf e9 (by decide) hB_2).2 hS h1_2 h2_2 h3_2 (Nat.le_of_ble_eq_true rfl) (Nat.le_of_ble_eq_true rfl)
  · obtain ⟨c_2, hu_2⟩ := hw_2
    replace hu_2 := hu_2.symm
    subst hu_2
    have hm := hm_2
    have hp := c_2
    have hp1 := cshd_ix hw.w1.n2 (hr_1 ▸ hp)
    refine lv_aload_n hx hb dX1_rope_11 rfl (lv_at hl 0 rfl) ?_
    refine lv_aload_n hx hb dX1_rope_12 rfl (lv_at hl 0 rfl) ?_
    refine k_callq (va_runV (As := []) (rest := [.ref (c)]) ⟨hx, hb, hml, hown, hts⟩ (cm1_tryOn l E t M  (c)  hA K S hw) (cwV 0 hts (lw_V q742 q744 qs7 q58 q745) rfl rfl rfl (by decide +kernel) ⟨Nat.le_of_ble_eq_true rfl, Nat.le_of_ble_eq_true rfl⟩) (k_preV hs hm hS (mw.recv hs hm (mt_ne hA.z (by decide)) (ct1 hA.z) rfl)) rfl rfl hl.1 rfl (lv_room (Nat.le_of_ble_eq_true rfl)) dX1_rope_13 ⟨Nat.le_of_ble_eq_true rfl, Nat.le_of_ble_eq_true rfl⟩) hS (fun r_3 u_3 H locs hw_3 hm_3 hS => ?_)
    obtain ⟨hr_3, hu_3⟩ := hw_3
    have hm := hm_3
    obtain ⟨n_3, hn_3⟩ : ∃ n, n = (C1_tryOn t M (c) ).1 := ⟨_, rfl⟩
    rw [← hn_3] at hr_3
    subst hr_3
    have hr_3 := hn_3
    clear hn_3
    obtain rfl : n_3 = (c + 65) := hr_3
    refine lv_iload_n hx hb dX1_rope_16 rfl (lv_at hl 1 rfl) ?_
    refine kx_calli (BX := fun En q u H => XR E t (C2_rope t u_3 ((c + 65)) (x)).1 (C2_rope t u_3 ((c + 65)) (x)).2.1 En q u H) (vx_runV (As := [.int (x)]) (rest := [.ref (c)]) ⟨hx, hb, hml, hown, hts⟩ (cm2_rope l E hl9 t u_3  ((c + 65)) (x) hA.c2 hp1.1) (cwV 1 hts (lw_V q1167 q1168 q1169 q59 q1170) rfl rfl rfl (by decide +kernel) ⟨Nat.le_of_ble_eq_true rfl, Nat.le_of_ble_eq_true rfl⟩) (k_preV hs hm hS (mw.recv hs hm (mt_ne (lay.z hA.c2) (by decide)) (ct2 (lay.z hA.c2)) rfl)) rfl rfl hl.1 rfl (lv_room (Nat.le_of_ble_eq_true rfl)) dX1_rope_17 ⟨Nat.le_of_ble_eq_true rfl, Nat.le_of_ble_eq_true rfl⟩) hS (fun En_4 ce_4 q_4 u9_4 H locs hp_4 hB_4 hS h1_4 h2_4 h3_4 => ?_) (fun r_4 u_4 H locs hw_4 hm_4 hS => ?_)
    · obtain ⟨c_4, hu9_4⟩ := hp_4
      replace hu9_4 := hu9_4.symm
      subst hu9_4
      obtain ⟨hE_4, hq0_4, hm⟩ := hB_4
      subst hE_4
      refine vx_catch (name := "CliffPlots$Refused") hown [] ⟨11, 23, 24, 7⟩ [] htab (fun z hz => Or.inl (by revert z; decide)) (by decide) (by decide) (hts _ q741) (hs.2.2.1.at q754 rfl rfl) h1_4 h2_4 h3_4 ?_
      refine lv_astore_n (lv' := [(2, _), (0, _), (1, _)]) hx hb dX1_rope_24 rfl hl (by decide) rfl (fun ls hl => ?_)
      refine lv_aload_n hx hb dX1_rope_25 rfl (lv_at hl 1 rfl) ?_
      refine lv_aload_n hx hb dX1_rope_26 rfl (lv_at hl 0 rfl) ?_
      refine k_callr (B := fun (u : mm) r H => mw E t u H ∧ va_at E.1 clA (r, .inr (14, [])) H) (va_runV (As := [.ref q_4]) (rest := []) ⟨hx, hb, hml, hown, hts⟩ (cm1_because l E hl9 t ((C2_rope t u_3 ((c + 65)) (x)).2.2.2) c q_4 ((C2_rope t u_3 ((c + 65)) (x)).1) ((C2_rope t u_3 ((c + 65)) (x)).2.1) hA.z hq0_4) (cwV 1 hts (lw_V q783 q785 qs9 q58 q786) rfl rfl rfl (by decide +kernel) ⟨Nat.le_of_ble_eq_true rfl, Nat.le_of_ble_eq_true rfl⟩) (k_preV hs hm hS (mw.recv hs hm (mt_ne (push_at hq0_4 hA.z) (by decide)) (ct1 (push_at hq0_4 hA.z)) rfl)) rfl rfl hl.1 rfl (lv_room (Nat.le_of_ble_eq_true rfl)) dX1_rope_27 ⟨Nat.le_of_ble_eq_true rfl, Nat.le_of_ble_eq_true rfl⟩) hS (fun r9 u8 H locs hu8 hm8 hS => ?_)
      subst hu8
      obtain ⟨hm, hat8⟩ := hm8
      refine vx_athrow hx hb dX1_rope_30 ?_
      obtain ⟨ce8, h1_4, h2_4, h3_4⟩ := kx_cell hs hat8 (show clA[14]? = some (RJ13, TJ13, 0) from rfl)
      subst hu_3
      subst hr_1
      have e9 : C1_rope t M c x = _ := (if_neg c_2).trans ((if_neg c_4).trans (rfl))
      exact kx_out (BX := fun En q u H => XS E t (C1_rope t M c x).1 En q u H) (u := _) (by rw [htab]; decide) hlocks (xs_leaf e9 (by decide) (show XS E t 2 (exN 2) r9 _ H from ⟨rfl, hm⟩)).1 (xs_leaf e9 (by decide) (show XS E t 2 (exN 2) r9 _ H from ⟨rfl, hm⟩)).2 hS h1_4 h2_4 h3_4 (Nat.le_of_ble_eq_true rfl) (Nat.le_of_ble_eq_true rfl)
    · obtain ⟨c_4, hr_4, hu_4⟩ := hw_4
      have hm := hm_4
      refine k_calli (va_runV (As := [.int (r_4)]) (rest := []) ⟨hx, hb, hml, hown, hts⟩ (cm1_becomes l E t u_4  (c) (r_4) hA K S (show wfA u_4 c K S from by rw [hu_4, hu_3]; exact (tryOn_wf hw hT).tried (far_rope hp1.1) (hO (hr_1 ▸ hp)))) (cwV 1 hts (lw_V q779 q781 qs8 q58 q782) rfl rfl rfl (by decide +kernel) ⟨Nat.le_of_ble_eq_true rfl, Nat.le_of_ble_eq_true rfl⟩) (k_preV hs hm hS (mw.recv hs hm (mt_ne hA.z (by decide)) (ct1 hA.z) rfl)) rfl rfl hl.1 rfl (lv_room (Nat.le_of_ble_eq_true rfl)) dX1_rope_20 ⟨Nat.le_of_ble_eq_true rfl, Nat.le_of_ble_eq_true rfl⟩) hS (fun r_5 u_5 H locs hw_5 hm_5 hS => ?_)
      obtain ⟨hr_5, hu_5⟩ := hw_5
      have hm := hm_5
      subst hu_5
      subst hr_5
      subst hu_4
      subst hr_4
      subst hu_3
      subst hr_1
      refine vx_ret ?_
      refine W.widen (k := 4) (n := 28) (Nat.le_of_ble_eq_true rfl) (Nat.le_of_ble_eq_true rfl) ?_
      exact W.iret (v := _) hx hb hr (fun t9 ht9 _ => ⟨⟨_, _, rfl, pp3 ((if_neg c_2).trans ((if_pos c_4).trans (rfl))), hb9 ht9 hm⟩, hS.F ht9⟩) hS.2.2 dX1_rope_23
def C1_seedling (t : mt) (M : mm) (c : Nat) (x : Int32) (y : Int32) : Int32 × Int32 × mm :=
  let r_1 := C1_in (y) ((0 : Int32)) ((1 : Int32));
  let r_3 := C1_isKind (x);
  let u_5 := (C1_tryOn t M (c) ).2;
  let r_6 := (C2_seedling t u_5 ((c + 65)) (x) (y)).2.2.1;
  let u_6 := (C2_seedling t u_5 ((c + 65)) (x) (y)).2.2.2;
  let r_7 := (C1_becomes t u_6 (c) (r_6)).1;
  let u_7 := (C1_becomes t u_6 (c) (r_6)).2;
  if r_1 = 0 then
    ((3 : Int32), (0 : Int32), M)
  else
    let r_3 := C1_isKind (x);
    let u_5 := (C1_tryOn t M (c) ).2;
    let r_6 := (C2_seedling t u_5 ((c + 65)) (x) (y)).2.2.1;
    let u_6 := (C2_seedling t u_5 ((c + 65)) (x) (y)).2.2.2;
    let r_7 := (C1_becomes t u_6 (c) (r_6)).1;
    let u_7 := (C1_becomes t u_6 (c) (r_6)).2;
    if r_3 = 0 then
      ((1 : Int32), (0 : Int32), M)
    else
      let u_5 := (C1_tryOn t M (c) ).2;
      let r_6 := (C2_seedling t u_5 ((c + 65)) (x) (y)).2.2.1;
      let u_6 := (C2_seedling t u_5 ((c + 65)) (x) (y)).2.2.2;
      let r_7 := (C1_becomes t u_6 (c) (r_6)).1;
      let u_7 := (C1_becomes t u_6 (c) (r_6)).2;
      if (C2_seedling t u_5 ((c + 65)) (x) (y)).1 = 0 then
        let r_7 := (C1_becomes t u_6 (c) (r_6)).1;
        let u_7 := (C1_becomes t u_6 (c) (r_6)).2;
        ((0 : Int32), r_7, u_7)
      else
        ((2 : Int32), (0 : Int32), (refM (C2_seedling t u_5 ((c + 65)) (x) (y)).2.2.2 c (C2_seedling t u_5 ((c + 65)) (x) (y)).1 (C2_seedling t u_5 ((c + 65)) (x) (y)).2.1))
set_option maxHeartbeats 4000000 in
theorem cm1_seedling (l : Launch) (E : mE) (hl9 : l.stackTraces = false) (t : mt) (M : mm) (c : Nat) (x : Int32) (y : Int32) (hA : layA t c) (K S : List Nat) (hw : wfA M c K S) (hT : wfK (C1_tryOn t M c).2 (c + 65)) (hO : ¬ C1_in y 0 1 = 0 → ¬ C1_isKind x = 0 → wfK (C2_seedling t (C1_tryOn t M c).2 (c + 65) x y).2.2.2 (c + 65)) : vx_Met l yX1_seedling (wsW_ yX1_seedling cX1_seedling 4 (some .int) [((16 : Nat), (29 : Nat), (30 : Nat), (7 : Nat))]) ({ frames := 10, cells := 8, slots := 98, locals := 10426 }) (va_Pc [.ref c, .int x, .int y] (wP E t M)) (va_Qi (fun (r : Int32) (u : mm) => (C1_seedling t M c x y).1 = 0 ∧ r = (C1_seedling t M c x y).2.1 ∧ u = (C1_seedling t M c x y).2.2) (fun u U => mw E t u U.heap) (eA E)) (vx_X (fun (u : mm) => ¬ (C1_seedling t M c x y).1 = 0 ∧ u = (C1_seedling t M c x y).2.2) (fun En q u U => XS E t (C1_seedling t M c x y).1 En q u U.heap) (eA E)) 8 98 (eA E) := by
  refine vx_ofWH (cc := cX1_seedling) (maxL := 4) (ret := (some .int)) (hh := [((16 : Nat), (29 : Nat), (30 : Nat), (7 : Nat))]) (by decide) rfl ?_
  intro p e s m args below meth c0 s₁ B hml hv
  obtain ⟨rfl, hs, hm⟩ := hv
  have hx := B.exec
  have hb := B.bytes
  have hr := B.returns
  have hts := atoms_spec (ws := wsW_ yX1_seedling cX1_seedling 4 (some .int) [((16 : Nat), (29 : Nat), (30 : Nat), (7 : Nat))]) B.pre
  have hts : ∀ w ∈ lw_all, w.before _ s = true := fun w h => hts w (List.mem_cons_of_mem _ h)
  have hown : s.vm.findClass RX1 = some m.cls := findClass_of_methodNamed B.named
  have hlocks := B.notSynchronized
  have htab := vx_table (x := yX1_seedling) B (atoms_spec (ws := wsW_ yX1_seedling cX1_seedling 4 (some .int) [((16 : Nat), (29 : Nat), (30 : Nat), (7 : Nat))]) B.pre _ List.mem_cons_self)
  have hS : va_S (eA E) s.heap s.heap [] := va_S.rf
  have hl := lv_entry ([.ref c, .int x, .int y]) (n := 4) (Nat.le_of_ble_eq_true rfl)
  rw [lg_entry_eq]
  generalize (lg_sl ([.ref c, .int x, .int y]) ++ List.replicate (4 - (lg_sl ([.ref c, .int x, .int y])).length) Slot.unset).toArray = ls at hl ⊢
  have hl : lv_has ls 4 [(0, .ref (c)), (1, .int (x)), (2, .int (y))] := hl
  refine lv_iload_n hx hb dX1_seedling_0 rfl (lv_at hl 2 rfl) ?_
  refine lv_iconst (v := (0 : Int32)) hx hb dX1_seedling_1 (by decide) ?_
  refine lv_iconst (v := (1 : Int32)) hx hb dX1_seedling_2 (by decide) ?_
  refine k_calli (va_runS (As := [.int (y), .int ((0 : Int32)), .int ((1 : Int32))]) (rest := []) ⟨hx, hb, hml, hown, hts⟩ (cm1_in l E (y) ((0 : Int32)) ((1 : Int32)) _) (va_cwS 3 hts (lw_S q699 q700 q58 q701) rfl rfl rfl (by decide +kernel) ⟨Nat.le_of_ble_eq_true rfl, Nat.le_of_ble_eq_true rfl⟩) (k_pure hs hS) rfl rfl hl.1 rfl (lv_room (Nat.le_of_ble_eq_true rfl)) dX1_seedling_3 ⟨Nat.le_of_ble_eq_true rfl, Nat.le_of_ble_eq_true rfl⟩) hS (fun r_1 u_1 H9 locs hw_1 hm_1 hS => ?_)
  replace hm_1 : _ = H9 := Eq.symm hm_1
  subst hm_1
  have hr_1 := hw_1
  refine kx_callv (BX := fun En q u H => XS E t 3 En q u H) (vx_runS (As := [.int (r_1)]) (rest := []) ⟨hx, hb, hml, hown, hts⟩ (cm1_checkIndex l E hl9 t M  (r_1) ) (va_cwS 1 hts (lw_S q841 q842 q58 q843) rfl rfl rfl (by decide +kernel) ⟨Nat.le_of_ble_eq_true rfl, Nat.le_of_ble_eq_true rfl⟩) (k_preS hs hm hS) rfl rfl hl.1 rfl (lv_room (Nat.le_of_ble_eq_true rfl)) dX1_seedling_6 ⟨Nat.le_of_ble_eq_true rfl, Nat.le_of_ble_eq_true rfl⟩) hS (fun En_2 ce_2 q_2 u9_2 H locs hp_2 hB_2 hS h1_2 h2_2 h3_2 => ?_) (fun u_2 H locs hw_2 hm_2 hS => ?_)
  · obtain ⟨c_2, hu9_2⟩ := hp_2
    replace hu9_2 := hu9_2.symm
    subst hu9_2
    subst hr_1
    have e9 : C1_seedling t M c x y = _ := (if_pos c_2).trans (rfl)
    exact kx_out (BX := fun En q u H => XS E t (C1_seedling t M c x y).1 En q u H) (u := _) (by rw [htab]; decide) hlocks (xs_leaf e9 (by decide) hB_2).1 (xs_leaf e9 (by decide) hB_2).2 hS h1_2 h2_2 h3_2 (Nat.le_of_ble_eq_true rfl) (Nat.le_of_ble_eq_true rfl)
  · obtain ⟨c_2, hu_2⟩ := hw_2
    replace hu_2 := hu_2.symm
    subst hu_2
    have hm := hm_2
    refine lv_iload_n hx hb dX1_seedling_9 rfl (lv_at hl 1 rfl) ?_
    refine k_calli (va_runS (As := [.int (x)]) (rest := []) ⟨hx, hb, hml, hown, hts⟩ (cm1_isKind l E (x) _) (va_cwS 1 hts (lw_S q1004 q1005 q58 q1006) rfl rfl rfl (by decide +kernel) ⟨Nat.le_of_ble_eq_true rfl, Nat.le_of_ble_eq_true rfl⟩) (k_pure hs hS) rfl rfl hl.1 rfl (lv_room (Nat.le_of_ble_eq_true rfl)) dX1_seedling_10 ⟨Nat.le_of_ble_eq_true rfl, Nat.le_of_ble_eq_true rfl⟩) hS (fun r_3 u_3 H9 locs hw_3 hm_3 hS => ?_)
    replace hm_3 : _ = H9 := Eq.symm hm_3
    subst hm_3
    have hr_3 := hw_3
    refine kx_callv (BX := fun En q u H => XS E t 1 En q u H) (vx_runS (As := [.int (r_3)]) (rest := []) ⟨hx, hb, hml, hown, hts⟩ (cm1_check l E hl9 t M  (r_3) ) (va_cwS 1 hts (lw_S q702 q703 q58 q704) rfl rfl rfl (by decide +kernel) ⟨Nat.le_of_ble_eq_true rfl, Nat.le_of_ble_eq_true rfl⟩) (k_preS hs hm hS) rfl rfl hl.1 rfl (lv_room (Nat.le_of_ble_eq_true rfl)) dX1_seedling_13 ⟨Nat.le_of_ble_eq_true rfl, Nat.le_of_ble_eq_true rfl⟩) hS (fun En_4 ce_4 q_4 u9_4 H locs hp_4 hB_4 hS h1_4 h2_4 h3_4 => ?_) (fun u_4 H locs hw_4 hm_4 hS => ?_)
    · obtain ⟨c_4, hu9_4⟩ := hp_4
      replace hu9_4 := hu9_4.symm
      subst hu9_4
      subst hr_3
      subst hr_1
      have e9 : C1_seedling t M c x y = _ := (if_neg c_2).trans ((if_pos c_4).trans (rfl))
      exact kx_out (BX := fun En q u H => XS E t (C1_seedling t M c x y).1 En q u H) (u := _) (by rw [htab]; decide) hlocks (xs_leaf e9 (by decide) hB_4).1 (xs_leaf e9 (by decide) hB_4).2 hS h1_4 h2_4 h3_4 (Nat.le_of_ble_eq_true rfl) (Nat.le_of_ble_eq_true rfl)
    · obtain ⟨c_4, hu_4⟩ := hw_4
      replace hu_4 := hu_4.symm
      subst hu_4
      have hm := hm_4
      have hp := c_2
      have hq := c_4
      refine lv_aload_n hx hb dX1_seedling_16 rfl (lv_at hl 0 rfl) ?_
      refine lv_aload_n hx hb dX1_seedling_17 rfl (lv_at hl 0 rfl) ?_
      refine k_callq (va_runV (As := []) (rest := [.ref (c)]) ⟨hx, hb, hml, hown, hts⟩ (cm1_tryOn l E t M  (c)  hA K S hw) (cwV 0 hts (lw_V q742 q744 qs7 q58 q745) rfl rfl rfl (by decide +kernel) ⟨Nat.le_of_ble_eq_true rfl, Nat.le_of_ble_eq_true rfl⟩) (k_preV hs hm hS (mw.recv hs hm (mt_ne hA.z (by decide)) (ct1 hA.z) rfl)) rfl rfl hl.1 rfl (lv_room (Nat.le_of_ble_eq_true rfl)) dX1_seedling_18 ⟨Nat.le_of_ble_eq_true rfl, Nat.le_of_ble_eq_true rfl⟩) hS (fun r_5 u_5 H locs hw_5 hm_5 hS => ?_)
      obtain ⟨hr_5, hu_5⟩ := hw_5
      have hm := hm_5
      obtain ⟨n_5, hn_5⟩ : ∃ n, n = (C1_tryOn t M (c) ).1 := ⟨_, rfl⟩
      rw [← hn_5] at hr_5
      subst hr_5
      have hr_5 := hn_5
      clear hn_5
      obtain rfl : n_5 = (c + 65) := hr_5
      refine lv_iload_n hx hb dX1_seedling_21 rfl (lv_at hl 1 rfl) ?_
      refine lv_iload_n hx hb dX1_seedling_22 rfl (lv_at hl 2 rfl) ?_
      refine kx_calli (BX := fun En q u H => XR E t (C2_seedling t u_5 ((c + 65)) (x) (y)).1 (C2_seedling t u_5 ((c + 65)) (x) (y)).2.1 En q u H) (vx_runVX (As := [.int (x), .int (y)]) (rest := [.ref (c)]) ⟨hx, hb, hml, hown, hts⟩ (cm2_seedling l E hl9 t u_5  ((c + 65)) (x) (y) hA.c2 (kind_01 (hr_3 ▸ hq)) (in_01 (hr_1 ▸ hp))) (vx_cwVW 2 hts (lw_VW q1007 q1008 q1009 q59 q1010) rfl rfl rfl (by decide +kernel) ⟨Nat.le_of_ble_eq_true rfl, Nat.le_of_ble_eq_true rfl⟩) (k_preV hs hm hS (mw.recv hs hm (mt_ne (lay.z hA.c2) (by decide)) (ct2 (lay.z hA.c2)) rfl)) rfl rfl hl.1 rfl (lv_room (Nat.le_of_ble_eq_true rfl)) dX1_seedling_23 ⟨Nat.le_of_ble_eq_true rfl, Nat.le_of_ble_eq_true rfl⟩) hS (fun En_6 ce_6 q_6 u9_6 H locs hp_6 hB_6 hS h1_6 h2_6 h3_6 => ?_) (fun r_6 u_6 H locs hw_6 hm_6 hS => ?_)
      · obtain ⟨c_6, hu9_6⟩ := hp_6
        replace hu9_6 := hu9_6.symm
        subst hu9_6
        obtain ⟨hE_6, hq0_6, hm⟩ := hB_6
        subst hE_6
        refine vx_catch (name := "CliffPlots$Refused") hown [] ⟨16, 29, 30, 7⟩ [] htab (fun z hz => Or.inl (by revert z; decide)) (by decide) (by decide) (hts _ q741) (hs.2.2.1.at q754 rfl rfl) h1_6 h2_6 h3_6 ?_
        refine lv_astore_n (lv' := [(3, _), (0, _), (1, _), (2, _)]) hx hb dX1_seedling_30 rfl hl (by decide) rfl (fun ls hl => ?_)
        refine lv_aload_n hx hb dX1_seedling_31 rfl (lv_at hl 1 rfl) ?_
        refine lv_aload_n hx hb dX1_seedling_32 rfl (lv_at hl 0 rfl) ?_
        refine k_callr (B := fun (u : mm) r H => mw E t u H ∧ va_at E.1 clA (r, .inr (14, [])) H) (va_runV (As := [.ref q_6]) (rest := []) ⟨hx, hb, hml, hown, hts⟩ (cm1_because l E hl9 t ((C2_seedling t u_5 ((c + 65)) (x) (y)).2.2.2) c q_6 ((C2_seedling t u_5 ((c + 65)) (x) (y)).1) ((C2_seedling t u_5 ((c + 65)) (x) (y)).2.1) hA.z hq0_6) (cwV 1 hts (lw_V q783 q785 qs9 q58 q786) rfl rfl rfl (by decide +kernel) ⟨Nat.le_of_ble_eq_true rfl, Nat.le_of_ble_eq_true rfl⟩) (k_preV hs hm hS (mw.recv hs hm (mt_ne (push_at hq0_6 hA.z) (by decide)) (ct1 (push_at hq0_6 hA.z)) rfl)) rfl rfl hl.1 rfl (lv_room (Nat.le_of_ble_eq_true rfl)) dX1_seedling_33 ⟨Nat.le_of_ble_eq_true rfl, Nat.le_of_ble_eq_true rfl⟩) hS (fun r9 u8 H locs hu8 hm8 hS => ?_)
        subst hu8
        obtain ⟨hm, hat8⟩ := hm8
        refine vx_athrow hx hb dX1_seedling_36 ?_
        obtain ⟨ce8, h1_6, h2_6, h3_6⟩ := kx_cell hs hat8 (show clA[14]? = some (RJ13, TJ13, 0) from rfl)
        subst hu_5
        subst hr_3
        subst hr_1
        have e9 : C1_seedling t M c x y = _ := (if_neg c_2).trans ((if_neg c_4).trans ((if_neg c_6).trans (rfl)))
        exact kx_out (BX := fun En q u H => XS E t (C1_seedling t M c x y).1 En q u H) (u := _) (by rw [htab]; decide) hlocks (xs_leaf e9 (by decide) (show XS E t 2 (exN 2) r9 _ H from ⟨rfl, hm⟩)).1 (xs_leaf e9 (by decide) (show XS E t 2 (exN 2) r9 _ H from ⟨rfl, hm⟩)).2 hS h1_6 h2_6 h3_6 (Nat.le_of_ble_eq_true rfl) (Nat.le_of_ble_eq_true rfl)
      · obtain ⟨c_6, hr_6, hu_6⟩ := hw_6
        have hm := hm_6
        refine k_calli (va_runV (As := [.int (r_6)]) (rest := []) ⟨hx, hb, hml, hown, hts⟩ (cm1_becomes l E t u_6  (c) (r_6) hA K S (show wfA u_6 c K S from by rw [hu_6, hu_5]; exact (tryOn_wf hw hT).tried (far_seedling) (hO (hr_1 ▸ hp) (hr_3 ▸ hq)))) (cwV 1 hts (lw_V q779 q781 qs8 q58 q782) rfl rfl rfl (by decide +kernel) ⟨Nat.le_of_ble_eq_true rfl, Nat.le_of_ble_eq_true rfl⟩) (k_preV hs hm hS (mw.recv hs hm (mt_ne hA.z (by decide)) (ct1 hA.z) rfl)) rfl rfl hl.1 rfl (lv_room (Nat.le_of_ble_eq_true rfl)) dX1_seedling_26 ⟨Nat.le_of_ble_eq_true rfl, Nat.le_of_ble_eq_true rfl⟩) hS (fun r_7 u_7 H locs hw_7 hm_7 hS => ?_)
        obtain ⟨hr_7, hu_7⟩ := hw_7
        have hm := hm_7
        subst hu_7
        subst hr_7
        subst hu_6
        subst hr_6
        subst hu_5
        subst hr_3
        subst hr_1
        refine vx_ret ?_
        refine W.widen (k := 8) (n := 98) (Nat.le_of_ble_eq_true rfl) (Nat.le_of_ble_eq_true rfl) ?_
        exact W.iret (v := _) hx hb hr (fun t9 ht9 _ => ⟨⟨_, _, rfl, pp3 ((if_neg c_2).trans ((if_neg c_4).trans ((if_pos c_6).trans (rfl)))), hb9 ht9 hm⟩, hS.F ht9⟩) hS.2.2 dX1_seedling_29
def C1_harvest (t : mt) (M : mm) (c : Nat) (x : Int32) : Int32 × Int32 × mm :=
  let r_1 := C2_isMember t M ((c + 1)) (x);
  let u_3 := (C1_tryOn t M (c) ).2;
  let r_4 := (C2_harvest t u_3 ((c + 65)) (x)).2.2.1;
  let u_4 := (C2_harvest t u_3 ((c + 65)) (x)).2.2.2;
  let r_5 := T_fbits (r_4);
  let r_6 := (C1_becomes t u_4 (c) (r_5)).1;
  let u_6 := (C1_becomes t u_4 (c) (r_5)).2;
  if r_1 = 0 then
    ((3 : Int32), (0 : Int32), M)
  else
    let u_3 := (C1_tryOn t M (c) ).2;
    let r_4 := (C2_harvest t u_3 ((c + 65)) (x)).2.2.1;
    let u_4 := (C2_harvest t u_3 ((c + 65)) (x)).2.2.2;
    let r_5 := T_fbits (r_4);
    let r_6 := (C1_becomes t u_4 (c) (r_5)).1;
    let u_6 := (C1_becomes t u_4 (c) (r_5)).2;
    if (C2_harvest t u_3 ((c + 65)) (x)).1 = 0 then
      let r_5 := T_fbits (r_4);
      let r_6 := (C1_becomes t u_4 (c) (r_5)).1;
      let u_6 := (C1_becomes t u_4 (c) (r_5)).2;
      ((0 : Int32), r_6, u_6)
    else
      ((2 : Int32), (0 : Int32), (refM (C2_harvest t u_3 ((c + 65)) (x)).2.2.2 c (C2_harvest t u_3 ((c + 65)) (x)).1 (C2_harvest t u_3 ((c + 65)) (x)).2.1))
set_option maxHeartbeats 4000000 in
theorem cm1_harvest (l : Launch) (E : mE) (hl9 : l.stackTraces = false) (t : mt) (M : mm) (c : Nat) (x : Int32) (hA : layA t c) (K S : List Nat) (hw : wfA M c K S) (hT : wfK (C1_tryOn t M c).2 (c + 65)) (hO : (¬ C2_isMember t M (c + 1) x = 0) → wfK (C2_harvest t (C1_tryOn t M c).2 (c + 65) x).2.2.2 (c + 65)) : vx_Met l yX1_harvest (wsW_ yX1_harvest cX1_harvest 3 (some .int) [((11 : Nat), (26 : Nat), (27 : Nat), (7 : Nat))]) ({ frames := 10, cells := 4, slots := 28, locals := 206 }) (va_Pc [.ref c, .int x] (wP E t M)) (va_Qi (fun (r : Int32) (u : mm) => (C1_harvest t M c x).1 = 0 ∧ r = (C1_harvest t M c x).2.1 ∧ u = (C1_harvest t M c x).2.2) (fun u U => mw E t u U.heap) (eA E)) (vx_X (fun (u : mm) => ¬ (C1_harvest t M c x).1 = 0 ∧ u = (C1_harvest t M c x).2.2) (fun En q u U => XS E t (C1_harvest t M c x).1 En q u U.heap) (eA E)) 4 28 (eA E) := by
  refine vx_ofWH (cc := cX1_harvest) (maxL := 3) (ret := (some .int)) (hh := [((11 : Nat), (26 : Nat), (27 : Nat), (7 : Nat))]) (by decide) rfl ?_
  intro p e s m args below meth c0 s₁ B hml hv
  obtain ⟨rfl, hs, hm⟩ := hv
  have hx := B.exec
  have hb := B.bytes
  have hr := B.returns
  have hts := atoms_spec (ws := wsW_ yX1_harvest cX1_harvest 3 (some .int) [((11 : Nat), (26 : Nat), (27 : Nat), (7 : Nat))]) B.pre
  have hts : ∀ w ∈ lw_all, w.before _ s = true := fun w h => hts w (List.mem_cons_of_mem _ h)
  have hown : s.vm.findClass RX1 = some m.cls := findClass_of_methodNamed B.named
  have hlocks := B.notSynchronized
  have htab := vx_table (x := yX1_harvest) B (atoms_spec (ws := wsW_ yX1_harvest cX1_harvest 3 (some .int) [((11 : Nat), (26 : Nat), (27 : Nat), (7 : Nat))]) B.pre _ List.mem_cons_self)
  have hS : va_S (eA E) s.heap s.heap [] := va_S.rf
  have hl := lv_entry ([.ref c, .int x]) (n := 3) (Nat.le_of_ble_eq_true rfl)
  rw [lg_entry_eq]
  generalize (lg_sl ([.ref c, .int x]) ++ List.replicate (3 - (lg_sl ([.ref c, .int x])).length) Slot.unset).toArray = ls at hl ⊢
  have hl : lv_has ls 3 [(0, .ref (c)), (1, .int (x))] := hl
  refine lv_aload_n hx hb dX1_harvest_0 rfl (lv_at hl 0 rfl) ?_
  refine gf_100 hx hb hts hown hs hm hA.z (hts _ q519) dX1_harvest_1 ?_
  refine lv_iload_n hx hb dX1_harvest_4 rfl (lv_at hl 1 rfl) ?_
  refine k_calli (va_runV (As := [.int (x)]) (rest := []) ⟨hx, hb, hml, hown, hts⟩ (cm2_isMember l E t M  ((c + 1)) (x) hA.c1 ) (cwV 1 hts (lw_V q833 q834 q835 q59 q836) rfl rfl rfl (by decide +kernel) ⟨Nat.le_of_ble_eq_true rfl, Nat.le_of_ble_eq_true rfl⟩) (k_preV hs hm hS (mw.recv hs hm (mt_ne (lay.z hA.c1) (by decide)) (ct2 (lay.z hA.c1)) rfl)) rfl rfl hl.1 rfl (lv_room (Nat.le_of_ble_eq_true rfl)) dX1_harvest_5 ⟨Nat.le_of_ble_eq_true rfl, Nat.le_of_ble_eq_true rfl⟩) hS (fun r_1 u_1 H locs hw_1 hm_1 hS => ?_)
  obtain ⟨hr_1, hu_1⟩ := hw_1
  replace hu_1 := hu_1.symm
  subst hu_1
  have hm := hm_1
  refine kx_callv (BX := fun En q u H => XS E t 3 En q u H) (vx_runS (As := [.int (r_1)]) (rest := []) ⟨hx, hb, hml, hown, hts⟩ (cm1_checkIndex l E hl9 t M  (r_1) ) (va_cwS 1 hts (lw_S q841 q842 q58 q843) rfl rfl rfl (by decide +kernel) ⟨Nat.le_of_ble_eq_true rfl, Nat.le_of_ble_eq_true rfl⟩) (k_preS hs hm hS) rfl rfl hl.1 rfl (lv_room (Nat.le_of_ble_eq_true rfl)) dX1_harvest_8 ⟨Nat.le_of_ble_eq_true rfl, Nat.le_of_ble_eq_true rfl⟩) hS (fun En_2 ce_2 q_2 u9_2 H locs hp_2 hB_2 hS h1_2 h2_2 h3_2 => ?_) (fun u_2 H locs hw_2 hm_2 hS => ?_)
  · obtain ⟨c_2, hu9_2⟩ := hp_2
    replace hu9_2 := hu9_2.symm
    subst hu9_2
    subst hr_1
    have e9 : C1_harvest t M c x = _ := (if_pos c_2).trans (rfl)
    exact kx_out (BX := fun En q u H => XS E t (C1_harvest t M c x).1 En q u H) (u := _) (by rw [htab]; decide) hlocks (xs_leaf e9 (by decide) hB_2).1 (xs_leaf e9 (by decide) hB_2).2 hS h1_2 h2_2 h3_2 (Nat.le_of_ble_eq_true rfl) (Nat.le_of_ble_eq_true rfl)
  · obtain ⟨c_2, hu_2⟩ := hw_2
    replace hu_2 := hu_2.symm
    subst hu_2
    have hm := hm_2
    have hp := c_2
    have hp1 := cmem_ix hw.w1.n1 (hr_1 ▸ hp)
    refine lv_aload_n hx hb dX1_harvest_11 rfl (lv_at hl 0 rfl) ?_
    refine lv_aload_n hx hb dX1_harvest_12 rfl (lv_at hl 0 rfl) ?_
    refine k_callq (va_runV (As := []) (rest := [.ref (c)]) ⟨hx, hb, hml, hown, hts⟩ (cm1_tryOn l E t M  (c)  hA K S hw) (cwV 0 hts (lw_V q742 q744 qs7 q58 q745) rfl rfl rfl (by decide +kernel) ⟨Nat.le_of_ble_eq_true rfl, Nat.le_of_ble_eq_true rfl⟩) (k_preV hs hm hS (mw.recv hs hm (mt_ne hA.z (by decide)) (ct1 hA.z) rfl)) rfl rfl hl.1 rfl (lv_room (Nat.le_of_ble_eq_true rfl)) dX1_harvest_13 ⟨Nat.le_of_ble_eq_true rfl, Nat.le_of_ble_eq_true rfl⟩) hS (fun r_3 u_3 H locs hw_3 hm_3 hS => ?_)
    obtain ⟨hr_3, hu_3⟩ := hw_3
    have hm := hm_3
    obtain ⟨n_3, hn_3⟩ : ∃ n, n = (C1_tryOn t M (c) ).1 := ⟨_, rfl⟩
    rw [← hn_3] at hr_3
    subst hr_3
    have hr_3 := hn_3
    clear hn_3
    obtain rfl : n_3 = (c + 65) := hr_3
    refine lv_iload_n hx hb dX1_harvest_16 rfl (lv_at hl 1 rfl) ?_
    refine kx_callf (BX := fun En q u H => XR E t (C2_harvest t u_3 ((c + 65)) (x)).1 (C2_harvest t u_3 ((c + 65)) (x)).2.1 En q u H) (vx_runV (As := [.int (x)]) (rest := [.ref (c)]) ⟨hx, hb, hml, hown, hts⟩ (cm2_harvest l E hl9 t u_3  ((c + 65)) (x) hA.c2 hp1.1 (by rw [hu_3]; exact hT.mp _ hp1.1.nlt (by rw [(show gI (C1_tryOn t M c).2 211 (c + 65) = gI M 211 (c + 1) from take_gI t M (c + 65) (c + 1) (by decide) (by decide))]; exact hp1.2)) ((show wfK u_3 (c + 65) from by rw [hu_3]; exact hT).cr hA.c2) (show wfK u_3 (c + 65) from by rw [hu_3]; exact hT).n3 ((show wfK u_3 (c + 65) from by rw [hu_3]; exact hT).pz hA.c2)) (cwV 1 hts (lw_V q1124 q1125 q1126 q59 q1127) rfl rfl rfl (by decide +kernel) ⟨Nat.le_of_ble_eq_true rfl, Nat.le_of_ble_eq_true rfl⟩) (k_preV hs hm hS (mw.recv hs hm (mt_ne (lay.z hA.c2) (by decide)) (ct2 (lay.z hA.c2)) rfl)) rfl rfl hl.1 rfl (lv_room (Nat.le_of_ble_eq_true rfl)) dX1_harvest_17 ⟨Nat.le_of_ble_eq_true rfl, Nat.le_of_ble_eq_true rfl⟩) hS (fun En_4 ce_4 q_4 u9_4 H locs hp_4 hB_4 hS h1_4 h2_4 h3_4 => ?_) (fun r_4 u_4 H locs hw_4 hm_4 hS => ?_)
    · obtain ⟨c_4, hu9_4⟩ := hp_4
      replace hu9_4 := hu9_4.symm
      subst hu9_4
      obtain ⟨hE_4, hq0_4, hm⟩ := hB_4
      subst hE_4
      refine vx_catch (name := "CliffPlots$Refused") hown [] ⟨11, 26, 27, 7⟩ [] htab (fun z hz => Or.inl (by revert z; decide)) (by decide) (by decide) (hts _ q741) (hs.2.2.1.at q754 rfl rfl) h1_4 h2_4 h3_4 ?_
      refine lv_astore_n (lv' := [(2, _), (0, _), (1, _)]) hx hb dX1_harvest_27 rfl hl (by decide) rfl (fun ls hl => ?_)
      refine lv_aload_n hx hb dX1_harvest_28 rfl (lv_at hl 1 rfl) ?_
      refine lv_aload_n hx hb dX1_harvest_29 rfl (lv_at hl 0 rfl) ?_
      refine k_callr (B := fun (u : mm) r H => mw E t u H ∧ va_at E.1 clA (r, .inr (14, [])) H) (va_runV (As := [.ref q_4]) (rest := []) ⟨hx, hb, hml, hown, hts⟩ (cm1_because l E hl9 t ((C2_harvest t u_3 ((c + 65)) (x)).2.2.2) c q_4 ((C2_harvest t u_3 ((c + 65)) (x)).1) ((C2_harvest t u_3 ((c + 65)) (x)).2.1) hA.z hq0_4) (cwV 1 hts (lw_V q783 q785 qs9 q58 q786) rfl rfl rfl (by decide +kernel) ⟨Nat.le_of_ble_eq_true rfl, Nat.le_of_ble_eq_true rfl⟩) (k_preV hs hm hS (mw.recv hs hm (mt_ne (push_at hq0_4 hA.z) (by decide)) (ct1 (push_at hq0_4 hA.z)) rfl)) rfl rfl hl.1 rfl (lv_room (Nat.le_of_ble_eq_true rfl)) dX1_harvest_30 ⟨Nat.le_of_ble_eq_true rfl, Nat.le_of_ble_eq_true rfl⟩) hS (fun r9 u8 H locs hu8 hm8 hS => ?_)
      subst hu8
      obtain ⟨hm, hat8⟩ := hm8
      refine vx_athrow hx hb dX1_harvest_33 ?_
      obtain ⟨ce8, h1_4, h2_4, h3_4⟩ := kx_cell hs hat8 (show clA[14]? = some (RJ13, TJ13, 0) from rfl)
      subst hu_3
      subst hr_1
      have e9 : C1_harvest t M c x = _ := (if_neg c_2).trans ((if_neg c_4).trans (rfl))
      exact kx_out (BX := fun En q u H => XS E t (C1_harvest t M c x).1 En q u H) (u := _) (by rw [htab]; decide) hlocks (xs_leaf e9 (by decide) (show XS E t 2 (exN 2) r9 _ H from ⟨rfl, hm⟩)).1 (xs_leaf e9 (by decide) (show XS E t 2 (exN 2) r9 _ H from ⟨rfl, hm⟩)).2 hS h1_4 h2_4 h3_4 (Nat.le_of_ble_eq_true rfl) (Nat.le_of_ble_eq_true rfl)
    · obtain ⟨c_4, hr_4, hu_4⟩ := hw_4
      have hm := hm_4
      refine k_calli (va_runS (As := [.float (r_4)]) (rest := [.ref (c)]) ⟨hx, hb, hml, hown, hts⟩ (jm_J16_floatToIntBits l E (r_4) _) (va_cwS 1 hts (lw_S q930 q931 q87 q932) rfl rfl rfl (by decide +kernel) ⟨Nat.le_of_ble_eq_true rfl, Nat.le_of_ble_eq_true rfl⟩) (k_pure hs hS) rfl rfl hl.1 rfl (lv_room (Nat.le_of_ble_eq_true rfl)) dX1_harvest_20 ⟨Nat.le_of_ble_eq_true rfl, Nat.le_of_ble_eq_true rfl⟩) hS (fun r_5 u_5 H9 locs hw_5 hm_5 hS => ?_)
      replace hm_5 : _ = H9 := Eq.symm hm_5
      subst hm_5
      have hr_5 := hw_5
      refine k_calli (va_runV (As := [.int (r_5)]) (rest := []) ⟨hx, hb, hml, hown, hts⟩ (cm1_becomes l E t u_4  (c) (r_5) hA K S (show wfA u_4 c K S from by rw [hu_4, hu_3]; exact (tryOn_wf hw hT).tried (far_harvest hT hp1.1 (hT.mp _ hp1.1.nlt (by rw [(show gI (C1_tryOn t M c).2 211 (c + 65) = gI M 211 (c + 1) from take_gI t M (c + 65) (c + 1) (by decide) (by decide))]; exact hp1.2))) (hO (hr_1 ▸ hp)))) (cwV 1 hts (lw_V q779 q781 qs8 q58 q782) rfl rfl rfl (by decide +kernel) ⟨Nat.le_of_ble_eq_true rfl, Nat.le_of_ble_eq_true rfl⟩) (k_preV hs hm hS (mw.recv hs hm (mt_ne hA.z (by decide)) (ct1 hA.z) rfl)) rfl rfl hl.1 rfl (lv_room (Nat.le_of_ble_eq_true rfl)) dX1_harvest_23 ⟨Nat.le_of_ble_eq_true rfl, Nat.le_of_ble_eq_true rfl⟩) hS (fun r_6 u_6 H locs hw_6 hm_6 hS => ?_)
      obtain ⟨hr_6, hu_6⟩ := hw_6
      have hm := hm_6
      subst hu_6
      subst hr_6
      subst hr_5
      subst hu_4
      subst hr_4
      subst hu_3
      subst hr_1
      refine vx_ret ?_
      refine W.widen (k := 4) (n := 28) (Nat.le_of_ble_eq_true rfl) (Nat.le_of_ble_eq_true rfl) ?_
      exact W.iret (v := _) hx hb hr (fun t9 ht9 _ => ⟨⟨_, _, rfl, pp3 ((if_neg c_2).trans ((if_pos c_4).trans (rfl))), hb9 ht9 hm⟩, hS.F ht9⟩) hS.2.2 dX1_harvest_26
def C1_plant (t : mt) (M : mm) (c : Nat) (x : Int32) (y : Int32) (z : Int32) : Int32 × Int32 × mm :=
  let r_1 := C2_isMember t M ((c + 1)) (x);
  let x3 := if r_1 = 0 then (0 : Int32) else let r_12 := C1_isPlace (y) (z); if r_12 = 0 then (0 : Int32) else (1 : Int32);
  let n_5 := C2_bench t M ((c + 1)) (y);
  if x3 = 0 then
    ((3 : Int32), (0 : Int32), M)
  else
    let n_5 := C2_bench t M ((c + 1)) (y);
    let x7 := if (aR M n_5 (z).toNatClampNeg) = none then (0 : Int32) else (1 : Int32);
    let u_9 := (C1_tryOn t M (c) ).2;
    let r_10 := (C2_plant t u_9 ((c + 65)) (x) (y) (z)).2.2.1;
    let u_10 := (C2_plant t u_9 ((c + 65)) (x) (y) (z)).2.2.2;
    let r_11 := (C1_becomes t u_10 (c) (r_10)).1;
    let u_11 := (C1_becomes t u_10 (c) (r_10)).2;
    if x7 = 0 then
      ((4 : Int32), (0 : Int32), M)
    else
      let u_9 := (C1_tryOn t M (c) ).2;
      let r_10 := (C2_plant t u_9 ((c + 65)) (x) (y) (z)).2.2.1;
      let u_10 := (C2_plant t u_9 ((c + 65)) (x) (y) (z)).2.2.2;
      let r_11 := (C1_becomes t u_10 (c) (r_10)).1;
      let u_11 := (C1_becomes t u_10 (c) (r_10)).2;
      if (C2_plant t u_9 ((c + 65)) (x) (y) (z)).1 = 0 then
        let r_11 := (C1_becomes t u_10 (c) (r_10)).1;
        let u_11 := (C1_becomes t u_10 (c) (r_10)).2;
        ((0 : Int32), r_11, u_11)
      else
        ((2 : Int32), (0 : Int32), (refM (C2_plant t u_9 ((c + 65)) (x) (y) (z)).2.2.2 c (C2_plant t u_9 ((c + 65)) (x) (y) (z)).1 (C2_plant t u_9 ((c + 65)) (x) (y) (z)).2.1))
set_option maxHeartbeats 4000000 in
theorem cm1_plant (l : Launch) (E : mE) (hl9 : l.stackTraces = false) (t : mt) (M : mm) (c : Nat) (x : Int32) (y : Int32) (z : Int32) (hA : layA t c) (K S : List Nat) (hw : wfA M c K S) (hT : wfK (C1_tryOn t M c).2 (c + 65)) (hO : (¬ C2_isMember t M (c + 1) x = 0) → ¬ C1_isPlace y z = 0 → ¬ aR M (C2_bench t M (c + 1) y) z.toNatClampNeg = none → wfK (C2_plant t (C1_tryOn t M c).2 (c + 65) x y z).2.2.2 (c + 65)) (hN : (¬ C2_isMember t M (c + 1) x = 0) → ¬ C1_isPlace y z = 0 → ¬ aR M (C2_bench t M (c + 1) y) z.toNatClampNeg = none → ¬ aR (C1_tryOn t M c).2 (C2_bench t (C1_tryOn t M c).2 (c + 65) y) z.toNatClampNeg = none) : vx_Met l yX1_plant (wsW_ yX1_plant cX1_plant 5 (some .int) [((48 : Nat), (62 : Nat), (63 : Nat), (7 : Nat))]) ({ frames := 10, cells := 5, slots := 34, locals := 207 }) (va_Pc [.ref c, .int x, .int y, .int z] (wP E t M)) (va_Qi (fun (r : Int32) (u : mm) => (C1_plant t M c x y z).1 = 0 ∧ r = (C1_plant t M c x y z).2.1 ∧ u = (C1_plant t M c x y z).2.2) (fun u U => mw E t u U.heap) (eA E)) (vx_X (fun (u : mm) => ¬ (C1_plant t M c x y z).1 = 0 ∧ u = (C1_plant t M c x y z).2.2) (fun En q u U => XS E t (C1_plant t M c x y z).1 En q u U.heap) (eA E)) 5 34 (eA E) := by
  refine vx_ofWH (cc := cX1_plant) (maxL := 5) (ret := (some .int)) (hh := [((48 : Nat), (62 : Nat), (63 : Nat), (7 : Nat))]) (by decide) rfl ?_
  intro p e s m args below meth c0 s₁ B hml hv
  obtain ⟨rfl, hs, hm⟩ := hv
  have hx := B.exec
  have hb := B.bytes
  have hr := B.returns
  have hts := atoms_spec (ws := wsW_ yX1_plant cX1_plant 5 (some .int) [((48 : Nat), (62 : Nat), (63 : Nat), (7 : Nat))]) B.pre
  have hts : ∀ w ∈ lw_all, w.before _ s = true := fun w h => hts w (List.mem_cons_of_mem _ h)
  have hown : s.vm.findClass RX1 = some m.cls := findClass_of_methodNamed B.named
  have hlocks := B.notSynchronized
  have htab := vx_table (x := yX1_plant) B (atoms_spec (ws := wsW_ yX1_plant cX1_plant 5 (some .int) [((48 : Nat), (62 : Nat), (63 : Nat), (7 : Nat))]) B.pre _ List.mem_cons_self)
  have hS : va_S (eA E) s.heap s.heap [] := va_S.rf
  have hl := lv_entry ([.ref c, .int x, .int y, .int z]) (n := 5) (Nat.le_of_ble_eq_true rfl)
  rw [lg_entry_eq]
  generalize (lg_sl ([.ref c, .int x, .int y, .int z]) ++ List.replicate (5 - (lg_sl ([.ref c, .int x, .int y, .int z])).length) Slot.unset).toArray = ls at hl ⊢
  have hl : lv_has ls 5 [(0, .ref (c)), (1, .int (x)), (2, .int (y)), (3, .int (z))] := hl
  refine lv_aload_n hx hb dX1_plant_0 rfl (lv_at hl 0 rfl) ?_
  refine gf_100 hx hb hts hown hs hm hA.z (hts _ q519) dX1_plant_1 ?_
  refine lv_iload_n hx hb dX1_plant_4 rfl (lv_at hl 1 rfl) ?_
  refine k_calli (va_runV (As := [.int (x)]) (rest := []) ⟨hx, hb, hml, hown, hts⟩ (cm2_isMember l E t M  ((c + 1)) (x) hA.c1 ) (cwV 1 hts (lw_V q833 q834 q835 q59 q836) rfl rfl rfl (by decide +kernel) ⟨Nat.le_of_ble_eq_true rfl, Nat.le_of_ble_eq_true rfl⟩) (k_preV hs hm hS (mw.recv hs hm (mt_ne (lay.z hA.c1) (by decide)) (ct2 (lay.z hA.c1)) rfl)) rfl rfl hl.1 rfl (lv_room (Nat.le_of_ble_eq_true rfl)) dX1_plant_5 ⟨Nat.le_of_ble_eq_true rfl, Nat.le_of_ble_eq_true rfl⟩) hS (fun r_1 u_1 H locs hw_1 hm_1 hS => ?_)
  obtain ⟨hr_1, hu_1⟩ := hw_1
  replace hu_1 := hu_1.symm
  subst hu_1
  have hm := hm_1
  refine k_join (fun (x3 : Int32) H locs ls => x3 = (if r_1 = 0 then (0 : Int32) else let r_12 := C1_isPlace (y) (z); if r_12 = 0 then (0 : Int32) else (1 : Int32)) ∧ mw E t (M) H ∧ va_S (eA E) s.heap H locs ∧ lv_has ls 5 [(0, .ref (c)), (1, .int (x)), (2, .int (y)), (3, .int (z))]) (fun (x3 : Int32) ls => F0 m 24 ls [.int (x3)]) (fun x3 H locs ls hJ => ?_) (fun J3 => ?_)
  · obtain ⟨hX3, hm, hS, hl⟩ := hJ
    refine kx_callv (BX := fun En q u H => XS E t 3 En q u H) (vx_runS (As := [.int (x3)]) (rest := []) ⟨hx, hb, hml, hown, hts⟩ (cm1_checkIndex l E hl9 t M  (x3) ) (va_cwS 1 hts (lw_S q841 q842 q58 q843) rfl rfl rfl (by decide +kernel) ⟨Nat.le_of_ble_eq_true rfl, Nat.le_of_ble_eq_true rfl⟩) (k_preS hs hm hS) rfl rfl hl.1 rfl (lv_room (Nat.le_of_ble_eq_true rfl)) dX1_plant_24 ⟨Nat.le_of_ble_eq_true rfl, Nat.le_of_ble_eq_true rfl⟩) hS (fun En_4 ce_4 q_4 u9_4 H locs hp_4 hB_4 hS h1_4 h2_4 h3_4 => ?_) (fun u_4 H locs hw_4 hm_4 hS => ?_)
    · obtain ⟨c_4, hu9_4⟩ := hp_4
      replace hu9_4 := hu9_4.symm
      subst hu9_4
      subst hX3
      subst hr_1
      have e9 : C1_plant t M c x y z = _ := (if_pos c_4).trans (rfl)
      exact kx_out (BX := fun En q u H => XS E t (C1_plant t M c x y z).1 En q u H) (u := _) (by rw [htab]; decide) hlocks (xs_leaf e9 (by decide) hB_4).1 (xs_leaf e9 (by decide) hB_4).2 hS h1_4 h2_4 h3_4 (Nat.le_of_ble_eq_true rfl) (Nat.le_of_ble_eq_true rfl)
    · obtain ⟨c_4, hu_4⟩ := hw_4
      replace hu_4 := hu_4.symm
      subst hu_4
      have hm := hm_4
      have hp := and2 hX3 c_4
      have hp1 := cmem_ix hw.w1.n1 (hr_1 ▸ hp.1)
      have hp2 := cplace_ix hp.2
      refine lv_aload_n hx hb dX1_plant_27 rfl (lv_at hl 0 rfl) ?_
      refine gf_100 hx hb hts hown hs hm hA.z (hts _ q519) dX1_plant_28 ?_
      refine lv_iload_n hx hb dX1_plant_31 rfl (lv_at hl 2 rfl) ?_
      refine k_callq (va_runV (As := [.int (y)]) (rest := []) ⟨hx, hb, hml, hown, hts⟩ (cm2_bench l E t M  ((c + 1)) (y) hA.c1 ) (cwV 1 hts (lw_V q1042 q582 q583 q59 q584) rfl rfl rfl (by decide +kernel) ⟨Nat.le_of_ble_eq_true rfl, Nat.le_of_ble_eq_true rfl⟩) (k_preV hs hm hS (mw.recv hs hm (mt_ne (lay.z hA.c1) (by decide)) (ct2 (lay.z hA.c1)) rfl)) rfl rfl hl.1 rfl (lv_room (Nat.le_of_ble_eq_true rfl)) dX1_plant_32 ⟨Nat.le_of_ble_eq_true rfl, Nat.le_of_ble_eq_true rfl⟩) hS (fun r_5 u_5 H locs hw_5 hm_5 hS => ?_)
      obtain ⟨hr_5, hu_5⟩ := hw_5
      replace hu_5 := hu_5.symm
      subst hu_5
      have hm := hm_5
      obtain ⟨n_5, hn_5⟩ : ∃ n, n = C2_bench t M ((c + 1)) (y) := ⟨_, rfl⟩
      rw [← hn_5] at hr_5
      subst hr_5
      have hr_5 := hn_5
      clear hn_5
      refine lv_iload_n hx hb dX1_plant_35 rfl (lv_at hl 3 rfl) ?_
      refine k_aald2 hx hb hs hm (bench_k hA.c1 hr_5) (hp2.2.at (by decide)) dX1_plant_36 ?_
      refine k_join (fun (x7 : Int32) H locs ls => x7 = (if (aR M n_5 (z).toNatClampNeg) = none then (0 : Int32) else (1 : Int32)) ∧ mw E t (M) H ∧ va_S (eA E) s.heap H locs ∧ lv_has ls 5 [(0, .ref (c)), (1, .int (x)), (2, .int (y)), (3, .int (z))]) (fun (x7 : Int32) ls => F0 m 45 ls [.int (x7)]) (fun x7 H locs ls hJ => ?_) (fun J7 => ?_)
      · obtain ⟨hX7, hm, hS, hl⟩ := hJ
        refine kx_callv (BX := fun En q u H => XS E t 4 En q u H) (vx_runS (As := [.int (x7)]) (rest := []) ⟨hx, hb, hml, hown, hts⟩ (cm1_checkElement l E hl9 t M  (x7) ) (va_cwS 1 hts (lw_S q1043 q1044 q58 q1045) rfl rfl rfl (by decide +kernel) ⟨Nat.le_of_ble_eq_true rfl, Nat.le_of_ble_eq_true rfl⟩) (k_preS hs hm hS) rfl rfl hl.1 rfl (lv_room (Nat.le_of_ble_eq_true rfl)) dX1_plant_45 ⟨Nat.le_of_ble_eq_true rfl, Nat.le_of_ble_eq_true rfl⟩) hS (fun En_8 ce_8 q_8 u9_8 H locs hp_8 hB_8 hS h1_8 h2_8 h3_8 => ?_) (fun u_8 H locs hw_8 hm_8 hS => ?_)
        · obtain ⟨c_8, hu9_8⟩ := hp_8
          replace hu9_8 := hu9_8.symm
          subst hu9_8
          subst hX7
          subst hr_5
          subst hX3
          subst hr_1
          have e9 : C1_plant t M c x y z = _ := (if_neg c_4).trans ((if_pos c_8).trans (rfl))
          exact kx_out (BX := fun En q u H => XS E t (C1_plant t M c x y z).1 En q u H) (u := _) (by rw [htab]; decide) hlocks (xs_leaf e9 (by decide) hB_8).1 (xs_leaf e9 (by decide) hB_8).2 hS h1_8 h2_8 h3_8 (Nat.le_of_ble_eq_true rfl) (Nat.le_of_ble_eq_true rfl)
        · obtain ⟨c_8, hu_8⟩ := hw_8
          replace hu_8 := hu_8.symm
          subst hu_8
          have hm := hm_8
          have hn1 : ¬ aR M (C2_bench t M (c + 1) y) z.toNatClampNeg = none := hr_5 ▸ nn2 hX7 c_8
          refine lv_aload_n hx hb dX1_plant_48 rfl (lv_at hl 0 rfl) ?_
          refine lv_aload_n hx hb dX1_plant_49 rfl (lv_at hl 0 rfl) ?_
          refine k_callq (va_runV (As := []) (rest := [.ref (c)]) ⟨hx, hb, hml, hown, hts⟩ (cm1_tryOn l E t M  (c)  hA K S hw) (cwV 0 hts (lw_V q742 q744 qs7 q58 q745) rfl rfl rfl (by decide +kernel) ⟨Nat.le_of_ble_eq_true rfl, Nat.le_of_ble_eq_true rfl⟩) (k_preV hs hm hS (mw.recv hs hm (mt_ne hA.z (by decide)) (ct1 hA.z) rfl)) rfl rfl hl.1 rfl (lv_room (Nat.le_of_ble_eq_true rfl)) dX1_plant_50 ⟨Nat.le_of_ble_eq_true rfl, Nat.le_of_ble_eq_true rfl⟩) hS (fun r_9 u_9 H locs hw_9 hm_9 hS => ?_)
          obtain ⟨hr_9, hu_9⟩ := hw_9
          have hm := hm_9
          obtain ⟨n_9, hn_9⟩ : ∃ n, n = (C1_tryOn t M (c) ).1 := ⟨_, rfl⟩
          rw [← hn_9] at hr_9
          subst hr_9
          have hr_9 := hn_9
          clear hn_9
          obtain rfl : n_9 = (c + 65) := hr_9
          refine lv_iload_n hx hb dX1_plant_53 rfl (lv_at hl 1 rfl) ?_
          refine lv_iload_n hx hb dX1_plant_54 rfl (lv_at hl 2 rfl) ?_
          refine lv_iload_n hx hb dX1_plant_55 rfl (lv_at hl 3 rfl) ?_
          refine kx_calli (BX := fun En q u H => XR E t (C2_plant t u_9 ((c + 65)) (x) (y) (z)).1 (C2_plant t u_9 ((c + 65)) (x) (y) (z)).2.1 En q u H) (vx_runV (As := [.int (x), .int (y), .int (z)]) (rest := [.ref (c)]) ⟨hx, hb, hml, hown, hts⟩ (cm2_plant l E hl9 t u_9  ((c + 65)) (x) (y) (z) hA.c2 hp1.1 hp2.2 (by rw [hu_9]; exact hT.mp _ hp1.1.nlt (by rw [(show gI (C1_tryOn t M c).2 211 (c + 65) = gI M 211 (c + 1) from take_gI t M (c + 65) (c + 1) (by decide) (by decide))]; exact hp1.2)) ((show wfK u_9 (c + 65) from by rw [hu_9]; exact hT).cr hA.c2) (by rw [hu_9]; exact hN (hr_1 ▸ hp.1) hp.2 hn1) (by rw [hu_9]; exact bench_plO hT hA.c2 hp2.2)) (cwV 3 hts (lw_V q1068 q1069 q1070 q59 q1071) rfl rfl rfl (by decide +kernel) ⟨Nat.le_of_ble_eq_true rfl, Nat.le_of_ble_eq_true rfl⟩) (k_preV hs hm hS (mw.recv hs hm (mt_ne (lay.z hA.c2) (by decide)) (ct2 (lay.z hA.c2)) rfl)) rfl rfl hl.1 rfl (lv_room (Nat.le_of_ble_eq_true rfl)) dX1_plant_56 ⟨Nat.le_of_ble_eq_true rfl, Nat.le_of_ble_eq_true rfl⟩) hS (fun En_10 ce_10 q_10 u9_10 H locs hp_10 hB_10 hS h1_10 h2_10 h3_10 => ?_) (fun r_10 u_10 H locs hw_10 hm_10 hS => ?_)
          · obtain ⟨c_10, hu9_10⟩ := hp_10
            replace hu9_10 := hu9_10.symm
            subst hu9_10
            obtain ⟨hE_10, hq0_10, hm⟩ := hB_10
            subst hE_10
            refine vx_catch (name := "CliffPlots$Refused") hown [] ⟨48, 62, 63, 7⟩ [] htab (fun z hz => Or.inl (by revert z; decide)) (by decide) (by decide) (hts _ q741) (hs.2.2.1.at q754 rfl rfl) h1_10 h2_10 h3_10 ?_
            refine lv_astore (lv' := [(4, _), (0, _), (1, _), (2, _), (3, _)]) hx hb dX1_plant_63 hl (by decide) rfl (fun ls hl => ?_)
            refine lv_aload_n hx hb dX1_plant_65 rfl (lv_at hl 1 rfl) ?_
            refine lv_aload hx hb dX1_plant_66 (lv_at hl 0 rfl) ?_
            refine k_callr (B := fun (u : mm) r H => mw E t u H ∧ va_at E.1 clA (r, .inr (14, [])) H) (va_runV (As := [.ref q_10]) (rest := []) ⟨hx, hb, hml, hown, hts⟩ (cm1_because l E hl9 t ((C2_plant t u_9 ((c + 65)) (x) (y) (z)).2.2.2) c q_10 ((C2_plant t u_9 ((c + 65)) (x) (y) (z)).1) ((C2_plant t u_9 ((c + 65)) (x) (y) (z)).2.1) hA.z hq0_10) (cwV 1 hts (lw_V q783 q785 qs9 q58 q786) rfl rfl rfl (by decide +kernel) ⟨Nat.le_of_ble_eq_true rfl, Nat.le_of_ble_eq_true rfl⟩) (k_preV hs hm hS (mw.recv hs hm (mt_ne (push_at hq0_10 hA.z) (by decide)) (ct1 (push_at hq0_10 hA.z)) rfl)) rfl rfl hl.1 rfl (lv_room (Nat.le_of_ble_eq_true rfl)) dX1_plant_68 ⟨Nat.le_of_ble_eq_true rfl, Nat.le_of_ble_eq_true rfl⟩) hS (fun r9 u8 H locs hu8 hm8 hS => ?_)
            subst hu8
            obtain ⟨hm, hat8⟩ := hm8
            refine vx_athrow hx hb dX1_plant_71 ?_
            obtain ⟨ce8, h1_10, h2_10, h3_10⟩ := kx_cell hs hat8 (show clA[14]? = some (RJ13, TJ13, 0) from rfl)
            subst hu_9
            subst hX7
            subst hr_5
            subst hX3
            subst hr_1
            have e9 : C1_plant t M c x y z = _ := (if_neg c_4).trans ((if_neg c_8).trans ((if_neg c_10).trans (rfl)))
            exact kx_out (BX := fun En q u H => XS E t (C1_plant t M c x y z).1 En q u H) (u := _) (by rw [htab]; decide) hlocks (xs_leaf e9 (by decide) (show XS E t 2 (exN 2) r9 _ H from ⟨rfl, hm⟩)).1 (xs_leaf e9 (by decide) (show XS E t 2 (exN 2) r9 _ H from ⟨rfl, hm⟩)).2 hS h1_10 h2_10 h3_10 (Nat.le_of_ble_eq_true rfl) (Nat.le_of_ble_eq_true rfl)
          · obtain ⟨c_10, hr_10, hu_10⟩ := hw_10
            have hm := hm_10
            refine k_calli (va_runV (As := [.int (r_10)]) (rest := []) ⟨hx, hb, hml, hown, hts⟩ (cm1_becomes l E t u_10  (c) (r_10) hA K S (show wfA u_10 c K S from by rw [hu_10, hu_9]; exact (tryOn_wf hw hT).tried (far_plant hT hp2.2 (hN (hr_1 ▸ hp.1) hp.2 hn1)) (hO (hr_1 ▸ hp.1) (hp.2) (hn1)))) (cwV 1 hts (lw_V q779 q781 qs8 q58 q782) rfl rfl rfl (by decide +kernel) ⟨Nat.le_of_ble_eq_true rfl, Nat.le_of_ble_eq_true rfl⟩) (k_preV hs hm hS (mw.recv hs hm (mt_ne hA.z (by decide)) (ct1 hA.z) rfl)) rfl rfl hl.1 rfl (lv_room (Nat.le_of_ble_eq_true rfl)) dX1_plant_59 ⟨Nat.le_of_ble_eq_true rfl, Nat.le_of_ble_eq_true rfl⟩) hS (fun r_11 u_11 H locs hw_11 hm_11 hS => ?_)
            obtain ⟨hr_11, hu_11⟩ := hw_11
            have hm := hm_11
            subst hu_11
            subst hr_11
            subst hu_10
            subst hr_10
            subst hu_9
            subst hX7
            subst hr_5
            subst hX3
            subst hr_1
            refine vx_ret ?_
            refine W.widen (k := 5) (n := 34) (Nat.le_of_ble_eq_true rfl) (Nat.le_of_ble_eq_true rfl) ?_
            exact W.iret (v := _) hx hb hr (fun t9 ht9 _ => ⟨⟨_, _, rfl, pp3 ((if_neg c_4).trans ((if_neg c_8).trans ((if_pos c_10).trans (rfl)))), hb9 ht9 hm⟩, hS.F ht9⟩) hS.2.2 dX1_plant_62
      · refine lv_ifnullQ (tgt := 44) hx hb dX1_plant_37 (by decide) (fun c_6 => ?_) (fun c_6 => ?_)
        · refine lv_iconst (v := (0 : Int32)) hx hb dX1_plant_44 (by decide) ?_
          exact J7 ((0 : Int32)) _ _ _ ⟨((if_pos c_6).trans (rfl)).symm, hm, hS, lv_sub hl [0, 1, 2, 3] rfl⟩
        · refine lv_iconst (v := (1 : Int32)) hx hb dX1_plant_40 (by decide) ?_
          refine lv_goto (tgt := 45) hx hb dX1_plant_41 (by decide) ?_
          exact J7 ((1 : Int32)) _ _ _ ⟨((if_neg c_6).trans (rfl)).symm, hm, hS, lv_sub hl [0, 1, 2, 3] rfl⟩
  · refine lv_if_eq (tgt := 23) hx hb dX1_plant_8 (by decide) (fun c_2 => ?_) (fun c_2 => ?_)
    · refine lv_iconst (v := (0 : Int32)) hx hb dX1_plant_23 (by decide) ?_
      exact J3 ((0 : Int32)) _ _ _ ⟨((if_pos c_2).trans (rfl)).symm, hm, hS, lv_sub hl [0, 1, 2, 3] rfl⟩
    · refine lv_iload_n hx hb dX1_plant_11 rfl (lv_at hl 2 rfl) ?_
      refine lv_iload_n hx hb dX1_plant_12 rfl (lv_at hl 3 rfl) ?_
      refine k_calli (va_runS (As := [.int (y), .int (z)]) (rest := []) ⟨hx, hb, hml, hown, hts⟩ (cm1_isPlace l E (y) (z) _) (va_cwS 2 hts (lw_S q1039 q1040 q58 q1041) rfl rfl rfl (by decide +kernel) ⟨Nat.le_of_ble_eq_true rfl, Nat.le_of_ble_eq_true rfl⟩) (k_pure hs hS) rfl rfl hl.1 rfl (lv_room (Nat.le_of_ble_eq_true rfl)) dX1_plant_13 ⟨Nat.le_of_ble_eq_true rfl, Nat.le_of_ble_eq_true rfl⟩) hS (fun r_12 u_12 H9 locs hw_12 hm_12 hS => ?_)
      replace hm_12 : _ = H9 := Eq.symm hm_12
      subst hm_12
      have hr_12 := hw_12
      refine lv_if_eq (tgt := 23) hx hb dX1_plant_16 (by decide) (fun c_13 => ?_) (fun c_13 => ?_)
      · refine lv_iconst (v := (0 : Int32)) hx hb dX1_plant_23 (by decide) ?_
        subst hr_12
        exact J3 (_) _ _ _ ⟨((if_neg c_2).trans ((if_pos c_13).trans (rfl))).symm, hm, hS, lv_sub hl [0, 1, 2, 3] rfl⟩
      · refine lv_iconst (v := (1 : Int32)) hx hb dX1_plant_19 (by decide) ?_
        refine lv_goto (tgt := 24) hx hb dX1_plant_20 (by decide) ?_
        subst hr_12
        exact J3 (_) _ _ _ ⟨((if_neg c_2).trans ((if_neg c_13).trans (rfl))).symm, hm, hS, lv_sub hl [0, 1, 2, 3] rfl⟩
def C1_pour (t : mt) (M : mm) (c : Nat) (x : Int32) (y : Int32) (z : Int32) : Int32 × Int32 × mm :=
  let r_1 := C2_isShed t M ((c + 1)) (x);
  let x3 := if r_1 = 0 then (0 : Int32) else let r_11 := C1_isPlot (y); if r_11 = 0 then (0 : Int32) else (1 : Int32);
  let r_5 := C1_in (z) ((1 : Int32)) ((90 : Int32));
  let u_7 := (C1_tryOn t M (c) ).2;
  let r_8 := (C2_pour t u_7 ((c + 65)) (x) (y) (z)).2.2.1;
  let u_8 := (C2_pour t u_7 ((c + 65)) (x) (y) (z)).2.2.2;
  let r_9 := T_fbits (r_8);
  let r_10 := (C1_becomes t u_8 (c) (r_9)).1;
  let u_10 := (C1_becomes t u_8 (c) (r_9)).2;
  if x3 = 0 then
    ((3 : Int32), (0 : Int32), M)
  else
    let r_5 := C1_in (z) ((1 : Int32)) ((90 : Int32));
    let u_7 := (C1_tryOn t M (c) ).2;
    let r_8 := (C2_pour t u_7 ((c + 65)) (x) (y) (z)).2.2.1;
    let u_8 := (C2_pour t u_7 ((c + 65)) (x) (y) (z)).2.2.2;
    let r_9 := T_fbits (r_8);
    let r_10 := (C1_becomes t u_8 (c) (r_9)).1;
    let u_10 := (C1_becomes t u_8 (c) (r_9)).2;
    if r_5 = 0 then
      ((1 : Int32), (0 : Int32), M)
    else
      let u_7 := (C1_tryOn t M (c) ).2;
      let r_8 := (C2_pour t u_7 ((c + 65)) (x) (y) (z)).2.2.1;
      let u_8 := (C2_pour t u_7 ((c + 65)) (x) (y) (z)).2.2.2;
      let r_9 := T_fbits (r_8);
      let r_10 := (C1_becomes t u_8 (c) (r_9)).1;
      let u_10 := (C1_becomes t u_8 (c) (r_9)).2;
      if (C2_pour t u_7 ((c + 65)) (x) (y) (z)).1 = 0 then
        let r_9 := T_fbits (r_8);
        let r_10 := (C1_becomes t u_8 (c) (r_9)).1;
        let u_10 := (C1_becomes t u_8 (c) (r_9)).2;
        ((0 : Int32), r_10, u_10)
      else
        ((2 : Int32), (0 : Int32), (refM (C2_pour t u_7 ((c + 65)) (x) (y) (z)).2.2.2 c (C2_pour t u_7 ((c + 65)) (x) (y) (z)).1 (C2_pour t u_7 ((c + 65)) (x) (y) (z)).2.1))
set_option maxHeartbeats 4000000 in
theorem cm1_pour (l : Launch) (E : mE) (hl9 : l.stackTraces = false) (t : mt) (M : mm) (c : Nat) (x : Int32) (y : Int32) (z : Int32) (hA : layA t c) (K S : List Nat) (hw : wfA M c K S) (hT : wfK (C1_tryOn t M c).2 (c + 65)) (hO : (¬ C2_isShed t M (c + 1) x = 0) → ¬ C1_isPlot y = 0 → ¬ C1_in z 1 90 = 0 → wfK (C2_pour t (C1_tryOn t M c).2 (c + 65) x y z).2.2.2 (c + 65)) : vx_Met l yX1_pour (wsW_ yX1_pour cX1_pour 5 (some .int) [((36 : Nat), (53 : Nat), (54 : Nat), (7 : Nat))]) ({ frames := 10, cells := 5, slots := 34, locals := 206 }) (va_Pc [.ref c, .int x, .int y, .int z] (wP E t M)) (va_Qi (fun (r : Int32) (u : mm) => (C1_pour t M c x y z).1 = 0 ∧ r = (C1_pour t M c x y z).2.1 ∧ u = (C1_pour t M c x y z).2.2) (fun u U => mw E t u U.heap) (eA E)) (vx_X (fun (u : mm) => ¬ (C1_pour t M c x y z).1 = 0 ∧ u = (C1_pour t M c x y z).2.2) (fun En q u U => XS E t (C1_pour t M c x y z).1 En q u U.heap) (eA E)) 5 34 (eA E) := by
  refine vx_ofWH (cc := cX1_pour) (maxL := 5) (ret := (some .int)) (hh := [((36 : Nat), (53 : Nat), (54 : Nat), (7 : Nat))]) (by decide) rfl ?_
  intro p e s m args below meth c0 s₁ B hml hv
  obtain ⟨rfl, hs, hm⟩ := hv
  have hx := B.exec
  have hb := B.bytes
  have hr := B.returns
  have hts := atoms_spec (ws := wsW_ yX1_pour cX1_pour 5 (some .int) [((36 : Nat), (53 : Nat), (54 : Nat), (7 : Nat))]) B.pre
  have hts : ∀ w ∈ lw_all, w.before _ s = true := fun w h => hts w (List.mem_cons_of_mem _ h)
  have hown : s.vm.findClass RX1 = some m.cls := findClass_of_methodNamed B.named
  have hlocks := B.notSynchronized
  have htab := vx_table (x := yX1_pour) B (atoms_spec (ws := wsW_ yX1_pour cX1_pour 5 (some .int) [((36 : Nat), (53 : Nat), (54 : Nat), (7 : Nat))]) B.pre _ List.mem_cons_self)
  have hS : va_S (eA E) s.heap s.heap [] := va_S.rf
  have hl := lv_entry ([.ref c, .int x, .int y, .int z]) (n := 5) (Nat.le_of_ble_eq_true rfl)
  rw [lg_entry_eq]
  generalize (lg_sl ([.ref c, .int x, .int y, .int z]) ++ List.replicate (5 - (lg_sl ([.ref c, .int x, .int y, .int z])).length) Slot.unset).toArray = ls at hl ⊢
  have hl : lv_has ls 5 [(0, .ref (c)), (1, .int (x)), (2, .int (y)), (3, .int (z))] := hl
  refine lv_aload_n hx hb dX1_pour_0 rfl (lv_at hl 0 rfl) ?_
  refine gf_100 hx hb hts hown hs hm hA.z (hts _ q519) dX1_pour_1 ?_
  refine lv_iload_n hx hb dX1_pour_4 rfl (lv_at hl 1 rfl) ?_
  refine k_calli (va_runV (As := [.int (x)]) (rest := []) ⟨hx, hb, hml, hown, hts⟩ (cm2_isShed l E t M  ((c + 1)) (x) hA.c1 ) (cwV 1 hts (lw_V q1163 q1164 q1165 q59 q1166) rfl rfl rfl (by decide +kernel) ⟨Nat.le_of_ble_eq_true rfl, Nat.le_of_ble_eq_true rfl⟩) (k_preV hs hm hS (mw.recv hs hm (mt_ne (lay.z hA.c1) (by decide)) (ct2 (lay.z hA.c1)) rfl)) rfl rfl hl.1 rfl (lv_room (Nat.le_of_ble_eq_true rfl)) dX1_pour_5 ⟨Nat.le_of_ble_eq_true rfl, Nat.le_of_ble_eq_true rfl⟩) hS (fun r_1 u_1 H locs hw_1 hm_1 hS => ?_)
  obtain ⟨hr_1, hu_1⟩ := hw_1
  replace hu_1 := hu_1.symm
  subst hu_1
  have hm := hm_1
  refine k_join (fun (x3 : Int32) H locs ls => x3 = (if r_1 = 0 then (0 : Int32) else let r_11 := C1_isPlot (y); if r_11 = 0 then (0 : Int32) else (1 : Int32)) ∧ mw E t (M) H ∧ va_S (eA E) s.heap H locs ∧ lv_has ls 5 [(0, .ref (c)), (1, .int (x)), (2, .int (y)), (3, .int (z))]) (fun (x3 : Int32) ls => F0 m 23 ls [.int (x3)]) (fun x3 H locs ls hJ => ?_) (fun J3 => ?_)
  · obtain ⟨hX3, hm, hS, hl⟩ := hJ
    refine kx_callv (BX := fun En q u H => XS E t 3 En q u H) (vx_runS (As := [.int (x3)]) (rest := []) ⟨hx, hb, hml, hown, hts⟩ (cm1_checkIndex l E hl9 t M  (x3) ) (va_cwS 1 hts (lw_S q841 q842 q58 q843) rfl rfl rfl (by decide +kernel) ⟨Nat.le_of_ble_eq_true rfl, Nat.le_of_ble_eq_true rfl⟩) (k_preS hs hm hS) rfl rfl hl.1 rfl (lv_room (Nat.le_of_ble_eq_true rfl)) dX1_pour_23 ⟨Nat.le_of_ble_eq_true rfl, Nat.le_of_ble_eq_true rfl⟩) hS (fun En_4 ce_4 q_4 u9_4 H locs hp_4 hB_4 hS h1_4 h2_4 h3_4 => ?_) (fun u_4 H locs hw_4 hm_4 hS => ?_)
    · obtain ⟨c_4, hu9_4⟩ := hp_4
      replace hu9_4 := hu9_4.symm
      subst hu9_4
      subst hX3
      subst hr_1
      have e9 : C1_pour t M c x y z = _ := (if_pos c_4).trans (rfl)
      exact kx_out (BX := fun En q u H => XS E t (C1_pour t M c x y z).1 En q u H) (u := _) (by rw [htab]; decide) hlocks (xs_leaf e9 (by decide) hB_4).1 (xs_leaf e9 (by decide) hB_4).2 hS h1_4 h2_4 h3_4 (Nat.le_of_ble_eq_true rfl) (Nat.le_of_ble_eq_true rfl)
    · obtain ⟨c_4, hu_4⟩ := hw_4
      replace hu_4 := hu_4.symm
      subst hu_4
      have hm := hm_4
      have hp := and2 hX3 c_4
      have hp1 := cshd_ix hw.w1.n2 (hr_1 ▸ hp.1)
      have hp2 : ix 12 y := cplot_ix hp.2
      refine lv_iload_n hx hb dX1_pour_26 rfl (lv_at hl 3 rfl) ?_
      refine lv_iconst (v := (1 : Int32)) hx hb dX1_pour_27 (by decide) ?_
      refine lv_bipush (v := (90 : Int32)) hx hb dX1_pour_28 (by decide) ?_
      refine k_calli (va_runS (As := [.int (z), .int ((1 : Int32)), .int ((90 : Int32))]) (rest := []) ⟨hx, hb, hml, hown, hts⟩ (cm1_in l E (z) ((1 : Int32)) ((90 : Int32)) _) (va_cwS 3 hts (lw_S q699 q700 q58 q701) rfl rfl rfl (by decide +kernel) ⟨Nat.le_of_ble_eq_true rfl, Nat.le_of_ble_eq_true rfl⟩) (k_pure hs hS) rfl rfl hl.1 rfl (lv_room (Nat.le_of_ble_eq_true rfl)) dX1_pour_30 ⟨Nat.le_of_ble_eq_true rfl, Nat.le_of_ble_eq_true rfl⟩) hS (fun r_5 u_5 H9 locs hw_5 hm_5 hS => ?_)
      replace hm_5 : _ = H9 := Eq.symm hm_5
      subst hm_5
      have hr_5 := hw_5
      refine kx_callv (BX := fun En q u H => XS E t 1 En q u H) (vx_runS (As := [.int (r_5)]) (rest := []) ⟨hx, hb, hml, hown, hts⟩ (cm1_check l E hl9 t M  (r_5) ) (va_cwS 1 hts (lw_S q702 q703 q58 q704) rfl rfl rfl (by decide +kernel) ⟨Nat.le_of_ble_eq_true rfl, Nat.le_of_ble_eq_true rfl⟩) (k_preS hs hm hS) rfl rfl hl.1 rfl (lv_room (Nat.le_of_ble_eq_true rfl)) dX1_pour_33 ⟨Nat.le_of_ble_eq_true rfl, Nat.le_of_ble_eq_true rfl⟩) hS (fun En_6 ce_6 q_6 u9_6 H locs hp_6 hB_6 hS h1_6 h2_6 h3_6 => ?_) (fun u_6 H locs hw_6 hm_6 hS => ?_)
      · obtain ⟨c_6, hu9_6⟩ := hp_6
        replace hu9_6 := hu9_6.symm
        subst hu9_6
        subst hr_5
        subst hX3
        subst hr_1
        have e9 : C1_pour t M c x y z = _ := (if_neg c_4).trans ((if_pos c_6).trans (rfl))
        exact kx_out (BX := fun En q u H => XS E t (C1_pour t M c x y z).1 En q u H) (u := _) (by rw [htab]; decide) hlocks (xs_leaf e9 (by decide) hB_6).1 (xs_leaf e9 (by decide) hB_6).2 hS h1_6 h2_6 h3_6 (Nat.le_of_ble_eq_true rfl) (Nat.le_of_ble_eq_true rfl)
      · obtain ⟨c_6, hu_6⟩ := hw_6
        replace hu_6 := hu_6.symm
        subst hu_6
        have hm := hm_6
        have hq := c_6
        have hp3 : ix 91 z := cin90_ix (hr_5 ▸ hq)
        refine lv_aload_n hx hb dX1_pour_36 rfl (lv_at hl 0 rfl) ?_
        refine lv_aload_n hx hb dX1_pour_37 rfl (lv_at hl 0 rfl) ?_
        refine k_callq (va_runV (As := []) (rest := [.ref (c)]) ⟨hx, hb, hml, hown, hts⟩ (cm1_tryOn l E t M  (c)  hA K S hw) (cwV 0 hts (lw_V q742 q744 qs7 q58 q745) rfl rfl rfl (by decide +kernel) ⟨Nat.le_of_ble_eq_true rfl, Nat.le_of_ble_eq_true rfl⟩) (k_preV hs hm hS (mw.recv hs hm (mt_ne hA.z (by decide)) (ct1 hA.z) rfl)) rfl rfl hl.1 rfl (lv_room (Nat.le_of_ble_eq_true rfl)) dX1_pour_38 ⟨Nat.le_of_ble_eq_true rfl, Nat.le_of_ble_eq_true rfl⟩) hS (fun r_7 u_7 H locs hw_7 hm_7 hS => ?_)
        obtain ⟨hr_7, hu_7⟩ := hw_7
        have hm := hm_7
        obtain ⟨n_7, hn_7⟩ : ∃ n, n = (C1_tryOn t M (c) ).1 := ⟨_, rfl⟩
        rw [← hn_7] at hr_7
        subst hr_7
        have hr_7 := hn_7
        clear hn_7
        obtain rfl : n_7 = (c + 65) := hr_7
        refine lv_iload_n hx hb dX1_pour_41 rfl (lv_at hl 1 rfl) ?_
        refine lv_iload_n hx hb dX1_pour_42 rfl (lv_at hl 2 rfl) ?_
        refine lv_iload_n hx hb dX1_pour_43 rfl (lv_at hl 3 rfl) ?_
        refine kx_callf (BX := fun En q u H => XR E t (C2_pour t u_7 ((c + 65)) (x) (y) (z)).1 (C2_pour t u_7 ((c + 65)) (x) (y) (z)).2.1 En q u H) (vx_runV (As := [.int (x), .int (y), .int (z)]) (rest := [.ref (c)]) ⟨hx, hb, hml, hown, hts⟩ (cm2_pour l E hl9 t u_7  ((c + 65)) (x) (y) (z) hA.c2 hp1.1 hp2 hp3 (by rw [hu_7]; exact ((hT.2.2.2.2.2.1 _ hp1.1.nlt (by rw [(show gI (C1_tryOn t M c).2 212 (c + 65) = gI M 212 (c + 1) from take_gI t M (c + 65) (c + 1) (by decide) (by decide))]; exact hp1.2)).2.1)) (show wfK u_7 (c + 65) from by rw [hu_7]; exact hT).wa) (cwV 3 hts (lw_V q1196 q1197 q1198 q59 q1199) rfl rfl rfl (by decide +kernel) ⟨Nat.le_of_ble_eq_true rfl, Nat.le_of_ble_eq_true rfl⟩) (k_preV hs hm hS (mw.recv hs hm (mt_ne (lay.z hA.c2) (by decide)) (ct2 (lay.z hA.c2)) rfl)) rfl rfl hl.1 rfl (lv_room (Nat.le_of_ble_eq_true rfl)) dX1_pour_44 ⟨Nat.le_of_ble_eq_true rfl, Nat.le_of_ble_eq_true rfl⟩) hS (fun En_8 ce_8 q_8 u9_8 H locs hp_8 hB_8 hS h1_8 h2_8 h3_8 => ?_) (fun r_8 u_8 H locs hw_8 hm_8 hS => ?_)
        · obtain ⟨c_8, hu9_8⟩ := hp_8
          replace hu9_8 := hu9_8.symm
          subst hu9_8
          obtain ⟨hE_8, hq0_8, hm⟩ := hB_8
          subst hE_8
          refine vx_catch (name := "CliffPlots$Refused") hown [] ⟨36, 53, 54, 7⟩ [] htab (fun z hz => Or.inl (by revert z; decide)) (by decide) (by decide) (hts _ q741) (hs.2.2.1.at q754 rfl rfl) h1_8 h2_8 h3_8 ?_
          refine lv_astore (lv' := [(4, _), (0, _), (1, _), (2, _), (3, _)]) hx hb dX1_pour_54 hl (by decide) rfl (fun ls hl => ?_)
          refine lv_aload_n hx hb dX1_pour_56 rfl (lv_at hl 1 rfl) ?_
          refine lv_aload hx hb dX1_pour_57 (lv_at hl 0 rfl) ?_
          refine k_callr (B := fun (u : mm) r H => mw E t u H ∧ va_at E.1 clA (r, .inr (14, [])) H) (va_runV (As := [.ref q_8]) (rest := []) ⟨hx, hb, hml, hown, hts⟩ (cm1_because l E hl9 t ((C2_pour t u_7 ((c + 65)) (x) (y) (z)).2.2.2) c q_8 ((C2_pour t u_7 ((c + 65)) (x) (y) (z)).1) ((C2_pour t u_7 ((c + 65)) (x) (y) (z)).2.1) hA.z hq0_8) (cwV 1 hts (lw_V q783 q785 qs9 q58 q786) rfl rfl rfl (by decide +kernel) ⟨Nat.le_of_ble_eq_true rfl, Nat.le_of_ble_eq_true rfl⟩) (k_preV hs hm hS (mw.recv hs hm (mt_ne (push_at hq0_8 hA.z) (by decide)) (ct1 (push_at hq0_8 hA.z)) rfl)) rfl rfl hl.1 rfl (lv_room (Nat.le_of_ble_eq_true rfl)) dX1_pour_59 ⟨Nat.le_of_ble_eq_true rfl, Nat.le_of_ble_eq_true rfl⟩) hS (fun r9 u8 H locs hu8 hm8 hS => ?_)
          subst hu8
          obtain ⟨hm, hat8⟩ := hm8
          refine vx_athrow hx hb dX1_pour_62 ?_
          obtain ⟨ce8, h1_8, h2_8, h3_8⟩ := kx_cell hs hat8 (show clA[14]? = some (RJ13, TJ13, 0) from rfl)
          subst hu_7
          subst hr_5
          subst hX3
          subst hr_1
          have e9 : C1_pour t M c x y z = _ := (if_neg c_4).trans ((if_neg c_6).trans ((if_neg c_8).trans (rfl)))
          exact kx_out (BX := fun En q u H => XS E t (C1_pour t M c x y z).1 En q u H) (u := _) (by rw [htab]; decide) hlocks (xs_leaf e9 (by decide) (show XS E t 2 (exN 2) r9 _ H from ⟨rfl, hm⟩)).1 (xs_leaf e9 (by decide) (show XS E t 2 (exN 2) r9 _ H from ⟨rfl, hm⟩)).2 hS h1_8 h2_8 h3_8 (Nat.le_of_ble_eq_true rfl) (Nat.le_of_ble_eq_true rfl)
        · obtain ⟨c_8, hr_8, hu_8⟩ := hw_8
          have hm := hm_8
          refine k_calli (va_runS (As := [.float (r_8)]) (rest := [.ref (c)]) ⟨hx, hb, hml, hown, hts⟩ (jm_J16_floatToIntBits l E (r_8) _) (va_cwS 1 hts (lw_S q930 q931 q87 q932) rfl rfl rfl (by decide +kernel) ⟨Nat.le_of_ble_eq_true rfl, Nat.le_of_ble_eq_true rfl⟩) (k_pure hs hS) rfl rfl hl.1 rfl (lv_room (Nat.le_of_ble_eq_true rfl)) dX1_pour_47 ⟨Nat.le_of_ble_eq_true rfl, Nat.le_of_ble_eq_true rfl⟩) hS (fun r_9 u_9 H9 locs hw_9 hm_9 hS => ?_)
          replace hm_9 : _ = H9 := Eq.symm hm_9
          subst hm_9
          have hr_9 := hw_9
          refine k_calli (va_runV (As := [.int (r_9)]) (rest := []) ⟨hx, hb, hml, hown, hts⟩ (cm1_becomes l E t u_8  (c) (r_9) hA K S (show wfA u_8 c K S from by rw [hu_8, hu_7]; exact (tryOn_wf hw hT).tried (far_pour hp1.1) (hO (hr_1 ▸ hp.1) (hp.2) (hr_5 ▸ hq)))) (cwV 1 hts (lw_V q779 q781 qs8 q58 q782) rfl rfl rfl (by decide +kernel) ⟨Nat.le_of_ble_eq_true rfl, Nat.le_of_ble_eq_true rfl⟩) (k_preV hs hm hS (mw.recv hs hm (mt_ne hA.z (by decide)) (ct1 hA.z) rfl)) rfl rfl hl.1 rfl (lv_room (Nat.le_of_ble_eq_true rfl)) dX1_pour_50 ⟨Nat.le_of_ble_eq_true rfl, Nat.le_of_ble_eq_true rfl⟩) hS (fun r_10 u_10 H locs hw_10 hm_10 hS => ?_)
          obtain ⟨hr_10, hu_10⟩ := hw_10
          have hm := hm_10
          subst hu_10
          subst hr_10
          subst hr_9
          subst hu_8
          subst hr_8
          subst hu_7
          subst hr_5
          subst hX3
          subst hr_1
          refine vx_ret ?_
          refine W.widen (k := 5) (n := 34) (Nat.le_of_ble_eq_true rfl) (Nat.le_of_ble_eq_true rfl) ?_
          exact W.iret (v := _) hx hb hr (fun t9 ht9 _ => ⟨⟨_, _, rfl, pp3 ((if_neg c_4).trans ((if_neg c_6).trans ((if_pos c_8).trans (rfl)))), hb9 ht9 hm⟩, hS.F ht9⟩) hS.2.2 dX1_pour_53
  · refine lv_if_eq (tgt := 22) hx hb dX1_pour_8 (by decide) (fun c_2 => ?_) (fun c_2 => ?_)
    · refine lv_iconst (v := (0 : Int32)) hx hb dX1_pour_22 (by decide) ?_
      exact J3 ((0 : Int32)) _ _ _ ⟨((if_pos c_2).trans (rfl)).symm, hm, hS, lv_sub hl [0, 1, 2, 3] rfl⟩
    · refine lv_iload_n hx hb dX1_pour_11 rfl (lv_at hl 2 rfl) ?_
      refine k_calli (va_runS (As := [.int (y)]) (rest := []) ⟨hx, hb, hml, hown, hts⟩ (cm1_isPlot l E (y) _) (va_cwS 1 hts (lw_S q838 q839 q58 q840) rfl rfl rfl (by decide +kernel) ⟨Nat.le_of_ble_eq_true rfl, Nat.le_of_ble_eq_true rfl⟩) (k_pure hs hS) rfl rfl hl.1 rfl (lv_room (Nat.le_of_ble_eq_true rfl)) dX1_pour_12 ⟨Nat.le_of_ble_eq_true rfl, Nat.le_of_ble_eq_true rfl⟩) hS (fun r_11 u_11 H9 locs hw_11 hm_11 hS => ?_)
      replace hm_11 : _ = H9 := Eq.symm hm_11
      subst hm_11
      have hr_11 := hw_11
      refine lv_if_eq (tgt := 22) hx hb dX1_pour_15 (by decide) (fun c_12 => ?_) (fun c_12 => ?_)
      · refine lv_iconst (v := (0 : Int32)) hx hb dX1_pour_22 (by decide) ?_
        subst hr_11
        exact J3 (_) _ _ _ ⟨((if_neg c_2).trans ((if_pos c_12).trans (rfl))).symm, hm, hS, lv_sub hl [0, 1, 2, 3] rfl⟩
      · refine lv_iconst (v := (1 : Int32)) hx hb dX1_pour_18 (by decide) ?_
        refine lv_goto (tgt := 23) hx hb dX1_pour_19 (by decide) ?_
        subst hr_11
        exact J3 (_) _ _ _ ⟨((if_neg c_2).trans ((if_neg c_12).trans (rfl))).symm, hm, hS, lv_sub hl [0, 1, 2, 3] rfl⟩
