set_option maxRecDepth 100000
/-! CliffPlots.meanBits; the wrappers water, butt, append, read -/
theorem water_kd {t : mt} {M : mm} {a : Nat} {K S : List Nat} {x : Int32} (hw : wfA M a K S) (h0 : (C1_water t M a x).1 = 0) : kd false 12 (C1_water t M a x).2.1 := by
  unfold C1_water at h0 ⊢
  dsimp only at h0 ⊢
  by_cases e : C1_isPlot x = 0
  · rw [if_pos e] at h0; exact absurd (show (3 : Int32) = 0 from h0) (by decide)
  · rw [if_neg e]; exact hw.w1.wa _ (cplot_ix e).nlt
theorem butt_kd {t : mt} {M : mm} {a : Nat} {K S : List Nat} {x : Int32} (hw : wfA M a K S) (h0 : (C1_butt t M a x).1 = 0) : kd false 7 (C1_butt t M a x).2.1 := by
  unfold C1_butt at h0 ⊢
  dsimp only at h0 ⊢
  by_cases e : C2_isShed t M (a + 1) x = 0
  · rw [if_pos e] at h0; exact absurd (show (3 : Int32) = 0 from h0) (by decide)
  · rw [if_neg e]
    have h1 := cshd_ix hw.w1.n2 e
    exact (hw.w1.2.2.2.2.2.1 _ h1.1.nlt h1.2).2.1
theorem rdD_code {t : mt} {c : Nat} : ∀ (f k : Nat) (N : mm), (rdD t c f k N).1 = 0 ∨ (rdD t c f k N).1 = 1 ∨ (rdD t c f k N).1 = 2
  | 0, k, N => by rw [rdD_0]; exact .inl rfl
  | f + 1, k, N => by
    rw [rdD_s]
    by_cases e : C9_isRight t N (c + 199) (c + 65) (nI k) = 0
    · rw [if_pos e]; exact .inr (.inl rfl)
    · rw [if_neg e]
      by_cases e1 : (C9_does t N (c + 199) (c + 65) (nI k)).1 = 0
      · rw [if_pos e1]; exact rdD_code f _ _
      · rw [if_neg e1]; exact .inr (.inr rfl)
def C1_meanBits (t : mt) (M : mm) (c : Nat) : Int64 := T_dbits (FP.ddiv (sumW (aF M ((c + 1) + 1)) 12) (4622945017495814144 : UInt64))
set_option maxHeartbeats 4000000 in
theorem cm1_meanBits (l : Launch) (E : mE) (t : mt) (M : mm) (c : Nat)  (hA : layA t c) (K S : List Nat) (hw : wfA M c K S) : Met l yX1_meanBits (ws_ yX1_meanBits cX1_meanBits 4 (some .long)) ({ frames := 2, cells := 0, slots := 0, locals := 61 }) (va_Pc [.ref c] (wP E t M)) (va_Ql (fun (r : Int64) (u : mm) => r = (C1_meanBits t M c ) ∧ u = M) (fun u U => mw E t u U.heap) (eA E)) 0 0 (eA E) := by
  refine Met.ofW (cc := cX1_meanBits) (maxL := 4) (ret := (some .long)) (by decide) rfl ?_
  intro p e s m args below meth c0 s₁ B hml hv
  obtain ⟨rfl, hs, hm⟩ := hv
  have hx := B.exec
  have hb := B.bytes
  have hr := B.returns
  have hts := atoms_spec (ws := ws_ yX1_meanBits cX1_meanBits 4 (some .long)) B.pre
  have hts : ∀ w ∈ lw_all, w.before _ s = true := fun w h => hts w (List.mem_cons_of_mem _ h)
  have hown : s.vm.findClass RX1 = some m.cls := findClass_of_methodNamed B.named
  have hlocks := B.notSynchronized
  have hS : va_S (eA E) s.heap s.heap [] := va_S.rf
  have hl := lv_entry ([.ref c]) (n := 4) (Nat.le_of_ble_eq_true rfl)
  rw [lg_entry_eq]
  generalize (lg_sl ([.ref c]) ++ List.replicate (4 - (lg_sl ([.ref c])).length) Slot.unset).toArray = ls at hl ⊢
  have hl : lv_has ls 4 [(0, .ref (c))] := hl
  refine lv_dconst0 hx hb dX1_meanBits_0 ?_
  refine lv_dstore_n (lv' := [(1, _), (0, _)]) hx hb dX1_meanBits_1 rfl hl (by decide) rfl (fun ls hl => ?_)
  refine lv_iconst (v := (0 : Int32)) hx hb dX1_meanBits_2 (by decide) ?_
  refine lv_istore_n (lv' := [(3, _), (1, _), (0, _)]) hx hb dX1_meanBits_3 rfl hl (by decide) rfl (fun ls hl => ?_)
  refine k_loop (fun k => 12 - k) (fun (k : Nat) H locs ls => (k ≤ 12) ∧ mw E t (M) H ∧ va_S (eA E) s.heap H locs ∧ lv_has ls 4 [(3, .int (nI k)), (1, .double ((sumW (aF M ((c + 1) + 1)) k))), (0, .ref (c))]) (fun (k : Nat) ls => F0 m 4 ls []) (fun k => (0, 0)) (fun k ih_1 H locs ls hP => ?_) (0) ⟨(Nat.zero_le _), hm, hS, (by rw [sumW_0]; exact lv_sub hl [0, 1, 2] rfl)⟩
  obtain ⟨hI_1, hm, hS, hl⟩ := hP
  refine lv_iload_n hx hb dX1_meanBits_4 rfl (lv_at hl 0 rfl) ?_
  refine lv_bipush (v := (12 : Int32)) hx hb dX1_meanBits_5 (by decide) ?_
  refine lv_icmp_ge (tgt := 29) hx hb dX1_meanBits_7 (by decide) (fun c_2 => ?_) (fun c_2 => ?_)
  · have hkN : k = 12 := lp_ge (by decide) hI_1 c_2
    replace hkN := hkN.symm
    subst hkN
    refine lv_dload_n hx hb dX1_meanBits_29 rfl (lv_at hl 1 rfl) ?_
    refine lv_ldc2d (v := 4622945017495814144) hx hb hown (hts _ q667) dX1_meanBits_30 ?_
    refine lv_ddiv hx hb dX1_meanBits_33 (kD.div12 (kD_sum (fun i hi => hw.w1.wa i hi) 12 (by decide))).nan ?_
    refine k_calll (va_runS (As := [.double ((FP.ddiv (sumW (aF M ((c + 1) + 1)) 12) (4622945017495814144 : UInt64)))]) (rest := []) ⟨hx, hb, hml, hown, hts⟩ (jm_J24_doubleToLongBits l E ((FP.ddiv (sumW (aF M ((c + 1) + 1)) 12) (4622945017495814144 : UInt64))) _) (va_cwS 1 hts (lw_S q668 q669 q96 q670) rfl rfl rfl (by decide +kernel) ⟨Nat.le_of_ble_eq_true rfl, Nat.le_of_ble_eq_true rfl⟩) (k_pure hs hS) rfl rfl hl.1 rfl (lv_room (Nat.le_of_ble_eq_true rfl)) dX1_meanBits_34 ⟨Nat.le_of_ble_eq_true rfl, Nat.le_of_ble_eq_true rfl⟩) hS (fun r_3 u_3 H9 locs hw_3 hm_3 hS => ?_)
    replace hm_3 : _ = H9 := Eq.symm hm_3
    subst hm_3
    have hr_3 := hw_3
    subst hr_3
    exact W.lret (v := _) hx hb hr (fun t9 ht9 _ => ⟨⟨_, _, rfl, ⟨(rfl).symm, rfl⟩, hb9 ht9 hm⟩, hS.F ht9⟩) hS.2.2 dX1_meanBits_37
  · have hk : k < 12 := lp_lt (by decide) hI_1 c_2
    refine lv_dload_n hx hb dX1_meanBits_10 rfl (lv_at hl 1 rfl) ?_
    refine lv_aload_n hx hb dX1_meanBits_11 rfl (lv_at hl 2 rfl) ?_
    refine gf_100 hx hb hts hown hs hm hA.z (hts _ q519) dX1_meanBits_12 ?_
    refine gfN_200 hx hb hts hown hs hm (lay.z hA.c1) q228 dX1_meanBits_15 ?_
    refine lv_iload_n hx hb dX1_meanBits_18 rfl (lv_at hl 0 rfl) ?_
    refine k_fald hx hb hs hm (lay.a1 hA.c1) (ix.at (B := 12) (⟨k, hk, rfl⟩) (by decide)) dX1_meanBits_19 ?_
    rw [show (nI k).toNatClampNeg = k from (cl_nI (by omega))]
    refine lv_f2d hx hb dX1_meanBits_20 (kD_f2d (hw.w1.wa k hk)).nan ?_
    refine lv_dadd hx hb dX1_meanBits_21 (kD.add (n := 13 + 2 * (k : Int)) (kD_sum (fun i hi => hw.w1.wa i hi) k (by omega)) ((kD_f2d (hw.w1.wa k hk)).up (by omega)) (by omega) (by omega)).nan ?_
    refine lv_dstore_n (lv' := [(1, _), (3, _), (0, _)]) hx hb dX1_meanBits_22 rfl hl (by decide) rfl (fun ls hl => ?_)
    refine lv_iinc (v := nI (k + 1)) (lv' := [(3, _), (1, _), (0, _)]) hx hb dX1_meanBits_23 hl (k := 1) rfl (nI_succ k).symm (by decide) rfl (fun ls hl => ?_)
    refine lv_goto (tgt := 4) hx hb dX1_meanBits_26 (by decide) ?_
    exact ih_1 (k + 1) (by omega) _ _ _ ⟨(by omega), hm, hS, (by rw [sumW_s]; exact lv_sub hl [0, 1, 2] rfl)⟩
theorem xc_water (t : mt) (M : mm) (c : Nat) (x : Int32) : (C1_water t M c x).1 = (0 : Int32) ∨ (C1_water t M c x).1 = (3 : Int32) := by
  unfold C1_water
  (try dsimp only)
  (repeat' split) <;> first | exact .inl rfl | exact .inr rfl | exact .inr (.inl rfl) | exact .inr (.inr rfl) | exact .inr (.inr (.inl rfl)) | exact .inr (.inr (.inr rfl))
def C0_water (t : mt) (M : mm) (a : Nat) (x : Int32) (o : Nat) : Int32 × Int32 × mm :=
  let r_1 := (C1_water t M (a) (x)).2.1;
  let u_1 := (C1_water t M (a) (x)).2.2;
  if (C1_water t M (a) (x)).1 = 0 then
    ((0 : Int32), (0 : Int32), (wD u_1 o (vf_upd (aD u_1 o) 0 (FP.f2d r_1))))
  else
    if (C1_water t M (a) (x)).1 = (3 : Int32) then
      ((0 : Int32), (1 : Int32), (C1_water t M (a) (x)).2.2)
    else
      ((0 : Int32), (0 : Int32), M)
set_option maxHeartbeats 4000000 in
theorem cm0_water (l : Launch) (E : mE) (hl9 : l.stackTraces = false) (t : mt) (M : mm) (a : Nat) (x : Int32) (o : Nat) (hA : layA t a) (ho : t o = (61, 1)) (K S : List Nat) (hw : wfA M a K S) : vx_Met l yX0_water (wsW_ yX0_water cX0_water 4 (some .int) [((0 : Nat), (9 : Nat), (12 : Nat), (28 : Nat))]) ({ frames := 8, cells := 1, slots := 6, locals := 161 }) (va_Pc [.ref a, .int x, .ref o] (wP E t M)) (va_Qi (fun (r : Int32) (u : mm) => (C0_water t M a x o).1 = 0 ∧ r = (C0_water t M a x o).2.1 ∧ u = (C0_water t M a x o).2.2) (fun u U => mw E t u U.heap) (eA E)) (vx_X (fun (u : mm) => ¬ (C0_water t M a x o).1 = 0 ∧ u = (C0_water t M a x o).2.2) (fun En q u U => XS E t (C0_water t M a x o).1 En q u U.heap) (eA E)) 1 6 (eA E) := by
  refine vx_ofWH (cc := cX0_water) (maxL := 4) (ret := (some .int)) (hh := [((0 : Nat), (9 : Nat), (12 : Nat), (28 : Nat))]) (by decide) rfl ?_
  intro p e s m args below meth c0 s₁ B hml hv
  obtain ⟨rfl, hs, hm⟩ := hv
  have hx := B.exec
  have hb := B.bytes
  have hr := B.returns
  have hts := atoms_spec (ws := wsW_ yX0_water cX0_water 4 (some .int) [((0 : Nat), (9 : Nat), (12 : Nat), (28 : Nat))]) B.pre
  have hts : ∀ w ∈ lw_all, w.before _ s = true := fun w h => hts w (List.mem_cons_of_mem _ h)
  have hown : s.vm.findClass RX0 = some m.cls := findClass_of_methodNamed B.named
  have hlocks := B.notSynchronized
  have htab := vx_table (x := yX0_water) B (atoms_spec (ws := wsW_ yX0_water cX0_water 4 (some .int) [((0 : Nat), (9 : Nat), (12 : Nat), (28 : Nat))]) B.pre _ List.mem_cons_self)
  have hS : va_S (eA E) s.heap s.heap [] := va_S.rf
  have hl := lv_entry ([.ref a, .int x, .ref o]) (n := 4) (Nat.le_of_ble_eq_true rfl)
  rw [lg_entry_eq]
  generalize (lg_sl ([.ref a, .int x, .ref o]) ++ List.replicate (4 - (lg_sl ([.ref a, .int x, .ref o])).length) Slot.unset).toArray = ls at hl ⊢
  have hl : lv_has ls 4 [(0, .ref (a)), (1, .int (x)), (2, .ref (o))] := hl
  refine lv_aload_n hx hb dX0_water_0 rfl (lv_at hl 2 rfl) ?_
  refine lv_iconst (v := (0 : Int32)) hx hb dX0_water_1 (by decide) ?_
  refine lv_aload_n hx hb dX0_water_2 rfl (lv_at hl 0 rfl) ?_
  refine lv_iload_n hx hb dX0_water_3 rfl (lv_at hl 1 rfl) ?_
  refine kx_callf (BX := fun En q u H => XS E t (C1_water t M (a) (x)).1 En q u H) (vx_runV (As := [.int (x)]) (rest := [.int ((0 : Int32)), .ref (o)]) ⟨hx, hb, hml, hown, hts⟩ (cm1_water l E hl9 t M  (a) (x) hA K S hw) (cwV 1 hts (lw_V q897 q898 q899 q58 q900) rfl rfl rfl (by decide +kernel) ⟨Nat.le_of_ble_eq_true rfl, Nat.le_of_ble_eq_true rfl⟩) (k_preV hs hm hS (mw.recv hs hm (mt_ne hA.z (by decide)) (ct1 hA.z) rfl)) rfl rfl hl.1 rfl (lv_room (Nat.le_of_ble_eq_true rfl)) dX0_water_4 ⟨Nat.le_of_ble_eq_true rfl, Nat.le_of_ble_eq_true rfl⟩) hS (fun En_1 ce_1 q_1 u9_1 H locs hp_1 hB_1 hS h1_1 h2_1 h3_1 => ?_) (fun r_1 u_1 H locs hw_1 hm_1 hS => ?_)
  · obtain ⟨c_1, hu9_1⟩ := hp_1
    replace hu9_1 := hu9_1.symm
    subst hu9_1
    obtain ⟨hE_1, hm⟩ := hB_1
    have hk_1 := xc_water t M a x
    by_cases d_1_0 : (C1_water t M (a) (x)).1 = (3 : Int32)
    · have hE9 : En_1 = "java/lang/IndexOutOfBoundsException" := by rw [hE_1, d_1_0]; rfl
      subst hE9
      refine vx_catch (name := "java/lang/IndexOutOfBoundsException") hown [] ⟨0, 9, 12, 28⟩ [] htab (fun z hz => nomatch hz) (by decide) (by decide) (hts _ q805) (hs.2.2.1.at q846 rfl rfl) h1_1 h2_1 h3_1 ?_
      refine lv_astore_n (lv' := [(3, _), (0, _), (1, _), (2, _)]) hx hb dX0_water_12 rfl hl (by decide) rfl (fun ls hl => ?_)
      refine lv_iconst (v := (1 : Int32)) hx hb dX0_water_13 (by decide) ?_
      refine vx_ret ?_
      refine W.widen (k := 1) (n := 6) (Nat.le_of_ble_eq_true rfl) (Nat.le_of_ble_eq_true rfl) ?_
      exact W.iret (v := _) hx hb hr (fun t9 ht9 _ => ⟨⟨_, _, rfl, pp3 ((if_neg c_1).trans ((if_pos d_1_0).trans (rfl))), hb9 ht9 hm⟩, hS.F ht9⟩) hS.2.2 dX0_water_14
    · rcases hk_1 with h9 | h9
      · exact absurd h9 c_1
      · exact absurd h9 d_1_0
  · obtain ⟨c_1, hr_1, hu_1⟩ := hw_1
    have hm := hm_1
    refine lv_f2d hx hb dX0_water_7 (by rw [hr_1]; exact (kD_f2d (water_kd hw c_1)).nan) ?_
    refine k_dast hx hb hs hm hS ho (vi 0 (by decide) (by decide)) dX0_water_8 (fun H locs hm hS => ?_)
    have hm : mw E t ((wD u_1 o (vf_upd (aD u_1 o) 0 (FP.f2d r_1)))) H := hm
    refine lv_goto (tgt := 15) hx hb dX0_water_9 (by decide) ?_
    refine lv_iconst (v := (0 : Int32)) hx hb dX0_water_15 (by decide) ?_
    subst hu_1
    subst hr_1
    refine vx_ret ?_
    refine W.widen (k := 1) (n := 6) (Nat.le_of_ble_eq_true rfl) (Nat.le_of_ble_eq_true rfl) ?_
    exact W.iret (v := _) hx hb hr (fun t9 ht9 _ => ⟨⟨_, _, rfl, pp3 ((if_pos c_1).trans (rfl)), hb9 ht9 hm⟩, hS.F ht9⟩) hS.2.2 dX0_water_16
theorem xc_butt (t : mt) (M : mm) (c : Nat) (x : Int32) : (C1_butt t M c x).1 = (0 : Int32) ∨ (C1_butt t M c x).1 = (3 : Int32) := by
  unfold C1_butt
  (try dsimp only)
  (repeat' split) <;> first | exact .inl rfl | exact .inr rfl | exact .inr (.inl rfl) | exact .inr (.inr rfl) | exact .inr (.inr (.inl rfl)) | exact .inr (.inr (.inr rfl))
def C0_butt (t : mt) (M : mm) (a : Nat) (x : Int32) (o : Nat) : Int32 × Int32 × mm :=
  let r_1 := (C1_butt t M (a) (x)).2.1;
  let u_1 := (C1_butt t M (a) (x)).2.2;
  if (C1_butt t M (a) (x)).1 = 0 then
    ((0 : Int32), (0 : Int32), (wD u_1 o (vf_upd (aD u_1 o) 0 (FP.f2d r_1))))
  else
    if (C1_butt t M (a) (x)).1 = (3 : Int32) then
      ((0 : Int32), (1 : Int32), (C1_butt t M (a) (x)).2.2)
    else
      ((0 : Int32), (0 : Int32), M)
set_option maxHeartbeats 4000000 in
theorem cm0_butt (l : Launch) (E : mE) (hl9 : l.stackTraces = false) (t : mt) (M : mm) (a : Nat) (x : Int32) (o : Nat) (hA : layA t a) (ho : t o = (61, 1)) (K S : List Nat) (hw : wfA M a K S) : vx_Met l yX0_butt (wsW_ yX0_butt cX0_butt 4 (some .int) [((0 : Nat), (9 : Nat), (12 : Nat), (28 : Nat))]) ({ frames := 8, cells := 1, slots := 6, locals := 161 }) (va_Pc [.ref a, .int x, .ref o] (wP E t M)) (va_Qi (fun (r : Int32) (u : mm) => (C0_butt t M a x o).1 = 0 ∧ r = (C0_butt t M a x o).2.1 ∧ u = (C0_butt t M a x o).2.2) (fun u U => mw E t u U.heap) (eA E)) (vx_X (fun (u : mm) => ¬ (C0_butt t M a x o).1 = 0 ∧ u = (C0_butt t M a x o).2.2) (fun En q u U => XS E t (C0_butt t M a x o).1 En q u U.heap) (eA E)) 1 6 (eA E) := by
  refine vx_ofWH (cc := cX0_butt) (maxL := 4) (ret := (some .int)) (hh := [((0 : Nat), (9 : Nat), (12 : Nat), (28 : Nat))]) (by decide) rfl ?_
  intro p e s m args below meth c0 s₁ B hml hv
  obtain ⟨rfl, hs, hm⟩ := hv
  have hx := B.exec
  have hb := B.bytes
  have hr := B.returns
  have hts := atoms_spec (ws := wsW_ yX0_butt cX0_butt 4 (some .int) [((0 : Nat), (9 : Nat), (12 : Nat), (28 : Nat))]) B.pre
  have hts : ∀ w ∈ lw_all, w.before _ s = true := fun w h => hts w (List.mem_cons_of_mem _ h)
  have hown : s.vm.findClass RX0 = some m.cls := findClass_of_methodNamed B.named
  have hlocks := B.notSynchronized
  have htab := vx_table (x := yX0_butt) B (atoms_spec (ws := wsW_ yX0_butt cX0_butt 4 (some .int) [((0 : Nat), (9 : Nat), (12 : Nat), (28 : Nat))]) B.pre _ List.mem_cons_self)
  have hS : va_S (eA E) s.heap s.heap [] := va_S.rf
  have hl := lv_entry ([.ref a, .int x, .ref o]) (n := 4) (Nat.le_of_ble_eq_true rfl)
  rw [lg_entry_eq]
  generalize (lg_sl ([.ref a, .int x, .ref o]) ++ List.replicate (4 - (lg_sl ([.ref a, .int x, .ref o])).length) Slot.unset).toArray = ls at hl ⊢
  have hl : lv_has ls 4 [(0, .ref (a)), (1, .int (x)), (2, .ref (o))] := hl
  refine lv_aload_n hx hb dX0_butt_0 rfl (lv_at hl 2 rfl) ?_
  refine lv_iconst (v := (0 : Int32)) hx hb dX0_butt_1 (by decide) ?_
  refine lv_aload_n hx hb dX0_butt_2 rfl (lv_at hl 0 rfl) ?_
  refine lv_iload_n hx hb dX0_butt_3 rfl (lv_at hl 1 rfl) ?_
  refine kx_callf (BX := fun En q u H => XS E t (C1_butt t M (a) (x)).1 En q u H) (vx_runV (As := [.int (x)]) (rest := [.int ((0 : Int32)), .ref (o)]) ⟨hx, hb, hml, hown, hts⟩ (cm1_butt l E hl9 t M  (a) (x) hA K S hw) (cwV 1 hts (lw_V q1185 q1186 q1187 q58 q1188) rfl rfl rfl (by decide +kernel) ⟨Nat.le_of_ble_eq_true rfl, Nat.le_of_ble_eq_true rfl⟩) (k_preV hs hm hS (mw.recv hs hm (mt_ne hA.z (by decide)) (ct1 hA.z) rfl)) rfl rfl hl.1 rfl (lv_room (Nat.le_of_ble_eq_true rfl)) dX0_butt_4 ⟨Nat.le_of_ble_eq_true rfl, Nat.le_of_ble_eq_true rfl⟩) hS (fun En_1 ce_1 q_1 u9_1 H locs hp_1 hB_1 hS h1_1 h2_1 h3_1 => ?_) (fun r_1 u_1 H locs hw_1 hm_1 hS => ?_)
  · obtain ⟨c_1, hu9_1⟩ := hp_1
    replace hu9_1 := hu9_1.symm
    subst hu9_1
    obtain ⟨hE_1, hm⟩ := hB_1
    have hk_1 := xc_butt t M a x
    by_cases d_1_0 : (C1_butt t M (a) (x)).1 = (3 : Int32)
    · have hE9 : En_1 = "java/lang/IndexOutOfBoundsException" := by rw [hE_1, d_1_0]; rfl
      subst hE9
      refine vx_catch (name := "java/lang/IndexOutOfBoundsException") hown [] ⟨0, 9, 12, 28⟩ [] htab (fun z hz => nomatch hz) (by decide) (by decide) (hts _ q805) (hs.2.2.1.at q846 rfl rfl) h1_1 h2_1 h3_1 ?_
      refine lv_astore_n (lv' := [(3, _), (0, _), (1, _), (2, _)]) hx hb dX0_butt_12 rfl hl (by decide) rfl (fun ls hl => ?_)
      refine lv_iconst (v := (1 : Int32)) hx hb dX0_butt_13 (by decide) ?_
      refine vx_ret ?_
      refine W.widen (k := 1) (n := 6) (Nat.le_of_ble_eq_true rfl) (Nat.le_of_ble_eq_true rfl) ?_
      exact W.iret (v := _) hx hb hr (fun t9 ht9 _ => ⟨⟨_, _, rfl, pp3 ((if_neg c_1).trans ((if_pos d_1_0).trans (rfl))), hb9 ht9 hm⟩, hS.F ht9⟩) hS.2.2 dX0_butt_14
    · rcases hk_1 with h9 | h9
      · exact absurd h9 c_1
      · exact absurd h9 d_1_0
  · obtain ⟨c_1, hr_1, hu_1⟩ := hw_1
    have hm := hm_1
    refine lv_f2d hx hb dX0_butt_7 (by rw [hr_1]; exact (kD_f2d (butt_kd hw c_1)).nan) ?_
    refine k_dast hx hb hs hm hS ho (vi 0 (by decide) (by decide)) dX0_butt_8 (fun H locs hm hS => ?_)
    have hm : mw E t ((wD u_1 o (vf_upd (aD u_1 o) 0 (FP.f2d r_1)))) H := hm
    refine lv_goto (tgt := 15) hx hb dX0_butt_9 (by decide) ?_
    refine lv_iconst (v := (0 : Int32)) hx hb dX0_butt_15 (by decide) ?_
    subst hu_1
    subst hr_1
    refine vx_ret ?_
    refine W.widen (k := 1) (n := 6) (Nat.le_of_ble_eq_true rfl) (Nat.le_of_ble_eq_true rfl) ?_
    exact W.iret (v := _) hx hb hr (fun t9 ht9 _ => ⟨⟨_, _, rfl, pp3 ((if_pos c_1).trans (rfl)), hb9 ht9 hm⟩, hS.F ht9⟩) hS.2.2 dX0_butt_16
theorem xc_read (t : mt) (M : mm) (c : Nat) : (C1_read t M c ).1 = (0 : Int32) ∨ (C1_read t M c ).1 = (1 : Int32) ∨ (C1_read t M c ).1 = (2 : Int32) := by
  unfold C1_read
  (try dsimp only)
  by_cases e : gI (C1_rd1 t M c) 108 c = (-1 : Int32)
  · rw [if_pos e]; exact rdD_code _ _ _
  · rw [if_neg e]; exact .inr (.inl rfl)
def C0_read (t : mt) (M : mm) (a : Nat) (o : Nat) : Int32 × Int32 × mm :=
  let r_1 := (C1_read t M (a) ).2.1;
  let u_1 := (C1_read t M (a) ).2.2;
  if (C1_read t M (a) ).1 = 0 then
    ((0 : Int32), (0 : Int32), (wL u_1 o (vp_updL (aL u_1 o) 0 (r_1).toInt64)))
  else
    if (C1_read t M (a) ).1 = (1 : Int32) then
      ((0 : Int32), (1 : Int32), (C1_read t M (a) ).2.2)
    else
      if (C1_read t M (a) ).1 = (2 : Int32) then
        ((0 : Int32), (2 : Int32), (C1_read t M (a) ).2.2)
      else
        ((0 : Int32), (0 : Int32), M)
set_option maxHeartbeats 4000000 in
theorem cm0_read (l : Launch) (E : mE) (hl9 : l.stackTraces = false) (t : mt) (M : mm) (a : Nat) (o : Nat) (hA : layA t a) (ho : t o = (60, 1)) (K S : List Nat) (hw : wfA M a K S) (n k : Nat) (hB : sbP t M (a + 197) n k) (hk60 : k ≤ 60) (hP : ¬ (C9_read t (sI M 108 a (-1 : Int32)) (a + 199)).1 = 0 → ¬ (C9_read t (sI M 108 a (-1 : Int32)) (a + 199)).2.1 = -1) (hT : wfK (C1_rdT t M a) (a + 65)) : vx_Met l yX0_read (wsW_ yX0_read cX0_read 3 (some .int) [((0 : Nat), (8 : Nat), (11 : Nat), (13 : Nat)), ((0 : Nat), (8 : Nat), (14 : Nat), (22 : Nat))]) ({ frames := 13, cells := 4200, slots := 48000, locals := 265 }) (va_Pc [.ref a, .ref o] (wP E t M)) (va_Qi (fun (r : Int32) (u : mm) => (C0_read t M a o).1 = 0 ∧ r = (C0_read t M a o).2.1 ∧ u = (C0_read t M a o).2.2) (fun u U => mw E t u U.heap) (eA E)) (vx_X (fun (u : mm) => ¬ (C0_read t M a o).1 = 0 ∧ u = (C0_read t M a o).2.2) (fun En q u U => XS E t (C0_read t M a o).1 En q u U.heap) (eA E)) 4200 48000 (eA E) := by
  refine vx_ofWH (cc := cX0_read) (maxL := 3) (ret := (some .int)) (hh := [((0 : Nat), (8 : Nat), (11 : Nat), (13 : Nat)), ((0 : Nat), (8 : Nat), (14 : Nat), (22 : Nat))]) (by decide) rfl ?_
  intro p e s m args below meth c0 s₁ B hml hv
  obtain ⟨rfl, hs, hm⟩ := hv
  have hx := B.exec
  have hb := B.bytes
  have hr := B.returns
  have hts := atoms_spec (ws := wsW_ yX0_read cX0_read 3 (some .int) [((0 : Nat), (8 : Nat), (11 : Nat), (13 : Nat)), ((0 : Nat), (8 : Nat), (14 : Nat), (22 : Nat))]) B.pre
  have hts : ∀ w ∈ lw_all, w.before _ s = true := fun w h => hts w (List.mem_cons_of_mem _ h)
  have hown : s.vm.findClass RX0 = some m.cls := findClass_of_methodNamed B.named
  have hlocks := B.notSynchronized
  have htab := vx_table (x := yX0_read) B (atoms_spec (ws := wsW_ yX0_read cX0_read 3 (some .int) [((0 : Nat), (8 : Nat), (11 : Nat), (13 : Nat)), ((0 : Nat), (8 : Nat), (14 : Nat), (22 : Nat))]) B.pre _ List.mem_cons_self)
  have hS : va_S (eA E) s.heap s.heap [] := va_S.rf
  have hl := lv_entry ([.ref a, .ref o]) (n := 3) (Nat.le_of_ble_eq_true rfl)
  rw [lg_entry_eq]
  generalize (lg_sl ([.ref a, .ref o]) ++ List.replicate (3 - (lg_sl ([.ref a, .ref o])).length) Slot.unset).toArray = ls at hl ⊢
  have hl : lv_has ls 3 [(0, .ref (a)), (1, .ref (o))] := hl
  refine lv_aload_n hx hb dX0_read_0 rfl (lv_at hl 1 rfl) ?_
  refine lv_iconst (v := (0 : Int32)) hx hb dX0_read_1 (by decide) ?_
  refine lv_aload_n hx hb dX0_read_2 rfl (lv_at hl 0 rfl) ?_
  refine kx_calli (BX := fun En q u H => XS E t (C1_read t M (a) ).1 En q u H) (vx_runVX (As := []) (rest := [.int ((0 : Int32)), .ref (o)]) ⟨hx, hb, hml, hown, hts⟩ (cm1_read l E hl9 t M  (a)  hA K S hw n k hB hk60 hP hT) (vx_cwVW 0 hts (lw_VW q1352 q1353 q1354 q58 q1355) rfl rfl rfl (by decide +kernel) ⟨Nat.le_of_ble_eq_true rfl, Nat.le_of_ble_eq_true rfl⟩) (k_preV hs hm hS (mw.recv hs hm (mt_ne hA.z (by decide)) (ct1 hA.z) rfl)) rfl rfl hl.1 rfl (lv_room (Nat.le_of_ble_eq_true rfl)) dX0_read_3 ⟨Nat.le_of_ble_eq_true rfl, Nat.le_of_ble_eq_true rfl⟩) hS (fun En_1 ce_1 q_1 u9_1 H locs hp_1 hB_1 hS h1_1 h2_1 h3_1 => ?_) (fun r_1 u_1 H locs hw_1 hm_1 hS => ?_)
  · obtain ⟨c_1, hu9_1⟩ := hp_1
    replace hu9_1 := hu9_1.symm
    subst hu9_1
    obtain ⟨hE_1, hm⟩ := hB_1
    have hk_1 := xc_read t M a 
    by_cases d_1_0 : (C1_read t M (a) ).1 = (1 : Int32)
    · have hE9 : En_1 = "java/lang/IllegalArgumentException" := by rw [hE_1, d_1_0]; rfl
      subst hE9
      refine vx_catch (name := "java/lang/IllegalArgumentException") hown [] ⟨0, 8, 11, 13⟩ [⟨0, 8, 14, 22⟩] htab (fun z hz => nomatch hz) (by decide) (by decide) (hts _ q694) (hs.2.2.1.at q707 rfl rfl) h1_1 h2_1 h3_1 ?_
      refine lv_astore_n (lv' := [(2, _), (0, _), (1, _)]) hx hb dX0_read_11 rfl hl (by decide) rfl (fun ls hl => ?_)
      refine lv_iconst (v := (1 : Int32)) hx hb dX0_read_12 (by decide) ?_
      refine vx_ret ?_
      refine W.widen (k := 4200) (n := 48000) (Nat.le_of_ble_eq_true rfl) (Nat.le_of_ble_eq_true rfl) ?_
      exact W.iret (v := _) hx hb hr (fun t9 ht9 _ => ⟨⟨_, _, rfl, pp3 ((if_neg c_1).trans ((if_pos d_1_0).trans (rfl))), hb9 ht9 hm⟩, hS.F ht9⟩) hS.2.2 dX0_read_13
    · skip
      by_cases d_1_1 : (C1_read t M (a) ).1 = (2 : Int32)
      · have hE9 : En_1 = "java/lang/UnsupportedOperationException" := by rw [hE_1, d_1_1]; rfl
        subst hE9
        refine vx_catch (name := "java/lang/UnsupportedOperationException") hown [⟨0, 8, 11, 13⟩] ⟨0, 8, 14, 22⟩ [] htab (fun z hz => by
          rcases List.mem_singleton.mp hz with rfl
          exact Or.inr ⟨by decide, "java/lang/IllegalArgumentException", hts _ q694, hs.2.2.2.2.2.2.2 ("java/lang/UnsupportedOperationException", "java/lang/IllegalArgumentException") (by decide +kernel)⟩) (by decide) (by decide) (hts _ q736) (hs.2.2.1.at q789 rfl rfl) h1_1 h2_1 h3_1 ?_
        refine lv_astore_n (lv' := [(2, _), (0, _), (1, _)]) hx hb dX0_read_14 rfl hl (by decide) rfl (fun ls hl => ?_)
        refine lv_iconst (v := (2 : Int32)) hx hb dX0_read_15 (by decide) ?_
        refine vx_ret ?_
        refine W.widen (k := 4200) (n := 48000) (Nat.le_of_ble_eq_true rfl) (Nat.le_of_ble_eq_true rfl) ?_
        exact W.iret (v := _) hx hb hr (fun t9 ht9 _ => ⟨⟨_, _, rfl, pp3 ((if_neg c_1).trans ((if_neg d_1_0).trans ((if_pos d_1_1).trans (rfl)))), hb9 ht9 hm⟩, hS.F ht9⟩) hS.2.2 dX0_read_16
      · rcases hk_1 with h9 | h9 | h9
        · exact absurd h9 c_1
        · exact absurd h9 d_1_0
        · exact absurd h9 d_1_1
  · obtain ⟨c_1, hr_1, hu_1⟩ := hw_1
    have hm := hm_1
    refine lv_i2l hx hb dX0_read_6 rfl ?_
    refine k_last hx hb hs hm hS ho (vi 0 (by decide) (by decide)) dX0_read_7 (fun H locs hm hS => ?_)
    have hm : mw E t ((wL u_1 o (vp_updL (aL u_1 o) 0 (r_1).toInt64))) H := hm
    refine lv_goto (tgt := 17) hx hb dX0_read_8 (by decide) ?_
    refine lv_iconst (v := (0 : Int32)) hx hb dX0_read_17 (by decide) ?_
    subst hu_1
    subst hr_1
    refine vx_ret ?_
    refine W.widen (k := 4200) (n := 48000) (Nat.le_of_ble_eq_true rfl) (Nat.le_of_ble_eq_true rfl) ?_
    exact W.iret (v := _) hx hb hr (fun t9 ht9 _ => ⟨⟨_, _, rfl, pp3 ((if_pos c_1).trans (rfl)), hb9 ht9 hm⟩, hS.F ht9⟩) hS.2.2 dX0_read_18
/-- what append's wrapper leaves -/
def apW (t : mt) (M : mm) (a o n k j : Nat) (r : Int32) (S : mt × mm) : Prop := (k < 60 ∧ r = 0 ∧ ∃ T : mt × mm, apR t M (a + 197) k (nI j) T ∧ S = (T.1, wL T.2 o (vp_updL (aL T.2 o) 0 (nI (k + 1)).toInt64))) ∨ (60 ≤ k ∧ r = 1 ∧ S = (t, M))
set_option maxHeartbeats 4000000 in
theorem cm0_append (l : Launch) (E : mE) (hl9 : l.stackTraces = false) (t : mt) (M : mm) (a o n k j : Nat) (hA : layA t a) (ho : t o = (60, 1)) (hB : sbB t M (a + 197) n k) (hkk : k ≤ 60) (hj : j < 65536) : vx_Met l yX0_append (wsW_ yX0_append cX0_append 4 (some .int) [((0 : Nat), (9 : Nat), (12 : Nat), (109 : Nat))]) ({ frames := 9, cells := 3, slots := 1006, locals := 200 }) (va_Pc [.ref a, .int (nI j), .ref o] (wP E t M)) (va_Qi (fun (r : Int32) (S : mt × mm) => apW t M a o n k j r S) (fun S U => mw E S.1 S.2 U.heap) (eA E)) (vx_X (fun (_ : mm) => False) (fun En q u U => XS E t 5 En q u U.heap) (eA E)) 3 1006 (eA E) := by
  refine vx_ofWH (cc := cX0_append) (maxL := 4) (ret := (some .int)) (hh := [((0 : Nat), (9 : Nat), (12 : Nat), (109 : Nat))]) (by decide) rfl ?_
  intro p e s m args below meth c0 s₁ B hml hv
  obtain ⟨rfl, hs, hm⟩ := hv
  have hx := B.exec
  have hb := B.bytes
  have hr := B.returns
  have hts := atoms_spec (ws := wsW_ yX0_append cX0_append 4 (some .int) [((0 : Nat), (9 : Nat), (12 : Nat), (109 : Nat))]) B.pre
  have hts : ∀ w ∈ lw_all, w.before _ s = true := fun w h => hts w (List.mem_cons_of_mem _ h)
  have hown : s.vm.findClass RX0 = some m.cls := findClass_of_methodNamed B.named
  have hlocks := B.notSynchronized
  have htab := vx_table (x := yX0_append) B (atoms_spec (ws := wsW_ yX0_append cX0_append 4 (some .int) [((0 : Nat), (9 : Nat), (12 : Nat), (109 : Nat))]) B.pre _ List.mem_cons_self)
  have hS : va_S (eA E) s.heap s.heap [] := va_S.rf
  have hl := lv_entry ([.ref a, .int (nI j), .ref o]) (n := 4) (Nat.le_of_ble_eq_true rfl)
  rw [lg_entry_eq]
  generalize (lg_sl ([.ref a, .int (nI j), .ref o]) ++ List.replicate (4 - (lg_sl ([.ref a, .int (nI j), .ref o])).length) Slot.unset).toArray = ls at hl ⊢
  have hl : lv_has ls 4 [(0, .ref (a)), (1, .int ((nI j))), (2, .ref (o))] := hl
  refine lv_aload_n hx hb dX0_append_0 rfl (lv_at hl 2 rfl) ?_
  refine lv_iconst (v := (0 : Int32)) hx hb dX0_append_1 (by decide) ?_
  refine lv_aload_n hx hb dX0_append_2 rfl (lv_at hl 0 rfl) ?_
  refine lv_iload_n hx hb dX0_append_3 rfl (lv_at hl 1 rfl) ?_
  refine kx_calli (S := mt × mm) (B := fun S H => mw E S.1 S.2 H) (BX := fun En q u H => XS E t 5 En q u H) (vx_runV (As := [.int ((nI j))]) (rest := [.int ((0 : Int32)), .ref (o)]) ⟨hx, hb, hml, hown, hts⟩ (cm1_append l E hl9 t M a n k j hA hB hkk hj) (cwV 1 hts (lw_V q1245 q1246 q1247 q58 q1248) rfl rfl rfl (by decide +kernel) ⟨Nat.le_of_ble_eq_true rfl, Nat.le_of_ble_eq_true rfl⟩) (k_preV hs hm hS (mw.recv hs hm (mt_ne hA.z (by decide)) (ct1 hA.z) rfl)) rfl rfl hl.1 rfl (lv_room (Nat.le_of_ble_eq_true rfl)) dX0_append_4 ⟨Nat.le_of_ble_eq_true rfl, Nat.le_of_ble_eq_true rfl⟩) hS (fun En_1 ce_1 q_1 u9_1 H locs hp_1 hB_1 hS h1_1 h2_1 h3_1 => ?_) (fun r_1 u_1 H locs hw_1 hm hS => ?_)
  · obtain ⟨hk_1, hu9_1⟩ := hp_1
    replace hu9_1 := hu9_1.symm
    subst hu9_1
    obtain ⟨hE_1, hm⟩ := hB_1
    have hE9 : En_1 = "java/lang/IllegalStateException" := hE_1
    subst hE9
    refine vx_catch (name := "java/lang/IllegalStateException") hown [] ⟨0, 9, 12, 109⟩ [] htab (fun z hz => nomatch hz) (by decide) (by decide) (hts _ q1244) (hs.2.2.1.at q405 rfl rfl) h1_1 h2_1 h3_1 ?_
    refine lv_astore_n (lv' := [(3, _), (0, _), (1, _), (2, _)]) hx hb dX0_append_12 rfl hl (by decide) rfl (fun ls hl => ?_)
    refine lv_iconst (v := (1 : Int32)) hx hb dX0_append_13 (by decide) ?_
    refine vx_ret ?_
    refine W.widen (k := 3) (n := 1006) (Nat.le_of_ble_eq_true rfl) (Nat.le_of_ble_eq_true rfl) ?_
    exact W.iret (v := _) hx hb hr (fun t9 ht9 _ => ⟨⟨_, (t, M), rfl, (.inr ⟨hk_1, rfl, rfl⟩), hb9 (B := fun H9 => mw E _ _ H9) ht9 hm⟩, hS.F ht9⟩) hS.2.2 dX0_append_14
  · obtain ⟨hk_1, hr_1, hg_1⟩ := hw_1
    subst hr_1
    refine lv_i2l hx hb dX0_append_7 rfl ?_
    refine k_last hx hb hs hm hS (kp hg_1.1 ho) (vi 0 (by decide) (by decide)) dX0_append_8 (fun H locs hm hS => ?_)
    have hm : mw E u_1.1 ((wL u_1.2 o (vp_updL (aL u_1.2 o) 0 ((nI (k + 1))).toInt64))) H := hm
    refine lv_goto (tgt := 15) hx hb dX0_append_9 (by decide) ?_
    refine lv_iconst (v := (0 : Int32)) hx hb dX0_append_15 (by decide) ?_
    refine vx_ret ?_
    refine W.widen (k := 3) (n := 1006) (Nat.le_of_ble_eq_true rfl) (Nat.le_of_ble_eq_true rfl) ?_
    exact W.iret (v := _) hx hb hr (fun t9 ht9 _ => ⟨⟨_, (u_1.1, (wL u_1.2 o (vp_updL (aL u_1.2 o) 0 ((nI (k + 1))).toInt64))), rfl, (.inl ⟨hk_1, rfl, u_1, hg_1, rfl⟩), hb9 (B := fun H9 => mw E _ _ H9) ht9 hm⟩, hS.F ht9⟩) hS.2.2 dX0_append_16
