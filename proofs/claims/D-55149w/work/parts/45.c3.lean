set_option maxRecDepth 100000
/-! the class: water, growth, sheds -/
def C2_waterThen (t : mt) (M : mm) (c : Nat) (x : UInt32) : UInt32 :=
  (T_least (FP.fsub (T_most (FP.fadd x (FP.fmul (1061997773 : UInt32) (FP.i2f (gI M 215 c)))) (1120403456 : UInt32)) (FP.fadd (1056964608 : UInt32) (FP.fmul (1048576000 : UInt32) (FP.i2f (gI M 214 c))))))
set_option maxHeartbeats 4000000 in
theorem cm2_waterThen (l : Launch) (E : mE) (t : mt) (M : mm) (c : Nat) (x : UInt32) (hL : lay t c) (hwd : ix 13 (gI M 214 c)) (hrn : ix 21 (gI M 215 c)) (hx1 : kd false 12 x) : Met l yX2_waterThen (ws_ yX2_waterThen cX2_waterThen 3 (some .float)) ({ frames := 1, cells := 0, slots := 0, locals := 24 }) (va_Pc [.ref c, .float x] (wP E t M)) (va_Qf (fun (r : UInt32) (u : mm) => r = (C2_waterThen t M c x) ∧ u = M) (fun u U => mw E t u U.heap) (eA E)) 0 0 (eA E) := by
  refine Met.ofW (cc := cX2_waterThen) (maxL := 3) (ret := (some .float)) (by decide) rfl ?_
  intro p e s m args below meth c0 s₁ B hml hv
  obtain ⟨rfl, hs, hm⟩ := hv
  have hx := B.exec
  have hb := B.bytes
  have hr := B.returns
  have hts := atoms_spec (ws := ws_ yX2_waterThen cX2_waterThen 3 (some .float)) B.pre
  have hts : ∀ w ∈ lw_all, w.before _ s = true := fun w h => hts w (List.mem_cons_of_mem _ h)
  have hown : s.vm.findClass RX2 = some m.cls := findClass_of_methodNamed B.named
  have hlocks := B.notSynchronized
  have hS : va_S (eA E) s.heap s.heap [] := va_S.rf
  have hl := lv_entry ([.ref c, .float x]) (n := 3) (Nat.le_of_ble_eq_true rfl)
  rw [lg_entry_eq]
  generalize (lg_sl ([.ref c, .float x]) ++ List.replicate (3 - (lg_sl ([.ref c, .float x])).length) Slot.unset).toArray = ls at hl ⊢
  have hl : lv_has ls 3 [(0, .ref (c)), (1, .float (x))] := hl
  refine lv_ldcf (v := 1120403456) hx hb hown (hts _ q662) dX2_waterThen_0 ?_
  refine lv_fload_n hx hb dX2_waterThen_2 rfl (lv_at hl 1 rfl) ?_
  refine lv_ldcf (v := 1061997773) hx hb hown (hts _ q916) dX2_waterThen_3 ?_
  refine lv_aload_n hx hb dX2_waterThen_5 rfl (lv_at hl 0 rfl) ?_
  refine gf_215 hx hb hts hown hs hm (lay.z hL) (hts _ q254) dX2_waterThen_6 ?_
  refine lv_i2f hx hb dX2_waterThen_9 ?_
  refine lv_fmul hx hb dX2_waterThen_10 ((kd.mul (kd_08) ((kd_i2f ((hrn).mono (by decide)))))).nan ?_
  refine lv_fadd hx hb dX2_waterThen_11 ((kd.add (n := 12) ((hx1).up (by decide)) (((kd.mul (kd_08) ((kd_i2f ((hrn).mono (by decide)))))).up (by decide)))).nan ?_
  refine k_fpick false (x := (1120403456 : UInt32)) (y := (FP.fadd x (FP.fmul (1061997773 : UInt32) (FP.i2f (gI M 215 c))))) hx hb (hml.trans hl.1.symm) hown (hts _ q917) (hts _ q918) (hts _ q78) (hts _ q919) (kd.nn (kd_100)) ((kd.nn ((kd.add (n := 12) ((hx1).up (by decide)) (((kd.mul (kd_08) ((kd_i2f ((hrn).mono (by decide)))))).up (by decide)))))) (Nat.le_of_ble_eq_true rfl) (Nat.le_of_ble_eq_true rfl) (Nat.le_of_ble_eq_true rfl) (Nat.le_of_ble_eq_true rfl) dX2_waterThen_12 ?_
  rw [pq_most ((kd.nn ((kd.add (n := 12) ((hx1).up (by decide)) (((kd.mul (kd_08) ((kd_i2f ((hrn).mono (by decide)))))).up (by decide)))))) (kd.nn (kd_100)) (by decide)]
  refine lv_fstore_n (lv' := [(2, _), (0, _), (1, _)]) hx hb dX2_waterThen_15 rfl hl (by decide) rfl (fun ls hl => ?_)
  refine lv_fconst0 hx hb dX2_waterThen_16 ?_
  refine lv_fload_n hx hb dX2_waterThen_17 rfl (lv_at hl 0 rfl) ?_
  refine lv_ldcf (v := 1056964608) hx hb hown (hts _ q925) dX2_waterThen_18 ?_
  refine lv_ldcf (v := 1048576000) hx hb hown (hts _ q926) dX2_waterThen_20 ?_
  refine lv_aload_n hx hb dX2_waterThen_22 rfl (lv_at hl 1 rfl) ?_
  refine gf_214 hx hb hts hown hs hm (lay.z hL) (hts _ q251) dX2_waterThen_23 ?_
  refine lv_i2f hx hb dX2_waterThen_26 ?_
  refine lv_fmul hx hb dX2_waterThen_27 ((kd.mul (kd_025) ((kd_i2f ((hwd).mono (by decide)))))).nan ?_
  refine lv_fadd hx hb dX2_waterThen_28 ((kd.add (n := 8) ((kd_05).up (by decide)) (((kd.mul (kd_025) ((kd_i2f ((hwd).mono (by decide)))))).up (by decide)))).nan ?_
  refine lv_fsub hx hb dX2_waterThen_29 (((kd.subG (n := 10) (((kd_most ((kd.add (n := 12) ((hx1).up (by decide)) (((kd.mul (kd_08) ((kd_i2f ((hrn).mono (by decide)))))).up (by decide)))) (kd_100))).up (by decide)) (((kd.add (n := 8) ((kd_05).up (by decide)) (((kd.mul (kd_025) ((kd_i2f ((hwd).mono (by decide)))))).up (by decide)))).up (by decide)))).elim (fun _ h => h.nan)) ?_
  refine k_fpick true (x := FP.fconst0) (y := (FP.fsub (T_most (FP.fadd x (FP.fmul (1061997773 : UInt32) (FP.i2f (gI M 215 c)))) (1120403456 : UInt32)) (FP.fadd (1056964608 : UInt32) (FP.fmul (1048576000 : UInt32) (FP.i2f (gI M 214 c)))))) hx hb (hml.trans hl.1.symm) hown (hts _ q927) (hts _ q928) (hts _ q78) (hts _ q929) (kd.nn (kd_0)) ((pz_sub (n := 10) (((kd_most ((kd.add (n := 12) ((hx1).up (by decide)) (((kd.mul (kd_08) ((kd_i2f ((hrn).mono (by decide)))))).up (by decide)))) (kd_100))).up (by decide)) (((kd.add (n := 8) ((kd_05).up (by decide)) (((kd.mul (kd_025) ((kd_i2f ((hwd).mono (by decide)))))).up (by decide)))).up (by decide))).1) (Nat.le_of_ble_eq_true rfl) (Nat.le_of_ble_eq_true rfl) (Nat.le_of_ble_eq_true rfl) (Nat.le_of_ble_eq_true rfl) dX2_waterThen_30 ?_
  rw [pq_least (pz_sub (n := 10) (((kd_most ((kd.add (n := 12) ((hx1).up (by decide)) (((kd.mul (kd_08) ((kd_i2f ((hrn).mono (by decide)))))).up (by decide)))) (kd_100))).up (by decide)) (((kd.add (n := 8) ((kd_05).up (by decide)) (((kd.mul (kd_025) ((kd_i2f ((hwd).mono (by decide)))))).up (by decide)))).up (by decide)))]
  exact W.fret (v := _) hx hb hr (fun t9 ht9 _ => ⟨⟨_, _, rfl, ⟨(rfl).symm, rfl⟩, hb9 ht9 hm⟩, hS.F ht9⟩) hS.2.2 dX2_waterThen_33
def C7_holds (t : mt) (M : mm) (c : Nat) (x : Int32) : Int32 :=
  if 0 < (Op.cmpValue (FP.fcmp (FP.i2f x) (FP.fadd FP.fconst2 (FP.fmul (1071644672 : UInt32) (FP.i2f (gI M 601 c))))) .g) then
    (0 : Int32)
  else
    (1 : Int32)
set_option maxHeartbeats 4000000 in
theorem cm7_holds (l : Launch) (E : mE) (t : mt) (M : mm) (c : Nat) (x : Int32) (hc : t c = (6, 0)) (hx1 : ix 13 x) (hr1 : ix 7 (gI M 601 c)) : Met l yX7_holds (ws_ yX7_holds cX7_holds 2 (some .boolean)) ({ frames := 0, cells := 0, slots := 0, locals := 0 }) (va_Pc [.ref c, .int x] (wP E t M)) (va_Qi (fun (r : Int32) (u : mm) => r = (C7_holds t M c x) ∧ u = M) (fun u U => mw E t u U.heap) (eA E)) 0 0 (eA E) := by
  refine Met.ofW (cc := cX7_holds) (maxL := 2) (ret := (some .boolean)) (by decide) rfl ?_
  intro p e s m args below meth c0 s₁ B hml hv
  obtain ⟨rfl, hs, hm⟩ := hv
  have hx := B.exec
  have hb := B.bytes
  have hr := B.returns
  have hts := atoms_spec (ws := ws_ yX7_holds cX7_holds 2 (some .boolean)) B.pre
  have hts : ∀ w ∈ lw_all, w.before _ s = true := fun w h => hts w (List.mem_cons_of_mem _ h)
  have hown : s.vm.findClass RX7 = some m.cls := findClass_of_methodNamed B.named
  have hlocks := B.notSynchronized
  have hS : va_S (eA E) s.heap s.heap [] := va_S.rf
  have hl := lv_entry ([.ref c, .int x]) (n := 2) (Nat.le_of_ble_eq_true rfl)
  rw [lg_entry_eq]
  generalize (lg_sl ([.ref c, .int x]) ++ List.replicate (2 - (lg_sl ([.ref c, .int x])).length) Slot.unset).toArray = ls at hl ⊢
  have hl : lv_has ls 2 [(0, .ref (c)), (1, .int (x))] := hl
  refine lv_iload_n hx hb dX7_holds_0 rfl (lv_at hl 1 rfl) ?_
  refine lv_i2f hx hb dX7_holds_1 ?_
  refine lv_fconst2 hx hb dX7_holds_2 ?_
  refine lv_ldcf (v := 1071644672) hx hb hown (hts _ q979) dX7_holds_3 ?_
  refine lv_aload_n hx hb dX7_holds_5 rfl (lv_at hl 0 rfl) ?_
  refine gf_601 hx hb hts hown hs hm hc (hts _ q186) dX7_holds_6 ?_
  refine lv_i2f hx hb dX7_holds_9 ?_
  refine lv_fmul hx hb dX7_holds_10 ((kd.mul (kd_175) ((kd_i2f ((hr1).mono (by decide)))))).nan ?_
  refine lv_fadd hx hb dX7_holds_11 ((kd.add (n := 9) ((kd_2).up (by decide)) (((kd.mul (kd_175) ((kd_i2f ((hr1).mono (by decide)))))).up (by decide)))).nan ?_
  refine lv_fcmp hx hb dX7_holds_12 ?_
  refine lv_if_gt (tgt := 20) hx hb dX7_holds_13 (by decide) (fun c_1 => ?_) (fun c_1 => ?_)
  · refine lv_iconst (v := (0 : Int32)) hx hb dX7_holds_20 (by decide) ?_
    exact W.zret (v := _) hx hb hr rfl (fun t9 ht9 _ => ⟨⟨_, _, rfl, ⟨((if_pos c_1).trans (rfl)).symm, rfl⟩, hb9 ht9 hm⟩, hS.F ht9⟩) hS.2.2 dX7_holds_21
  · refine lv_iconst (v := (1 : Int32)) hx hb dX7_holds_16 (by decide) ?_
    refine lv_goto (tgt := 21) hx hb dX7_holds_17 (by decide) ?_
    exact W.zret (v := _) hx hb hr rfl (fun t9 ht9 _ => ⟨⟨_, _, rfl, ⟨((if_neg c_1).trans (rfl)).symm, rfl⟩, hb9 ht9 hm⟩, hS.F ht9⟩) hS.2.2 dX7_holds_21
theorem Tz_C7_holds (t : mt) (M : mm) (c : Nat) (x : Int32) : narrow .boolean (.int (C7_holds t M c x)) = .int (C7_holds t M c x) := by
  unfold C7_holds
  try dsimp only
  (repeat' split) <;> rfl
def C3_grown (t : mt) (M : mm) (c : Nat) (x : UInt32) (y : UInt32) (z : Int32) : UInt32 :=
  (T_most (T_least (FP.fsub (FP.fadd x (FP.fmul (FP.fmul x (rat4 t c)) (FP.fdiv y (FP.fadd y (1103626240 : UInt32))))) (FP.fmul (FP.fmul (1017370378 : UInt32) (FP.i2f z)) (FP.fadd x (FP.fmul (FP.fmul x (rat4 t c)) (FP.fdiv y (FP.fadd y (1103626240 : UInt32)))))))) (1112014848 : UInt32))
set_option maxHeartbeats 4000000 in
theorem cm3_grown (l : Launch) (E : mE) (t : mt) (M : mm) (c : Nat) (x : UInt32) (y : UInt32) (z : Int32) (hc : isP t c) (hx1 : kd false 7 x) (hy1 : kd false 12 y) (hz1 : ix 10 z) : Met l yX3_grown (ws_ yX3_grown cX3_grown 5 (some .float)) ({ frames := 1, cells := 0, slots := 0, locals := 24 }) (va_Pc [.ref c, .float x, .float y, .int z] (wP E t M)) (va_Qf (fun (r : UInt32) (u : mm) => r = (C3_grown t M c x y z) ∧ u = M) (fun u U => mw E t u U.heap) (eA E)) 0 0 (eA E) := by
  refine Met.ofW (cc := cX3_grown) (maxL := 5) (ret := (some .float)) (by decide) rfl ?_
  intro p e s m args below meth c0 s₁ B hml hv
  obtain ⟨rfl, hs, hm⟩ := hv
  have hx := B.exec
  have hb := B.bytes
  have hr := B.returns
  have hts := atoms_spec (ws := ws_ yX3_grown cX3_grown 5 (some .float)) B.pre
  have hts : ∀ w ∈ lw_all, w.before _ s = true := fun w h => hts w (List.mem_cons_of_mem _ h)
  have hown : s.vm.findClass RX3 = some m.cls := findClass_of_methodNamed B.named
  have hlocks := B.notSynchronized
  have hS : va_S (eA E) s.heap s.heap [] := va_S.rf
  have hl := lv_entry ([.ref c, .float x, .float y, .int z]) (n := 5) (Nat.le_of_ble_eq_true rfl)
  rw [lg_entry_eq]
  generalize (lg_sl ([.ref c, .float x, .float y, .int z]) ++ List.replicate (5 - (lg_sl ([.ref c, .float x, .float y, .int z])).length) Slot.unset).toArray = ls at hl ⊢
  have hl : lv_has ls 5 [(0, .ref (c)), (1, .float (x)), (2, .float (y)), (3, .int (z))] := hl
  refine lv_fload_n hx hb dX3_grown_0 rfl (lv_at hl 1 rfl) ?_
  refine lv_fload_n hx hb dX3_grown_1 rfl (lv_at hl 1 rfl) ?_
  refine lv_aload_n hx hb dX3_grown_2 rfl (lv_at hl 0 rfl) ?_
  refine k_callf (hc.elim (fun h9 => va_runU (As := []) (rest := [.float (x), .float (x)]) ⟨hx, hb, hml, hown, hts⟩ (cm4_rate l E t M (c) h9) (va_cwA 0 hts (lw_U q959 q961 q966 q967 q61 q968) rfl rfl rfl (hs.2.2.1 _ q960 rfl) (by decide +kernel) ⟨Nat.le_of_ble_eq_true rfl, Nat.le_of_ble_eq_true rfl⟩) (k_preV hs hm hS (mw.recv hs hm (mt_ne h9 (by decide)) (ct3 h9) rfl)) rfl rfl hl.1 rfl (lv_room (Nat.le_of_ble_eq_true rfl)) dX3_grown_3 ⟨Nat.le_of_ble_eq_true rfl, Nat.le_of_ble_eq_true rfl⟩) (fun h9 => va_runU (As := []) (rest := [.float (x), .float (x)]) ⟨hx, hb, hml, hown, hts⟩ (cm5_rate l E t M (c) h9) (va_cwA 0 hts (lw_U q959 q961 q962 q963 q62 q964) rfl rfl rfl (hs.2.2.1 _ q960 rfl) (by decide +kernel) ⟨Nat.le_of_ble_eq_true rfl, Nat.le_of_ble_eq_true rfl⟩) (k_preV hs hm hS (mw.recv hs hm (mt_ne h9 (by decide)) (ct4 h9) rfl)) rfl rfl hl.1 rfl (lv_room (Nat.le_of_ble_eq_true rfl)) dX3_grown_3 ⟨Nat.le_of_ble_eq_true rfl, Nat.le_of_ble_eq_true rfl⟩)) hS (fun r_1 u_1 H locs hw_1 hm_1 hS => ?_)
  obtain ⟨hr_1, hu_1⟩ := hw_1
  subst hr_1
  replace hu_1 := hu_1.symm
  subst hu_1
  have hm : mw E t (M) H := hm_1
  refine lv_fmul hx hb dX3_grown_6 ((kd.mul (hx1) ((rat4_kd t c)))).nan ?_
  refine lv_fload_n hx hb dX3_grown_7 rfl (lv_at hl 2 rfl) ?_
  refine lv_fload_n hx hb dX3_grown_8 rfl (lv_at hl 2 rfl) ?_
  refine lv_ldcf (v := 1103626240) hx hb hown (hts _ q970) dX3_grown_9 ?_
  refine lv_fadd hx hb dX3_grown_11 ((kd.add (n := 12) ((hy1).up (by decide)) ((kd_25).up (by decide)))).nan ?_
  refine lv_fdiv hx hb dX3_grown_12 ((kd.div25 (hy1))).nan ?_
  refine lv_fmul hx hb dX3_grown_13 ((kd.mul ((kd.mul (hx1) ((rat4_kd t c)))) ((kd.div25 (hy1))))).nan ?_
  refine lv_fadd hx hb dX3_grown_14 ((kd.add (n := 18) ((hx1).up (by decide)) (((kd.mul ((kd.mul (hx1) ((rat4_kd t c)))) ((kd.div25 (hy1))))).up (by decide)))).nan ?_
  refine lv_fstore (lv' := [(4, _), (0, _), (1, _), (2, _), (3, _)]) hx hb dX3_grown_15 hl (by decide) rfl (fun ls hl => ?_)
  refine lv_fload hx hb dX3_grown_17 (lv_at hl 0 rfl) ?_
  refine lv_ldcf (v := 1017370378) hx hb hown (hts _ q971) dX3_grown_19 ?_
  refine lv_iload_n hx hb dX3_grown_21 rfl (lv_at hl 4 rfl) ?_
  refine lv_i2f hx hb dX3_grown_22 ?_
  refine lv_fmul hx hb dX3_grown_23 ((kd.mul (kd_002) ((kd_i2f ((hz1).mono (by decide)))))).nan ?_
  refine lv_fload hx hb dX3_grown_24 (lv_at hl 0 rfl) ?_
  refine lv_fmul hx hb dX3_grown_26 ((kd.mul ((kd.mul (kd_002) ((kd_i2f ((hz1).mono (by decide)))))) ((kd.add (n := 18) ((hx1).up (by decide)) (((kd.mul ((kd.mul (hx1) ((rat4_kd t c)))) ((kd.div25 (hy1))))).up (by decide)))))).nan ?_
  refine lv_fsub hx hb dX3_grown_27 (((kd.subG (n := 29) (((kd.add (n := 18) ((hx1).up (by decide)) (((kd.mul ((kd.mul (hx1) ((rat4_kd t c)))) ((kd.div25 (hy1))))).up (by decide)))).up (by decide)) (((kd.mul ((kd.mul (kd_002) ((kd_i2f ((hz1).mono (by decide)))))) ((kd.add (n := 18) ((hx1).up (by decide)) (((kd.mul ((kd.mul (hx1) ((rat4_kd t c)))) ((kd.div25 (hy1))))).up (by decide)))))).up (by decide)))).elim (fun _ h => h.nan)) ?_
  refine lv_fstore (lv' := [(4, _), (0, _), (1, _), (2, _), (3, _)]) hx hb dX3_grown_28 hl (by decide) rfl (fun ls hl => ?_)
  refine lv_fconst0 hx hb dX3_grown_30 ?_
  refine lv_ldcf (v := 1112014848) hx hb hown (hts _ q972) dX3_grown_31 ?_
  refine lv_fload hx hb dX3_grown_33 (lv_at hl 0 rfl) ?_
  refine k_fpick false (x := (1112014848 : UInt32)) (y := (FP.fsub (FP.fadd x (FP.fmul (FP.fmul x (rat4 t c)) (FP.fdiv y (FP.fadd y (1103626240 : UInt32))))) (FP.fmul (FP.fmul (1017370378 : UInt32) (FP.i2f z)) (FP.fadd x (FP.fmul (FP.fmul x (rat4 t c)) (FP.fdiv y (FP.fadd y (1103626240 : UInt32)))))))) hx hb (hml.trans hl.1.symm) hown (hts _ q973) (hts _ q918) (hts _ q78) (hts _ q919) (kd.nn (kd_50)) ((pz_sub (n := 29) (((kd.add (n := 18) ((hx1).up (by decide)) (((kd.mul ((kd.mul (hx1) ((rat4_kd t c)))) ((kd.div25 (hy1))))).up (by decide)))).up (by decide)) (((kd.mul ((kd.mul (kd_002) ((kd_i2f ((hz1).mono (by decide)))))) ((kd.add (n := 18) ((hx1).up (by decide)) (((kd.mul ((kd.mul (hx1) ((rat4_kd t c)))) ((kd.div25 (hy1))))).up (by decide)))))).up (by decide))).1) (Nat.le_of_ble_eq_true rfl) (Nat.le_of_ble_eq_true rfl) (Nat.le_of_ble_eq_true rfl) (Nat.le_of_ble_eq_true rfl) dX3_grown_35 ?_
  rw [pq_most ((pz_sub (n := 29) (((kd.add (n := 18) ((hx1).up (by decide)) (((kd.mul ((kd.mul (hx1) ((rat4_kd t c)))) ((kd.div25 (hy1))))).up (by decide)))).up (by decide)) (((kd.mul ((kd.mul (kd_002) ((kd_i2f ((hz1).mono (by decide)))))) ((kd.add (n := 18) ((hx1).up (by decide)) (((kd.mul ((kd.mul (hx1) ((rat4_kd t c)))) ((kd.div25 (hy1))))).up (by decide)))))).up (by decide))).1) (kd.nn (kd_50)) (by decide)]
  refine k_fpick true (x := FP.fconst0) (y := (T_most (FP.fsub (FP.fadd x (FP.fmul (FP.fmul x (rat4 t c)) (FP.fdiv y (FP.fadd y (1103626240 : UInt32))))) (FP.fmul (FP.fmul (1017370378 : UInt32) (FP.i2f z)) (FP.fadd x (FP.fmul (FP.fmul x (rat4 t c)) (FP.fdiv y (FP.fadd y (1103626240 : UInt32))))))) (1112014848 : UInt32))) hx hb (hml.trans hl.1.symm) hown (hts _ q974) (hts _ q928) (hts _ q78) (hts _ q929) (kd.nn (kd_0)) ((pz_most (pz_sub (n := 29) (((kd.add (n := 18) ((hx1).up (by decide)) (((kd.mul ((kd.mul (hx1) ((rat4_kd t c)))) ((kd.div25 (hy1))))).up (by decide)))).up (by decide)) (((kd.mul ((kd.mul (kd_002) ((kd_i2f ((hz1).mono (by decide)))))) ((kd.add (n := 18) ((hx1).up (by decide)) (((kd.mul ((kd.mul (hx1) ((rat4_kd t c)))) ((kd.div25 (hy1))))).up (by decide)))))).up (by decide))) (pz_kd (kd_50))).1) (Nat.le_of_ble_eq_true rfl) (Nat.le_of_ble_eq_true rfl) (Nat.le_of_ble_eq_true rfl) (Nat.le_of_ble_eq_true rfl) dX3_grown_38 ?_
  rw [pq_least (pz_most (pz_sub (n := 29) (((kd.add (n := 18) ((hx1).up (by decide)) (((kd.mul ((kd.mul (hx1) ((rat4_kd t c)))) ((kd.div25 (hy1))))).up (by decide)))).up (by decide)) (((kd.mul ((kd.mul (kd_002) ((kd_i2f ((hz1).mono (by decide)))))) ((kd.add (n := 18) ((hx1).up (by decide)) (((kd.mul ((kd.mul (hx1) ((rat4_kd t c)))) ((kd.div25 (hy1))))).up (by decide)))))).up (by decide))) (pz_kd (kd_50))), least_most (pz_sub (n := 29) (((kd.add (n := 18) ((hx1).up (by decide)) (((kd.mul ((kd.mul (hx1) ((rat4_kd t c)))) ((kd.div25 (hy1))))).up (by decide)))).up (by decide)) (((kd.mul ((kd.mul (kd_002) ((kd_i2f ((hz1).mono (by decide)))))) ((kd.add (n := 18) ((hx1).up (by decide)) (((kd.mul ((kd.mul (hx1) ((rat4_kd t c)))) ((kd.div25 (hy1))))).up (by decide)))))).up (by decide))).1 (by decide +kernel)]
  exact W.fret (v := _) hx hb hr (fun t9 ht9 _ => ⟨⟨_, _, rfl, ⟨(rfl).symm, rfl⟩, hb9 ht9 hm⟩, hS.F ht9⟩) hS.2.2 dX3_grown_41
