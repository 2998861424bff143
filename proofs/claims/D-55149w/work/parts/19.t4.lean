set_option maxRecDepth 100000
/-! the reference, method by method: what it computes (T_..), and that it does (tm_..) -/
theorem lp_geI {B k : Nat} {x : Int32} (hx : ix B x) (hB : B ≤ 2 ^ 30) (hk : k ≤ x.toNatClampNeg) (c : x ≤ nI k) : k = x.toNatClampNeg := by
  obtain ⟨n, h1, rfl⟩ := hx
  rw [cl_nI (by omega)] at hk ⊢
  exact lp_ge (by omega) hk c
theorem lp_ltI {B k : Nat} {x : Int32} (hx : ix B x) (hB : B ≤ 2 ^ 30) (hk : k ≤ x.toNatClampNeg) (c : ¬ x ≤ nI k) : k < x.toNatClampNeg := by
  obtain ⟨n, h1, rfl⟩ := hx
  rw [cl_nI (by omega)] at hk ⊢
  exact lp_lt (by omega) hk c
def rep {α : Type} (f : α → α) : Nat → α → α
  | 0, x => x
  | n + 1, x => f (rep f n x)
theorem shedF_s {g : Nat → Int32} {p : Int32} {n k : Nat} (hk : k < n) (hn : n ≤ 4) : shedF g p (n - k) k = if g ((81 : Int32) + nI k).toNatClampNeg = p ∧ g ((89 : Int32) + nI k).toNatClampNeg = 1 then nI k else shedF g p (n - (k + 1)) (k + 1) := by
  rw [show ((81 : Int32) + nI k).toNatClampNeg = 81 + k from cl_add 81 (by omega), show ((89 : Int32) + nI k).toNatClampNeg = 89 + k from cl_add 89 (by omega), show n - k = (n - (k + 1)) + 1 by omega]
  rfl
theorem shedF_e {Tr : Int32} {g : Nat → Int32} {p : Int32} {n k : Nat} (h : Tr = shedF g p (n - k) k) (e : k = n) : Tr = -1 := by
  rw [h, e, Nat.sub_self]; rfl
theorem kd_le {n m : Int} {x b : UInt32} (hx : kd false n x) (hb : kd false m b) (c : Op.cmpValue (FP.fcmp x b) .l ≤ 0) : kd false m x := by
  sorry
theorem kd_most {n m : Int} {x b : UInt32} (hx : kd false n x) (hb : kd false m b) : kd false m (T_most x b) := by
  unfold T_most
  split
  · rename_i c
    exact kd_le hx hb c
  · exact hb
theorem kd_ge0 {n : Int} {x y : UInt32} (hx : kd false n x) (hy : kd false n y) (h1 : n ≤ 126) (h2 : -126 ≤ n) (c : 0 ≤ Op.cmpValue (FP.fcmp (FP.fsub x y) FP.fconst0) .g) : kd false (n + 2) (FP.fsub x y) := by
  sorry
theorem kd_least {n : Int} {x y : UInt32} (hx : kd false n x) (hy : kd false n y) (h1 : n ≤ 126 := by decide) (h2 : -126 ≤ n := by decide) : kd false (n + 2) (T_least (FP.fsub x y)) := by
  unfold T_least
  split
  · rename_i c
    exact kd_ge0 hx hy h1 h2 c
  · exact kd_0.up (by omega)
theorem kd_subL {n : Int} {x y : UInt32} (hx : kd false n x) (hy : kd false n y) (c : 0 ≤ Op.cmpValue (FP.fcmp x y) .g) : kd false n (FP.fsub x y) := by
  sorry

def T_shedOn (v : tw) (x : Int32) : Int32 := shedF (t0 v) x (t0 v 80).toNatClampNeg 0
set_option maxHeartbeats 4000000 in
theorem tm_shedOn (l : Launch) (E : mE) (h : Nat) (v : tw) (x : Int32) (hw : wf (t0 v) (t1 v)) : Met l yX10_shedOn (ws_ yX10_shedOn cX10_shedOn 3 (some .int)) ({ frames := 0, cells := 0, slots := 0, locals := 0 }) (va_Pc [.ref h, .int x] (tP E h v)) (va_Qi (fun (r : Int32) (u : tw) => r = T_shedOn v x ∧ u = v) (fun u U => tW E h u U.heap) (eA E)) 0 0 (eA E) := by
  refine Met.ofW (cc := cX10_shedOn) (maxL := 3) (ret := (some .int)) (by decide) rfl ?_
  intro p e s m args below meth c s₁ B hml hv
  obtain ⟨rfl, hs, hm⟩ := hv
  have hx := B.exec
  have hb := B.bytes
  have hr := B.returns
  have hts := atoms_spec (ws := ws_ yX10_shedOn cX10_shedOn 3 (some .int)) B.pre
  have hts : ∀ w ∈ lw_all, w.before _ s = true := fun w h => hts w (List.mem_cons_of_mem _ h)
  have hown : s.vm.findClass RX10 = some m.cls := findClass_of_methodNamed B.named
  have hlocks := B.notSynchronized
  have hS : va_S (eA E) s.heap s.heap [] := va_S.rf
  have hl := lv_entry ([.ref h, .int x]) (n := 3) (Nat.le_of_ble_eq_true rfl)
  rw [lg_entry_eq]
  generalize (lg_sl ([.ref h, .int x]) ++ List.replicate (3 - (lg_sl ([.ref h, .int x])).length) Slot.unset).toArray = ls at hl ⊢
  have hl : lv_has ls 3 [(0, .ref (h)), (1, .int (x))] := hl
  refine lv_iconst (v := (0 : Int32)) hx hb dX10_shedOn_0 (by decide) ?_
  refine lv_istore_n (lv' := [(2, _), (0, _), (1, _)]) hx hb dX10_shedOn_1 rfl hl (by decide) rfl (fun ls hl => ?_)
  refine k_loop (fun k => (t0 v ((80 : Int32)).toNatClampNeg).toNatClampNeg - k) (fun (k : Nat) H locs ls => (k ≤ (t0 v ((80 : Int32)).toNatClampNeg).toNatClampNeg ∧ T_shedOn v x = shedF (t0 v) x ((t0 v ((80 : Int32)).toNatClampNeg).toNatClampNeg - k) k) ∧ tW E h (v) H ∧ va_S (eA E) s.heap H locs ∧ lv_has ls 3 [(2, .int (nI k)), (0, .ref (h)), (1, .int (x))]) (fun (k : Nat) ls => F0 m 2 ls []) (fun k => (0, 0)) (fun k ih_1 H locs ls hP => ?_) (0) ⟨⟨Nat.zero_le _, rfl⟩, hm, hS, lv_sub hl [0, 1, 2] rfl⟩
  obtain ⟨hI_1, hm, hS, hl⟩ := hP
  have hn5 := (hw.shd.nat (by decide)).1
  replace hn5 : (t0 v ((80 : Int32)).toNatClampNeg).toNatClampNeg < 5 := hn5
  refine lv_iload_n hx hb dX10_shedOn_2 rfl (lv_at hl 0 rfl) ?_
  refine lv_aload_n hx hb dX10_shedOn_3 rfl (lv_at hl 1 rfl) ?_
  refine tg_0 hx hb hts hown hs hm (hts _ q1674) dX10_shedOn_4 ?_
  refine lv_bipush (v := (80 : Int32)) hx hb dX10_shedOn_7 (by decide) ?_
  refine tl_0 hx hb hs hm (vi 80 (by decide) (by decide)) dX10_shedOn_9 ?_
  refine lv_icmp_ge (tgt := 47) hx hb dX10_shedOn_10 (by decide) (fun c_2 => ?_) (fun c_2 => ?_)
  · refine lv_iconst (v := (-1 : Int32)) hx hb dX10_shedOn_47 (by decide) ?_
    exact W.iret (v := _) hx hb hr (fun t9 ht9 _ => ⟨⟨_, _, rfl, ⟨(shedF_e hI_1.2 (lp_geI hw.shd (by decide) hI_1.1 c_2)).symm, rfl⟩, hb9 ht9 hm⟩, hS.F ht9⟩) hS.2.2 dX10_shedOn_48
  · have hk : k < (t0 v ((80 : Int32)).toNatClampNeg).toNatClampNeg := lp_ltI hw.shd (by decide) hI_1.1 c_2
    refine lv_aload_n hx hb dX10_shedOn_13 rfl (lv_at hl 1 rfl) ?_
    refine tg_0 hx hb hts hown hs hm (hts _ q1674) dX10_shedOn_14 ?_
    refine lv_bipush (v := (81 : Int32)) hx hb dX10_shedOn_17 (by decide) ?_
    refine lv_iload_n hx hb dX10_shedOn_19 rfl (lv_at hl 0 rfl) ?_
    refine lv_iadd hx hb dX10_shedOn_20 ?_
    refine tl_0 hx hb hs hm (ix.add 81 112 (⟨k, (by omega : k < 4), rfl⟩) (by decide) (by decide)) dX10_shedOn_21 ?_
    refine lv_iload_n hx hb dX10_shedOn_22 rfl (lv_at hl 2 rfl) ?_
    refine lv_icmp_ne (tgt := 41) hx hb dX10_shedOn_23 (by decide) (fun c_3 => ?_) (fun c_3 => ?_)
    · refine lv_iinc (v := nI (k + 1)) (lv' := [(2, _), (0, _), (1, _)]) hx hb dX10_shedOn_41 hl (k := 0) rfl (nI_succ k).symm (by decide) rfl (fun ls hl => ?_)
      refine lv_goto (tgt := 2) hx hb dX10_shedOn_44 (by decide) ?_
      exact ih_1 (k + 1) (by omega) _ _ _ ⟨⟨by omega, (hI_1.2.trans (shedF_s hk (by omega))).trans (if_neg (fun z => by first | exact c_3 z.1 | exact c_3 z.2))⟩, hm, hS, lv_sub hl [0, 1, 2] rfl⟩
    · refine lv_aload_n hx hb dX10_shedOn_26 rfl (lv_at hl 1 rfl) ?_
      refine tg_0 hx hb hts hown hs hm (hts _ q1674) dX10_shedOn_27 ?_
      refine lv_bipush (v := (89 : Int32)) hx hb dX10_shedOn_30 (by decide) ?_
      refine lv_iload_n hx hb dX10_shedOn_32 rfl (lv_at hl 0 rfl) ?_
      refine lv_iadd hx hb dX10_shedOn_33 ?_
      refine tl_0 hx hb hs hm (ix.add 89 112 (⟨k, (by omega : k < 4), rfl⟩) (by decide) (by decide)) dX10_shedOn_34 ?_
      refine lv_iconst (v := (1 : Int32)) hx hb dX10_shedOn_35 (by decide) ?_
      refine lv_icmp_ne (tgt := 41) hx hb dX10_shedOn_36 (by decide) (fun c_4 => ?_) (fun c_4 => ?_)
      · refine lv_iinc (v := nI (k + 1)) (lv' := [(2, _), (0, _), (1, _)]) hx hb dX10_shedOn_41 hl (k := 0) rfl (nI_succ k).symm (by decide) rfl (fun ls hl => ?_)
        refine lv_goto (tgt := 2) hx hb dX10_shedOn_44 (by decide) ?_
        exact ih_1 (k + 1) (by omega) _ _ _ ⟨⟨by omega, (hI_1.2.trans (shedF_s hk (by omega))).trans (if_neg (fun z => by first | exact c_4 z.1 | exact c_4 z.2))⟩, hm, hS, lv_sub hl [0, 1, 2] rfl⟩
      · refine lv_iload_n hx hb dX10_shedOn_39 rfl (lv_at hl 0 rfl) ?_
        exact W.iret (v := _) hx hb hr (fun t9 ht9 _ => ⟨⟨_, _, rfl, ⟨((hI_1.2.trans (shedF_s hk (by omega))).trans (if_pos ⟨c_3, c_4⟩)).symm, rfl⟩, hb9 ht9 hm⟩, hS.F ht9⟩) hS.2.2 dX10_shedOn_40
def T_water (v : tw) (x : Int32) : UInt32 × tw :=
  let r_1 := T_isPlot (x);
  let x3 := if r_1 = 0 then (1 : Int32) else (0 : Int32);
  if x3 = 0 then
    ((t1 v (((0 : Int32) + x)).toNatClampNeg), (u18 v x3))
  else
    (FP.fconst0, (u18 v x3))
set_option maxHeartbeats 4000000 in
theorem tm_water (l : Launch) (E : mE) (h : Nat) (v : tw) (x : Int32) (hw : wf (t0 v) (t1 v)) : Met l yX10_water (ws_ yX10_water cX10_water 2 (some .float)) ({ frames := 2, cells := 0, slots := 0, locals := 42 }) (va_Pc [.ref h, .int x] (tP E h v)) (va_Qf (fun (r : UInt32) (u : tw) => r = (T_water v x).1 ∧ u = (T_water v x).2) (fun u U => tW E h u U.heap) (eA E)) 0 0 (eA E) := by
  refine Met.ofW (cc := cX10_water) (maxL := 2) (ret := (some .float)) (by decide) rfl ?_
  intro p e s m args below meth c s₁ B hml hv
  obtain ⟨rfl, hs, hm⟩ := hv
  have hx := B.exec
  have hb := B.bytes
  have hr := B.returns
  have hts := atoms_spec (ws := ws_ yX10_water cX10_water 2 (some .float)) B.pre
  have hts : ∀ w ∈ lw_all, w.before _ s = true := fun w h => hts w (List.mem_cons_of_mem _ h)
  have hown : s.vm.findClass RX10 = some m.cls := findClass_of_methodNamed B.named
  have hlocks := B.notSynchronized
  have hS : va_S (eA E) s.heap s.heap [] := va_S.rf
  have hl := lv_entry ([.ref h, .int x]) (n := 2) (Nat.le_of_ble_eq_true rfl)
  rw [lg_entry_eq]
  generalize (lg_sl ([.ref h, .int x]) ++ List.replicate (2 - (lg_sl ([.ref h, .int x])).length) Slot.unset).toArray = ls at hl ⊢
  have hl : lv_has ls 2 [(0, .ref (h)), (1, .int (x))] := hl
  refine lv_aload_n hx hb dX10_water_0 rfl (lv_at hl 0 rfl) ?_
  refine lv_iload_n hx hb dX10_water_1 rfl (lv_at hl 1 rfl) ?_
  refine k_calli (va_runS (As := [.int (x)]) (rest := [.ref (h)]) ⟨hx, hb, hml, hown, hts⟩ (tm_isPlot l E (x) _) (va_cwS 1 hts (lw_S q1806 q1807 q80 q1808) rfl rfl rfl (by decide +kernel) ⟨Nat.le_of_ble_eq_true rfl, Nat.le_of_ble_eq_true rfl⟩) (k_pure hs hS) rfl rfl hl.1 rfl (lv_room (Nat.le_of_ble_eq_true rfl)) dX10_water_2 ⟨Nat.le_of_ble_eq_true rfl, Nat.le_of_ble_eq_true rfl⟩) hS (fun r_1 u_1 H9 locs hw_1 hm_1 hS => ?_)
  replace hm_1 : _ = H9 := Eq.symm hm_1
  subst hm_1
  have hr_1 := hw_1
  refine k_join (fun (x3 : Int32) H locs ls => x3 = (if r_1 = 0 then (1 : Int32) else (0 : Int32)) ∧ tW E h (v) H ∧ va_S (eA E) s.heap H locs ∧ lv_has ls 2 [(0, .ref (h)), (1, .int (x))]) (fun (x3 : Int32) ls => F0 m 13 ls [.int (x3), .ref (h)]) (fun x3 H locs ls hJ => ?_) (fun J3 => ?_)
  · obtain ⟨hX3, hm, hS, hl⟩ := hJ
    refine tp_18 hx hb hts hown hs hm hS (hts _ q1692) dX10_water_13 (fun H locs hm hS => ?_)
    have hm : tW E h (u18 v x3) H := hm
    refine lv_aload_n hx hb dX10_water_16 rfl (lv_at hl 0 rfl) ?_
    refine tg_18 hx hb hts hown hs hm (hts _ q1692) dX10_water_17 ?_
    refine lv_if_ne (tgt := 34) hx hb dX10_water_20 (by decide) (fun c_4 => ?_) (fun c_4 => ?_)
    · refine lv_fconst0 hx hb dX10_water_34 ?_
      subst hX3
      subst hr_1
      exact W.fret (v := _) hx hb hr (fun t9 ht9 _ => ⟨⟨_, _, rfl, pp ((if_neg c_4).trans (rfl)), hb9 ht9 hm⟩, hS.F ht9⟩) hS.2.2 dX10_water_35
    · have hx12 : ix 12 x := plot_ix hr_1 (fun z => by rw [if_pos z] at hX3; exact absurd (hX3.symm.trans c_4) (by decide))
      refine lv_aload_n hx hb dX10_water_23 rfl (lv_at hl 0 rfl) ?_
      refine tg_1 hx hb hts hown hs hm (hts _ q1675) dX10_water_24 ?_
      refine lv_iconst (v := (0 : Int32)) hx hb dX10_water_27 (by decide) ?_
      refine lv_iload_n hx hb dX10_water_28 rfl (lv_at hl 1 rfl) ?_
      refine lv_iadd hx hb dX10_water_29 ?_
      refine tl_1 hx hb hs hm (ix.add 0 33 (hx12) (by decide) (by decide)) dX10_water_30 ?_
      refine lv_goto (tgt := 35) hx hb dX10_water_31 (by decide) ?_
      subst hX3
      subst hr_1
      exact W.fret (v := _) hx hb hr (fun t9 ht9 _ => ⟨⟨_, _, rfl, pp ((if_pos c_4).trans (rfl)), hb9 ht9 hm⟩, hS.F ht9⟩) hS.2.2 dX10_water_35
  · refine lv_if_eq (tgt := 12) hx hb dX10_water_5 (by decide) (fun c_2 => ?_) (fun c_2 => ?_)
    · refine lv_iconst (v := (1 : Int32)) hx hb dX10_water_12 (by decide) ?_
      exact J3 ((1 : Int32)) _ _ _ ⟨((if_pos c_2).trans (rfl)).symm, hm, hS, lv_sub hl [0, 1] rfl⟩
    · refine lv_iconst (v := (0 : Int32)) hx hb dX10_water_8 (by decide) ?_
      refine lv_goto (tgt := 13) hx hb dX10_water_9 (by decide) ?_
      exact J3 ((0 : Int32)) _ _ _ ⟨((if_neg c_2).trans (rfl)).symm, hm, hS, lv_sub hl [0, 1] rfl⟩
def T_wetter (v : tw) (x : UInt32) : UInt32 :=
  let r_1 := T_most ((FP.fadd x (FP.fmul (1061997773 : UInt32) (FP.i2f (t0 v ((2 : Int32)).toNatClampNeg))))) ((1120403456 : UInt32));
  let r_2 := T_least ((FP.fsub r_1 (FP.fadd (1056964608 : UInt32) (FP.fmul (1048576000 : UInt32) (FP.i2f (t0 v ((1 : Int32)).toNatClampNeg))))));
  r_2
set_option maxHeartbeats 4000000 in
theorem tm_wetter (l : Launch) (E : mE) (h : Nat) (v : tw) (x : UInt32) (hw : wf (t0 v) (t1 v)) (hx9 : kd false 12 x) : Met l yX10_wetter (ws_ yX10_wetter cX10_wetter 3 (some .float)) ({ frames := 1, cells := 0, slots := 0, locals := 21 }) (va_Pc [.ref h, .float x] (tP E h v)) (va_Qf (fun (r : UInt32) (u : tw) => r = T_wetter v x ∧ u = v) (fun u U => tW E h u U.heap) (eA E)) 0 0 (eA E) := by
  refine Met.ofW (cc := cX10_wetter) (maxL := 3) (ret := (some .float)) (by decide) rfl ?_
  intro p e s m args below meth c s₁ B hml hv
  obtain ⟨rfl, hs, hm⟩ := hv
  have hx := B.exec
  have hb := B.bytes
  have hr := B.returns
  have hts := atoms_spec (ws := ws_ yX10_wetter cX10_wetter 3 (some .float)) B.pre
  have hts : ∀ w ∈ lw_all, w.before _ s = true := fun w h => hts w (List.mem_cons_of_mem _ h)
  have hown : s.vm.findClass RX10 = some m.cls := findClass_of_methodNamed B.named
  have hlocks := B.notSynchronized
  have hS : va_S (eA E) s.heap s.heap [] := va_S.rf
  have hl := lv_entry ([.ref h, .float x]) (n := 3) (Nat.le_of_ble_eq_true rfl)
  rw [lg_entry_eq]
  generalize (lg_sl ([.ref h, .float x]) ++ List.replicate (3 - (lg_sl ([.ref h, .float x])).length) Slot.unset).toArray = ls at hl ⊢
  have hl : lv_has ls 3 [(0, .ref (h)), (1, .float (x))] := hl
  refine lv_fload_n hx hb dX10_wetter_0 rfl (lv_at hl 1 rfl) ?_
  refine lv_ldcf (v := 1061997773) hx hb hown (hts _ q1845) dX10_wetter_1 ?_
  refine lv_aload_n hx hb dX10_wetter_3 rfl (lv_at hl 0 rfl) ?_
  refine tg_0 hx hb hts hown hs hm (hts _ q1674) dX10_wetter_4 ?_
  refine lv_iconst (v := (2 : Int32)) hx hb dX10_wetter_7 (by decide) ?_
  refine tl_0 hx hb hs hm (vi 2 (by decide) (by decide)) dX10_wetter_8 ?_
  refine lv_i2f hx hb dX10_wetter_9 ?_
  refine lv_fmul hx hb dX10_wetter_10 ((kd.mul (kd_08) ((kd_i2f (((hw).rain).mono (by decide)))))).nan ?_
  refine lv_fadd hx hb dX10_wetter_11 ((kd.add (n := 12) ((hx9).up (by decide)) (((kd.mul (kd_08) ((kd_i2f (((hw).rain).mono (by decide)))))).up (by decide)))).nan ?_
  refine lv_ldcf (v := 1120403456) hx hb hown (hts _ q1846) dX10_wetter_12 ?_
  refine k_callf (va_runS (As := [.float ((FP.fadd x (FP.fmul (1061997773 : UInt32) (FP.i2f (t0 v ((2 : Int32)).toNatClampNeg))))), .float ((1120403456 : UInt32))]) (rest := []) ⟨hx, hb, hml, hown, hts⟩ (tm_most l E ((FP.fadd x (FP.fmul (1061997773 : UInt32) (FP.i2f (t0 v ((2 : Int32)).toNatClampNeg))))) ((1120403456 : UInt32)) _) (va_cwS 2 hts (lw_S q1847 q1848 q80 q1849) rfl rfl rfl (by decide +kernel) ⟨Nat.le_of_ble_eq_true rfl, Nat.le_of_ble_eq_true rfl⟩) (k_pure hs hS) rfl rfl hl.1 rfl (lv_room (Nat.le_of_ble_eq_true rfl)) dX10_wetter_14 ⟨Nat.le_of_ble_eq_true rfl, Nat.le_of_ble_eq_true rfl⟩) hS (fun r_1 u_1 H9 locs hw_1 hm_1 hS => ?_)
  replace hm_1 : _ = H9 := Eq.symm hm_1
  subst hm_1
  have hr_1 := hw_1
  refine lv_fstore_n (lv' := [(2, _), (0, _), (1, _)]) hx hb dX10_wetter_17 rfl hl (by decide) rfl (fun ls hl => ?_)
  refine lv_fload_n hx hb dX10_wetter_18 rfl (lv_at hl 0 rfl) ?_
  refine lv_ldcf (v := 1056964608) hx hb hown (hts _ q1850) dX10_wetter_19 ?_
  refine lv_ldcf (v := 1048576000) hx hb hown (hts _ q1851) dX10_wetter_21 ?_
  refine lv_aload_n hx hb dX10_wetter_23 rfl (lv_at hl 1 rfl) ?_
  refine tg_0 hx hb hts hown hs hm (hts _ q1674) dX10_wetter_24 ?_
  refine lv_iconst (v := (1 : Int32)) hx hb dX10_wetter_27 (by decide) ?_
  refine tl_0 hx hb hs hm (vi 1 (by decide) (by decide)) dX10_wetter_28 ?_
  refine lv_i2f hx hb dX10_wetter_29 ?_
  refine lv_fmul hx hb dX10_wetter_30 ((kd.mul (kd_025) ((kd_i2f (((hw).wind).mono (by decide)))))).nan ?_
  refine lv_fadd hx hb dX10_wetter_31 ((kd.add (n := 8) ((kd_05).up (by decide)) (((kd.mul (kd_025) ((kd_i2f (((hw).wind).mono (by decide)))))).up (by decide)))).nan ?_
  refine lv_fsub hx hb dX10_wetter_32 (((kd.subG (n := 10) (((show kd false (7) r_1 by rw [hr_1]; exact kd_most ((kd.add (n := 12) ((hx9).up (by decide)) (((kd.mul (kd_08) ((kd_i2f (((hw).rain).mono (by decide)))))).up (by decide)))) (kd_100))).up (by decide)) (((kd.add (n := 8) ((kd_05).up (by decide)) (((kd.mul (kd_025) ((kd_i2f (((hw).wind).mono (by decide)))))).up (by decide)))).up (by decide)))).elim (fun _ h => h.nan)) ?_
  refine k_callf (va_runS (As := [.float ((FP.fsub r_1 (FP.fadd (1056964608 : UInt32) (FP.fmul (1048576000 : UInt32) (FP.i2f (t0 v ((1 : Int32)).toNatClampNeg))))))]) (rest := []) ⟨hx, hb, hml, hown, hts⟩ (tm_least l E ((FP.fsub r_1 (FP.fadd (1056964608 : UInt32) (FP.fmul (1048576000 : UInt32) (FP.i2f (t0 v ((1 : Int32)).toNatClampNeg)))))) _) (va_cwS 1 hts (lw_S q1852 q1853 q80 q1854) rfl rfl rfl (by decide +kernel) ⟨Nat.le_of_ble_eq_true rfl, Nat.le_of_ble_eq_true rfl⟩) (k_pure hs hS) rfl rfl hl.1 rfl (lv_room (Nat.le_of_ble_eq_true rfl)) dX10_wetter_33 ⟨Nat.le_of_ble_eq_true rfl, Nat.le_of_ble_eq_true rfl⟩) hS (fun r_2 u_2 H9 locs hw_2 hm_2 hS => ?_)
  replace hm_2 : _ = H9 := Eq.symm hm_2
  subst hm_2
  have hr_2 := hw_2
  subst hr_2
  subst hr_1
  exact W.fret (v := _) hx hb hr (fun t9 ht9 _ => ⟨⟨_, _, rfl, ⟨(rfl).symm, rfl⟩, hb9 ht9 hm⟩, hS.F ht9⟩) hS.2.2 dX10_wetter_36
theorem kd_wetter {v : tw} (hw : wf (t0 v) (t1 v)) {x : UInt32} (hx : kd false 12 x) : kd false 12 (T_wetter v x) :=
  (kd_least (n := 10) ((kd_most (hx.add (n := 12) ((kd.mul kd_08 (kd_i2f (hw.rain.mono (by decide)))).up (by decide))) kd_100).up (by decide)) ((kd.add (n := 8) (kd_05.up (by decide)) ((kd.mul kd_025 (kd_i2f (hw.wind.mono (by decide)))).up (by decide))).up (by decide))).up (by decide)
theorem kd_rep {v : tw} (hw : wf (t0 v) (t1 v)) {x : UInt32} (hx : kd false 12 x) (k : Nat) : kd false 12 (rep (T_wetter v) k x) := by
  induction k with
  | zero => exact hx
  | succ k ih => exact kd_wetter hw ih
def T_waterIn (v : tw) (x : Int32) (y : Int32) : Int32 × tw :=
  let r_1 := T_isPlot (x);
  if r_1 = 0 then
    ((0 : Int32), (T_fails v (1 : Int32)).2)
  else
    let r_3 := T_in (y) ((0 : Int32)) ((60 : Int32));
    if r_3 = 0 then
      ((0 : Int32), (T_fails v (2 : Int32)).2)
    else
      let r_7 := T_fbits ((rep (T_wetter v) (y.toNatClampNeg) (t1 v (((0 : Int32) + x)).toNatClampNeg)));
      (r_7, (u18 v (0 : Int32)))
set_option maxHeartbeats 4000000 in
theorem tm_waterIn (l : Launch) (E : mE) (h : Nat) (v : tw) (x : Int32) (y : Int32) (hw : wf (t0 v) (t1 v)) : Met l yX10_waterIn (ws_ yX10_waterIn cX10_waterIn 5 (some .int)) ({ frames := 2, cells := 0, slots := 0, locals := 60 }) (va_Pc [.ref h, .int x, .int y] (tP E h v)) (va_Qi (fun (r : Int32) (u : tw) => r = (T_waterIn v x y).1 ∧ u = (T_waterIn v x y).2) (fun u U => tW E h u U.heap) (eA E)) 0 0 (eA E) := by
  refine Met.ofW (cc := cX10_waterIn) (maxL := 5) (ret := (some .int)) (by decide) rfl ?_
  intro p e s m args below meth c s₁ B hml hv
  obtain ⟨rfl, hs, hm⟩ := hv
  have hx := B.exec
  have hb := B.bytes
  have hr := B.returns
  have hts := atoms_spec (ws := ws_ yX10_waterIn cX10_waterIn 5 (some .int)) B.pre
  have hts : ∀ w ∈ lw_all, w.before _ s = true := fun w h => hts w (List.mem_cons_of_mem _ h)
  have hown : s.vm.findClass RX10 = some m.cls := findClass_of_methodNamed B.named
  have hlocks := B.notSynchronized
  have hS : va_S (eA E) s.heap s.heap [] := va_S.rf
  have hl := lv_entry ([.ref h, .int x, .int y]) (n := 5) (Nat.le_of_ble_eq_true rfl)
  rw [lg_entry_eq]
  generalize (lg_sl ([.ref h, .int x, .int y]) ++ List.replicate (5 - (lg_sl ([.ref h, .int x, .int y])).length) Slot.unset).toArray = ls at hl ⊢
  have hl : lv_has ls 5 [(0, .ref (h)), (1, .int (x)), (2, .int (y))] := hl
  refine lv_iload_n hx hb dX10_waterIn_0 rfl (lv_at hl 1 rfl) ?_
  refine k_calli (va_runS (As := [.int (x)]) (rest := []) ⟨hx, hb, hml, hown, hts⟩ (tm_isPlot l E (x) _) (va_cwS 1 hts (lw_S q1806 q1807 q80 q1808) rfl rfl rfl (by decide +kernel) ⟨Nat.le_of_ble_eq_true rfl, Nat.le_of_ble_eq_true rfl⟩) (k_pure hs hS) rfl rfl hl.1 rfl (lv_room (Nat.le_of_ble_eq_true rfl)) dX10_waterIn_1 ⟨Nat.le_of_ble_eq_true rfl, Nat.le_of_ble_eq_true rfl⟩) hS (fun r_1 u_1 H9 locs hw_1 hm_1 hS => ?_)
  replace hm_1 : _ = H9 := Eq.symm hm_1
  subst hm_1
  have hr_1 := hw_1
  refine lv_if_ne (tgt := 13) hx hb dX10_waterIn_4 (by decide) (fun c_2 => ?_) (fun c_2 => ?_)
  · have hx12 := plot_ix hr_1 c_2
    refine lv_iload_n hx hb dX10_waterIn_13 rfl (lv_at hl 2 rfl) ?_
    refine lv_iconst (v := (0 : Int32)) hx hb dX10_waterIn_14 (by decide) ?_
    refine lv_bipush (v := (60 : Int32)) hx hb dX10_waterIn_15 (by decide) ?_
    refine k_calli (va_runS (As := [.int (y), .int ((0 : Int32)), .int ((60 : Int32))]) (rest := []) ⟨hx, hb, hml, hown, hts⟩ (tm_in l E (y) ((0 : Int32)) ((60 : Int32)) _) (va_cwS 3 hts (lw_S q1763 q1764 q80 q1765) rfl rfl rfl (by decide +kernel) ⟨Nat.le_of_ble_eq_true rfl, Nat.le_of_ble_eq_true rfl⟩) (k_pure hs hS) rfl rfl hl.1 rfl (lv_room (Nat.le_of_ble_eq_true rfl)) dX10_waterIn_17 ⟨Nat.le_of_ble_eq_true rfl, Nat.le_of_ble_eq_true rfl⟩) hS (fun r_3 u_3 H9 locs hw_3 hm_3 hS => ?_)
    replace hm_3 : _ = H9 := Eq.symm hm_3
    subst hm_3
    have hr_3 := hw_3
    refine lv_if_ne (tgt := 29) hx hb dX10_waterIn_20 (by decide) (fun c_4 => ?_) (fun c_4 => ?_)
    · have hy61 : ix 61 y := Tin_ix hr_3 c_4 (by decide) (by decide)
      refine lv_aload_n hx hb dX10_waterIn_29 rfl (lv_at hl 0 rfl) ?_
      refine tg_1 hx hb hts hown hs hm (hts _ q1675) dX10_waterIn_30 ?_
      refine lv_iconst (v := (0 : Int32)) hx hb dX10_waterIn_33 (by decide) ?_
      refine lv_iload_n hx hb dX10_waterIn_34 rfl (lv_at hl 1 rfl) ?_
      refine lv_iadd hx hb dX10_waterIn_35 ?_
      refine tl_1 hx hb hs hm (ix.add 0 33 (hx12) (by decide) (by decide)) dX10_waterIn_36 ?_
      refine lv_fstore_n (lv' := [(3, _), (0, _), (1, _), (2, _)]) hx hb dX10_waterIn_37 rfl hl (by decide) rfl (fun ls hl => ?_)
      refine lv_iconst (v := (0 : Int32)) hx hb dX10_waterIn_38 (by decide) ?_
      refine lv_istore (lv' := [(4, _), (3, _), (0, _), (1, _), (2, _)]) hx hb dX10_waterIn_39 hl (by decide) rfl (fun ls hl => ?_)
      refine k_loop (fun k => y.toNatClampNeg - k) (fun (k : Nat) H locs ls => (k ≤ y.toNatClampNeg) ∧ tW E h (v) H ∧ va_S (eA E) s.heap H locs ∧ lv_has ls 5 [(4, .int (nI k)), (3, .float ((rep (T_wetter v) k (t1 v (((0 : Int32) + x)).toNatClampNeg)))), (0, .ref (h)), (1, .int (x)), (2, .int (y))]) (fun (k : Nat) ls => F0 m 41 ls []) (fun k => (0, 0)) (fun k ih_5 H locs ls hP => ?_) (0) ⟨(Nat.zero_le _), hm, hS, lv_sub hl [0, 1, 2, 3, 4] rfl⟩
      obtain ⟨hI_5, hm, hS, hl⟩ := hP
      refine lv_iload hx hb dX10_waterIn_41 (lv_at hl 0 rfl) ?_
      refine lv_iload_n hx hb dX10_waterIn_43 rfl (lv_at hl 4 rfl) ?_
      refine lv_icmp_ge (tgt := 59) hx hb dX10_waterIn_44 (by decide) (fun c_6 => ?_) (fun c_6 => ?_)
      · have hkN : k = y.toNatClampNeg := lp_geI hy61 (by decide) hI_5 c_6
        replace hkN := hkN.symm
        subst hkN
        refine lv_aload_n hx hb dX10_waterIn_59 rfl (lv_at hl 2 rfl) ?_
        refine lv_fload_n hx hb dX10_waterIn_60 rfl (lv_at hl 1 rfl) ?_
        refine k_calli (va_runS (As := [.float ((rep (T_wetter v) (y.toNatClampNeg) (t1 v (((0 : Int32) + x)).toNatClampNeg)))]) (rest := [.ref (h)]) ⟨hx, hb, hml, hown, hts⟩ (jm_J16_floatToIntBits l E ((rep (T_wetter v) (y.toNatClampNeg) (t1 v (((0 : Int32) + x)).toNatClampNeg))) _) (va_cwS 1 hts (lw_S q1855 q931 q87 q932) rfl rfl rfl (by decide +kernel) ⟨Nat.le_of_ble_eq_true rfl, Nat.le_of_ble_eq_true rfl⟩) (k_pure hs hS) rfl rfl hl.1 rfl (lv_room (Nat.le_of_ble_eq_true rfl)) dX10_waterIn_61 ⟨Nat.le_of_ble_eq_true rfl, Nat.le_of_ble_eq_true rfl⟩) hS (fun r_7 u_7 H9 locs hw_7 hm_7 hS => ?_)
        replace hm_7 : _ = H9 := Eq.symm hm_7
        subst hm_7
        have hr_7 := hw_7
        refine k_calli (va_runV (As := [.int (r_7)]) (rest := []) ⟨hx, hb, hml, hown, hts⟩ (tm_done l E h v (r_7) ) (cwV 1 hts (lw_V q1770 q1772 qs24 q80 q1773) rfl rfl rfl (by decide +kernel) ⟨Nat.le_of_ble_eq_true rfl, Nat.le_of_ble_eq_true rfl⟩) (k_preVt hs hm hS) rfl rfl hl.1 rfl (lv_room (Nat.le_of_ble_eq_true rfl)) dX10_waterIn_64 ⟨Nat.le_of_ble_eq_true rfl, Nat.le_of_ble_eq_true rfl⟩) hS (fun r_8 u_8 H9 locs hw_8 hm_8 hS => ?_)
        replace hw_8 : r_8 = r_7 ∧ u_8 = (u18 v (0 : Int32)) := hw_8
        obtain ⟨hr_8, hw_8⟩ := hw_8
        replace hr_8 := hr_8.symm
        subst hr_8
        replace hw_8 := hw_8.symm
        subst hw_8
        have hm := hm_8
        subst hr_7
        subst hr_3
        subst hr_1
        exact W.iret (v := _) hx hb hr (fun t9 ht9 _ => ⟨⟨_, _, rfl, pp ((if_neg c_2).trans ((if_neg c_4).trans (rfl))), hb9 ht9 hm⟩, hS.F ht9⟩) hS.2.2 dX10_waterIn_67
      · have hk : k < y.toNatClampNeg := lp_ltI hy61 (by decide) hI_5 c_6
        refine lv_aload_n hx hb dX10_waterIn_47 rfl (lv_at hl 2 rfl) ?_
        refine lv_fload_n hx hb dX10_waterIn_48 rfl (lv_at hl 1 rfl) ?_
        refine k_callf (va_runV (As := [.float ((rep (T_wetter v) k (t1 v (((0 : Int32) + x)).toNatClampNeg)))]) (rest := []) ⟨hx, hb, hml, hown, hts⟩ (tm_wetter l E h v ((rep (T_wetter v) k (t1 v (((0 : Int32) + x)).toNatClampNeg))) hw (kd_rep hw (hw.wat hx12) k)) (cwV 1 hts (lw_V q1841 q1843 qs33 q80 q1844) rfl rfl rfl (by decide +kernel) ⟨Nat.le_of_ble_eq_true rfl, Nat.le_of_ble_eq_true rfl⟩) (k_preVt hs hm hS) rfl rfl hl.1 rfl (lv_room (Nat.le_of_ble_eq_true rfl)) dX10_waterIn_49 ⟨Nat.le_of_ble_eq_true rfl, Nat.le_of_ble_eq_true rfl⟩) hS (fun r_9 u_9 H9 locs hw_9 hm_9 hS => ?_)
        obtain ⟨hr_9, hu_9⟩ := hw_9
        replace hu_9 := hu_9.symm
        subst hu_9
        have hm := hm_9
        refine lv_fstore_n (lv' := [(3, _), (4, _), (0, _), (1, _), (2, _)]) hx hb dX10_waterIn_52 rfl hl (by decide) rfl (fun ls hl => ?_)
        refine lv_iinc (v := nI (k + 1)) (lv' := [(4, _), (3, _), (0, _), (1, _), (2, _)]) hx hb dX10_waterIn_53 hl (k := 1) rfl (nI_succ k).symm (by decide) rfl (fun ls hl => ?_)
        refine lv_goto (tgt := 41) hx hb dX10_waterIn_56 (by decide) ?_
        exact ih_5 (k + 1) (by omega) _ _ _ ⟨(by omega), hm, hS, (by rw [show rep (T_wetter v) (k + 1) (t1 v (((0 : Int32) + x)).toNatClampNeg) = r_9 from by rw [hr_9]; rfl]; exact lv_sub hl [0, 1, 2, 3, 4] rfl)⟩
    · refine lv_aload_n hx hb dX10_waterIn_23 rfl (lv_at hl 0 rfl) ?_
      refine lv_iconst (v := (2 : Int32)) hx hb dX10_waterIn_24 (by decide) ?_
      refine k_calli (va_runV (As := [.int ((2 : Int32))]) (rest := []) ⟨hx, hb, hml, hown, hts⟩ (tm_fails l E h v ((2 : Int32)) ) (cwV 1 hts (lw_V q1766 q1768 qs23 q80 q1769) rfl rfl rfl (by decide +kernel) ⟨Nat.le_of_ble_eq_true rfl, Nat.le_of_ble_eq_true rfl⟩) (k_preVt hs hm hS) rfl rfl hl.1 rfl (lv_room (Nat.le_of_ble_eq_true rfl)) dX10_waterIn_25 ⟨Nat.le_of_ble_eq_true rfl, Nat.le_of_ble_eq_true rfl⟩) hS (fun r_10 u_10 H9 locs hw_10 hm_10 hS => ?_)
      replace hw_10 : r_10 = (0 : Int32) ∧ u_10 = (T_fails v (2 : Int32)).2 := hw_10
      obtain ⟨hr_10, hw_10⟩ := hw_10
      replace hr_10 := hr_10.symm
      subst hr_10
      replace hw_10 := hw_10.symm
      subst hw_10
      have hm := hm_10
      subst hr_3
      subst hr_1
      exact W.iret (v := _) hx hb hr (fun t9 ht9 _ => ⟨⟨_, _, rfl, pp ((if_neg c_2).trans ((if_pos c_4).trans (rfl))), hb9 ht9 hm⟩, hS.F ht9⟩) hS.2.2 dX10_waterIn_28
  · refine lv_aload_n hx hb dX10_waterIn_7 rfl (lv_at hl 0 rfl) ?_
    refine lv_iconst (v := (1 : Int32)) hx hb dX10_waterIn_8 (by decide) ?_
    refine k_calli (va_runV (As := [.int ((1 : Int32))]) (rest := []) ⟨hx, hb, hml, hown, hts⟩ (tm_fails l E h v ((1 : Int32)) ) (cwV 1 hts (lw_V q1766 q1768 qs23 q80 q1769) rfl rfl rfl (by decide +kernel) ⟨Nat.le_of_ble_eq_true rfl, Nat.le_of_ble_eq_true rfl⟩) (k_preVt hs hm hS) rfl rfl hl.1 rfl (lv_room (Nat.le_of_ble_eq_true rfl)) dX10_waterIn_9 ⟨Nat.le_of_ble_eq_true rfl, Nat.le_of_ble_eq_true rfl⟩) hS (fun r_11 u_11 H9 locs hw_11 hm_11 hS => ?_)
    replace hw_11 : r_11 = (0 : Int32) ∧ u_11 = (T_fails v (1 : Int32)).2 := hw_11
    obtain ⟨hr_11, hw_11⟩ := hw_11
    replace hr_11 := hr_11.symm
    subst hr_11
    replace hw_11 := hw_11.symm
    subst hw_11
    have hm := hm_11
    subst hr_1
    exact W.iret (v := _) hx hb hr (fun t9 ht9 _ => ⟨⟨_, _, rfl, pp ((if_pos c_2).trans (rfl)), hb9 ht9 hm⟩, hS.F ht9⟩) hS.2.2 dX10_waterIn_12
