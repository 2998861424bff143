set_option maxRecDepth 100000
/-! the reference, method by method: what it computes (T_..), and that it does (tm_..) -/
theorem Tin_ix1 {x lo hi r : Int32} {B : Nat} (hr : r = T_in x lo hi) (c : ¬ r = 0) (hl : 0 ≤ lo.toInt) (hh : hi.toInt < B) (hB : B ≤ 2 ^ 30) : ix B x := by
  unfold T_in at hr
  split at hr
  · exact absurd hr c
  · rename_i h1
    split at hr
    · exact absurd hr c
    · rename_i h2
      refine ix.of (fun h => h1 ?_) h2 hh hB
      rw [i_lt] at h ⊢
      have : (0 : Int32).toInt = 0 := rfl
      omega
theorem kd_off {s : Bool} {n : Int} {f : Nat → UInt32} {i j : Nat} {z : UInt32} (h : kd s n (f j)) (hij : ¬ j = i) : kd s n (vf_upd f i z j) := by
  rw [show vf_upd f i z j = f j from if_neg hij]
  exact h
theorem off_24_0 {x y : Int32} (hx : ix 4 x) (hy : ix 12 y) : ¬ ((0 : Int32) + y).toNatClampNeg = ((24 : Int32) + x).toNatClampNeg := by
  obtain ⟨k, h1, h2, -⟩ := hx.cl 24 (by decide)
  obtain ⟨j, h3, h4, -⟩ := hy.cl 0 (by decide)
  rw [show ((24 : Int32) + x).toNatClampNeg = _ from h2, show ((0 : Int32) + y).toNatClampNeg = _ from h4]
  omega
theorem kd_by {c : Prop} [Decidable c] {x : UInt32} (h : x = if c then (1039516303 : UInt32) else (1031127695 : UInt32)) : kd false 0 x := by
  subst h
  split
  · exact kd_012
  · exact kd_006
def T_pour (v : tw) (x : Int32) (y : Int32) (z : Int32) : Int32 × tw :=
  let r_1 := T_isShed v (x);
  if r_1 = 0 then
    ((0 : Int32), (T_fails v (1 : Int32)).2)
  else
    let r_4 := T_isPlot (y);
    if r_4 = 0 then
      ((0 : Int32), (T_fails v (1 : Int32)).2)
    else
      let r_6 := T_in (z) ((1 : Int32)) ((90 : Int32));
      if r_6 = 0 then
        ((0 : Int32), (T_fails v (2 : Int32)).2)
      else
        if (t0 v (((89 : Int32) + x)).toNatClampNeg) = 0 then
          ((0 : Int32), (T_refused v (10 : Int32) x (3 : Int32)).2)
        else
          if 0 ≤ (Op.cmpValue (FP.fcmp (t1 v (((24 : Int32) + x)).toNatClampNeg) (FP.i2f z)) .g) then
            let r_11 := T_most ((FP.fadd ((vf_upd (t1 v) (((24 : Int32) + x)).toNatClampNeg (FP.fsub (t1 v (((24 : Int32) + x)).toNatClampNeg) (FP.i2f z))) (((0 : Int32) + y)).toNatClampNeg) (FP.fmul (1056964608 : UInt32) (FP.i2f z)))) ((1120403456 : UInt32));
            let r_12 := T_fbits (((vf_upd (vf_upd (t1 v) (((24 : Int32) + x)).toNatClampNeg (FP.fsub (t1 v (((24 : Int32) + x)).toNatClampNeg) (FP.i2f z))) (((0 : Int32) + y)).toNatClampNeg r_11) (((0 : Int32) + y)).toNatClampNeg));
            let r_14 := (T_kept (u18 (u1 (T_looksBack v) (vf_upd (vf_upd (t1 v) (((24 : Int32) + x)).toNatClampNeg (FP.fsub (t1 v (((24 : Int32) + x)).toNatClampNeg) (FP.i2f z))) (((0 : Int32) + y)).toNatClampNeg r_11)) (0 : Int32)) (r_12)).1;
            let u_14 := (T_kept (u18 (u1 (T_looksBack v) (vf_upd (vf_upd (t1 v) (((24 : Int32) + x)).toNatClampNeg (FP.fsub (t1 v (((24 : Int32) + x)).toNatClampNeg) (FP.i2f z))) (((0 : Int32) + y)).toNatClampNeg r_11)) (0 : Int32)) (r_12)).2;
            (r_14, u_14)
          else
            ((0 : Int32), (T_refused v (11 : Int32) (FP.f2i (t1 v (((24 : Int32) + x)).toNatClampNeg)) (3 : Int32)).2)
set_option maxHeartbeats 4000000 in
theorem tm_pour (l : Launch) (E : mE) (h : Nat) (v : tw) (x : Int32) (y : Int32) (z : Int32) (hw : wf (t0 v) (t1 v)) (h9 : ix 9 (t6 v)) : Met l yX10_pour (ws_ yX10_pour cX10_pour 4 (some .int)) ({ frames := 2, cells := 0, slots := 0, locals := 60 }) (va_Pc [.ref h, .int x, .int y, .int z] (tP E h v)) (va_Qi (fun (r : Int32) (u : tw) => r = (T_pour v x y z).1 ∧ u = (T_pour v x y z).2) (fun u U => tW E h u U.heap) (eA E)) 0 0 (eA E) := by
  refine Met.ofW (cc := cX10_pour) (maxL := 4) (ret := (some .int)) (by decide) rfl ?_
  intro p e s m args below meth c s₁ B hml hv
  obtain ⟨rfl, hs, hm⟩ := hv
  have hx := B.exec
  have hb := B.bytes
  have hr := B.returns
  have hts := atoms_spec (ws := ws_ yX10_pour cX10_pour 4 (some .int)) B.pre
  have hts : ∀ w ∈ lw_all, w.before _ s = true := fun w h => hts w (List.mem_cons_of_mem _ h)
  have hown : s.vm.findClass RX10 = some m.cls := findClass_of_methodNamed B.named
  have hlocks := B.notSynchronized
  have hS : va_S (eA E) s.heap s.heap [] := va_S.rf
  have hl := lv_entry ([.ref h, .int x, .int y, .int z]) (n := 4) (Nat.le_of_ble_eq_true rfl)
  rw [lg_entry_eq]
  generalize (lg_sl ([.ref h, .int x, .int y, .int z]) ++ List.replicate (4 - (lg_sl ([.ref h, .int x, .int y, .int z])).length) Slot.unset).toArray = ls at hl ⊢
  have hl : lv_has ls 4 [(0, .ref (h)), (1, .int (x)), (2, .int (y)), (3, .int (z))] := hl
  refine lv_aload_n hx hb dX10_pour_0 rfl (lv_at hl 0 rfl) ?_
  refine lv_iload_n hx hb dX10_pour_1 rfl (lv_at hl 1 rfl) ?_
  refine k_calli (va_runV (As := [.int (x)]) (rest := []) ⟨hx, hb, hml, hown, hts⟩ (tm_isShed l E h v (x) ) (cwV 1 hts (lw_V q1946 q1948 qs42 q80 q1949) rfl rfl rfl (by decide +kernel) ⟨Nat.le_of_ble_eq_true rfl, Nat.le_of_ble_eq_true rfl⟩) (k_preVt hs hm hS) rfl rfl hl.1 rfl (lv_room (Nat.le_of_ble_eq_true rfl)) dX10_pour_2 ⟨Nat.le_of_ble_eq_true rfl, Nat.le_of_ble_eq_true rfl⟩) hS (fun r_1 u_1 H9 locs hw_1 hm_1 hS => ?_)
  obtain ⟨hr_1, hu_1⟩ := hw_1
  replace hu_1 := hu_1.symm
  subst hu_1
  have hm := hm_1
  refine lv_if_eq (tgt := 15) hx hb dX10_pour_5 (by decide) (fun c_2 => ?_) (fun c_2 => ?_)
  · refine lv_aload_n hx hb dX10_pour_15 rfl (lv_at hl 0 rfl) ?_
    refine lv_iconst (v := (1 : Int32)) hx hb dX10_pour_16 (by decide) ?_
    refine k_calli (va_runV (As := [.int ((1 : Int32))]) (rest := []) ⟨hx, hb, hml, hown, hts⟩ (tm_fails l E h v ((1 : Int32)) ) (cwV 1 hts (lw_V q1766 q1768 qs23 q80 q1769) rfl rfl rfl (by decide +kernel) ⟨Nat.le_of_ble_eq_true rfl, Nat.le_of_ble_eq_true rfl⟩) (k_preVt hs hm hS) rfl rfl hl.1 rfl (lv_room (Nat.le_of_ble_eq_true rfl)) dX10_pour_17 ⟨Nat.le_of_ble_eq_true rfl, Nat.le_of_ble_eq_true rfl⟩) hS (fun r_3 u_3 H9 locs hw_3 hm_3 hS => ?_)
    replace hw_3 : r_3 = (0 : Int32) ∧ u_3 = (T_fails v (1 : Int32)).2 := hw_3
    obtain ⟨hr_3, hw_3⟩ := hw_3
    replace hr_3 := hr_3.symm
    subst hr_3
    replace hw_3 := hw_3.symm
    subst hw_3
    have hm := hm_3
    subst hr_1
    exact W.iret (v := _) hx hb hr (fun t9 ht9 _ => ⟨⟨_, _, rfl, pp ((if_pos c_2).trans (rfl)), hb9 ht9 hm⟩, hS.F ht9⟩) hS.2.2 dX10_pour_20
  · refine lv_iload_n hx hb dX10_pour_8 rfl (lv_at hl 2 rfl) ?_
    refine k_calli (va_runS (As := [.int (y)]) (rest := []) ⟨hx, hb, hml, hown, hts⟩ (tm_isPlot l E (y) _) (va_cwS 1 hts (lw_S q1806 q1807 q80 q1808) rfl rfl rfl (by decide +kernel) ⟨Nat.le_of_ble_eq_true rfl, Nat.le_of_ble_eq_true rfl⟩) (k_pure hs hS) rfl rfl hl.1 rfl (lv_room (Nat.le_of_ble_eq_true rfl)) dX10_pour_9 ⟨Nat.le_of_ble_eq_true rfl, Nat.le_of_ble_eq_true rfl⟩) hS (fun r_4 u_4 H9 locs hw_4 hm_4 hS => ?_)
    replace hm_4 : _ = H9 := Eq.symm hm_4
    subst hm_4
    have hr_4 := hw_4
    refine lv_if_ne (tgt := 21) hx hb dX10_pour_12 (by decide) (fun c_5 => ?_) (fun c_5 => ?_)
    · have hx4 := shed_ix hr_1 c_2 hw
      have hy12 := plot_ix hr_4 c_5
      refine lv_iload_n hx hb dX10_pour_21 rfl (lv_at hl 3 rfl) ?_
      refine lv_iconst (v := (1 : Int32)) hx hb dX10_pour_22 (by decide) ?_
      refine lv_bipush (v := (90 : Int32)) hx hb dX10_pour_23 (by decide) ?_
      refine k_calli (va_runS (As := [.int (z), .int ((1 : Int32)), .int ((90 : Int32))]) (rest := []) ⟨hx, hb, hml, hown, hts⟩ (tm_in l E (z) ((1 : Int32)) ((90 : Int32)) _) (va_cwS 3 hts (lw_S q1763 q1764 q80 q1765) rfl rfl rfl (by decide +kernel) ⟨Nat.le_of_ble_eq_true rfl, Nat.le_of_ble_eq_true rfl⟩) (k_pure hs hS) rfl rfl hl.1 rfl (lv_room (Nat.le_of_ble_eq_true rfl)) dX10_pour_25 ⟨Nat.le_of_ble_eq_true rfl, Nat.le_of_ble_eq_true rfl⟩) hS (fun r_6 u_6 H9 locs hw_6 hm_6 hS => ?_)
      replace hm_6 : _ = H9 := Eq.symm hm_6
      subst hm_6
      have hr_6 := hw_6
      refine lv_if_ne (tgt := 37) hx hb dX10_pour_28 (by decide) (fun c_7 => ?_) (fun c_7 => ?_)
      · have hz91 : ix 91 z := Tin_ix1 hr_6 c_7 (by decide) (by decide) (by decide)
        refine lv_aload_n hx hb dX10_pour_37 rfl (lv_at hl 0 rfl) ?_
        refine tg_0 hx hb hts hown hs hm (hts _ q1674) dX10_pour_38 ?_
        refine lv_bipush (v := (89 : Int32)) hx hb dX10_pour_41 (by decide) ?_
        refine lv_iload_n hx hb dX10_pour_43 rfl (lv_at hl 1 rfl) ?_
        refine lv_iadd hx hb dX10_pour_44 ?_
        refine tl_0 hx hb hs hm (ix.add 89 112 (hx4) (by decide) (by decide)) dX10_pour_45 ?_
        refine lv_if_ne (tgt := 58) hx hb dX10_pour_46 (by decide) (fun c_8 => ?_) (fun c_8 => ?_)
        · refine lv_aload_n hx hb dX10_pour_58 rfl (lv_at hl 0 rfl) ?_
          refine tg_1 hx hb hts hown hs hm (hts _ q1675) dX10_pour_59 ?_
          refine lv_bipush (v := (24 : Int32)) hx hb dX10_pour_62 (by decide) ?_
          refine lv_iload_n hx hb dX10_pour_64 rfl (lv_at hl 1 rfl) ?_
          refine lv_iadd hx hb dX10_pour_65 ?_
          refine tl_1 hx hb hs hm (ix.add 24 33 (hx4) (by decide) (by decide)) dX10_pour_66 ?_
          refine lv_iload_n hx hb dX10_pour_67 rfl (lv_at hl 3 rfl) ?_
          refine lv_i2f hx hb dX10_pour_68 ?_
          refine lv_fcmp hx hb dX10_pour_69 ?_
          refine lv_if_ge (tgt := 91) hx hb dX10_pour_70 (by decide) (fun c_9 => ?_) (fun c_9 => ?_)
          · refine lv_aload_n hx hb dX10_pour_91 rfl (lv_at hl 0 rfl) ?_
            refine k_callv (va_runV (As := []) (rest := []) ⟨hx, hb, hml, hown, hts⟩ (tm_looksBack l E h v  ) (cwV 0 hts (lw_V q1749 q1751 qs21 q80 q1752) rfl rfl rfl (by decide +kernel) ⟨Nat.le_of_ble_eq_true rfl, Nat.le_of_ble_eq_true rfl⟩) (k_preVt hs hm hS) rfl rfl hl.1 rfl (lv_room (Nat.le_of_ble_eq_true rfl)) dX10_pour_92 ⟨Nat.le_of_ble_eq_true rfl, Nat.le_of_ble_eq_true rfl⟩) hS (fun u_10 H9 locs hw_10 hm_10 hS => ?_)
            replace hw_10 : u_10 = (T_looksBack v) := hw_10
            replace hw_10 := hw_10.symm
            subst hw_10
            have hm := hm_10
            refine lv_aload_n hx hb dX10_pour_95 rfl (lv_at hl 0 rfl) ?_
            refine tg_1 hx hb hts hown hs hm (hts _ q1675) dX10_pour_96 ?_
            refine lv_bipush (v := (24 : Int32)) hx hb dX10_pour_99 (by decide) ?_
            refine lv_iload_n hx hb dX10_pour_101 rfl (lv_at hl 1 rfl) ?_
            refine lv_iadd hx hb dX10_pour_102 ?_
            refine lv_aload_n hx hb dX10_pour_103 rfl (lv_at hl 0 rfl) ?_
            refine tg_1 hx hb hts hown hs hm (hts _ q1675) dX10_pour_104 ?_
            refine lv_bipush (v := (24 : Int32)) hx hb dX10_pour_107 (by decide) ?_
            refine lv_iload_n hx hb dX10_pour_109 rfl (lv_at hl 1 rfl) ?_
            refine lv_iadd hx hb dX10_pour_110 ?_
            refine tl_1 hx hb hs hm (ix.add 24 33 (hx4) (by decide) (by decide)) dX10_pour_111 ?_
            refine lv_iload_n hx hb dX10_pour_112 rfl (lv_at hl 3 rfl) ?_
            refine lv_i2f hx hb dX10_pour_113 ?_
            refine lv_fsub hx hb dX10_pour_114 (((kd.subG (n := 7) (((hw).but (hx4)).up (by decide)) (((kd_i2f ((hz91).mono (by decide)))).up (by decide)))).elim (fun _ h => h.nan)) ?_
            refine ts_1 hx hb hs hm hS (ix.add 24 33 (hx4) (by decide) (by decide)) dX10_pour_115 (fun H locs hm hS => ?_)
            have hm : tW E h (u1 (T_looksBack v) (vf_upd (t1 v) (((24 : Int32) + x)).toNatClampNeg (FP.fsub (t1 v (((24 : Int32) + x)).toNatClampNeg) (FP.i2f z)))) H := hm
            refine lv_aload_n hx hb dX10_pour_116 rfl (lv_at hl 0 rfl) ?_
            refine tg_1 hx hb hts hown hs hm (hts _ q1675) dX10_pour_117 ?_
            refine lv_iconst (v := (0 : Int32)) hx hb dX10_pour_120 (by decide) ?_
            refine lv_iload_n hx hb dX10_pour_121 rfl (lv_at hl 2 rfl) ?_
            refine lv_iadd hx hb dX10_pour_122 ?_
            refine lv_aload_n hx hb dX10_pour_123 rfl (lv_at hl 0 rfl) ?_
            refine tg_1 hx hb hts hown hs hm (hts _ q1675) dX10_pour_124 ?_
            refine lv_iconst (v := (0 : Int32)) hx hb dX10_pour_127 (by decide) ?_
            refine lv_iload_n hx hb dX10_pour_128 rfl (lv_at hl 2 rfl) ?_
            refine lv_iadd hx hb dX10_pour_129 ?_
            refine tl_1 hx hb hs hm (ix.add 0 33 (hy12) (by decide) (by decide)) dX10_pour_130 ?_
            refine lv_ldcf (v := 1056964608) hx hb hown (hts _ q1850) dX10_pour_131 ?_
            refine lv_iload_n hx hb dX10_pour_133 rfl (lv_at hl 3 rfl) ?_
            refine lv_i2f hx hb dX10_pour_134 ?_
            refine lv_fmul hx hb dX10_pour_135 ((kd.mul (kd_05) ((kd_i2f ((hz91).mono (by decide)))))).nan ?_
            refine lv_fadd hx hb dX10_pour_136 ((kd.add (n := 12) (((kd_off (hw.wat hy12) (off_24_0 hx4 hy12))).up (by decide)) (((kd.mul (kd_05) ((kd_i2f ((hz91).mono (by decide)))))).up (by decide)))).nan ?_
            refine lv_ldcf (v := 1120403456) hx hb hown (hts _ q1846) dX10_pour_137 ?_
            refine k_callf (va_runS (As := [.float ((FP.fadd ((vf_upd (t1 v) (((24 : Int32) + x)).toNatClampNeg (FP.fsub (t1 v (((24 : Int32) + x)).toNatClampNeg) (FP.i2f z))) (((0 : Int32) + y)).toNatClampNeg) (FP.fmul (1056964608 : UInt32) (FP.i2f z)))), .float ((1120403456 : UInt32))]) (rest := [.int (((0 : Int32) + y)), .ref (h + 2)]) ⟨hx, hb, hml, hown, hts⟩ (tm_most l E ((FP.fadd ((vf_upd (t1 v) (((24 : Int32) + x)).toNatClampNeg (FP.fsub (t1 v (((24 : Int32) + x)).toNatClampNeg) (FP.i2f z))) (((0 : Int32) + y)).toNatClampNeg) (FP.fmul (1056964608 : UInt32) (FP.i2f z)))) ((1120403456 : UInt32)) _) (va_cwS 2 hts (lw_S q1847 q1848 q80 q1849) rfl rfl rfl (by decide +kernel) ⟨Nat.le_of_ble_eq_true rfl, Nat.le_of_ble_eq_true rfl⟩) (k_pure hs hS) rfl rfl hl.1 rfl (lv_room (Nat.le_of_ble_eq_true rfl)) dX10_pour_139 ⟨Nat.le_of_ble_eq_true rfl, Nat.le_of_ble_eq_true rfl⟩) hS (fun r_11 u_11 H9 locs hw_11 hm_11 hS => ?_)
            replace hm_11 : _ = H9 := Eq.symm hm_11
            subst hm_11
            have hr_11 := hw_11
            refine ts_1 hx hb hs hm hS (ix.add 0 33 (hy12) (by decide) (by decide)) dX10_pour_142 (fun H locs hm hS => ?_)
            have hm : tW E h (u1 (T_looksBack v) (vf_upd (vf_upd (t1 v) (((24 : Int32) + x)).toNatClampNeg (FP.fsub (t1 v (((24 : Int32) + x)).toNatClampNeg) (FP.i2f z))) (((0 : Int32) + y)).toNatClampNeg r_11)) H := hm
            refine lv_aload_n hx hb dX10_pour_143 rfl (lv_at hl 0 rfl) ?_
            refine lv_aload_n hx hb dX10_pour_144 rfl (lv_at hl 0 rfl) ?_
            refine lv_aload_n hx hb dX10_pour_145 rfl (lv_at hl 0 rfl) ?_
            refine tg_1 hx hb hts hown hs hm (hts _ q1675) dX10_pour_146 ?_
            refine lv_iconst (v := (0 : Int32)) hx hb dX10_pour_149 (by decide) ?_
            refine lv_iload_n hx hb dX10_pour_150 rfl (lv_at hl 2 rfl) ?_
            refine lv_iadd hx hb dX10_pour_151 ?_
            refine tl_1 hx hb hs hm (ix.add 0 33 (hy12) (by decide) (by decide)) dX10_pour_152 ?_
            refine k_calli (va_runS (As := [.float (((vf_upd (vf_upd (t1 v) (((24 : Int32) + x)).toNatClampNeg (FP.fsub (t1 v (((24 : Int32) + x)).toNatClampNeg) (FP.i2f z))) (((0 : Int32) + y)).toNatClampNeg r_11) (((0 : Int32) + y)).toNatClampNeg))]) (rest := [.ref (h), .ref (h)]) ⟨hx, hb, hml, hown, hts⟩ (jm_J16_floatToIntBits l E (((vf_upd (vf_upd (t1 v) (((24 : Int32) + x)).toNatClampNeg (FP.fsub (t1 v (((24 : Int32) + x)).toNatClampNeg) (FP.i2f z))) (((0 : Int32) + y)).toNatClampNeg r_11) (((0 : Int32) + y)).toNatClampNeg)) _) (va_cwS 1 hts (lw_S q1855 q931 q87 q932) rfl rfl rfl (by decide +kernel) ⟨Nat.le_of_ble_eq_true rfl, Nat.le_of_ble_eq_true rfl⟩) (k_pure hs hS) rfl rfl hl.1 rfl (lv_room (Nat.le_of_ble_eq_true rfl)) dX10_pour_153 ⟨Nat.le_of_ble_eq_true rfl, Nat.le_of_ble_eq_true rfl⟩) hS (fun r_12 u_12 H9 locs hw_12 hm_12 hS => ?_)
            replace hm_12 : _ = H9 := Eq.symm hm_12
            subst hm_12
            have hr_12 := hw_12
            refine k_calli (va_runV (As := [.int (r_12)]) (rest := [.ref (h)]) ⟨hx, hb, hml, hown, hts⟩ (tm_done l E h (u1 (T_looksBack v) (vf_upd (vf_upd (t1 v) (((24 : Int32) + x)).toNatClampNeg (FP.fsub (t1 v (((24 : Int32) + x)).toNatClampNeg) (FP.i2f z))) (((0 : Int32) + y)).toNatClampNeg r_11)) (r_12) ) (cwV 1 hts (lw_V q1770 q1772 qs24 q80 q1773) rfl rfl rfl (by decide +kernel) ⟨Nat.le_of_ble_eq_true rfl, Nat.le_of_ble_eq_true rfl⟩) (k_preVt hs hm hS) rfl rfl hl.1 rfl (lv_room (Nat.le_of_ble_eq_true rfl)) dX10_pour_156 ⟨Nat.le_of_ble_eq_true rfl, Nat.le_of_ble_eq_true rfl⟩) hS (fun r_13 u_13 H9 locs hw_13 hm_13 hS => ?_)
            replace hw_13 : r_13 = r_12 ∧ u_13 = (u18 (u1 (T_looksBack v) (vf_upd (vf_upd (t1 v) (((24 : Int32) + x)).toNatClampNeg (FP.fsub (t1 v (((24 : Int32) + x)).toNatClampNeg) (FP.i2f z))) (((0 : Int32) + y)).toNatClampNeg r_11)) (0 : Int32)) := hw_13
            obtain ⟨hr_13, hw_13⟩ := hw_13
            replace hr_13 := hr_13.symm
            subst hr_13
            replace hw_13 := hw_13.symm
            subst hw_13
            have hm := hm_13
            refine k_calli (va_runV (As := [.int (r_12)]) (rest := []) ⟨hx, hb, hml, hown, hts⟩ (tm_kept l E h (u18 (u1 (T_looksBack v) (vf_upd (vf_upd (t1 v) (((24 : Int32) + x)).toNatClampNeg (FP.fsub (t1 v (((24 : Int32) + x)).toNatClampNeg) (FP.i2f z))) (((0 : Int32) + y)).toNatClampNeg r_11)) (0 : Int32)) (r_12) (i9_u18 (i9_u1 (i9_looksBack h9)))) (cwV 1 hts (lw_V q1774 q1776 qs25 q80 q1777) rfl rfl rfl (by decide +kernel) ⟨Nat.le_of_ble_eq_true rfl, Nat.le_of_ble_eq_true rfl⟩) (k_preVt hs hm hS) rfl rfl hl.1 rfl (lv_room (Nat.le_of_ble_eq_true rfl)) dX10_pour_159 ⟨Nat.le_of_ble_eq_true rfl, Nat.le_of_ble_eq_true rfl⟩) hS (fun r_14 u_14 H9 locs hw_14 hm_14 hS => ?_)
            obtain ⟨hr_14, hu_14⟩ := hw_14
            have hm := hm_14
            subst hu_14
            subst hr_14
            subst hr_12
            subst hr_11
            subst hr_6
            subst hr_4
            subst hr_1
            exact W.iret (v := _) hx hb hr (fun t9 ht9 _ => ⟨⟨_, _, rfl, pp ((if_neg c_2).trans ((if_neg c_5).trans ((if_neg c_7).trans ((if_neg c_8).trans ((if_pos c_9).trans (rfl)))))), hb9 ht9 hm⟩, hS.F ht9⟩) hS.2.2 dX10_pour_162
          · refine lv_aload_n hx hb dX10_pour_73 rfl (lv_at hl 0 rfl) ?_
            refine lv_bipush (v := (11 : Int32)) hx hb dX10_pour_74 (by decide) ?_
            refine lv_aload_n hx hb dX10_pour_76 rfl (lv_at hl 0 rfl) ?_
            refine tg_1 hx hb hts hown hs hm (hts _ q1675) dX10_pour_77 ?_
            refine lv_bipush (v := (24 : Int32)) hx hb dX10_pour_80 (by decide) ?_
            refine lv_iload_n hx hb dX10_pour_82 rfl (lv_at hl 1 rfl) ?_
            refine lv_iadd hx hb dX10_pour_83 ?_
            refine tl_1 hx hb hs hm (ix.add 24 33 (hx4) (by decide) (by decide)) dX10_pour_84 ?_
            refine lv_f2i hx hb dX10_pour_85 ?_
            refine lv_iconst (v := (3 : Int32)) hx hb dX10_pour_86 (by decide) ?_
            refine k_calli (va_runV (As := [.int ((11 : Int32)), .int ((FP.f2i (t1 v (((24 : Int32) + x)).toNatClampNeg))), .int ((3 : Int32))]) (rest := []) ⟨hx, hb, hml, hown, hts⟩ (tm_refused l E h v ((11 : Int32)) ((FP.f2i (t1 v (((24 : Int32) + x)).toNatClampNeg))) ((3 : Int32)) ) (cwV 3 hts (lw_V q1790 q1792 qs27 q80 q1793) rfl rfl rfl (by decide +kernel) ⟨Nat.le_of_ble_eq_true rfl, Nat.le_of_ble_eq_true rfl⟩) (k_preVt hs hm hS) rfl rfl hl.1 rfl (lv_room (Nat.le_of_ble_eq_true rfl)) dX10_pour_87 ⟨Nat.le_of_ble_eq_true rfl, Nat.le_of_ble_eq_true rfl⟩) hS (fun r_15 u_15 H9 locs hw_15 hm_15 hS => ?_)
            replace hw_15 : r_15 = (0 : Int32) ∧ u_15 = (T_refused v (11 : Int32) (FP.f2i (t1 v (((24 : Int32) + x)).toNatClampNeg)) (3 : Int32)).2 := hw_15
            obtain ⟨hr_15, hw_15⟩ := hw_15
            replace hr_15 := hr_15.symm
            subst hr_15
            replace hw_15 := hw_15.symm
            subst hw_15
            have hm := hm_15
            subst hr_6
            subst hr_4
            subst hr_1
            exact W.iret (v := _) hx hb hr (fun t9 ht9 _ => ⟨⟨_, _, rfl, pp ((if_neg c_2).trans ((if_neg c_5).trans ((if_neg c_7).trans ((if_neg c_8).trans ((if_neg c_9).trans (rfl)))))), hb9 ht9 hm⟩, hS.F ht9⟩) hS.2.2 dX10_pour_90
        · refine lv_aload_n hx hb dX10_pour_49 rfl (lv_at hl 0 rfl) ?_
          refine lv_bipush (v := (10 : Int32)) hx hb dX10_pour_50 (by decide) ?_
          refine lv_iload_n hx hb dX10_pour_52 rfl (lv_at hl 1 rfl) ?_
          refine lv_iconst (v := (3 : Int32)) hx hb dX10_pour_53 (by decide) ?_
          refine k_calli (va_runV (As := [.int ((10 : Int32)), .int (x), .int ((3 : Int32))]) (rest := []) ⟨hx, hb, hml, hown, hts⟩ (tm_refused l E h v ((10 : Int32)) (x) ((3 : Int32)) ) (cwV 3 hts (lw_V q1790 q1792 qs27 q80 q1793) rfl rfl rfl (by decide +kernel) ⟨Nat.le_of_ble_eq_true rfl, Nat.le_of_ble_eq_true rfl⟩) (k_preVt hs hm hS) rfl rfl hl.1 rfl (lv_room (Nat.le_of_ble_eq_true rfl)) dX10_pour_54 ⟨Nat.le_of_ble_eq_true rfl, Nat.le_of_ble_eq_true rfl⟩) hS (fun r_16 u_16 H9 locs hw_16 hm_16 hS => ?_)
          replace hw_16 : r_16 = (0 : Int32) ∧ u_16 = (T_refused v (10 : Int32) x (3 : Int32)).2 := hw_16
          obtain ⟨hr_16, hw_16⟩ := hw_16
          replace hr_16 := hr_16.symm
          subst hr_16
          replace hw_16 := hw_16.symm
          subst hw_16
          have hm := hm_16
          subst hr_6
          subst hr_4
          subst hr_1
          exact W.iret (v := _) hx hb hr (fun t9 ht9 _ => ⟨⟨_, _, rfl, pp ((if_neg c_2).trans ((if_neg c_5).trans ((if_neg c_7).trans ((if_pos c_8).trans (rfl))))), hb9 ht9 hm⟩, hS.F ht9⟩) hS.2.2 dX10_pour_57
      · refine lv_aload_n hx hb dX10_pour_31 rfl (lv_at hl 0 rfl) ?_
        refine lv_iconst (v := (2 : Int32)) hx hb dX10_pour_32 (by decide) ?_
        refine k_calli (va_runV (As := [.int ((2 : Int32))]) (rest := []) ⟨hx, hb, hml, hown, hts⟩ (tm_fails l E h v ((2 : Int32)) ) (cwV 1 hts (lw_V q1766 q1768 qs23 q80 q1769) rfl rfl rfl (by decide +kernel) ⟨Nat.le_of_ble_eq_true rfl, Nat.le_of_ble_eq_true rfl⟩) (k_preVt hs hm hS) rfl rfl hl.1 rfl (lv_room (Nat.le_of_ble_eq_true rfl)) dX10_pour_33 ⟨Nat.le_of_ble_eq_true rfl, Nat.le_of_ble_eq_true rfl⟩) hS (fun r_17 u_17 H9 locs hw_17 hm_17 hS => ?_)
        replace hw_17 : r_17 = (0 : Int32) ∧ u_17 = (T_fails v (2 : Int32)).2 := hw_17
        obtain ⟨hr_17, hw_17⟩ := hw_17
        replace hr_17 := hr_17.symm
        subst hr_17
        replace hw_17 := hw_17.symm
        subst hw_17
        have hm := hm_17
        subst hr_6
        subst hr_4
        subst hr_1
        exact W.iret (v := _) hx hb hr (fun t9 ht9 _ => ⟨⟨_, _, rfl, pp ((if_neg c_2).trans ((if_neg c_5).trans ((if_pos c_7).trans (rfl)))), hb9 ht9 hm⟩, hS.F ht9⟩) hS.2.2 dX10_pour_36
    · refine lv_aload_n hx hb dX10_pour_15 rfl (lv_at hl 0 rfl) ?_
      refine lv_iconst (v := (1 : Int32)) hx hb dX10_pour_16 (by decide) ?_
      refine k_calli (va_runV (As := [.int ((1 : Int32))]) (rest := []) ⟨hx, hb, hml, hown, hts⟩ (tm_fails l E h v ((1 : Int32)) ) (cwV 1 hts (lw_V q1766 q1768 qs23 q80 q1769) rfl rfl rfl (by decide +kernel) ⟨Nat.le_of_ble_eq_true rfl, Nat.le_of_ble_eq_true rfl⟩) (k_preVt hs hm hS) rfl rfl hl.1 rfl (lv_room (Nat.le_of_ble_eq_true rfl)) dX10_pour_17 ⟨Nat.le_of_ble_eq_true rfl, Nat.le_of_ble_eq_true rfl⟩) hS (fun r_18 u_18 H9 locs hw_18 hm_18 hS => ?_)
      replace hw_18 : r_18 = (0 : Int32) ∧ u_18 = (T_fails v (1 : Int32)).2 := hw_18
      obtain ⟨hr_18, hw_18⟩ := hw_18
      replace hr_18 := hr_18.symm
      subst hr_18
      replace hw_18 := hw_18.symm
      subst hw_18
      have hm := hm_18
      subst hr_4
      subst hr_1
      exact W.iret (v := _) hx hb hr (fun t9 ht9 _ => ⟨⟨_, _, rfl, pp ((if_neg c_2).trans ((if_pos c_5).trans (rfl))), hb9 ht9 hm⟩, hS.F ht9⟩) hS.2.2 dX10_pour_20
def T_grows (v : tw) (x : Int32) : tw :=
  let x2 := if (t0 v (((27 : Int32) + x)).toNatClampNeg) = 0 then (1039516303 : UInt32) else (1031127695 : UInt32);
  let r_3 := T_least ((FP.fsub (FP.fadd (t1 v (((12 : Int32) + x)).toNatClampNeg) (FP.fmul (FP.fmul (t1 v (((12 : Int32) + x)).toNatClampNeg) x2) (FP.fdiv (t1 v (((0 : Int32) + x)).toNatClampNeg) (FP.fadd (t1 v (((0 : Int32) + x)).toNatClampNeg) (1103626240 : UInt32))))) (FP.fmul (FP.fmul (1017370378 : UInt32) (FP.i2f (t0 v (((3 : Int32) + x)).toNatClampNeg))) (FP.fadd (t1 v (((12 : Int32) + x)).toNatClampNeg) (FP.fmul (FP.fmul (t1 v (((12 : Int32) + x)).toNatClampNeg) x2) (FP.fdiv (t1 v (((0 : Int32) + x)).toNatClampNeg) (FP.fadd (t1 v (((0 : Int32) + x)).toNatClampNeg) (1103626240 : UInt32))))))));
  let r_4 := T_most (r_3) ((1112014848 : UInt32));
  (u1 v (vf_upd (t1 v) (((12 : Int32) + x)).toNatClampNeg r_4))
set_option maxHeartbeats 4000000 in
theorem tm_grows (l : Launch) (E : mE) (h : Nat) (v : tw) (x : Int32) (hw : wf (t0 v) (t1 v)) (hx12 : ix 12 x) : Met l yX10_grows (ws_ yX10_grows cX10_grows 5 none) ({ frames := 1, cells := 0, slots := 0, locals := 21 }) (va_Pc [.ref h, .int x] (tP E h v)) (va_Qv (fun (u : tw) => u = T_grows v x) (fun u U => tW E h u U.heap) (eA E)) 0 0 (eA E) := by
  refine Met.ofW (cc := cX10_grows) (maxL := 5) (ret := none) (by decide) rfl ?_
  intro p e s m args below meth c s₁ B hml hv
  obtain ⟨rfl, hs, hm⟩ := hv
  have hx := B.exec
  have hb := B.bytes
  have hr := B.returns
  have hts := atoms_spec (ws := ws_ yX10_grows cX10_grows 5 none) B.pre
  have hts : ∀ w ∈ lw_all, w.before _ s = true := fun w h => hts w (List.mem_cons_of_mem _ h)
  have hown : s.vm.findClass RX10 = some m.cls := findClass_of_methodNamed B.named
  have hlocks := B.notSynchronized
  have hS : va_S (eA E) s.heap s.heap [] := va_S.rf
  have hl := lv_entry ([.ref h, .int x]) (n := 5) (Nat.le_of_ble_eq_true rfl)
  rw [lg_entry_eq]
  generalize (lg_sl ([.ref h, .int x]) ++ List.replicate (5 - (lg_sl ([.ref h, .int x])).length) Slot.unset).toArray = ls at hl ⊢
  have hl : lv_has ls 5 [(0, .ref (h)), (1, .int (x))] := hl
  refine lv_aload_n hx hb dX10_grows_0 rfl (lv_at hl 0 rfl) ?_
  refine tg_1 hx hb hts hown hs hm (hts _ q1675) dX10_grows_1 ?_
  refine lv_iconst (v := (0 : Int32)) hx hb dX10_grows_4 (by decide) ?_
  refine lv_iload_n hx hb dX10_grows_5 rfl (lv_at hl 1 rfl) ?_
  refine lv_iadd hx hb dX10_grows_6 ?_
  refine tl_1 hx hb hs hm (ix.add 0 33 (hx12) (by decide) (by decide)) dX10_grows_7 ?_
  refine lv_fstore_n (lv' := [(2, _), (0, _), (1, _)]) hx hb dX10_grows_8 rfl hl (by decide) rfl (fun ls hl => ?_)
  refine lv_aload_n hx hb dX10_grows_9 rfl (lv_at hl 1 rfl) ?_
  refine tg_1 hx hb hts hown hs hm (hts _ q1675) dX10_grows_10 ?_
  refine lv_bipush (v := (12 : Int32)) hx hb dX10_grows_13 (by decide) ?_
  refine lv_iload_n hx hb dX10_grows_15 rfl (lv_at hl 2 rfl) ?_
  refine lv_iadd hx hb dX10_grows_16 ?_
  refine tl_1 hx hb hs hm (ix.add 12 33 (hx12) (by decide) (by decide)) dX10_grows_17 ?_
  refine lv_fstore_n (lv' := [(3, _), (2, _), (0, _), (1, _)]) hx hb dX10_grows_18 rfl hl (by decide) rfl (fun ls hl => ?_)
  refine lv_aload_n hx hb dX10_grows_19 rfl (lv_at hl 2 rfl) ?_
  refine tg_0 hx hb hts hown hs hm (hts _ q1674) dX10_grows_20 ?_
  refine lv_bipush (v := (27 : Int32)) hx hb dX10_grows_23 (by decide) ?_
  refine lv_iload_n hx hb dX10_grows_25 rfl (lv_at hl 3 rfl) ?_
  refine lv_iadd hx hb dX10_grows_26 ?_
  refine tl_0 hx hb hs hm (ix.add 27 112 (hx12) (by decide) (by decide)) dX10_grows_27 ?_
  refine k_join (fun (x2 : UInt32) H locs ls => x2 = (if (t0 v (((27 : Int32) + x)).toNatClampNeg) = 0 then (1039516303 : UInt32) else (1031127695 : UInt32)) ∧ tW E h (v) H ∧ va_S (eA E) s.heap H locs ∧ lv_has ls 5 [(3, .float ((t1 v (((12 : Int32) + x)).toNatClampNeg))), (2, .float ((t1 v (((0 : Int32) + x)).toNatClampNeg))), (0, .ref (h)), (1, .int (x))]) (fun (x2 : UInt32) ls => F0 m 38 ls [.float (x2)]) (fun x2 H locs ls hJ => ?_) (fun J2 => ?_)
  · obtain ⟨hX2, hm, hS, hl⟩ := hJ
    refine lv_fstore (lv' := [(4, _), (3, _), (2, _), (0, _), (1, _)]) hx hb dX10_grows_38 hl (by decide) rfl (fun ls hl => ?_)
    refine lv_fload_n hx hb dX10_grows_40 rfl (lv_at hl 1 rfl) ?_
    refine lv_fload_n hx hb dX10_grows_41 rfl (lv_at hl 1 rfl) ?_
    refine lv_fload hx hb dX10_grows_42 (lv_at hl 0 rfl) ?_
    refine lv_fmul hx hb dX10_grows_44 ((kd.mul ((hw).wgt (hx12)) ((kd_by hX2)))).nan ?_
    refine lv_fload_n hx hb dX10_grows_45 rfl (lv_at hl 2 rfl) ?_
    refine lv_fload_n hx hb dX10_grows_46 rfl (lv_at hl 2 rfl) ?_
    refine lv_ldcf (v := 1103626240) hx hb hown (hts _ q1874) dX10_grows_47 ?_
    refine lv_fadd hx hb dX10_grows_49 ((kd.add (n := 12) (((hw).wat (hx12)).up (by decide)) ((kd_25).up (by decide)))).nan ?_
    refine lv_fdiv hx hb dX10_grows_50 ((kd.div25 ((hw).wat (hx12)))).nan ?_
    refine lv_fmul hx hb dX10_grows_51 ((kd.mul ((kd.mul ((hw).wgt (hx12)) ((kd_by hX2)))) ((kd.div25 ((hw).wat (hx12)))))).nan ?_
    refine lv_fadd hx hb dX10_grows_52 ((kd.add (n := 18) (((hw).wgt (hx12)).up (by decide)) (((kd.mul ((kd.mul ((hw).wgt (hx12)) ((kd_by hX2)))) ((kd.div25 ((hw).wat (hx12)))))).up (by decide)))).nan ?_
    refine lv_fstore_n (lv' := [(3, _), (4, _), (2, _), (0, _), (1, _)]) hx hb dX10_grows_53 rfl hl (by decide) rfl (fun ls hl => ?_)
    refine lv_fload_n hx hb dX10_grows_54 rfl (lv_at hl 0 rfl) ?_
    refine lv_ldcf (v := 1017370378) hx hb hown (hts _ q1875) dX10_grows_55 ?_
    refine lv_aload_n hx hb dX10_grows_57 rfl (lv_at hl 3 rfl) ?_
    refine tg_0 hx hb hts hown hs hm (hts _ q1674) dX10_grows_58 ?_
    refine lv_iconst (v := (3 : Int32)) hx hb dX10_grows_61 (by decide) ?_
    refine lv_iload_n hx hb dX10_grows_62 rfl (lv_at hl 4 rfl) ?_
    refine lv_iadd hx hb dX10_grows_63 ?_
    refine tl_0 hx hb hs hm (ix.add 3 112 (hx12) (by decide) (by decide)) dX10_grows_64 ?_
    refine lv_i2f hx hb dX10_grows_65 ?_
    refine lv_fmul hx hb dX10_grows_66 ((kd.mul (kd_002) ((kd_i2f ((((hw).mol (hx12))).mono (by decide)))))).nan ?_
    refine lv_fload_n hx hb dX10_grows_67 rfl (lv_at hl 0 rfl) ?_
    refine lv_fmul hx hb dX10_grows_68 ((kd.mul ((kd.mul (kd_002) ((kd_i2f ((((hw).mol (hx12))).mono (by decide)))))) ((kd.add (n := 18) (((hw).wgt (hx12)).up (by decide)) (((kd.mul ((kd.mul ((hw).wgt (hx12)) ((kd_by hX2)))) ((kd.div25 ((hw).wat (hx12)))))).up (by decide)))))).nan ?_
    refine lv_fsub hx hb dX10_grows_69 (((kd.subG (n := 29) (((kd.add (n := 18) (((hw).wgt (hx12)).up (by decide)) (((kd.mul ((kd.mul ((hw).wgt (hx12)) ((kd_by hX2)))) ((kd.div25 ((hw).wat (hx12)))))).up (by decide)))).up (by decide)) (((kd.mul ((kd.mul (kd_002) ((kd_i2f ((((hw).mol (hx12))).mono (by decide)))))) ((kd.add (n := 18) (((hw).wgt (hx12)).up (by decide)) (((kd.mul ((kd.mul ((hw).wgt (hx12)) ((kd_by hX2)))) ((kd.div25 ((hw).wat (hx12)))))).up (by decide)))))).up (by decide)))).elim (fun _ h => h.nan)) ?_
    refine lv_fstore_n (lv' := [(3, _), (4, _), (2, _), (0, _), (1, _)]) hx hb dX10_grows_70 rfl hl (by decide) rfl (fun ls hl => ?_)
    refine lv_aload_n hx hb dX10_grows_71 rfl (lv_at hl 3 rfl) ?_
    refine tg_1 hx hb hts hown hs hm (hts _ q1675) dX10_grows_72 ?_
    refine lv_bipush (v := (12 : Int32)) hx hb dX10_grows_75 (by decide) ?_
    refine lv_iload_n hx hb dX10_grows_77 rfl (lv_at hl 4 rfl) ?_
    refine lv_iadd hx hb dX10_grows_78 ?_
    refine lv_fload_n hx hb dX10_grows_79 rfl (lv_at hl 0 rfl) ?_
    refine k_callf (va_runS (As := [.float ((FP.fsub (FP.fadd (t1 v (((12 : Int32) + x)).toNatClampNeg) (FP.fmul (FP.fmul (t1 v (((12 : Int32) + x)).toNatClampNeg) x2) (FP.fdiv (t1 v (((0 : Int32) + x)).toNatClampNeg) (FP.fadd (t1 v (((0 : Int32) + x)).toNatClampNeg) (1103626240 : UInt32))))) (FP.fmul (FP.fmul (1017370378 : UInt32) (FP.i2f (t0 v (((3 : Int32) + x)).toNatClampNeg))) (FP.fadd (t1 v (((12 : Int32) + x)).toNatClampNeg) (FP.fmul (FP.fmul (t1 v (((12 : Int32) + x)).toNatClampNeg) x2) (FP.fdiv (t1 v (((0 : Int32) + x)).toNatClampNeg) (FP.fadd (t1 v (((0 : Int32) + x)).toNatClampNeg) (1103626240 : UInt32))))))))]) (rest := [.int (((12 : Int32) + x)), .ref (h + 2)]) ⟨hx, hb, hml, hown, hts⟩ (tm_least l E ((FP.fsub (FP.fadd (t1 v (((12 : Int32) + x)).toNatClampNeg) (FP.fmul (FP.fmul (t1 v (((12 : Int32) + x)).toNatClampNeg) x2) (FP.fdiv (t1 v (((0 : Int32) + x)).toNatClampNeg) (FP.fadd (t1 v (((0 : Int32) + x)).toNatClampNeg) (1103626240 : UInt32))))) (FP.fmul (FP.fmul (1017370378 : UInt32) (FP.i2f (t0 v (((3 : Int32) + x)).toNatClampNeg))) (FP.fadd (t1 v (((12 : Int32) + x)).toNatClampNeg) (FP.fmul (FP.fmul (t1 v (((12 : Int32) + x)).toNatClampNeg) x2) (FP.fdiv (t1 v (((0 : Int32) + x)).toNatClampNeg) (FP.fadd (t1 v (((0 : Int32) + x)).toNatClampNeg) (1103626240 : UInt32)))))))) _) (va_cwS 1 hts (lw_S q1852 q1853 q80 q1854) rfl rfl rfl (by decide +kernel) ⟨Nat.le_of_ble_eq_true rfl, Nat.le_of_ble_eq_true rfl⟩) (k_pure hs hS) rfl rfl hl.1 rfl (lv_room (Nat.le_of_ble_eq_true rfl)) dX10_grows_80 ⟨Nat.le_of_ble_eq_true rfl, Nat.le_of_ble_eq_true rfl⟩) hS (fun r_3 u_3 H9 locs hw_3 hm_3 hS => ?_)
    replace hm_3 : _ = H9 := Eq.symm hm_3
    subst hm_3
    have hr_3 := hw_3
    refine lv_ldcf (v := 1112014848) hx hb hown (hts _ q1876) dX10_grows_83 ?_
    refine k_callf (va_runS (As := [.float (r_3), .float ((1112014848 : UInt32))]) (rest := [.int (((12 : Int32) + x)), .ref (h + 2)]) ⟨hx, hb, hml, hown, hts⟩ (tm_most l E (r_3) ((1112014848 : UInt32)) _) (va_cwS 2 hts (lw_S q1847 q1848 q80 q1849) rfl rfl rfl (by decide +kernel) ⟨Nat.le_of_ble_eq_true rfl, Nat.le_of_ble_eq_true rfl⟩) (k_pure hs hS) rfl rfl hl.1 rfl (lv_room (Nat.le_of_ble_eq_true rfl)) dX10_grows_85 ⟨Nat.le_of_ble_eq_true rfl, Nat.le_of_ble_eq_true rfl⟩) hS (fun r_4 u_4 H9 locs hw_4 hm_4 hS => ?_)
    replace hm_4 : _ = H9 := Eq.symm hm_4
    subst hm_4
    have hr_4 := hw_4
    refine ts_1 hx hb hs hm hS (ix.add 12 33 (hx12) (by decide) (by decide)) dX10_grows_88 (fun H locs hm hS => ?_)
    have hm : tW E h (u1 v (vf_upd (t1 v) (((12 : Int32) + x)).toNatClampNeg r_4)) H := hm
    subst hr_4
    subst hr_3
    subst hX2
    exact W.vret hx hb hr (fun t9 ht9 _ => ⟨⟨_, rfl, (rfl).symm, hb9 ht9 hm⟩, hS.F ht9⟩) hS.2.2 dX10_grows_89
  · refine lv_if_ne (tgt := 36) hx hb dX10_grows_28 (by decide) (fun c_1 => ?_) (fun c_1 => ?_)
    · refine lv_ldcf (v := 1031127695) hx hb hown (hts _ q1873) dX10_grows_36 ?_
      exact J2 ((1031127695 : UInt32)) _ _ _ ⟨((if_neg c_1).trans (rfl)).symm, hm, hS, lv_sub hl [0, 1, 2, 3] rfl⟩
    · refine lv_ldcf (v := 1039516303) hx hb hown (hts _ q1872) dX10_grows_31 ?_
      refine lv_goto (tgt := 38) hx hb dX10_grows_33 (by decide) ?_
      exact J2 ((1039516303 : UInt32)) _ _ _ ⟨((if_pos c_1).trans (rfl)).symm, hm, hS, lv_sub hl [0, 1, 2, 3] rfl⟩
section WF2
variable {g : Nat → Int32} {f : Nat → UInt32} {i : Nat} {r : UInt32}
theorem kdu {n : Int} {j : Nat} (h : kd false n (f j)) (hr : j = i → kd false n r) : kd false n (vf_upd f i r j) := by
  by_cases hij : j = i
  · rw [show vf_upd f i r j = r from if_pos hij]; exact hr hij
  · exact kd_off h hij
theorem wf.fW (h : wf g f) (hr : kd false 12 r) (hi : i < 12) : wf g (vf_upd f i r) := by
  obtain ⟨h1, h2, h3, h4, h5, h6, h7, h8, h9, h10, h11⟩ := h
  exact ⟨h1, h2, h3, h4, h5, h6, h7, h8, fun p hp => kdu (h9 p hp) (fun _ => hr), fun p hp => kdu (h10 p hp) (fun e => by omega), fun p hp => kdu (h11 p hp) (fun e => by omega)⟩
theorem wf.fG (h : wf g f) (hr : kd false 7 r) (hi : 12 ≤ i) (hi2 : i < 24) : wf g (vf_upd f i r) := by
  obtain ⟨h1, h2, h3, h4, h5, h6, h7, h8, h9, h10, h11⟩ := h
  exact ⟨h1, h2, h3, h4, h5, h6, h7, h8, fun p hp => kdu (h9 p hp) (fun e => by omega), fun p hp => kdu (h10 p hp) (fun _ => hr), fun p hp => kdu (h11 p hp) (fun e => by omega)⟩
theorem wf.fB (h : wf g f) (hr : kd false 7 r) (hi : 24 ≤ i) : wf g (vf_upd f i r) := by
  obtain ⟨h1, h2, h3, h4, h5, h6, h7, h8, h9, h10, h11⟩ := h
  exact ⟨h1, h2, h3, h4, h5, h6, h7, h8, fun p hp => kdu (h9 p hp) (fun e => by omega), fun p hp => kdu (h10 p hp) (fun e => by omega), fun p hp => kdu (h11 p hp) (fun _ => hr)⟩
theorem wf.fP (h : wf g f) (hi : 28 ≤ i) : wf g (vf_upd f i r) := by
  obtain ⟨h1, h2, h3, h4, h5, h6, h7, h8, h9, h10, h11⟩ := h
  exact ⟨h1, h2, h3, h4, h5, h6, h7, h8, fun p hp => kdu (h9 p hp) (fun e => by omega), fun p hp => kdu (h10 p hp) (fun e => by omega), fun p hp => kdu (h11 p hp) (fun e => by omega)⟩
end WF2
