set_option maxRecDepth 100000
/-! the reference, method by method: what it computes (T_..), and that it does (tm_..) -/
theorem lk_c {a o d z : Int} {r : List (Int × Int)} {x v : Int32} (hv : v.toInt = a) (c : ¬ x = v) (e : Op.lookupswitch.offset r d x.toInt = z) : Op.lookupswitch.offset ((a, o) :: r) d x.toInt = z := by
  rw [Op.lookupswitch.offset_cons, if_neg (fun h => c (Int32.toInt_inj.mp (h.symm.trans hv.symm))), e]
theorem ix.ltix {B C : Nat} {x y : Int32} (hx : ix B x) (hy : ix C y) (hB : B ≤ 2 ^ 30) (hC : C ≤ 2 ^ 30) (c : ¬ y ≤ x) : ix (C - 1) x := by
  obtain ⟨k, h1, rfl⟩ := hx
  obtain ⟨j, h2, rfl⟩ := hy
  refine ⟨k, ?_, rfl⟩
  rcases Nat.lt_or_ge k j with h | h
  · omega
  · exact absurd (nI_le h (by omega)) c
def T_append (v : tw) (x : Int32) : Int32 × tw :=
  if (t13 v) = (60 : Int32) then
    ((0 : Int32), (T_fails v (1 : Int32)).2)
  else
    (((t13 v) + (1 : Int32)), (u18 (u13 (u12 v (upd (t12 v) ((t13 v)).toNatClampNeg (vp_nar .char x))) ((t13 v) + (1 : Int32))) (0 : Int32)))
set_option maxHeartbeats 4000000 in
theorem tm_append (l : Launch) (E : mE) (h : Nat) (v : tw) (x : Int32) (ht : ix 61 (t13 v)) : Met l yX10_append (ws_ yX10_append cX10_append 2 (some .int)) ({ frames := 1, cells := 0, slots := 0, locals := 21 }) (va_Pc [.ref h, .int x] (tP E h v)) (va_Qi (fun (r : Int32) (u : tw) => r = (T_append v x).1 ∧ u = (T_append v x).2) (fun u U => tW E h u U.heap) (eA E)) 0 0 (eA E) := by
  refine Met.ofW (cc := cX10_append) (maxL := 2) (ret := (some .int)) (by decide) rfl ?_
  intro p e s m args below meth c s₁ B hml hv
  obtain ⟨rfl, hs, hm⟩ := hv
  have hx := B.exec
  have hb := B.bytes
  have hr := B.returns
  have hts := atoms_spec (ws := ws_ yX10_append cX10_append 2 (some .int)) B.pre
  have hts : ∀ w ∈ lw_all, w.before _ s = true := fun w h => hts w (List.mem_cons_of_mem _ h)
  have hown : s.vm.findClass RX10 = some m.cls := findClass_of_methodNamed B.named
  have hlocks := B.notSynchronized
  have hS : va_S (eA E) s.heap s.heap [] := va_S.rf
  have hl := lv_entry ([.ref h, .int x]) (n := 2) (Nat.le_of_ble_eq_true rfl)
  rw [lg_entry_eq]
  generalize (lg_sl ([.ref h, .int x]) ++ List.replicate (2 - (lg_sl ([.ref h, .int x])).length) Slot.unset).toArray = ls at hl ⊢
  have hl : lv_has ls 2 [(0, .ref (h)), (1, .int (x))] := hl
  refine lv_aload_n hx hb dX10_append_0 rfl (lv_at hl 0 rfl) ?_
  refine tg_13 hx hb hts hown hs hm (hts _ q1687) dX10_append_1 ?_
  refine lv_bipush (v := (60 : Int32)) hx hb dX10_append_4 (by decide) ?_
  refine lv_icmp_ne (tgt := 15) hx hb dX10_append_6 (by decide) (fun c_1 => ?_) (fun c_1 => ?_)
  · have ht60 : ix 60 (t13 v) := lt_of_ne ht c_1
    refine lv_aload_n hx hb dX10_append_15 rfl (lv_at hl 0 rfl) ?_
    refine tg_12 hx hb hts hown hs hm (hts _ q1686) dX10_append_16 ?_
    refine lv_aload_n hx hb dX10_append_19 rfl (lv_at hl 0 rfl) ?_
    refine tg_13 hx hb hts hown hs hm (hts _ q1687) dX10_append_20 ?_
    refine lv_iload_n hx hb dX10_append_23 rfl (lv_at hl 1 rfl) ?_
    refine ts_12 hx hb hs hm hS (ix.at (B := 60) ((ht60).mono (by decide)) (by decide)) dX10_append_24 (fun H locs hm hS => ?_)
    have hm : tW E h (u12 v (upd (t12 v) ((t13 v)).toNatClampNeg (vp_nar .char x))) H := hm
    refine lv_aload_n hx hb dX10_append_25 rfl (lv_at hl 0 rfl) ?_
    refine lv_dup hx hb dX10_append_26 rfl ?_
    refine tg_13 hx hb hts hown hs hm (hts _ q1687) dX10_append_27 ?_
    refine lv_iconst (v := (1 : Int32)) hx hb dX10_append_30 (by decide) ?_
    refine lv_iadd hx hb dX10_append_31 ?_
    refine tp_13 hx hb hts hown hs hm hS (hts _ q1687) dX10_append_32 (fun H locs hm hS => ?_)
    have hm : tW E h (u13 (u12 v (upd (t12 v) ((t13 v)).toNatClampNeg (vp_nar .char x))) ((t13 v) + (1 : Int32))) H := hm
    refine lv_aload_n hx hb dX10_append_35 rfl (lv_at hl 0 rfl) ?_
    refine lv_aload_n hx hb dX10_append_36 rfl (lv_at hl 0 rfl) ?_
    refine tg_13 hx hb hts hown hs hm (hts _ q1687) dX10_append_37 ?_
    refine k_calli (va_runV (As := [.int (((t13 v) + (1 : Int32)))]) (rest := []) ⟨hx, hb, hml, hown, hts⟩ (tm_done l E h (u13 (u12 v (upd (t12 v) ((t13 v)).toNatClampNeg (vp_nar .char x))) ((t13 v) + (1 : Int32))) (((t13 v) + (1 : Int32))) ) (cwV 1 hts (lw_V q1770 q1772 qs24 q80 q1773) rfl rfl rfl (by decide +kernel) ⟨Nat.le_of_ble_eq_true rfl, Nat.le_of_ble_eq_true rfl⟩) (k_preVt hs hm hS) rfl rfl hl.1 rfl (lv_room (Nat.le_of_ble_eq_true rfl)) dX10_append_40 ⟨Nat.le_of_ble_eq_true rfl, Nat.le_of_ble_eq_true rfl⟩) hS (fun r_2 u_2 H9 locs hw_2 hm_2 hS => ?_)
    replace hw_2 : r_2 = ((t13 v) + (1 : Int32)) ∧ u_2 = (u18 (u13 (u12 v (upd (t12 v) ((t13 v)).toNatClampNeg (vp_nar .char x))) ((t13 v) + (1 : Int32))) (0 : Int32)) := hw_2
    obtain ⟨hr_2, hw_2⟩ := hw_2
    replace hr_2 := hr_2.symm
    subst hr_2
    replace hw_2 := hw_2.symm
    subst hw_2
    have hm := hm_2
    exact W.iret (v := _) hx hb hr (fun t9 ht9 _ => ⟨⟨_, _, rfl, pp ((if_neg c_1).trans (rfl)), hb9 ht9 hm⟩, hS.F ht9⟩) hS.2.2 dX10_append_43
  · refine lv_aload_n hx hb dX10_append_9 rfl (lv_at hl 0 rfl) ?_
    refine lv_iconst (v := (1 : Int32)) hx hb dX10_append_10 (by decide) ?_
    refine k_calli (va_runV (As := [.int ((1 : Int32))]) (rest := []) ⟨hx, hb, hml, hown, hts⟩ (tm_fails l E h v ((1 : Int32)) ) (cwV 1 hts (lw_V q1766 q1768 qs23 q80 q1769) rfl rfl rfl (by decide +kernel) ⟨Nat.le_of_ble_eq_true rfl, Nat.le_of_ble_eq_true rfl⟩) (k_preVt hs hm hS) rfl rfl hl.1 rfl (lv_room (Nat.le_of_ble_eq_true rfl)) dX10_append_11 ⟨Nat.le_of_ble_eq_true rfl, Nat.le_of_ble_eq_true rfl⟩) hS (fun r_3 u_3 H9 locs hw_3 hm_3 hS => ?_)
    replace hw_3 : r_3 = (0 : Int32) ∧ u_3 = (T_fails v (1 : Int32)).2 := hw_3
    obtain ⟨hr_3, hw_3⟩ := hw_3
    replace hr_3 := hr_3.symm
    subst hr_3
    replace hw_3 := hw_3.symm
    subst hw_3
    have hm := hm_3
    exact W.iret (v := _) hx hb hr (fun t9 ht9 _ => ⟨⟨_, _, rfl, pp ((if_pos c_1).trans (rfl)), hb9 ht9 hm⟩, hS.F ht9⟩) hS.2.2 dX10_append_14
def T_here (v : tw)  : Int32 :=
  if (t13 v) ≤ (t19 v) then
    (-1 : Int32)
  else
    (t12 v ((t19 v)).toNatClampNeg)
set_option maxHeartbeats 4000000 in
theorem tm_here (l : Launch) (E : mE) (h : Nat) (v : tw)  (ht : ix 61 (t13 v)) (hp : ix 61 (t19 v)) : Met l yX10_here (ws_ yX10_here cX10_here 1 (some .int)) ({ frames := 0, cells := 0, slots := 0, locals := 0 }) (va_Pc [.ref h] (tP E h v)) (va_Qi (fun (r : Int32) (u : tw) => r = T_here v  ∧ u = v) (fun u U => tW E h u U.heap) (eA E)) 0 0 (eA E) := by
  refine Met.ofW (cc := cX10_here) (maxL := 1) (ret := (some .int)) (by decide) rfl ?_
  intro p e s m args below meth c s₁ B hml hv
  obtain ⟨rfl, hs, hm⟩ := hv
  have hx := B.exec
  have hb := B.bytes
  have hr := B.returns
  have hts := atoms_spec (ws := ws_ yX10_here cX10_here 1 (some .int)) B.pre
  have hts : ∀ w ∈ lw_all, w.before _ s = true := fun w h => hts w (List.mem_cons_of_mem _ h)
  have hown : s.vm.findClass RX10 = some m.cls := findClass_of_methodNamed B.named
  have hlocks := B.notSynchronized
  have hS : va_S (eA E) s.heap s.heap [] := va_S.rf
  have hl := lv_entry ([.ref h]) (n := 1) (Nat.le_of_ble_eq_true rfl)
  rw [lg_entry_eq]
  generalize (lg_sl ([.ref h]) ++ List.replicate (1 - (lg_sl ([.ref h])).length) Slot.unset).toArray = ls at hl ⊢
  have hl : lv_has ls 1 [(0, .ref (h))] := hl
  refine lv_aload_n hx hb dX10_here_0 rfl (lv_at hl 0 rfl) ?_
  refine tg_19 hx hb hts hown hs hm (hts _ q1693) dX10_here_1 ?_
  refine lv_aload_n hx hb dX10_here_4 rfl (lv_at hl 0 rfl) ?_
  refine tg_13 hx hb hts hown hs hm (hts _ q1687) dX10_here_5 ?_
  refine lv_icmp_ge (tgt := 23) hx hb dX10_here_8 (by decide) (fun c_1 => ?_) (fun c_1 => ?_)
  · refine lv_iconst (v := (-1 : Int32)) hx hb dX10_here_23 (by decide) ?_
    exact W.iret (v := _) hx hb hr (fun t9 ht9 _ => ⟨⟨_, _, rfl, ⟨((if_pos c_1).trans (rfl)).symm, rfl⟩, hb9 ht9 hm⟩, hS.F ht9⟩) hS.2.2 dX10_here_24
  · have hp60 : ix 60 (t19 v) := hp.ltix ht (by decide) (by decide) c_1
    refine lv_aload_n hx hb dX10_here_11 rfl (lv_at hl 0 rfl) ?_
    refine tg_12 hx hb hts hown hs hm (hts _ q1686) dX10_here_12 ?_
    refine lv_aload_n hx hb dX10_here_15 rfl (lv_at hl 0 rfl) ?_
    refine tg_19 hx hb hts hown hs hm (hts _ q1693) dX10_here_16 ?_
    refine tl_12 hx hb hs hm (ix.at (B := 60) ((hp60).mono (by decide)) (by decide)) dX10_here_19 ?_
    refine lv_goto (tgt := 24) hx hb dX10_here_20 (by decide) ?_
    exact W.iret (v := _) hx hb hr (fun t9 ht9 _ => ⟨⟨_, _, rfl, ⟨((if_neg c_1).trans (rfl)).symm, rfl⟩, hb9 ht9 hm⟩, hS.F ht9⟩) hS.2.2 dX10_here_24
def T_digit (v : tw)  : Int32 × tw :=
  let x2 := if (t20 v) = 0 then let r_8 := T_here v ; let r_9 := T_in (r_8) ((48 : Int32)) ((57 : Int32)); if r_9 = 0 then (1 : Int32) else (0 : Int32) else (1 : Int32);
  let x4 := if x2 = 0 then let r_7 := T_here (u20 v x2) ; (r_7 - (48 : Int32)) else (0 : Int32);
  let x6 := if x2 = 0 then (1 : Int32) else (0 : Int32);
  (x4, (u19 (u20 v x2) ((t19 v) + x6)))
set_option maxHeartbeats 4000000 in
theorem tm_digit (l : Launch) (E : mE) (h : Nat) (v : tw)  (ht : ix 61 (t13 v)) (hp : ix 61 (t19 v)) : Met l yX10_digit (ws_ yX10_digit cX10_digit 2 (some .int)) ({ frames := 1, cells := 0, slots := 0, locals := 22 }) (va_Pc [.ref h] (tP E h v)) (va_Qi (fun (r : Int32) (u : tw) => r = (T_digit v ).1 ∧ u = (T_digit v ).2) (fun u U => tW E h u U.heap) (eA E)) 0 0 (eA E) := by
  refine Met.ofW (cc := cX10_digit) (maxL := 2) (ret := (some .int)) (by decide) rfl ?_
  intro p e s m args below meth c s₁ B hml hv
  obtain ⟨rfl, hs, hm⟩ := hv
  have hx := B.exec
  have hb := B.bytes
  have hr := B.returns
  have hts := atoms_spec (ws := ws_ yX10_digit cX10_digit 2 (some .int)) B.pre
  have hts : ∀ w ∈ lw_all, w.before _ s = true := fun w h => hts w (List.mem_cons_of_mem _ h)
  have hown : s.vm.findClass RX10 = some m.cls := findClass_of_methodNamed B.named
  have hlocks := B.notSynchronized
  have hS : va_S (eA E) s.heap s.heap [] := va_S.rf
  have hl := lv_entry ([.ref h]) (n := 2) (Nat.le_of_ble_eq_true rfl)
  rw [lg_entry_eq]
  generalize (lg_sl ([.ref h]) ++ List.replicate (2 - (lg_sl ([.ref h])).length) Slot.unset).toArray = ls at hl ⊢
  have hl : lv_has ls 2 [(0, .ref (h))] := hl
  refine lv_aload_n hx hb dX10_digit_0 rfl (lv_at hl 0 rfl) ?_
  refine lv_aload_n hx hb dX10_digit_1 rfl (lv_at hl 0 rfl) ?_
  refine tg_20 hx hb hts hown hs hm (hts _ q1694) dX10_digit_2 ?_
  refine k_join (fun (x2 : Int32) H locs ls => x2 = (if (t20 v) = 0 then let r_8 := T_here v ; let r_9 := T_in (r_8) ((48 : Int32)) ((57 : Int32)); if r_9 = 0 then (1 : Int32) else (0 : Int32) else (1 : Int32)) ∧ tW E h (v) H ∧ va_S (eA E) s.heap H locs ∧ lv_has ls 2 [(0, .ref (h))]) (fun (x2 : Int32) ls => F0 m 27 ls [.int (x2), .ref (h)]) (fun x2 H locs ls hJ => ?_) (fun J2 => ?_)
  · obtain ⟨hX2, hm, hS, hl⟩ := hJ
    refine tp_20 hx hb hts hown hs hm hS (hts _ q1694) (by rw [hX2]; (try dsimp only); (repeat' split) <;> rfl) (by rw [hX2]; (try dsimp only); (repeat' split) <;> rfl) dX10_digit_27 (fun H locs hm hS => ?_)
    have hm : tW E h (u20 v x2) H := hm
    refine lv_aload_n hx hb dX10_digit_30 rfl (lv_at hl 0 rfl) ?_
    refine tg_20 hx hb hts hown hs hm (hts _ q1694) dX10_digit_31 ?_
    refine k_join (fun (x4 : Int32) H locs ls => x4 = (if x2 = 0 then let r_7 := T_here (u20 v x2) ; (r_7 - (48 : Int32)) else (0 : Int32)) ∧ tW E h ((u20 v x2)) H ∧ va_S (eA E) s.heap H locs ∧ lv_has ls 2 [(0, .ref (h))]) (fun (x4 : Int32) ls => F0 m 48 ls [.int (x4)]) (fun x4 H locs ls hJ => ?_) (fun J4 => ?_)
    · obtain ⟨hX4, hm, hS, hl⟩ := hJ
      refine lv_istore_n (lv' := [(1, _), (0, _)]) hx hb dX10_digit_48 rfl hl (by decide) rfl (fun ls hl => ?_)
      refine lv_aload_n hx hb dX10_digit_49 rfl (lv_at hl 1 rfl) ?_
      refine lv_dup hx hb dX10_digit_50 rfl ?_
      refine tg_19 hx hb hts hown hs hm (hts _ q1693) dX10_digit_51 ?_
      refine lv_aload_n hx hb dX10_digit_54 rfl (lv_at hl 1 rfl) ?_
      refine tg_20 hx hb hts hown hs hm (hts _ q1694) dX10_digit_55 ?_
      refine k_join (fun (x6 : Int32) H locs ls => x6 = (if x2 = 0 then (1 : Int32) else (0 : Int32)) ∧ tW E h ((u20 v x2)) H ∧ va_S (eA E) s.heap H locs ∧ lv_has ls 2 [(1, .int (x4)), (0, .ref (h))]) (fun (x6 : Int32) ls => F0 m 66 ls [.int (x6), .int ((t19 v)), .ref (h)]) (fun x6 H locs ls hJ => ?_) (fun J6 => ?_)
      · obtain ⟨hX6, hm, hS, hl⟩ := hJ
        refine lv_iadd hx hb dX10_digit_66 ?_
        refine tp_19 hx hb hts hown hs hm hS (hts _ q1693) dX10_digit_67 (fun H locs hm hS => ?_)
        have hm : tW E h (u19 (u20 v x2) ((t19 v) + x6)) H := hm
        refine lv_iload_n hx hb dX10_digit_70 rfl (lv_at hl 0 rfl) ?_
        subst hX6
        subst hX4
        subst hX2
        exact W.iret (v := _) hx hb hr (fun t9 ht9 _ => ⟨⟨_, _, rfl, pp (rfl), hb9 ht9 hm⟩, hS.F ht9⟩) hS.2.2 dX10_digit_71
      · refine lv_if_eq (tgt := 65) hx hb dX10_digit_58 (by decide) (fun c_5 => ?_) (fun c_5 => ?_)
        · refine lv_iconst (v := (1 : Int32)) hx hb dX10_digit_65 (by decide) ?_
          exact J6 ((1 : Int32)) _ _ _ ⟨((if_pos c_5).trans (rfl)).symm, hm, hS, lv_sub hl [0, 1] rfl⟩
        · refine lv_iconst (v := (0 : Int32)) hx hb dX10_digit_61 (by decide) ?_
          refine lv_goto (tgt := 66) hx hb dX10_digit_62 (by decide) ?_
          exact J6 ((0 : Int32)) _ _ _ ⟨((if_neg c_5).trans (rfl)).symm, hm, hS, lv_sub hl [0, 1] rfl⟩
    · refine lv_if_eq (tgt := 41) hx hb dX10_digit_34 (by decide) (fun c_3 => ?_) (fun c_3 => ?_)
      · refine lv_aload_n hx hb dX10_digit_41 rfl (lv_at hl 0 rfl) ?_
        refine k_calli (va_runV (As := []) (rest := []) ⟨hx, hb, hml, hown, hts⟩ (tm_here l E h (u20 v x2)  ht hp) (cwV 0 hts (lw_V q2018 q2020 qs50 q80 q2021) rfl rfl rfl (by decide +kernel) ⟨Nat.le_of_ble_eq_true rfl, Nat.le_of_ble_eq_true rfl⟩) (k_preVt hs hm hS) rfl rfl hl.1 rfl (lv_room (Nat.le_of_ble_eq_true rfl)) dX10_digit_42 ⟨Nat.le_of_ble_eq_true rfl, Nat.le_of_ble_eq_true rfl⟩) hS (fun r_7 u_7 H9 locs hw_7 hm_7 hS => ?_)
        obtain ⟨hr_7, hu_7⟩ := hw_7
        replace hu_7 := hu_7.symm
        subst hu_7
        have hm := hm_7
        refine lv_bipush (v := (48 : Int32)) hx hb dX10_digit_45 (by decide) ?_
        refine lv_isub hx hb dX10_digit_47 ?_
        subst hr_7
        exact J4 (_) _ _ _ ⟨((if_pos c_3).trans (rfl)).symm, hm, hS, lv_sub hl [0] rfl⟩
      · refine lv_iconst (v := (0 : Int32)) hx hb dX10_digit_37 (by decide) ?_
        refine lv_goto (tgt := 48) hx hb dX10_digit_38 (by decide) ?_
        exact J4 ((0 : Int32)) _ _ _ ⟨((if_neg c_3).trans (rfl)).symm, hm, hS, lv_sub hl [0] rfl⟩
  · refine lv_if_ne (tgt := 22) hx hb dX10_digit_5 (by decide) (fun c_1 => ?_) (fun c_1 => ?_)
    · refine lv_iconst (v := (1 : Int32)) hx hb dX10_digit_22 (by decide) ?_
      refine lv_goto (tgt := 27) hx hb dX10_digit_23 (by decide) ?_
      exact J2 ((1 : Int32)) _ _ _ ⟨((if_neg c_1).trans (rfl)).symm, hm, hS, lv_sub hl [0] rfl⟩
    · refine lv_aload_n hx hb dX10_digit_8 rfl (lv_at hl 0 rfl) ?_
      refine k_calli (va_runV (As := []) (rest := [.ref (h)]) ⟨hx, hb, hml, hown, hts⟩ (tm_here l E h v  ht hp) (cwV 0 hts (lw_V q2018 q2020 qs50 q80 q2021) rfl rfl rfl (by decide +kernel) ⟨Nat.le_of_ble_eq_true rfl, Nat.le_of_ble_eq_true rfl⟩) (k_preVt hs hm hS) rfl rfl hl.1 rfl (lv_room (Nat.le_of_ble_eq_true rfl)) dX10_digit_9 ⟨Nat.le_of_ble_eq_true rfl, Nat.le_of_ble_eq_true rfl⟩) hS (fun r_8 u_8 H9 locs hw_8 hm_8 hS => ?_)
      obtain ⟨hr_8, hu_8⟩ := hw_8
      replace hu_8 := hu_8.symm
      subst hu_8
      have hm := hm_8
      refine lv_bipush (v := (48 : Int32)) hx hb dX10_digit_12 (by decide) ?_
      refine lv_bipush (v := (57 : Int32)) hx hb dX10_digit_14 (by decide) ?_
      refine k_calli (va_runS (As := [.int (r_8), .int ((48 : Int32)), .int ((57 : Int32))]) (rest := [.ref (h)]) ⟨hx, hb, hml, hown, hts⟩ (tm_in l E (r_8) ((48 : Int32)) ((57 : Int32)) _) (va_cwS 3 hts (lw_S q1763 q1764 q80 q1765) rfl rfl rfl (by decide +kernel) ⟨Nat.le_of_ble_eq_true rfl, Nat.le_of_ble_eq_true rfl⟩) (k_pure hs hS) rfl rfl hl.1 rfl (lv_room (Nat.le_of_ble_eq_true rfl)) dX10_digit_16 ⟨Nat.le_of_ble_eq_true rfl, Nat.le_of_ble_eq_true rfl⟩) hS (fun r_9 u_9 H9 locs hw_9 hm_9 hS => ?_)
      replace hm_9 : _ = H9 := Eq.symm hm_9
      subst hm_9
      have hr_9 := hw_9
      refine lv_if_ne (tgt := 26) hx hb dX10_digit_19 (by decide) (fun c_10 => ?_) (fun c_10 => ?_)
      · refine lv_iconst (v := (0 : Int32)) hx hb dX10_digit_26 (by decide) ?_
        subst hr_9
        subst hr_8
        exact J2 (_) _ _ _ ⟨((if_pos c_1).trans ((if_neg c_10).trans (rfl))).symm, hm, hS, lv_sub hl [0] rfl⟩
      · refine lv_iconst (v := (1 : Int32)) hx hb dX10_digit_22 (by decide) ?_
        refine lv_goto (tgt := 27) hx hb dX10_digit_23 (by decide) ?_
        subst hr_9
        subst hr_8
        exact J2 (_) _ _ _ ⟨((if_pos c_1).trans ((if_pos c_10).trans (rfl))).symm, hm, hS, lv_sub hl [0] rfl⟩
theorem here_lt {v : tw} (h : ¬ T_here v = -1) : ¬ t13 v ≤ t19 v := by
  intro c
  exact h (if_pos c)
def rdK (v : tw) : Prop := ix 61 (t13 v) ∧ ix 61 (t19 v)
def rdR (v w : tw) : Prop := (rdK v → rdK w ∧ (t19 v).toNatClampNeg ≤ (t19 w).toNatClampNeg) ∧ (t20 w = 0 → t20 v = 0)
theorem rdR.rf (v : tw) : rdR v v := ⟨fun h => ⟨h, Nat.le_refl _⟩, id⟩
theorem rdR.tr {a b c : tw} (h1 : rdR a b) (h2 : rdR b c) : rdR a c := ⟨fun h => ⟨(h2.1 (h1.1 h).1).1, Nat.le_trans (h1.1 h).2 (h2.1 (h1.1 h).1).2⟩, fun h => h1.2 (h2.2 h)⟩
theorem rdR.u21 {v w : tw} {a : Nat → Int32} (h : rdR v w) : rdR v (u21 w a) := h
theorem adv {ty pl x : Int32} (hty : ix 61 ty) (hpl : ix 61 pl) (h : x = 0 ∨ (x = 1 ∧ ¬ ty ≤ pl)) : ix 61 (pl + x) ∧ pl.toNatClampNeg ≤ (pl + x).toNatClampNeg := by
  obtain ⟨j, h1, rfl⟩ := hty
  obtain ⟨k, h2, rfl⟩ := hpl
  rcases h with rfl | ⟨rfl, c⟩
  · rw [show nI k + (0 : Int32) = nI k from nI_add k 0]
    exact ⟨⟨k, h2, rfl⟩, Nat.le_refl _⟩
  · have hkj : k < j := by
      rcases Nat.lt_or_ge k j with h | h
      · exact h
      · exact absurd (nI_le h (by omega)) c
    rw [show nI k + (1 : Int32) = nI (k + 1) from nI_add k 1, cl_nI (by omega), cl_nI (by omega)]
    exact ⟨⟨k + 1, by omega, rfl⟩, by omega⟩
theorem in_ne {x : Int32} (h : ¬ T_in x 48 57 = 0) : ¬ x = -1 := by
  intro e
  subst e
  exact h rfl
theorem rd_digit (v : tw) : rdR v (T_digit v).2 := by
  have key : ∃ (x y : Int32), (T_digit v).2 = u19 (u20 v x) (t19 v + y) ∧ (x = 0 → t20 v = 0 ∧ ¬ T_in (T_here v) 48 57 = 0) ∧ (y = if x = 0 then 1 else 0) := by
    refine ⟨_, _, rfl, ?_, rfl⟩
    intro h
    by_cases h1 : t20 v = 0
    · rw [if_pos h1] at h
      refine ⟨h1, fun h2 => ?_⟩
      rw [if_pos h2] at h
      exact absurd h (by decide)
    · rw [if_neg h1] at h
      exact absurd h (by decide)
  obtain ⟨x, y, e, hx, hy⟩ := key
  rw [e]
  refine ⟨fun hk => ?_, fun h => (hx h).1⟩
  have ha := adv (x := y) hk.1 hk.2 (by
    by_cases h : x = 0
    · rw [if_pos h] at hy; exact Or.inr ⟨hy, here_lt (in_ne (hx h).2)⟩
    · rw [if_neg h] at hy; exact Or.inl hy)
  exact ⟨⟨hk.1, ha.1⟩, ha.2⟩
def T_number (v : tw)  : Int32 × tw :=
  let r_1 := (T_digit v ).1;
  let u_1 := (T_digit v ).2;
  if (t20 u_1) = 0 then
    let r_3 := T_here u_1 ;
    let r_4 := T_in (r_3) ((48 : Int32)) ((57 : Int32));
    if r_4 = 0 then
      (r_1, u_1)
    else
      let r_6 := (T_digit u_1 ).1;
      let u_6 := (T_digit u_1 ).2;
      ((((10 : Int32) * r_1) + r_6), u_6)
  else
    (r_1, u_1)
set_option maxHeartbeats 4000000 in
theorem tm_number (l : Launch) (E : mE) (h : Nat) (v : tw)  (hk : rdK v) : Met l yX10_number (ws_ yX10_number cX10_number 2 (some .int)) ({ frames := 2, cells := 0, slots := 0, locals := 43 }) (va_Pc [.ref h] (tP E h v)) (va_Qi (fun (r : Int32) (u : tw) => r = (T_number v ).1 ∧ u = (T_number v ).2) (fun u U => tW E h u U.heap) (eA E)) 0 0 (eA E) := by
  refine Met.ofW (cc := cX10_number) (maxL := 2) (ret := (some .int)) (by decide) rfl ?_
  intro p e s m args below meth c s₁ B hml hv
  obtain ⟨rfl, hs, hm⟩ := hv
  have hx := B.exec
  have hb := B.bytes
  have hr := B.returns
  have hts := atoms_spec (ws := ws_ yX10_number cX10_number 2 (some .int)) B.pre
  have hts : ∀ w ∈ lw_all, w.before _ s = true := fun w h => hts w (List.mem_cons_of_mem _ h)
  have hown : s.vm.findClass RX10 = some m.cls := findClass_of_methodNamed B.named
  have hlocks := B.notSynchronized
  have hS : va_S (eA E) s.heap s.heap [] := va_S.rf
  have hl := lv_entry ([.ref h]) (n := 2) (Nat.le_of_ble_eq_true rfl)
  rw [lg_entry_eq]
  generalize (lg_sl ([.ref h]) ++ List.replicate (2 - (lg_sl ([.ref h])).length) Slot.unset).toArray = ls at hl ⊢
  have hl : lv_has ls 2 [(0, .ref (h))] := hl
  refine lv_aload_n hx hb dX10_number_0 rfl (lv_at hl 0 rfl) ?_
  refine k_calli (va_runV (As := []) (rest := []) ⟨hx, hb, hml, hown, hts⟩ (tm_digit l E h v  hk.1 hk.2) (cwV 0 hts (lw_V q2029 q2031 qs52 q80 q2032) rfl rfl rfl (by decide +kernel) ⟨Nat.le_of_ble_eq_true rfl, Nat.le_of_ble_eq_true rfl⟩) (k_preVt hs hm hS) rfl rfl hl.1 rfl (lv_room (Nat.le_of_ble_eq_true rfl)) dX10_number_1 ⟨Nat.le_of_ble_eq_true rfl, Nat.le_of_ble_eq_true rfl⟩) hS (fun r_1 u_1 H9 locs hw_1 hm_1 hS => ?_)
  obtain ⟨hr_1, hu_1⟩ := hw_1
  have hm := hm_1
  refine lv_istore_n (lv' := [(1, _), (0, _)]) hx hb dX10_number_4 rfl hl (by decide) rfl (fun ls hl => ?_)
  refine lv_aload_n hx hb dX10_number_5 rfl (lv_at hl 1 rfl) ?_
  refine tg_20 hx hb hts hown hs hm (hts _ q1694) dX10_number_6 ?_
  refine lv_if_ne (tgt := 38) hx hb dX10_number_9 (by decide) (fun c_2 => ?_) (fun c_2 => ?_)
  · refine lv_iload_n hx hb dX10_number_38 rfl (lv_at hl 0 rfl) ?_
    subst hu_1
    subst hr_1
    exact W.iret (v := _) hx hb hr (fun t9 ht9 _ => ⟨⟨_, _, rfl, pp ((if_neg c_2).trans (rfl)), hb9 ht9 hm⟩, hS.F ht9⟩) hS.2.2 dX10_number_39
  · refine lv_aload_n hx hb dX10_number_12 rfl (lv_at hl 1 rfl) ?_
    refine k_calli (va_runV (As := []) (rest := []) ⟨hx, hb, hml, hown, hts⟩ (tm_here l E h u_1  (by rw [hu_1]; exact (((rd_digit v).1 hk).1).1) (by rw [hu_1]; exact (((rd_digit v).1 hk).1).2)) (cwV 0 hts (lw_V q2018 q2020 qs50 q80 q2021) rfl rfl rfl (by decide +kernel) ⟨Nat.le_of_ble_eq_true rfl, Nat.le_of_ble_eq_true rfl⟩) (k_preVt hs hm hS) rfl rfl hl.1 rfl (lv_room (Nat.le_of_ble_eq_true rfl)) dX10_number_13 ⟨Nat.le_of_ble_eq_true rfl, Nat.le_of_ble_eq_true rfl⟩) hS (fun r_3 u_3 H9 locs hw_3 hm_3 hS => ?_)
    obtain ⟨hr_3, hu_3⟩ := hw_3
    replace hu_3 := hu_3.symm
    subst hu_3
    have hm := hm_3
    refine lv_bipush (v := (48 : Int32)) hx hb dX10_number_16 (by decide) ?_
    refine lv_bipush (v := (57 : Int32)) hx hb dX10_number_18 (by decide) ?_
    refine k_calli (va_runS (As := [.int (r_3), .int ((48 : Int32)), .int ((57 : Int32))]) (rest := []) ⟨hx, hb, hml, hown, hts⟩ (tm_in l E (r_3) ((48 : Int32)) ((57 : Int32)) _) (va_cwS 3 hts (lw_S q1763 q1764 q80 q1765) rfl rfl rfl (by decide +kernel) ⟨Nat.le_of_ble_eq_true rfl, Nat.le_of_ble_eq_true rfl⟩) (k_pure hs hS) rfl rfl hl.1 rfl (lv_room (Nat.le_of_ble_eq_true rfl)) dX10_number_20 ⟨Nat.le_of_ble_eq_true rfl, Nat.le_of_ble_eq_true rfl⟩) hS (fun r_4 u_4 H9 locs hw_4 hm_4 hS => ?_)
    replace hm_4 : _ = H9 := Eq.symm hm_4
    subst hm_4
    have hr_4 := hw_4
    refine lv_if_eq (tgt := 38) hx hb dX10_number_23 (by decide) (fun c_5 => ?_) (fun c_5 => ?_)
    · refine lv_iload_n hx hb dX10_number_38 rfl (lv_at hl 0 rfl) ?_
      subst hr_4
      subst hr_3
      subst hu_1
      subst hr_1
      exact W.iret (v := _) hx hb hr (fun t9 ht9 _ => ⟨⟨_, _, rfl, pp ((if_pos c_2).trans ((if_pos c_5).trans (rfl))), hb9 ht9 hm⟩, hS.F ht9⟩) hS.2.2 dX10_number_39
    · refine lv_bipush (v := (10 : Int32)) hx hb dX10_number_26 (by decide) ?_
      refine lv_iload_n hx hb dX10_number_28 rfl (lv_at hl 0 rfl) ?_
      refine lv_imul hx hb dX10_number_29 ?_
      refine lv_aload_n hx hb dX10_number_30 rfl (lv_at hl 1 rfl) ?_
      refine k_calli (va_runV (As := []) (rest := [.int (((10 : Int32) * r_1))]) ⟨hx, hb, hml, hown, hts⟩ (tm_digit l E h u_1  (by rw [hu_1]; exact (((rd_digit v).1 hk).1).1) (by rw [hu_1]; exact (((rd_digit v).1 hk).1).2)) (cwV 0 hts (lw_V q2029 q2031 qs52 q80 q2032) rfl rfl rfl (by decide +kernel) ⟨Nat.le_of_ble_eq_true rfl, Nat.le_of_ble_eq_true rfl⟩) (k_preVt hs hm hS) rfl rfl hl.1 rfl (lv_room (Nat.le_of_ble_eq_true rfl)) dX10_number_31 ⟨Nat.le_of_ble_eq_true rfl, Nat.le_of_ble_eq_true rfl⟩) hS (fun r_6 u_6 H9 locs hw_6 hm_6 hS => ?_)
      obtain ⟨hr_6, hu_6⟩ := hw_6
      have hm := hm_6
      refine lv_iadd hx hb dX10_number_34 ?_
      refine lv_goto (tgt := 39) hx hb dX10_number_35 (by decide) ?_
      subst hu_6
      subst hr_6
      subst hr_4
      subst hr_3
      subst hu_1
      subst hr_1
      exact W.iret (v := _) hx hb hr (fun t9 ht9 _ => ⟨⟨_, _, rfl, pp ((if_pos c_2).trans ((if_neg c_5).trans (rfl))), hb9 ht9 hm⟩, hS.F ht9⟩) hS.2.2 dX10_number_39
def T_signRead (v : tw)  : Int32 × tw :=
  let r_1 := T_here v ;
  let x3 := if r_1 = (43 : Int32) then (1 : Int32) else (0 : Int32);
  let x5 := if (t20 v) = 0 then if x3 = 0 then let r_10 := T_here v ; if r_10 = (45 : Int32) then (0 : Int32) else (1 : Int32) else (0 : Int32) else (1 : Int32);
  let x7 := if x5 = 0 then (1 : Int32) else (0 : Int32);
  if x3 = 0 then
    ((0 : Int32), (u19 (u20 v x5) ((t19 v) + x7)))
  else
    ((1 : Int32), (u19 (u20 v x5) ((t19 v) + x7)))
set_option maxHeartbeats 4000000 in
theorem tm_signRead (l : Launch) (E : mE) (h : Nat) (v : tw)  (hk : rdK v) : Met l yX10_signRead (ws_ yX10_signRead cX10_signRead 2 (some .int)) ({ frames := 1, cells := 0, slots := 0, locals := 20 }) (va_Pc [.ref h] (tP E h v)) (va_Qi (fun (r : Int32) (u : tw) => r = (T_signRead v ).1 ∧ u = (T_signRead v ).2) (fun u U => tW E h u U.heap) (eA E)) 0 0 (eA E) := by
  refine Met.ofW (cc := cX10_signRead) (maxL := 2) (ret := (some .int)) (by decide) rfl ?_
  intro p e s m args below meth c s₁ B hml hv
  obtain ⟨rfl, hs, hm⟩ := hv
  have hx := B.exec
  have hb := B.bytes
  have hr := B.returns
  have hts := atoms_spec (ws := ws_ yX10_signRead cX10_signRead 2 (some .int)) B.pre
  have hts : ∀ w ∈ lw_all, w.before _ s = true := fun w h => hts w (List.mem_cons_of_mem _ h)
  have hown : s.vm.findClass RX10 = some m.cls := findClass_of_methodNamed B.named
  have hlocks := B.notSynchronized
  have hS : va_S (eA E) s.heap s.heap [] := va_S.rf
  have hl := lv_entry ([.ref h]) (n := 2) (Nat.le_of_ble_eq_true rfl)
  rw [lg_entry_eq]
  generalize (lg_sl ([.ref h]) ++ List.replicate (2 - (lg_sl ([.ref h])).length) Slot.unset).toArray = ls at hl ⊢
  have hl : lv_has ls 2 [(0, .ref (h))] := hl
  refine lv_aload_n hx hb dX10_signRead_0 rfl (lv_at hl 0 rfl) ?_
  refine k_calli (va_runV (As := []) (rest := []) ⟨hx, hb, hml, hown, hts⟩ (tm_here l E h v  hk.1 hk.2) (cwV 0 hts (lw_V q2018 q2020 qs50 q80 q2021) rfl rfl rfl (by decide +kernel) ⟨Nat.le_of_ble_eq_true rfl, Nat.le_of_ble_eq_true rfl⟩) (k_preVt hs hm hS) rfl rfl hl.1 rfl (lv_room (Nat.le_of_ble_eq_true rfl)) dX10_signRead_1 ⟨Nat.le_of_ble_eq_true rfl, Nat.le_of_ble_eq_true rfl⟩) hS (fun r_1 u_1 H9 locs hw_1 hm_1 hS => ?_)
  obtain ⟨hr_1, hu_1⟩ := hw_1
  replace hu_1 := hu_1.symm
  subst hu_1
  have hm := hm_1
  refine lv_bipush (v := (43 : Int32)) hx hb dX10_signRead_4 (by decide) ?_
  refine k_join (fun (x3 : Int32) H locs ls => x3 = (if r_1 = (43 : Int32) then (1 : Int32) else (0 : Int32)) ∧ tW E h (v) H ∧ va_S (eA E) s.heap H locs ∧ lv_has ls 2 [(0, .ref (h))]) (fun (x3 : Int32) ls => F0 m 14 ls [.int (x3)]) (fun x3 H locs ls hJ => ?_) (fun J3 => ?_)
  · obtain ⟨hX3, hm, hS, hl⟩ := hJ
    refine lv_istore_n (lv' := [(1, _), (0, _)]) hx hb dX10_signRead_14 rfl hl (by decide) rfl (fun ls hl => ?_)
    refine lv_aload_n hx hb dX10_signRead_15 rfl (lv_at hl 1 rfl) ?_
    refine lv_aload_n hx hb dX10_signRead_16 rfl (lv_at hl 1 rfl) ?_
    refine tg_20 hx hb hts hown hs hm (hts _ q1694) dX10_signRead_17 ?_
    refine k_join (fun (x5 : Int32) H locs ls => x5 = (if (t20 v) = 0 then if x3 = 0 then let r_10 := T_here v ; if r_10 = (45 : Int32) then (0 : Int32) else (1 : Int32) else (0 : Int32) else (1 : Int32)) ∧ tW E h (v) H ∧ va_S (eA E) s.heap H locs ∧ lv_has ls 2 [(1, .int (x3)), (0, .ref (h))]) (fun (x5 : Int32) ls => F0 m 41 ls [.int (x5), .ref (h)]) (fun x5 H locs ls hJ => ?_) (fun J5 => ?_)
    · obtain ⟨hX5, hm, hS, hl⟩ := hJ
      refine tp_20 hx hb hts hown hs hm hS (hts _ q1694) (by rw [hX5]; (try dsimp only); (repeat' split) <;> rfl) (by rw [hX5]; (try dsimp only); (repeat' split) <;> rfl) dX10_signRead_41 (fun H locs hm hS => ?_)
      have hm : tW E h (u20 v x5) H := hm
      refine lv_aload_n hx hb dX10_signRead_44 rfl (lv_at hl 1 rfl) ?_
      refine lv_dup hx hb dX10_signRead_45 rfl ?_
      refine tg_19 hx hb hts hown hs hm (hts _ q1693) dX10_signRead_46 ?_
      refine lv_aload_n hx hb dX10_signRead_49 rfl (lv_at hl 1 rfl) ?_
      refine tg_20 hx hb hts hown hs hm (hts _ q1694) dX10_signRead_50 ?_
      refine k_join (fun (x7 : Int32) H locs ls => x7 = (if x5 = 0 then (1 : Int32) else (0 : Int32)) ∧ tW E h ((u20 v x5)) H ∧ va_S (eA E) s.heap H locs ∧ lv_has ls 2 [(1, .int (x3)), (0, .ref (h))]) (fun (x7 : Int32) ls => F0 m 61 ls [.int (x7), .int ((t19 v)), .ref (h)]) (fun x7 H locs ls hJ => ?_) (fun J7 => ?_)
      · obtain ⟨hX7, hm, hS, hl⟩ := hJ
        refine lv_iadd hx hb dX10_signRead_61 ?_
        refine tp_19 hx hb hts hown hs hm hS (hts _ q1693) dX10_signRead_62 (fun H locs hm hS => ?_)
        have hm : tW E h (u19 (u20 v x5) ((t19 v) + x7)) H := hm
        refine lv_iload_n hx hb dX10_signRead_65 rfl (lv_at hl 0 rfl) ?_
        refine lv_if_eq (tgt := 73) hx hb dX10_signRead_66 (by decide) (fun c_8 => ?_) (fun c_8 => ?_)
        · refine lv_iconst (v := (0 : Int32)) hx hb dX10_signRead_73 (by decide) ?_
          subst hX7
          subst hX5
          subst hX3
          subst hr_1
          exact W.iret (v := _) hx hb hr (fun t9 ht9 _ => ⟨⟨_, _, rfl, pp ((if_pos c_8).trans (rfl)), hb9 ht9 hm⟩, hS.F ht9⟩) hS.2.2 dX10_signRead_74
        · refine lv_iconst (v := (1 : Int32)) hx hb dX10_signRead_69 (by decide) ?_
          refine lv_goto (tgt := 74) hx hb dX10_signRead_70 (by decide) ?_
          subst hX7
          subst hX5
          subst hX3
          subst hr_1
          exact W.iret (v := _) hx hb hr (fun t9 ht9 _ => ⟨⟨_, _, rfl, pp ((if_neg c_8).trans (rfl)), hb9 ht9 hm⟩, hS.F ht9⟩) hS.2.2 dX10_signRead_74
      · refine lv_if_eq (tgt := 60) hx hb dX10_signRead_53 (by decide) (fun c_6 => ?_) (fun c_6 => ?_)
        · refine lv_iconst (v := (1 : Int32)) hx hb dX10_signRead_60 (by decide) ?_
          exact J7 ((1 : Int32)) _ _ _ ⟨((if_pos c_6).trans (rfl)).symm, hm, hS, lv_sub hl [0, 1] rfl⟩
        · refine lv_iconst (v := (0 : Int32)) hx hb dX10_signRead_56 (by decide) ?_
          refine lv_goto (tgt := 61) hx hb dX10_signRead_57 (by decide) ?_
          exact J7 ((0 : Int32)) _ _ _ ⟨((if_neg c_6).trans (rfl)).symm, hm, hS, lv_sub hl [0, 1] rfl⟩
    · refine lv_if_ne (tgt := 36) hx hb dX10_signRead_20 (by decide) (fun c_4 => ?_) (fun c_4 => ?_)
      · refine lv_iconst (v := (1 : Int32)) hx hb dX10_signRead_36 (by decide) ?_
        refine lv_goto (tgt := 41) hx hb dX10_signRead_37 (by decide) ?_
        exact J5 ((1 : Int32)) _ _ _ ⟨((if_neg c_4).trans (rfl)).symm, hm, hS, lv_sub hl [0, 1] rfl⟩
      · refine lv_iload_n hx hb dX10_signRead_23 rfl (lv_at hl 0 rfl) ?_
        refine lv_if_ne (tgt := 40) hx hb dX10_signRead_24 (by decide) (fun c_9 => ?_) (fun c_9 => ?_)
        · refine lv_iconst (v := (0 : Int32)) hx hb dX10_signRead_40 (by decide) ?_
          exact J5 ((0 : Int32)) _ _ _ ⟨((if_pos c_4).trans ((if_neg c_9).trans (rfl))).symm, hm, hS, lv_sub hl [0, 1] rfl⟩
        · refine lv_aload_n hx hb dX10_signRead_27 rfl (lv_at hl 1 rfl) ?_
          refine k_calli (va_runV (As := []) (rest := [.ref (h)]) ⟨hx, hb, hml, hown, hts⟩ (tm_here l E h v  hk.1 hk.2) (cwV 0 hts (lw_V q2018 q2020 qs50 q80 q2021) rfl rfl rfl (by decide +kernel) ⟨Nat.le_of_ble_eq_true rfl, Nat.le_of_ble_eq_true rfl⟩) (k_preVt hs hm hS) rfl rfl hl.1 rfl (lv_room (Nat.le_of_ble_eq_true rfl)) dX10_signRead_28 ⟨Nat.le_of_ble_eq_true rfl, Nat.le_of_ble_eq_true rfl⟩) hS (fun r_10 u_10 H9 locs hw_10 hm_10 hS => ?_)
          obtain ⟨hr_10, hu_10⟩ := hw_10
          replace hu_10 := hu_10.symm
          subst hu_10
          have hm := hm_10
          refine lv_bipush (v := (45 : Int32)) hx hb dX10_signRead_31 (by decide) ?_
          refine lv_icmp_eq (tgt := 40) hx hb dX10_signRead_33 (by decide) (fun c_11 => ?_) (fun c_11 => ?_)
          · refine lv_iconst (v := (0 : Int32)) hx hb dX10_signRead_40 (by decide) ?_
            subst hr_10
            exact J5 (_) _ _ _ ⟨((if_pos c_4).trans ((if_pos c_9).trans ((if_pos c_11).trans (rfl)))).symm, hm, hS, lv_sub hl [0, 1] rfl⟩
          · refine lv_iconst (v := (1 : Int32)) hx hb dX10_signRead_36 (by decide) ?_
            refine lv_goto (tgt := 41) hx hb dX10_signRead_37 (by decide) ?_
            subst hr_10
            exact J5 (_) _ _ _ ⟨((if_pos c_4).trans ((if_pos c_9).trans ((if_neg c_11).trans (rfl)))).symm, hm, hS, lv_sub hl [0, 1] rfl⟩
  · refine lv_icmp_ne (tgt := 13) hx hb dX10_signRead_6 (by decide) (fun c_2 => ?_) (fun c_2 => ?_)
    · refine lv_iconst (v := (0 : Int32)) hx hb dX10_signRead_13 (by decide) ?_
      exact J3 ((0 : Int32)) _ _ _ ⟨((if_neg c_2).trans (rfl)).symm, hm, hS, lv_sub hl [0] rfl⟩
    · refine lv_iconst (v := (1 : Int32)) hx hb dX10_signRead_9 (by decide) ?_
      refine lv_goto (tgt := 14) hx hb dX10_signRead_10 (by decide) ?_
      exact J3 ((1 : Int32)) _ _ _ ⟨((if_pos c_2).trans (rfl)).symm, hm, hS, lv_sub hl [0] rfl⟩
theorem rd_number (v : tw) : rdR v (T_number v).2 := by
  unfold T_number
  dsimp only
  split
  · split
    · exact rd_digit v
    · exact (rd_digit v).tr (rd_digit _)
  · exact rd_digit v
theorem rd_step {v : tw} {x y : Int32} (hx : x = 0 → t20 v = 0 ∧ ¬ t13 v ≤ t19 v) (hy : y = if x = 0 then 1 else 0) (a : Nat → Int32) : rdR v (u19 (u20 (u21 v a) x) (t19 v + y)) ∧ (rdK v → x = 0 → (t19 v).toNatClampNeg + 1 ≤ (t19 v + y).toNatClampNeg) := by
  refine ⟨⟨fun hk => ?_, fun h => (hx h).1⟩, fun hk h => ?_⟩
  · have ha := adv (x := y) hk.1 hk.2 (by
      by_cases h : x = 0
      · rw [if_pos h] at hy; exact Or.inr ⟨hy, (hx h).2⟩
      · rw [if_neg h] at hy; exact Or.inl hy)
    exact ⟨⟨hk.1, ha.1⟩, ha.2⟩
  · rw [if_pos h] at hy
    have hc := (hx h).2
    obtain ⟨⟨j, h1, e1⟩, ⟨k, h2, e2⟩⟩ := hk
    rw [e1, e2] at hc
    rw [hy, e2, show nI k + (1 : Int32) = nI (k + 1) from nI_add k 1, cl_nI (by omega), cl_nI (by omega)]
    omega
theorem rd_sign (v : tw) : rdR v (T_signRead v).2 := by
  have key : ∃ (x y : Int32), (T_signRead v).2 = u19 (u20 v x) (t19 v + y) ∧ (x = 0 → t20 v = 0 ∧ ¬ t13 v ≤ t19 v) ∧ (y = if x = 0 then 1 else 0) := by
    unfold T_signRead
    dsimp only
    have hx : (if t20 v = 0 then (if (if T_here v = (43 : Int32) then (1 : Int32) else (0 : Int32)) = 0 then (if T_here v = (45 : Int32) then (0 : Int32) else (1 : Int32)) else (0 : Int32)) else (1 : Int32)) = 0 → t20 v = 0 ∧ ¬ t13 v ≤ t19 v := by
      intro h
      by_cases h1 : t20 v = 0
      · refine ⟨h1, here_lt (fun e => ?_)⟩
        rw [if_pos h1, e] at h
        exact absurd h (by decide)
      · rw [if_neg h1] at h
        exact absurd h (by decide)
    by_cases h3 : (if T_here v = (43 : Int32) then (1 : Int32) else (0 : Int32)) = 0
    · refine ⟨_, _, ?_, hx, rfl⟩
      rw [if_pos h3]
    · refine ⟨_, _, ?_, hx, rfl⟩
      rw [if_neg h3]
  obtain ⟨x, y, e, hx, hy⟩ := key
  rw [e]
  exact (rd_step hx hy (t21 v)).1
theorem letter_ne {x : Int32} (h : ¬ T_isLetter x = 0) : ¬ x = -1 := by
  intro e
  subst e
  exact h (by decide)
theorem ro_3 {ty pl x y : Int32} (hx : x = 0 → ¬ ty ≤ pl) (hy : y = if x = 0 then (1 : Int32) else (0 : Int32)) : y = 0 ∨ (y = 1 ∧ ¬ ty ≤ pl) := by
  by_cases h : x = 0
  · exact Or.inr ⟨by rw [hy, if_pos h], hx h⟩
  · exact Or.inl (by rw [hy, if_neg h])
theorem ro_2 {w : tw} {x y : Int32} (hx : x = if t20 w = 0 then (if T_here w = (64 : Int32) then (0 : Int32) else (1 : Int32)) else (1 : Int32)) (hy : y = if x = 0 then (1 : Int32) else (0 : Int32)) : y = 0 ∨ (y = 1 ∧ ¬ t13 w ≤ t19 w) := by
  by_cases h : x = 0
  · refine Or.inr ⟨by rw [hy, if_pos h], here_lt (fun e => ?_)⟩
    rw [h, e] at hx
    by_cases h1 : t20 w = 0
    · rw [if_pos h1] at hx; exact absurd hx (by decide)
    · rw [if_neg h1] at hx; exact absurd hx (by decide)
  · exact Or.inl (by rw [hy, if_neg h])
theorem ro_1 {v : tw} {c x : Int32} (hc : c = T_here v) (hx : x = if T_isLetter c = 0 then (1 : Int32) else (0 : Int32)) : x = 0 → ¬ t13 v ≤ t19 v := by
  intro h
  by_cases h1 : T_isLetter c = 0
  · rw [if_pos h1] at hx; rw [hx] at h; exact absurd h (by decide)
  · rw [hc] at h1; exact here_lt (letter_ne h1)
def T_readsOrder (v : tw) (x : Int32) : tw :=
  let r_1 := T_here v ;
  let r_2 := T_isLetter (r_1);
  let x4 := if r_2 = 0 then (1 : Int32) else (0 : Int32);
  let x6 := if x4 = 0 then (1 : Int32) else (0 : Int32);
  let x8 := if r_1 = (119 : Int32) then let r_20 := (T_number (u19 (u20 (u21 v (upd (t21 v) (x).toNatClampNeg r_1)) x4) ((t19 v) + x6)) ).1; let u_20 := (T_number (u19 (u20 (u21 v (upd (t21 v) (x).toNatClampNeg r_1)) x4) ((t19 v) + x6)) ).2; (u21 u_20 (upd (t21 u_20) ((x + (1 : Int32))).toNatClampNeg r_20)) else if r_1 = (110 : Int32) then let r_22 := (T_number (u19 (u20 (u21 v (upd (t21 v) (x).toNatClampNeg r_1)) x4) ((t19 v) + x6)) ).1; let u_22 := (T_number (u19 (u20 (u21 v (upd (t21 v) (x).toNatClampNeg r_1)) x4) ((t19 v) + x6)) ).2; (u21 u_22 (upd (t21 u_22) ((x + (1 : Int32))).toNatClampNeg r_22)) else if r_1 = (112 : Int32) then let r_26 := (T_number (u19 (u20 (u21 v (upd (t21 v) (x).toNatClampNeg r_1)) x4) ((t19 v) + x6)) ).1; let u_26 := (T_number (u19 (u20 (u21 v (upd (t21 v) (x).toNatClampNeg r_1)) x4) ((t19 v) + x6)) ).2; (u21 u_26 (upd (t21 u_26) ((x + (1 : Int32))).toNatClampNeg r_26)) else if r_1 = (99 : Int32) then (u19 (u20 (u21 v (upd (t21 v) (x).toNatClampNeg r_1)) x4) ((t19 v) + x6)) else let r_25 := (T_digit (u19 (u20 (u21 v (upd (t21 v) (x).toNatClampNeg r_1)) x4) ((t19 v) + x6)) ).1; let u_25 := (T_digit (u19 (u20 (u21 v (upd (t21 v) (x).toNatClampNeg r_1)) x4) ((t19 v) + x6)) ).2; (u21 u_25 (upd (t21 u_25) ((x + (1 : Int32))).toNatClampNeg r_25));
  let x10 := if r_1 = (118 : Int32) then let r_19 := (T_signRead x8 ).1; let u_19 := (T_signRead x8 ).2; (u21 u_19 (upd (t21 u_19) ((x + (2 : Int32))).toNatClampNeg r_19)) else x8;
  if r_1 = (100 : Int32) then
    let x13 := if (t20 x10) = 0 then let r_17 := T_here x10 ; if r_17 = (64 : Int32) then (0 : Int32) else (1 : Int32) else (1 : Int32);
    let x15 := if x13 = 0 then (1 : Int32) else (0 : Int32);
    let r_16 := (T_number (u19 (u20 x10 x13) ((t19 x10) + x15)) ).1;
    let u_16 := (T_number (u19 (u20 x10 x13) ((t19 x10) + x15)) ).2;
    (u21 u_16 (upd (t21 u_16) ((x + (2 : Int32))).toNatClampNeg r_16))
  else
    x10

def rd8 (r_1 : Int32) (S : tw) (x : Int32) : tw := if r_1 = (119 : Int32) then let r_20 := (T_number S ).1; let u_20 := (T_number S ).2; (u21 u_20 (upd (t21 u_20) ((x + (1 : Int32))).toNatClampNeg r_20)) else if r_1 = (110 : Int32) then let r_22 := (T_number S ).1; let u_22 := (T_number S ).2; (u21 u_22 (upd (t21 u_22) ((x + (1 : Int32))).toNatClampNeg r_22)) else if r_1 = (112 : Int32) then let r_26 := (T_number S ).1; let u_26 := (T_number S ).2; (u21 u_26 (upd (t21 u_26) ((x + (1 : Int32))).toNatClampNeg r_26)) else if r_1 = (99 : Int32) then S else let r_25 := (T_digit S ).1; let u_25 := (T_digit S ).2; (u21 u_25 (upd (t21 u_25) ((x + (1 : Int32))).toNatClampNeg r_25))
def rd10 (r_1 : Int32) (x8 : tw) (x : Int32) : tw := if r_1 = (118 : Int32) then let r_19 := (T_signRead x8 ).1; let u_19 := (T_signRead x8 ).2; (u21 u_19 (upd (t21 u_19) ((x + (2 : Int32))).toNatClampNeg r_19)) else x8
def rdEnd (r_1 : Int32) (x10 : tw) (x : Int32) : tw :=
  if r_1 = (100 : Int32) then
    let x13 := if (t20 x10) = 0 then let r_17 := T_here x10 ; if r_17 = (64 : Int32) then (0 : Int32) else (1 : Int32) else (1 : Int32);
    let x15 := if x13 = 0 then (1 : Int32) else (0 : Int32);
    let r_16 := (T_number (u19 (u20 x10 x13) ((t19 x10) + x15)) ).1;
    let u_16 := (T_number (u19 (u20 x10 x13) ((t19 x10) + x15)) ).2;
    (u21 u_16 (upd (t21 u_16) ((x + (2 : Int32))).toNatClampNeg r_16))
  else
    x10
theorem order_eq (v : tw) (x : Int32) : ∃ (x4 x6 : Int32), (x4 = if T_isLetter (T_here v) = 0 then (1 : Int32) else (0 : Int32)) ∧ (x6 = if x4 = 0 then (1 : Int32) else (0 : Int32)) ∧ T_readsOrder v x = rdEnd (T_here v) (rd10 (T_here v) (rd8 (T_here v) (u19 (u20 (u21 v (upd (t21 v) x.toNatClampNeg (T_here v))) x4) (t19 v + x6)) x) x) x := ⟨_, _, rfl, rfl, rfl⟩
theorem rd_8 (r : Int32) (S : tw) (x : Int32) : rdR S (rd8 r S x) := by
  unfold rd8
  dsimp only
  (repeat' split) <;> first | with_reducible exact rdR.rf _ | with_reducible exact rdR.u21 (rd_number _) | with_reducible exact rdR.u21 (rd_digit _)
theorem rd_10 (r : Int32) (S : tw) (x : Int32) : rdR S (rd10 r S x) := by
  unfold rd10
  dsimp only
  split
  · exact rdR.u21 (rd_sign _)
  · exact rdR.rf _

set_option maxHeartbeats 4000000 in
theorem tm_readsOrder (l : Launch) (E : mE) (h : Nat) (v : tw) (x : Int32) (hk : rdK v) (hx8 : ix 178 x) : Met l yX10_readsOrder (ws_ yX10_readsOrder cX10_readsOrder 3 none) ({ frames := 3, cells := 0, slots := 0, locals := 64 }) (va_Pc [.ref h, .int x] (tP E h v)) (va_Qv (fun (u : tw) => u = T_readsOrder v x) (fun u U => tW E h u U.heap) (eA E)) 0 0 (eA E) := by
  refine Met.ofW (cc := cX10_readsOrder) (maxL := 3) (ret := none) (by decide) rfl ?_
  intro p e s m args below meth c s₁ B hml hv
  obtain ⟨rfl, hs, hm⟩ := hv
  have hx := B.exec
  have hb := B.bytes
  have hr := B.returns
  have hts := atoms_spec (ws := ws_ yX10_readsOrder cX10_readsOrder 3 none) B.pre
  have hts : ∀ w ∈ lw_all, w.before _ s = true := fun w h => hts w (List.mem_cons_of_mem _ h)
  have hown : s.vm.findClass RX10 = some m.cls := findClass_of_methodNamed B.named
  have hlocks := B.notSynchronized
  have hS : va_S (eA E) s.heap s.heap [] := va_S.rf
  have hl := lv_entry ([.ref h, .int x]) (n := 3) (Nat.le_of_ble_eq_true rfl)
  rw [lg_entry_eq]
  generalize (lg_sl ([.ref h, .int x]) ++ List.replicate (3 - (lg_sl ([.ref h, .int x])).length) Slot.unset).toArray = ls at hl ⊢
  have hl : lv_has ls 3 [(0, .ref (h)), (1, .int (x))] := hl
  refine lv_aload_n hx hb dX10_readsOrder_0 rfl (lv_at hl 0 rfl) ?_
  refine k_calli (va_runV (As := []) (rest := []) ⟨hx, hb, hml, hown, hts⟩ (tm_here l E h v  hk.1 hk.2) (cwV 0 hts (lw_V q2018 q2020 qs50 q80 q2021) rfl rfl rfl (by decide +kernel) ⟨Nat.le_of_ble_eq_true rfl, Nat.le_of_ble_eq_true rfl⟩) (k_preVt hs hm hS) rfl rfl hl.1 rfl (lv_room (Nat.le_of_ble_eq_true rfl)) dX10_readsOrder_1 ⟨Nat.le_of_ble_eq_true rfl, Nat.le_of_ble_eq_true rfl⟩) hS (fun r_1 u_1 H9 locs hw_1 hm_1 hS => ?_)
  obtain ⟨hr_1, hu_1⟩ := hw_1
  replace hu_1 := hu_1.symm
  subst hu_1
  have hm := hm_1
  refine lv_istore_n (lv' := [(2, _), (0, _), (1, _)]) hx hb dX10_readsOrder_4 rfl hl (by decide) rfl (fun ls hl => ?_)
  refine lv_aload_n hx hb dX10_readsOrder_5 rfl (lv_at hl 1 rfl) ?_
  refine tg_21 hx hb hts hown hs hm (hts _ q1695) dX10_readsOrder_6 ?_
  refine lv_iload_n hx hb dX10_readsOrder_9 rfl (lv_at hl 2 rfl) ?_
  refine lv_iload_n hx hb dX10_readsOrder_10 rfl (lv_at hl 0 rfl) ?_
  refine ts_21 hx hb hs hm hS (ix.at (B := 180) ((hx8).mono (by decide)) (by decide)) dX10_readsOrder_11 (fun H locs hm hS => ?_)
  have hm : tW E h (u21 v (upd (t21 v) (x).toNatClampNeg r_1)) H := hm
  refine lv_aload_n hx hb dX10_readsOrder_12 rfl (lv_at hl 1 rfl) ?_
  refine lv_iload_n hx hb dX10_readsOrder_13 rfl (lv_at hl 0 rfl) ?_
  refine k_calli (va_runS (As := [.int (r_1)]) (rest := [.ref (h)]) ⟨hx, hb, hml, hown, hts⟩ (tm_isLetter l E (r_1) _) (va_cwS 1 hts (lw_S q2022 q2023 q80 q2024) rfl rfl rfl (by decide +kernel) ⟨Nat.le_of_ble_eq_true rfl, Nat.le_of_ble_eq_true rfl⟩) (k_pure hs hS) rfl rfl hl.1 rfl (lv_room (Nat.le_of_ble_eq_true rfl)) dX10_readsOrder_14 ⟨Nat.le_of_ble_eq_true rfl, Nat.le_of_ble_eq_true rfl⟩) hS (fun r_2 u_2 H9 locs hw_2 hm_2 hS => ?_)
  replace hm_2 : _ = H9 := Eq.symm hm_2
  subst hm_2
  have hr_2 := hw_2
  refine k_join (fun (x4 : Int32) H locs ls => x4 = (if r_2 = 0 then (1 : Int32) else (0 : Int32)) ∧ tW E h ((u21 v (upd (t21 v) (x).toNatClampNeg r_1))) H ∧ va_S (eA E) s.heap H locs ∧ lv_has ls 3 [(2, .int (r_1)), (0, .ref (h)), (1, .int (x))]) (fun (x4 : Int32) ls => F0 m 25 ls [.int (x4), .ref (h)]) (fun x4 H locs ls hJ => ?_) (fun J4 => ?_)
  · obtain ⟨hX4, hm, hS, hl⟩ := hJ
    refine tp_20 hx hb hts hown hs hm hS (hts _ q1694) (by rw [hX4]; (try dsimp only); (repeat' split) <;> rfl) (by rw [hX4]; (try dsimp only); (repeat' split) <;> rfl) dX10_readsOrder_25 (fun H locs hm hS => ?_)
    have hm : tW E h (u20 (u21 v (upd (t21 v) (x).toNatClampNeg r_1)) x4) H := hm
    refine lv_aload_n hx hb dX10_readsOrder_28 rfl (lv_at hl 1 rfl) ?_
    refine lv_dup hx hb dX10_readsOrder_29 rfl ?_
    refine tg_19 hx hb hts hown hs hm (hts _ q1693) dX10_readsOrder_30 ?_
    refine lv_aload_n hx hb dX10_readsOrder_33 rfl (lv_at hl 1 rfl) ?_
    refine tg_20 hx hb hts hown hs hm (hts _ q1694) dX10_readsOrder_34 ?_
    refine k_join (fun (x6 : Int32) H locs ls => x6 = (if x4 = 0 then (1 : Int32) else (0 : Int32)) ∧ tW E h ((u20 (u21 v (upd (t21 v) (x).toNatClampNeg r_1)) x4)) H ∧ va_S (eA E) s.heap H locs ∧ lv_has ls 3 [(2, .int (r_1)), (0, .ref (h)), (1, .int (x))]) (fun (x6 : Int32) ls => F0 m 45 ls [.int (x6), .int ((t19 v)), .ref (h)]) (fun x6 H locs ls hJ => ?_) (fun J6 => ?_)
    · obtain ⟨hX6, hm, hS, hl⟩ := hJ
      refine lv_iadd hx hb dX10_readsOrder_45 ?_
      refine tp_19 hx hb hts hown hs hm hS (hts _ q1693) dX10_readsOrder_46 (fun H locs hm hS => ?_)
      have hm : tW E h (u19 (u20 (u21 v (upd (t21 v) (x).toNatClampNeg r_1)) x4) ((t19 v) + x6)) H := hm
      have k1 : rdK (u19 (u20 (u21 v (upd (t21 v) (x).toNatClampNeg r_1)) x4) ((t19 v) + x6)) := ⟨hk.1, (adv hk.1 hk.2 (ro_3 (ro_1 hr_1 (by rw [hX4, hr_2])) hX6)).1⟩
      refine lv_iload_n hx hb dX10_readsOrder_49 rfl (lv_at hl 0 rfl) ?_
      refine lv_bipush (v := (119 : Int32)) hx hb dX10_readsOrder_50 (by decide) ?_
      refine k_join (fun (x8 : tw) H locs ls => x8 = (if r_1 = (119 : Int32) then let r_20 := (T_number (u19 (u20 (u21 v (upd (t21 v) (x).toNatClampNeg r_1)) x4) ((t19 v) + x6)) ).1; let u_20 := (T_number (u19 (u20 (u21 v (upd (t21 v) (x).toNatClampNeg r_1)) x4) ((t19 v) + x6)) ).2; (u21 u_20 (upd (t21 u_20) ((x + (1 : Int32))).toNatClampNeg r_20)) else if r_1 = (110 : Int32) then let r_22 := (T_number (u19 (u20 (u21 v (upd (t21 v) (x).toNatClampNeg r_1)) x4) ((t19 v) + x6)) ).1; let u_22 := (T_number (u19 (u20 (u21 v (upd (t21 v) (x).toNatClampNeg r_1)) x4) ((t19 v) + x6)) ).2; (u21 u_22 (upd (t21 u_22) ((x + (1 : Int32))).toNatClampNeg r_22)) else if r_1 = (112 : Int32) then let r_26 := (T_number (u19 (u20 (u21 v (upd (t21 v) (x).toNatClampNeg r_1)) x4) ((t19 v) + x6)) ).1; let u_26 := (T_number (u19 (u20 (u21 v (upd (t21 v) (x).toNatClampNeg r_1)) x4) ((t19 v) + x6)) ).2; (u21 u_26 (upd (t21 u_26) ((x + (1 : Int32))).toNatClampNeg r_26)) else if r_1 = (99 : Int32) then (u19 (u20 (u21 v (upd (t21 v) (x).toNatClampNeg r_1)) x4) ((t19 v) + x6)) else let r_25 := (T_digit (u19 (u20 (u21 v (upd (t21 v) (x).toNatClampNeg r_1)) x4) ((t19 v) + x6)) ).1; let u_25 := (T_digit (u19 (u20 (u21 v (upd (t21 v) (x).toNatClampNeg r_1)) x4) ((t19 v) + x6)) ).2; (u21 u_25 (upd (t21 u_25) ((x + (1 : Int32))).toNatClampNeg r_25))) ∧ tW E h (x8) H ∧ va_S (eA E) s.heap H locs ∧ lv_has ls 3 [(2, .int (r_1)), (0, .ref (h)), (1, .int (x))]) (fun (x8 : tw) ls => F0 m 100 ls []) (fun x8 H locs ls hJ => ?_) (fun J8 => ?_)
      · obtain ⟨hX8, hm, hS, hl⟩ := hJ
        have k3 : rdK x8 := ((show rdR (u19 (u20 (u21 v (upd (t21 v) (x).toNatClampNeg r_1)) x4) ((t19 v) + x6)) x8 by rw [hX8]; exact rd_8 _ _ x).1 k1).1
        refine lv_iload_n hx hb dX10_readsOrder_100 rfl (lv_at hl 0 rfl) ?_
        refine lv_bipush (v := (118 : Int32)) hx hb dX10_readsOrder_101 (by decide) ?_
        refine k_join (fun (x10 : tw) H locs ls => x10 = (if r_1 = (118 : Int32) then let r_19 := (T_signRead x8 ).1; let u_19 := (T_signRead x8 ).2; (u21 u_19 (upd (t21 u_19) ((x + (2 : Int32))).toNatClampNeg r_19)) else x8) ∧ tW E h (x10) H ∧ va_S (eA E) s.heap H locs ∧ lv_has ls 3 [(2, .int (r_1)), (0, .ref (h)), (1, .int (x))]) (fun (x10 : tw) ls => F0 m 118 ls []) (fun x10 H locs ls hJ => ?_) (fun J10 => ?_)
        · obtain ⟨hX10, hm, hS, hl⟩ := hJ
          have k4 : rdK x10 := ((show rdR x8 x10 by rw [hX10]; exact rd_10 _ _ x).1 k3).1
          refine lv_iload_n hx hb dX10_readsOrder_118 rfl (lv_at hl 0 rfl) ?_
          refine lv_bipush (v := (100 : Int32)) hx hb dX10_readsOrder_119 (by decide) ?_
          refine lv_icmp_ne (tgt := 182) hx hb dX10_readsOrder_121 (by decide) (fun c_11 => ?_) (fun c_11 => ?_)
          · subst hX10
            subst hX8
            subst hX6
            subst hX4
            subst hr_2
            subst hr_1
            exact W.vret hx hb hr (fun t9 ht9 _ => ⟨⟨_, rfl, ((if_neg c_11).trans (rfl)).symm, hb9 ht9 hm⟩, hS.F ht9⟩) hS.2.2 dX10_readsOrder_182
          · refine lv_aload_n hx hb dX10_readsOrder_124 rfl (lv_at hl 1 rfl) ?_
            refine lv_aload_n hx hb dX10_readsOrder_125 rfl (lv_at hl 1 rfl) ?_
            refine tg_20 hx hb hts hown hs hm (hts _ q1694) dX10_readsOrder_126 ?_
            refine k_join (fun (x13 : Int32) H locs ls => x13 = (if (t20 x10) = 0 then let r_17 := T_here x10 ; if r_17 = (64 : Int32) then (0 : Int32) else (1 : Int32) else (1 : Int32)) ∧ tW E h (x10) H ∧ va_S (eA E) s.heap H locs ∧ lv_has ls 3 [(2, .int (r_1)), (0, .ref (h)), (1, .int (x))]) (fun (x13 : Int32) ls => F0 m 146 ls [.int (x13), .ref (h)]) (fun x13 H locs ls hJ => ?_) (fun J13 => ?_)
            · obtain ⟨hX13, hm, hS, hl⟩ := hJ
              refine tp_20 hx hb hts hown hs hm hS (hts _ q1694) (by rw [hX13]; (try dsimp only); (repeat' split) <;> rfl) (by rw [hX13]; (try dsimp only); (repeat' split) <;> rfl) dX10_readsOrder_146 (fun H locs hm hS => ?_)
              have hm : tW E h (u20 x10 x13) H := hm
              refine lv_aload_n hx hb dX10_readsOrder_149 rfl (lv_at hl 1 rfl) ?_
              refine lv_dup hx hb dX10_readsOrder_150 rfl ?_
              refine tg_19 hx hb hts hown hs hm (hts _ q1693) dX10_readsOrder_151 ?_
              refine lv_aload_n hx hb dX10_readsOrder_154 rfl (lv_at hl 1 rfl) ?_
              refine tg_20 hx hb hts hown hs hm (hts _ q1694) dX10_readsOrder_155 ?_
              refine k_join (fun (x15 : Int32) H locs ls => x15 = (if x13 = 0 then (1 : Int32) else (0 : Int32)) ∧ tW E h ((u20 x10 x13)) H ∧ va_S (eA E) s.heap H locs ∧ lv_has ls 3 [(2, .int (r_1)), (0, .ref (h)), (1, .int (x))]) (fun (x15 : Int32) ls => F0 m 166 ls [.int (x15), .int ((t19 x10)), .ref (h)]) (fun x15 H locs ls hJ => ?_) (fun J15 => ?_)
              · obtain ⟨hX15, hm, hS, hl⟩ := hJ
                refine lv_iadd hx hb dX10_readsOrder_166 ?_
                refine tp_19 hx hb hts hown hs hm hS (hts _ q1693) dX10_readsOrder_167 (fun H locs hm hS => ?_)
                have hm : tW E h (u19 (u20 x10 x13) ((t19 x10) + x15)) H := hm
                have k5 : rdK (u19 (u20 x10 x13) ((t19 x10) + x15)) := ⟨k4.1, (adv k4.1 k4.2 (ro_2 hX13 hX15)).1⟩
                refine lv_aload_n hx hb dX10_readsOrder_170 rfl (lv_at hl 1 rfl) ?_
                refine tg_21 hx hb hts hown hs hm (hts _ q1695) dX10_readsOrder_171 ?_
                refine lv_iload_n hx hb dX10_readsOrder_174 rfl (lv_at hl 2 rfl) ?_
                refine lv_iconst (v := (2 : Int32)) hx hb dX10_readsOrder_175 (by decide) ?_
                refine lv_iadd hx hb dX10_readsOrder_176 ?_
                refine lv_aload_n hx hb dX10_readsOrder_177 rfl (lv_at hl 1 rfl) ?_
                refine k_calli (va_runV (As := []) (rest := [.int ((x + (2 : Int32))), .ref (h + 12)]) ⟨hx, hb, hml, hown, hts⟩ (tm_number l E h (u19 (u20 x10 x13) ((t19 x10) + x15))  k5) (cwV 0 hts (lw_V q2025 q2027 qs51 q80 q2028) rfl rfl rfl (by decide +kernel) ⟨Nat.le_of_ble_eq_true rfl, Nat.le_of_ble_eq_true rfl⟩) (k_preVt hs hm hS) rfl rfl hl.1 rfl (lv_room (Nat.le_of_ble_eq_true rfl)) dX10_readsOrder_178 ⟨Nat.le_of_ble_eq_true rfl, Nat.le_of_ble_eq_true rfl⟩) hS (fun r_16 u_16 H9 locs hw_16 hm_16 hS => ?_)
                obtain ⟨hr_16, hu_16⟩ := hw_16
                have hm := hm_16
                refine ts_21 hx hb hs hm hS (ix.addR 2 180 hx8 (by decide) (by decide)) dX10_readsOrder_181 (fun H locs hm hS => ?_)
                have hm : tW E h (u21 u_16 (upd (t21 u_16) ((x + (2 : Int32))).toNatClampNeg r_16)) H := hm
                subst hu_16
                subst hr_16
                subst hX15
                subst hX13
                subst hX10
                subst hX8
                subst hX6
                subst hX4
                subst hr_2
                subst hr_1
                exact W.vret hx hb hr (fun t9 ht9 _ => ⟨⟨_, rfl, ((if_pos c_11).trans (rfl)).symm, hb9 ht9 hm⟩, hS.F ht9⟩) hS.2.2 dX10_readsOrder_182
              · refine lv_if_eq (tgt := 165) hx hb dX10_readsOrder_158 (by decide) (fun c_14 => ?_) (fun c_14 => ?_)
                · refine lv_iconst (v := (1 : Int32)) hx hb dX10_readsOrder_165 (by decide) ?_
                  exact J15 ((1 : Int32)) _ _ _ ⟨((if_pos c_14).trans (rfl)).symm, hm, hS, lv_sub hl [0, 1, 2] rfl⟩
                · refine lv_iconst (v := (0 : Int32)) hx hb dX10_readsOrder_161 (by decide) ?_
                  refine lv_goto (tgt := 166) hx hb dX10_readsOrder_162 (by decide) ?_
                  exact J15 ((0 : Int32)) _ _ _ ⟨((if_neg c_14).trans (rfl)).symm, hm, hS, lv_sub hl [0, 1, 2] rfl⟩
            · refine lv_if_ne (tgt := 141) hx hb dX10_readsOrder_129 (by decide) (fun c_12 => ?_) (fun c_12 => ?_)
              · refine lv_iconst (v := (1 : Int32)) hx hb dX10_readsOrder_141 (by decide) ?_
                refine lv_goto (tgt := 146) hx hb dX10_readsOrder_142 (by decide) ?_
                exact J13 ((1 : Int32)) _ _ _ ⟨((if_neg c_12).trans (rfl)).symm, hm, hS, lv_sub hl [0, 1, 2] rfl⟩
              · refine lv_aload_n hx hb dX10_readsOrder_132 rfl (lv_at hl 1 rfl) ?_
                refine k_calli (va_runV (As := []) (rest := [.ref (h)]) ⟨hx, hb, hml, hown, hts⟩ (tm_here l E h x10  k4.1 k4.2) (cwV 0 hts (lw_V q2018 q2020 qs50 q80 q2021) rfl rfl rfl (by decide +kernel) ⟨Nat.le_of_ble_eq_true rfl, Nat.le_of_ble_eq_true rfl⟩) (k_preVt hs hm hS) rfl rfl hl.1 rfl (lv_room (Nat.le_of_ble_eq_true rfl)) dX10_readsOrder_133 ⟨Nat.le_of_ble_eq_true rfl, Nat.le_of_ble_eq_true rfl⟩) hS (fun r_17 u_17 H9 locs hw_17 hm_17 hS => ?_)
                obtain ⟨hr_17, hu_17⟩ := hw_17
                replace hu_17 := hu_17.symm
                subst hu_17
                have hm := hm_17
                refine lv_bipush (v := (64 : Int32)) hx hb dX10_readsOrder_136 (by decide) ?_
                refine lv_icmp_eq (tgt := 145) hx hb dX10_readsOrder_138 (by decide) (fun c_18 => ?_) (fun c_18 => ?_)
                · refine lv_iconst (v := (0 : Int32)) hx hb dX10_readsOrder_145 (by decide) ?_
                  subst hr_17
                  exact J13 (_) _ _ _ ⟨((if_pos c_12).trans ((if_pos c_18).trans (rfl))).symm, hm, hS, lv_sub hl [0, 1, 2] rfl⟩
                · refine lv_iconst (v := (1 : Int32)) hx hb dX10_readsOrder_141 (by decide) ?_
                  refine lv_goto (tgt := 146) hx hb dX10_readsOrder_142 (by decide) ?_
                  subst hr_17
                  exact J13 (_) _ _ _ ⟨((if_pos c_12).trans ((if_neg c_18).trans (rfl))).symm, hm, hS, lv_sub hl [0, 1, 2] rfl⟩
        · refine lv_icmp_ne (tgt := 118) hx hb dX10_readsOrder_103 (by decide) (fun c_9 => ?_) (fun c_9 => ?_)
          · exact J10 (x8) _ _ _ ⟨((if_neg c_9).trans (rfl)).symm, hm, hS, lv_sub hl [0, 1, 2] rfl⟩
          · refine lv_aload_n hx hb dX10_readsOrder_106 rfl (lv_at hl 1 rfl) ?_
            refine tg_21 hx hb hts hown hs hm (hts _ q1695) dX10_readsOrder_107 ?_
            refine lv_iload_n hx hb dX10_readsOrder_110 rfl (lv_at hl 2 rfl) ?_
            refine lv_iconst (v := (2 : Int32)) hx hb dX10_readsOrder_111 (by decide) ?_
            refine lv_iadd hx hb dX10_readsOrder_112 ?_
            refine lv_aload_n hx hb dX10_readsOrder_113 rfl (lv_at hl 1 rfl) ?_
            refine k_calli (va_runV (As := []) (rest := [.int ((x + (2 : Int32))), .ref (h + 12)]) ⟨hx, hb, hml, hown, hts⟩ (tm_signRead l E h x8  k3) (cwV 0 hts (lw_V q2033 q2035 qs53 q80 q2036) rfl rfl rfl (by decide +kernel) ⟨Nat.le_of_ble_eq_true rfl, Nat.le_of_ble_eq_true rfl⟩) (k_preVt hs hm hS) rfl rfl hl.1 rfl (lv_room (Nat.le_of_ble_eq_true rfl)) dX10_readsOrder_114 ⟨Nat.le_of_ble_eq_true rfl, Nat.le_of_ble_eq_true rfl⟩) hS (fun r_19 u_19 H9 locs hw_19 hm_19 hS => ?_)
            obtain ⟨hr_19, hu_19⟩ := hw_19
            have hm := hm_19
            refine ts_21 hx hb hs hm hS (ix.addR 2 180 hx8 (by decide) (by decide)) dX10_readsOrder_117 (fun H locs hm hS => ?_)
            have hm : tW E h (u21 u_19 (upd (t21 u_19) ((x + (2 : Int32))).toNatClampNeg r_19)) H := hm
            subst hu_19
            subst hr_19
            exact J10 (_) _ _ _ ⟨((if_pos c_9).trans (rfl)).symm, hm, hS, lv_sub hl [0, 1, 2] rfl⟩
      · refine lv_icmp_eq (tgt := 67) hx hb dX10_readsOrder_52 (by decide) (fun c_7 => ?_) (fun c_7 => ?_)
        · refine lv_aload_n hx hb dX10_readsOrder_67 rfl (lv_at hl 1 rfl) ?_
          refine tg_21 hx hb hts hown hs hm (hts _ q1695) dX10_readsOrder_68 ?_
          refine lv_iload_n hx hb dX10_readsOrder_71 rfl (lv_at hl 2 rfl) ?_
          refine lv_iconst (v := (1 : Int32)) hx hb dX10_readsOrder_72 (by decide) ?_
          refine lv_iadd hx hb dX10_readsOrder_73 ?_
          refine lv_aload_n hx hb dX10_readsOrder_74 rfl (lv_at hl 1 rfl) ?_
          refine k_calli (va_runV (As := []) (rest := [.int ((x + (1 : Int32))), .ref (h + 12)]) ⟨hx, hb, hml, hown, hts⟩ (tm_number l E h (u19 (u20 (u21 v (upd (t21 v) (x).toNatClampNeg r_1)) x4) ((t19 v) + x6))  k1) (cwV 0 hts (lw_V q2025 q2027 qs51 q80 q2028) rfl rfl rfl (by decide +kernel) ⟨Nat.le_of_ble_eq_true rfl, Nat.le_of_ble_eq_true rfl⟩) (k_preVt hs hm hS) rfl rfl hl.1 rfl (lv_room (Nat.le_of_ble_eq_true rfl)) dX10_readsOrder_75 ⟨Nat.le_of_ble_eq_true rfl, Nat.le_of_ble_eq_true rfl⟩) hS (fun r_20 u_20 H9 locs hw_20 hm_20 hS => ?_)
          obtain ⟨hr_20, hu_20⟩ := hw_20
          have hm := hm_20
          refine ts_21 hx hb hs hm hS (ix.addR 1 180 hx8 (by decide) (by decide)) dX10_readsOrder_78 (fun H locs hm hS => ?_)
          have hm : tW E h (u21 u_20 (upd (t21 u_20) ((x + (1 : Int32))).toNatClampNeg r_20)) H := hm
          refine lv_goto (tgt := 100) hx hb dX10_readsOrder_79 (by decide) ?_
          subst hu_20
          subst hr_20
          exact J8 (_) _ _ _ ⟨((if_pos c_7).trans (rfl)).symm, hm, hS, lv_sub hl [0, 1, 2] rfl⟩
        · refine lv_iload_n hx hb dX10_readsOrder_55 rfl (lv_at hl 0 rfl) ?_
          refine lv_bipush (v := (110 : Int32)) hx hb dX10_readsOrder_56 (by decide) ?_
          refine lv_icmp_eq (tgt := 67) hx hb dX10_readsOrder_58 (by decide) (fun c_21 => ?_) (fun c_21 => ?_)
          · refine lv_aload_n hx hb dX10_readsOrder_67 rfl (lv_at hl 1 rfl) ?_
            refine tg_21 hx hb hts hown hs hm (hts _ q1695) dX10_readsOrder_68 ?_
            refine lv_iload_n hx hb dX10_readsOrder_71 rfl (lv_at hl 2 rfl) ?_
            refine lv_iconst (v := (1 : Int32)) hx hb dX10_readsOrder_72 (by decide) ?_
            refine lv_iadd hx hb dX10_readsOrder_73 ?_
            refine lv_aload_n hx hb dX10_readsOrder_74 rfl (lv_at hl 1 rfl) ?_
            refine k_calli (va_runV (As := []) (rest := [.int ((x + (1 : Int32))), .ref (h + 12)]) ⟨hx, hb, hml, hown, hts⟩ (tm_number l E h (u19 (u20 (u21 v (upd (t21 v) (x).toNatClampNeg r_1)) x4) ((t19 v) + x6))  k1) (cwV 0 hts (lw_V q2025 q2027 qs51 q80 q2028) rfl rfl rfl (by decide +kernel) ⟨Nat.le_of_ble_eq_true rfl, Nat.le_of_ble_eq_true rfl⟩) (k_preVt hs hm hS) rfl rfl hl.1 rfl (lv_room (Nat.le_of_ble_eq_true rfl)) dX10_readsOrder_75 ⟨Nat.le_of_ble_eq_true rfl, Nat.le_of_ble_eq_true rfl⟩) hS (fun r_22 u_22 H9 locs hw_22 hm_22 hS => ?_)
            obtain ⟨hr_22, hu_22⟩ := hw_22
            have hm := hm_22
            refine ts_21 hx hb hs hm hS (ix.addR 1 180 hx8 (by decide) (by decide)) dX10_readsOrder_78 (fun H locs hm hS => ?_)
            have hm : tW E h (u21 u_22 (upd (t21 u_22) ((x + (1 : Int32))).toNatClampNeg r_22)) H := hm
            refine lv_goto (tgt := 100) hx hb dX10_readsOrder_79 (by decide) ?_
            subst hu_22
            subst hr_22
            exact J8 (_) _ _ _ ⟨((if_neg c_7).trans ((if_pos c_21).trans (rfl))).symm, hm, hS, lv_sub hl [0, 1, 2] rfl⟩
          · refine lv_iload_n hx hb dX10_readsOrder_61 rfl (lv_at hl 0 rfl) ?_
            refine lv_bipush (v := (112 : Int32)) hx hb dX10_readsOrder_62 (by decide) ?_
            refine lv_icmp_ne (tgt := 82) hx hb dX10_readsOrder_64 (by decide) (fun c_23 => ?_) (fun c_23 => ?_)
            · refine lv_iload_n hx hb dX10_readsOrder_82 rfl (lv_at hl 0 rfl) ?_
              refine lv_bipush (v := (99 : Int32)) hx hb dX10_readsOrder_83 (by decide) ?_
              refine lv_icmp_eq (tgt := 100) hx hb dX10_readsOrder_85 (by decide) (fun c_24 => ?_) (fun c_24 => ?_)
              · exact J8 ((u19 (u20 (u21 v (upd (t21 v) (x).toNatClampNeg r_1)) x4) ((t19 v) + x6))) _ _ _ ⟨((if_neg c_7).trans ((if_neg c_21).trans ((if_neg c_23).trans ((if_pos c_24).trans (rfl))))).symm, hm, hS, lv_sub hl [0, 1, 2] rfl⟩
              · refine lv_aload_n hx hb dX10_readsOrder_88 rfl (lv_at hl 1 rfl) ?_
                refine tg_21 hx hb hts hown hs hm (hts _ q1695) dX10_readsOrder_89 ?_
                refine lv_iload_n hx hb dX10_readsOrder_92 rfl (lv_at hl 2 rfl) ?_
                refine lv_iconst (v := (1 : Int32)) hx hb dX10_readsOrder_93 (by decide) ?_
                refine lv_iadd hx hb dX10_readsOrder_94 ?_
                refine lv_aload_n hx hb dX10_readsOrder_95 rfl (lv_at hl 1 rfl) ?_
                refine k_calli (va_runV (As := []) (rest := [.int ((x + (1 : Int32))), .ref (h + 12)]) ⟨hx, hb, hml, hown, hts⟩ (tm_digit l E h (u19 (u20 (u21 v (upd (t21 v) (x).toNatClampNeg r_1)) x4) ((t19 v) + x6))  k1.1 k1.2) (cwV 0 hts (lw_V q2029 q2031 qs52 q80 q2032) rfl rfl rfl (by decide +kernel) ⟨Nat.le_of_ble_eq_true rfl, Nat.le_of_ble_eq_true rfl⟩) (k_preVt hs hm hS) rfl rfl hl.1 rfl (lv_room (Nat.le_of_ble_eq_true rfl)) dX10_readsOrder_96 ⟨Nat.le_of_ble_eq_true rfl, Nat.le_of_ble_eq_true rfl⟩) hS (fun r_25 u_25 H9 locs hw_25 hm_25 hS => ?_)
                obtain ⟨hr_25, hu_25⟩ := hw_25
                have hm := hm_25
                refine ts_21 hx hb hs hm hS (ix.addR 1 180 hx8 (by decide) (by decide)) dX10_readsOrder_99 (fun H locs hm hS => ?_)
                have hm : tW E h (u21 u_25 (upd (t21 u_25) ((x + (1 : Int32))).toNatClampNeg r_25)) H := hm
                subst hu_25
                subst hr_25
                exact J8 (_) _ _ _ ⟨((if_neg c_7).trans ((if_neg c_21).trans ((if_neg c_23).trans ((if_neg c_24).trans (rfl))))).symm, hm, hS, lv_sub hl [0, 1, 2] rfl⟩
            · refine lv_aload_n hx hb dX10_readsOrder_67 rfl (lv_at hl 1 rfl) ?_
              refine tg_21 hx hb hts hown hs hm (hts _ q1695) dX10_readsOrder_68 ?_
              refine lv_iload_n hx hb dX10_readsOrder_71 rfl (lv_at hl 2 rfl) ?_
              refine lv_iconst (v := (1 : Int32)) hx hb dX10_readsOrder_72 (by decide) ?_
              refine lv_iadd hx hb dX10_readsOrder_73 ?_
              refine lv_aload_n hx hb dX10_readsOrder_74 rfl (lv_at hl 1 rfl) ?_
              refine k_calli (va_runV (As := []) (rest := [.int ((x + (1 : Int32))), .ref (h + 12)]) ⟨hx, hb, hml, hown, hts⟩ (tm_number l E h (u19 (u20 (u21 v (upd (t21 v) (x).toNatClampNeg r_1)) x4) ((t19 v) + x6))  k1) (cwV 0 hts (lw_V q2025 q2027 qs51 q80 q2028) rfl rfl rfl (by decide +kernel) ⟨Nat.le_of_ble_eq_true rfl, Nat.le_of_ble_eq_true rfl⟩) (k_preVt hs hm hS) rfl rfl hl.1 rfl (lv_room (Nat.le_of_ble_eq_true rfl)) dX10_readsOrder_75 ⟨Nat.le_of_ble_eq_true rfl, Nat.le_of_ble_eq_true rfl⟩) hS (fun r_26 u_26 H9 locs hw_26 hm_26 hS => ?_)
              obtain ⟨hr_26, hu_26⟩ := hw_26
              have hm := hm_26
              refine ts_21 hx hb hs hm hS (ix.addR 1 180 hx8 (by decide) (by decide)) dX10_readsOrder_78 (fun H locs hm hS => ?_)
              have hm : tW E h (u21 u_26 (upd (t21 u_26) ((x + (1 : Int32))).toNatClampNeg r_26)) H := hm
              refine lv_goto (tgt := 100) hx hb dX10_readsOrder_79 (by decide) ?_
              subst hu_26
              subst hr_26
              exact J8 (_) _ _ _ ⟨((if_neg c_7).trans ((if_neg c_21).trans ((if_pos c_23).trans (rfl)))).symm, hm, hS, lv_sub hl [0, 1, 2] rfl⟩
    · refine lv_if_eq (tgt := 44) hx hb dX10_readsOrder_37 (by decide) (fun c_5 => ?_) (fun c_5 => ?_)
      · refine lv_iconst (v := (1 : Int32)) hx hb dX10_readsOrder_44 (by decide) ?_
        exact J6 ((1 : Int32)) _ _ _ ⟨((if_pos c_5).trans (rfl)).symm, hm, hS, lv_sub hl [0, 1, 2] rfl⟩
      · refine lv_iconst (v := (0 : Int32)) hx hb dX10_readsOrder_40 (by decide) ?_
        refine lv_goto (tgt := 45) hx hb dX10_readsOrder_41 (by decide) ?_
        exact J6 ((0 : Int32)) _ _ _ ⟨((if_neg c_5).trans (rfl)).symm, hm, hS, lv_sub hl [0, 1, 2] rfl⟩
  · refine lv_if_ne (tgt := 24) hx hb dX10_readsOrder_17 (by decide) (fun c_3 => ?_) (fun c_3 => ?_)
    · refine lv_iconst (v := (0 : Int32)) hx hb dX10_readsOrder_24 (by decide) ?_
      exact J4 ((0 : Int32)) _ _ _ ⟨((if_neg c_3).trans (rfl)).symm, hm, hS, lv_sub hl [0, 1, 2] rfl⟩
    · refine lv_iconst (v := (1 : Int32)) hx hb dX10_readsOrder_20 (by decide) ?_
      refine lv_goto (tgt := 25) hx hb dX10_readsOrder_21 (by decide) ?_
      exact J4 ((1 : Int32)) _ _ _ ⟨((if_pos c_3).trans (rfl)).symm, hm, hS, lv_sub hl [0, 1, 2] rfl⟩
theorem rd_end (r : Int32) (S : tw) (x : Int32) : rdR S (rdEnd r S x) := by
  unfold rdEnd
  split
  · obtain ⟨x13, x15, hx, hy, e⟩ : ∃ (x13 x15 : Int32), (x13 = if t20 S = 0 then (if T_here S = (64 : Int32) then (0 : Int32) else (1 : Int32)) else (1 : Int32)) ∧ (x15 = if x13 = 0 then (1 : Int32) else (0 : Int32)) ∧ rdEnd r S x = (u21 (T_number (u19 (u20 S x13) ((t19 S) + x15))).2 (upd (t21 (T_number (u19 (u20 S x13) ((t19 S) + x15))).2) ((x + (2 : Int32))).toNatClampNeg (T_number (u19 (u20 S x13) ((t19 S) + x15))).1)) := by
      unfold rdEnd
      exact ⟨_, _, rfl, rfl, if_pos (by assumption)⟩
    have h1 : rdR S (u19 (u20 (u21 S (t21 S)) x13) (t19 S + x15)) := (rd_step (v := S) (x := x13) (y := x15) (fun h => by
      by_cases h1 : t20 S = 0
      · refine ⟨h1, here_lt (fun e => ?_)⟩
        rw [if_pos h1, e] at hx
        rw [h] at hx
        exact absurd hx (by decide)
      · rw [if_neg h1, h] at hx
        exact absurd hx (by decide)) hy (t21 S)).1
    have h2 := h1.tr (rd_number (u19 (u20 S x13) ((t19 S) + x15)))
    rename_i hc
    have e2 := e
    unfold rdEnd at e2
    rw [if_pos hc] at e2
    rw [e2]
    exact rdR.u21 h2
  · exact rdR.rf _
theorem rd_step2 {v : tw} {x y : Int32} (hx : x = 0 → ¬ t13 v ≤ t19 v) (hy : y = if x = 0 then 1 else 0) (a : Nat → Int32) : (rdK v → rdK (u19 (u20 (u21 v a) x) (t19 v + y)) ∧ (t19 v).toNatClampNeg ≤ (t19 v + y).toNatClampNeg) ∧ (rdK v → x = 0 → (t19 v).toNatClampNeg + 1 ≤ (t19 v + y).toNatClampNeg) := by
  refine ⟨fun hk => ?_, fun hk h => ?_⟩
  · have ha := adv (x := y) hk.1 hk.2 (ro_3 hx hy)
    exact ⟨⟨hk.1, ha.1⟩, ha.2⟩
  · rw [if_pos h] at hy
    have hc := hx h
    obtain ⟨⟨j, h1, e1⟩, ⟨k, h2, e2⟩⟩ := hk
    rw [e1, e2] at hc
    rw [hy, e2, show nI k + (1 : Int32) = nI (k + 1) from nI_add k 1, cl_nI (by omega), cl_nI (by omega)]
    omega
theorem rd_order (v : tw) (x : Int32) : (rdK v → rdK (T_readsOrder v x) ∧ (t19 v).toNatClampNeg ≤ (t19 (T_readsOrder v x)).toNatClampNeg) ∧ (rdK v → t20 (T_readsOrder v x) = 0 → (t19 v).toNatClampNeg + 1 ≤ (t19 (T_readsOrder v x)).toNatClampNeg) := by
  obtain ⟨x4, x6, h4, h6, e⟩ := order_eq v x
  have hr : ∀ S, rdR S (rdEnd (T_here v) (rd10 (T_here v) (rd8 (T_here v) S x) x) x) := fun S => ((rd_8 _ S x).tr (rd_10 _ _ x)).tr (rd_end _ _ x)
  have hs := rd_step2 (v := v) (x := x4) (y := x6) (ro_1 rfl h4) h6 (upd (t21 v) x.toNatClampNeg (T_here v))
  rw [e]
  generalize hS : u19 (u20 (u21 v (upd (t21 v) x.toNatClampNeg (T_here v))) x4) (t19 v + x6) = S at hs ⊢
  have hp : t19 v + x6 = t19 S := by rw [← hS]; rfl
  have hq : t20 S = x4 := by rw [← hS]; rfl
  rw [hp] at hs
  have hR := hr S
  refine ⟨fun hk => ?_, fun hk hz => ?_⟩
  · have h1 := hs.1 hk
    have h2 := hR.1 h1.1
    exact ⟨h2.1, Nat.le_trans h1.2 h2.2⟩
  · have h1 := hs.2 hk (hq ▸ hR.2 hz)
    exact Nat.le_trans h1 (hR.1 (hs.1 hk).1).2
