set_option maxRecDepth 100000
/-! the reference, method by method: what it computes (T_..), and that it does (tm_..) -/
def sumF (g : Nat → Int32) (a : Nat) : Nat → Int32
  | 0 => 0
  | k + 1 => sumF g a k + g (a + k)
theorem sum_cl {x : Int32} {a k : Nat} (hx : x = nI a) (h : a + k < 2 ^ 31) : (x + nI k).toNatClampNeg = x.toNatClampNeg + k := by
  subst hx
  rw [cl_add a h, cl_nI (by omega)]
theorem sum_in {x : Int32} {a k B : Nat} {y : Int32} (hx : x = nI a) (hy : ix B y) (hB : B ≤ 113) (hk : k < y.toNatClampNeg) (h : a + B ≤ 113) : vp_in (x + nI k) 112 := by
  subst hx
  have := (hy.nat (by omega)).1
  rw [nI_add]
  exact vp_in_nI (by omega) (by omega)
def T_sum (v : tw) (x y : Int32) : Int32 := sumF (t0 v) x.toNatClampNeg y.toNatClampNeg
set_option maxHeartbeats 4000000 in
theorem tm_sum (l : Launch) (E : mE) (h : Nat) (v : tw) (x : Int32) (y : Int32) (a B : Nat) (hxa : x = nI a) (hy : ix B y) (hab : a + B ≤ 113) : Met l yX10_sum (ws_ yX10_sum cX10_sum 5 (some .int)) ({ frames := 0, cells := 0, slots := 0, locals := 0 }) (va_Pc [.ref h, .int x, .int y] (tP E h v)) (va_Qi (fun (r : Int32) (u : tw) => r = T_sum v x y ∧ u = v) (fun u U => tW E h u U.heap) (eA E)) 0 0 (eA E) := by
  refine Met.ofW (cc := cX10_sum) (maxL := 5) (ret := (some .int)) (by decide) rfl ?_
  intro p e s m args below meth c s₁ B hml hv
  obtain ⟨rfl, hs, hm⟩ := hv
  have hx := B.exec
  have hb := B.bytes
  have hr := B.returns
  have hts := atoms_spec (ws := ws_ yX10_sum cX10_sum 5 (some .int)) B.pre
  have hts : ∀ w ∈ lw_all, w.before _ s = true := fun w h => hts w (List.mem_cons_of_mem _ h)
  have hown : s.vm.findClass RX10 = some m.cls := findClass_of_methodNamed B.named
  have hlocks := B.notSynchronized
  have hS : va_S (eA E) s.heap s.heap [] := va_S.rf
  have hl := lv_entry ([.ref h, .int x, .int y]) (n := 5) (Nat.le_of_ble_eq_true rfl)
  rw [lg_entry_eq]
  generalize (lg_sl ([.ref h, .int x, .int y]) ++ List.replicate (5 - (lg_sl ([.ref h, .int x, .int y])).length) Slot.unset).toArray = ls at hl ⊢
  have hl : lv_has ls 5 [(0, .ref (h)), (1, .int (x)), (2, .int (y))] := hl
  refine lv_iconst (v := (0 : Int32)) hx hb dX10_sum_0 (by decide) ?_
  refine lv_istore_n (lv' := [(3, _), (0, _), (1, _), (2, _)]) hx hb dX10_sum_1 rfl hl (by decide) rfl (fun ls hl => ?_)
  refine lv_iconst (v := (0 : Int32)) hx hb dX10_sum_2 (by decide) ?_
  refine lv_istore (lv' := [(4, _), (3, _), (0, _), (1, _), (2, _)]) hx hb dX10_sum_3 hl (by decide) rfl (fun ls hl => ?_)
  refine k_loop (fun k => y.toNatClampNeg - k) (fun (k : Nat) H locs ls => (k ≤ y.toNatClampNeg) ∧ tW E h (v) H ∧ va_S (eA E) s.heap H locs ∧ lv_has ls 5 [(4, .int (nI k)), (3, .int ((sumF (t0 v) x.toNatClampNeg k))), (0, .ref (h)), (1, .int (x)), (2, .int (y))]) (fun (k : Nat) ls => F0 m 5 ls []) (fun k => (0, 0)) (fun k ih_1 H locs ls hP => ?_) (0) ⟨(Nat.zero_le _), hm, hS, lv_sub hl [0, 1, 2, 3, 4] rfl⟩
  obtain ⟨hI_1, hm, hS, hl⟩ := hP
  refine lv_iload hx hb dX10_sum_5 (lv_at hl 0 rfl) ?_
  refine lv_iload_n hx hb dX10_sum_7 rfl (lv_at hl 4 rfl) ?_
  refine lv_icmp_ge (tgt := 29) hx hb dX10_sum_8 (by decide) (fun c_2 => ?_) (fun c_2 => ?_)
  · have hkN : k = y.toNatClampNeg := lp_geI hy (by omega) hI_1 c_2
    replace hkN := hkN.symm
    subst hkN
    refine lv_iload_n hx hb dX10_sum_29 rfl (lv_at hl 1 rfl) ?_
    exact W.iret (v := _) hx hb hr (fun t9 ht9 _ => ⟨⟨_, _, rfl, ⟨(rfl).symm, rfl⟩, hb9 ht9 hm⟩, hS.F ht9⟩) hS.2.2 dX10_sum_30
  · have hk : k < y.toNatClampNeg := lp_ltI hy (by omega) hI_1 c_2
    refine lv_iload_n hx hb dX10_sum_11 rfl (lv_at hl 1 rfl) ?_
    refine lv_aload_n hx hb dX10_sum_12 rfl (lv_at hl 2 rfl) ?_
    refine tg_0 hx hb hts hown hs hm (hts _ q1674) dX10_sum_13 ?_
    refine lv_iload_n hx hb dX10_sum_16 rfl (lv_at hl 3 rfl) ?_
    refine lv_iload hx hb dX10_sum_17 (lv_at hl 0 rfl) ?_
    refine lv_iadd hx hb dX10_sum_19 ?_
    refine tl_0 hx hb hs hm (sum_in hxa hy (by omega) hk hab) dX10_sum_20 ?_
    refine lv_iadd hx hb dX10_sum_21 ?_
    refine lv_istore_n (lv' := [(3, _), (4, _), (0, _), (1, _), (2, _)]) hx hb dX10_sum_22 rfl hl (by decide) rfl (fun ls hl => ?_)
    refine lv_iinc (v := nI (k + 1)) (lv' := [(4, _), (3, _), (0, _), (1, _), (2, _)]) hx hb dX10_sum_23 hl (k := 1) rfl (nI_succ k).symm (by decide) rfl (fun ls hl => ?_)
    refine lv_goto (tgt := 5) hx hb dX10_sum_26 (by decide) ?_
    exact ih_1 (k + 1) (by omega) _ _ _ ⟨(by omega), hm, hS, (by rw [show sumF (t0 v) x.toNatClampNeg (k + 1) = (sumF (t0 v) x.toNatClampNeg k + t0 v (x + nI k).toNatClampNeg) from by rw [sum_cl hxa (by have := (hy.nat (by omega)).1; omega)]; rfl]; exact lv_sub hl [0, 1, 2, 3, 4] rfl)⟩
theorem upd_off {g : Nat → Int32} {i j : Nat} {x : Int32} (h : ¬ j = i) : upd g i x j = g j := if_neg h
theorem upd_ix {B n : Nat} {g : Nat → Int32} {x z : Int32} {K j : Nat} (hx : ix B x) (h : ix n (g j)) (hB : K + B ≤ 2 ^ 30) (hj : j < K ∨ K + B ≤ j) : ix n (upd g (nI K + x).toNatClampNeg z j) := by
  obtain ⟨k, h1, h2, -⟩ := hx.cl K hB
  rw [h2, upd_off (by omega)]
  exact h
def T_votes (v : tw) (x : Int32) (y : Int32) : Int32 × tw :=
  let r_1 := T_isMember v (x);
  if r_1 = 0 then
    ((0 : Int32), (T_fails v (1 : Int32)).2)
  else
    let x4 := if y = 0 then (-1 : Int32) else (1 : Int32);
    let r_5 := T_sum (u0 v (upd (t0 v) (((58 : Int32) + x)).toNatClampNeg x4)) ((58 : Int32)) (((upd (t0 v) (((58 : Int32) + x)).toNatClampNeg x4) ((51 : Int32)).toNatClampNeg));
    (r_5, (u18 (u0 v (upd (t0 v) (((58 : Int32) + x)).toNatClampNeg x4)) (0 : Int32)))
set_option maxHeartbeats 4000000 in
theorem tm_votes (l : Launch) (E : mE) (h : Nat) (v : tw) (x : Int32) (y : Int32) (hw : wf (t0 v) (t1 v)) : Met l yX10_votes (ws_ yX10_votes cX10_votes 3 (some .int)) ({ frames := 2, cells := 0, slots := 0, locals := 43 }) (va_Pc [.ref h, .int x, .int y] (tP E h v)) (va_Qi (fun (r : Int32) (u : tw) => r = (T_votes v x y).1 ∧ u = (T_votes v x y).2) (fun u U => tW E h u U.heap) (eA E)) 0 0 (eA E) := by
  refine Met.ofW (cc := cX10_votes) (maxL := 3) (ret := (some .int)) (by decide) rfl ?_
  intro p e s m args below meth c s₁ B hml hv
  obtain ⟨rfl, hs, hm⟩ := hv
  have hx := B.exec
  have hb := B.bytes
  have hr := B.returns
  have hts := atoms_spec (ws := ws_ yX10_votes cX10_votes 3 (some .int)) B.pre
  have hts : ∀ w ∈ lw_all, w.before _ s = true := fun w h => hts w (List.mem_cons_of_mem _ h)
  have hown : s.vm.findClass RX10 = some m.cls := findClass_of_methodNamed B.named
  have hlocks := B.notSynchronized
  have hS : va_S (eA E) s.heap s.heap [] := va_S.rf
  have hl := lv_entry ([.ref h, .int x, .int y]) (n := 3) (Nat.le_of_ble_eq_true rfl)
  rw [lg_entry_eq]
  generalize (lg_sl ([.ref h, .int x, .int y]) ++ List.replicate (3 - (lg_sl ([.ref h, .int x, .int y])).length) Slot.unset).toArray = ls at hl ⊢
  have hl : lv_has ls 3 [(0, .ref (h)), (1, .int (x)), (2, .int (y))] := hl
  refine lv_aload_n hx hb dX10_votes_0 rfl (lv_at hl 0 rfl) ?_
  refine lv_iload_n hx hb dX10_votes_1 rfl (lv_at hl 1 rfl) ?_
  refine k_calli (va_runV (As := [.int (x)]) (rest := []) ⟨hx, hb, hml, hown, hts⟩ (tm_isMember l E h v (x) ) (cwV 1 hts (lw_V q1802 q1804 qs29 q80 q1805) rfl rfl rfl (by decide +kernel) ⟨Nat.le_of_ble_eq_true rfl, Nat.le_of_ble_eq_true rfl⟩) (k_preVt hs hm hS) rfl rfl hl.1 rfl (lv_room (Nat.le_of_ble_eq_true rfl)) dX10_votes_2 ⟨Nat.le_of_ble_eq_true rfl, Nat.le_of_ble_eq_true rfl⟩) hS (fun r_1 u_1 H9 locs hw_1 hm_1 hS => ?_)
  obtain ⟨hr_1, hu_1⟩ := hw_1
  replace hu_1 := hu_1.symm
  subst hu_1
  have hm := hm_1
  refine lv_if_ne (tgt := 14) hx hb dX10_votes_5 (by decide) (fun c_2 => ?_) (fun c_2 => ?_)
  · have hx6 := mem_ix hr_1 c_2 hw
    refine lv_aload_n hx hb dX10_votes_14 rfl (lv_at hl 0 rfl) ?_
    refine tg_0 hx hb hts hown hs hm (hts _ q1674) dX10_votes_15 ?_
    refine lv_bipush (v := (58 : Int32)) hx hb dX10_votes_18 (by decide) ?_
    refine lv_iload_n hx hb dX10_votes_20 rfl (lv_at hl 1 rfl) ?_
    refine lv_iadd hx hb dX10_votes_21 ?_
    refine lv_iload_n hx hb dX10_votes_22 rfl (lv_at hl 2 rfl) ?_
    refine k_join (fun (x4 : Int32) H locs ls => x4 = (if y = 0 then (-1 : Int32) else (1 : Int32)) ∧ tW E h (v) H ∧ va_S (eA E) s.heap H locs ∧ lv_has ls 3 [(0, .ref (h)), (1, .int (x)), (2, .int (y))]) (fun (x4 : Int32) ls => F0 m 31 ls [.int (x4), .int (((58 : Int32) + x)), .ref (h + 1)]) (fun x4 H locs ls hJ => ?_) (fun J4 => ?_)
    · obtain ⟨hX4, hm, hS, hl⟩ := hJ
      refine ts_0 hx hb hs hm hS (ix.add 58 112 (hx6) (by decide) (by decide)) dX10_votes_31 (fun H locs hm hS => ?_)
      have hm : tW E h (u0 v (upd (t0 v) (((58 : Int32) + x)).toNatClampNeg x4)) H := hm
      refine lv_aload_n hx hb dX10_votes_32 rfl (lv_at hl 0 rfl) ?_
      refine lv_aload_n hx hb dX10_votes_33 rfl (lv_at hl 0 rfl) ?_
      refine lv_bipush (v := (58 : Int32)) hx hb dX10_votes_34 (by decide) ?_
      refine lv_aload_n hx hb dX10_votes_36 rfl (lv_at hl 0 rfl) ?_
      refine tg_0 hx hb hts hown hs hm (hts _ q1674) dX10_votes_37 ?_
      refine lv_bipush (v := (51 : Int32)) hx hb dX10_votes_40 (by decide) ?_
      refine tl_0 hx hb hs hm (vi 51 (by decide) (by decide)) dX10_votes_42 ?_
      refine k_calli (va_runV (As := [.int ((58 : Int32)), .int (((upd (t0 v) (((58 : Int32) + x)).toNatClampNeg x4) ((51 : Int32)).toNatClampNeg))]) (rest := [.ref (h)]) ⟨hx, hb, hml, hown, hts⟩ (tm_sum l E h (u0 v (upd (t0 v) (((58 : Int32) + x)).toNatClampNeg x4)) ((58 : Int32)) (((upd (t0 v) (((58 : Int32) + x)).toNatClampNeg x4) ((51 : Int32)).toNatClampNeg)) 58 7 rfl (upd_ix (j := 51) hx6 hw.mem (by decide) (by decide)) (by decide)) (cwV 2 hts (lw_V q1978 q1980 qs45 q80 q1981) rfl rfl rfl (by decide +kernel) ⟨Nat.le_of_ble_eq_true rfl, Nat.le_of_ble_eq_true rfl⟩) (k_preVt hs hm hS) rfl rfl hl.1 rfl (lv_room (Nat.le_of_ble_eq_true rfl)) dX10_votes_43 ⟨Nat.le_of_ble_eq_true rfl, Nat.le_of_ble_eq_true rfl⟩) hS (fun r_5 u_5 H9 locs hw_5 hm_5 hS => ?_)
      obtain ⟨hr_5, hu_5⟩ := hw_5
      replace hu_5 := hu_5.symm
      subst hu_5
      have hm := hm_5
      refine k_calli (va_runV (As := [.int (r_5)]) (rest := []) ⟨hx, hb, hml, hown, hts⟩ (tm_done l E h (u0 v (upd (t0 v) (((58 : Int32) + x)).toNatClampNeg x4)) (r_5) ) (cwV 1 hts (lw_V q1770 q1772 qs24 q80 q1773) rfl rfl rfl (by decide +kernel) ⟨Nat.le_of_ble_eq_true rfl, Nat.le_of_ble_eq_true rfl⟩) (k_preVt hs hm hS) rfl rfl hl.1 rfl (lv_room (Nat.le_of_ble_eq_true rfl)) dX10_votes_46 ⟨Nat.le_of_ble_eq_true rfl, Nat.le_of_ble_eq_true rfl⟩) hS (fun r_6 u_6 H9 locs hw_6 hm_6 hS => ?_)
      replace hw_6 : r_6 = r_5 ∧ u_6 = (u18 (u0 v (upd (t0 v) (((58 : Int32) + x)).toNatClampNeg x4)) (0 : Int32)) := hw_6
      obtain ⟨hr_6, hw_6⟩ := hw_6
      replace hr_6 := hr_6.symm
      subst hr_6
      replace hw_6 := hw_6.symm
      subst hw_6
      have hm := hm_6
      subst hr_5
      subst hX4
      subst hr_1
      exact W.iret (v := _) hx hb hr (fun t9 ht9 _ => ⟨⟨_, _, rfl, pp ((if_neg c_2).trans (rfl)), hb9 ht9 hm⟩, hS.F ht9⟩) hS.2.2 dX10_votes_49
    · refine lv_if_eq (tgt := 30) hx hb dX10_votes_23 (by decide) (fun c_3 => ?_) (fun c_3 => ?_)
      · refine lv_iconst (v := (-1 : Int32)) hx hb dX10_votes_30 (by decide) ?_
        exact J4 ((-1 : Int32)) _ _ _ ⟨((if_pos c_3).trans (rfl)).symm, hm, hS, lv_sub hl [0, 1, 2] rfl⟩
      · refine lv_iconst (v := (1 : Int32)) hx hb dX10_votes_26 (by decide) ?_
        refine lv_goto (tgt := 31) hx hb dX10_votes_27 (by decide) ?_
        exact J4 ((1 : Int32)) _ _ _ ⟨((if_neg c_3).trans (rfl)).symm, hm, hS, lv_sub hl [0, 1, 2] rfl⟩
  · refine lv_aload_n hx hb dX10_votes_8 rfl (lv_at hl 0 rfl) ?_
    refine lv_iconst (v := (1 : Int32)) hx hb dX10_votes_9 (by decide) ?_
    refine k_calli (va_runV (As := [.int ((1 : Int32))]) (rest := []) ⟨hx, hb, hml, hown, hts⟩ (tm_fails l E h v ((1 : Int32)) ) (cwV 1 hts (lw_V q1766 q1768 qs23 q80 q1769) rfl rfl rfl (by decide +kernel) ⟨Nat.le_of_ble_eq_true rfl, Nat.le_of_ble_eq_true rfl⟩) (k_preVt hs hm hS) rfl rfl hl.1 rfl (lv_room (Nat.le_of_ble_eq_true rfl)) dX10_votes_10 ⟨Nat.le_of_ble_eq_true rfl, Nat.le_of_ble_eq_true rfl⟩) hS (fun r_7 u_7 H9 locs hw_7 hm_7 hS => ?_)
    replace hw_7 : r_7 = (0 : Int32) ∧ u_7 = (T_fails v (1 : Int32)).2 := hw_7
    obtain ⟨hr_7, hw_7⟩ := hw_7
    replace hr_7 := hr_7.symm
    subst hr_7
    replace hw_7 := hw_7.symm
    subst hw_7
    have hm := hm_7
    subst hr_1
    exact W.iret (v := _) hx hb hr (fun t9 ht9 _ => ⟨⟨_, _, rfl, pp ((if_pos c_2).trans (rfl)), hb9 ht9 hm⟩, hS.F ht9⟩) hS.2.2 dX10_votes_13
def lessOf (g : Nat → Int32) (k : Nat) : Int32 := if g (((15 : Int32) + nI k)).toNatClampNeg = (-1 : Int32) then (0 : Int32) else if (2 : Int32) ≤ g (((3 : Int32) + nI k)).toNatClampNeg then (2 : Int32) else g (((3 : Int32) + nI k)).toNatClampNeg
def trapG (g : Nat → Int32) (t : Int32) : Nat → Nat → Int32
  | 0 => g
  | k + 1 => if t = 0 then trapG g t k else upd (trapG g t k) (((3 : Int32) + nI k)).toNatClampNeg (trapG g t k (((3 : Int32) + nI k)).toNatClampNeg - lessOf (trapG g t k) k)
def trapN (g : Nat → Int32) (t : Int32) : Nat → Int32
  | 0 => 0
  | k + 1 => if t = 0 then trapN g t k else trapN g t k + lessOf (trapG g t k) k
theorem trap_0 {g : Nat → Int32} {t : Int32} (h : t = 0) : ∀ k, trapG g t k = g ∧ trapN g t k = 0
  | 0 => ⟨rfl, rfl⟩
  | k + 1 => by
    unfold trapG trapN
    rw [if_pos h, if_pos h]
    exact trap_0 h k
theorem trap_e {g : Nat → Int32} {t : Int32} {k : Nat} (hk : k ≤ 12) (h : (12 : Int32) ≤ nI k ∨ t = 0) : trapG g t 12 = trapG g t k ∧ trapN g t 12 = trapN g t k := by
  rcases h with h | h
  · obtain rfl : k = 12 := lp_ge (by decide) hk h
    exact ⟨rfl, rfl⟩
  · obtain ⟨a, b⟩ := trap_0 (g := g) h 12
    obtain ⟨c, d⟩ := trap_0 (g := g) h k
    rw [a, b, c, d]
    exact ⟨rfl, rfl⟩
theorem trap_off {g : Nat → Int32} {t : Int32} {j : Nat} (hj : j < 3 ∨ 15 ≤ j) : ∀ k, k ≤ 12 → trapG g t k j = g j
  | 0, _ => rfl
  | k + 1, hk => by
    unfold trapG
    split
    · exact trap_off hj k (by omega)
    · rw [show ((3 : Int32) + nI k).toNatClampNeg = 3 + k from cl_add 3 (by omega), upd_off (by omega)]
      exact trap_off hj k (by omega)
def zeroV (g : Nat → Int32) (k : Nat) : Nat → Int32 := fun j => if 58 ≤ j ∧ j < 58 + k then 0 else g j
theorem zero_0 (g : Nat → Int32) : zeroV g 0 = g := by funext j; unfold zeroV; rw [if_neg (by omega)]
theorem zero_51 (g : Nat → Int32) (k : Nat) : zeroV g k ((51 : Int32)).toNatClampNeg = g ((51 : Int32)).toNatClampNeg := if_neg (fun z => absurd z.1 (by decide))
theorem zero_le {v : tw} {g : Nat → Int32} {k : Nat} {x : Int32} (c : t0 (u0 v (zeroV g k)) ((51 : Int32)).toNatClampNeg ≤ x) : g ((51 : Int32)).toNatClampNeg ≤ x := by
  rw [show t0 (u0 v (zeroV g k)) ((51 : Int32)).toNatClampNeg = _ from zero_51 g k] at c
  exact c
theorem zero_nle {v : tw} {g : Nat → Int32} {k : Nat} {x : Int32} (c : ¬ t0 (u0 v (zeroV g k)) ((51 : Int32)).toNatClampNeg ≤ x) : ¬ g ((51 : Int32)).toNatClampNeg ≤ x := by
  rw [show t0 (u0 v (zeroV g k)) ((51 : Int32)).toNatClampNeg = _ from zero_51 g k] at c
  exact c
theorem zero_s (g : Nat → Int32) (k : Nat) (hk : k < 100) : zeroV g (k + 1) = upd (zeroV g k) (((58 : Int32) + nI k)).toNatClampNeg 0 := by
  rw [show ((58 : Int32) + nI k).toNatClampNeg = 58 + k from cl_add 58 (by omega)]
  funext j
  unfold zeroV upd
  dsimp only
  by_cases h : j = 58 + k
  · rw [if_pos h, if_pos (by omega)]
  · rw [if_neg h]
    by_cases h2 : 58 ≤ j ∧ j < 58 + k
    · rw [if_pos h2, if_pos (by omega)]
    · rw [if_neg h2, if_neg (by omega)]
def T_counts (v : tw)  : Int32 × tw :=
  let r_1 := T_sum v ((58 : Int32)) ((t0 v ((51 : Int32)).toNatClampNeg));
  let x3 := if r_1 ≤ 0 then (0 : Int32) else (1 : Int32);
  ((trapN (t0 v) x3 12), (u18 (u0 v (upd (zeroV (trapG (t0 v) x3 12) ((trapG (t0 v) x3 12 ((51 : Int32)).toNatClampNeg).toNatClampNeg)) ((95 : Int32)).toNatClampNeg (((zeroV (trapG (t0 v) x3 12) ((trapG (t0 v) x3 12 ((51 : Int32)).toNatClampNeg).toNatClampNeg)) ((95 : Int32)).toNatClampNeg) + (trapN (t0 v) x3 12)))) (0 : Int32)))
set_option maxHeartbeats 4000000 in
theorem tm_counts (l : Launch) (E : mE) (h : Nat) (v : tw)  (hw : wf (t0 v) (t1 v)) : Met l yX10_counts (ws_ yX10_counts cX10_counts 5 (some .int)) ({ frames := 1, cells := 0, slots := 0, locals := 24 }) (va_Pc [.ref h] (tP E h v)) (va_Qi (fun (r : Int32) (u : tw) => r = (T_counts v ).1 ∧ u = (T_counts v ).2) (fun u U => tW E h u U.heap) (eA E)) 0 0 (eA E) := by
  refine Met.ofW (cc := cX10_counts) (maxL := 5) (ret := (some .int)) (by decide) rfl ?_
  intro p e s m args below meth c s₁ B hml hv
  obtain ⟨rfl, hs, hm⟩ := hv
  have hx := B.exec
  have hb := B.bytes
  have hr := B.returns
  have hts := atoms_spec (ws := ws_ yX10_counts cX10_counts 5 (some .int)) B.pre
  have hts : ∀ w ∈ lw_all, w.before _ s = true := fun w h => hts w (List.mem_cons_of_mem _ h)
  have hown : s.vm.findClass RX10 = some m.cls := findClass_of_methodNamed B.named
  have hlocks := B.notSynchronized
  have hS : va_S (eA E) s.heap s.heap [] := va_S.rf
  have hl := lv_entry ([.ref h]) (n := 5) (Nat.le_of_ble_eq_true rfl)
  rw [lg_entry_eq]
  generalize (lg_sl ([.ref h]) ++ List.replicate (5 - (lg_sl ([.ref h])).length) Slot.unset).toArray = ls at hl ⊢
  have hl : lv_has ls 5 [(0, .ref (h))] := hl
  refine lv_aload_n hx hb dX10_counts_0 rfl (lv_at hl 0 rfl) ?_
  refine lv_bipush (v := (58 : Int32)) hx hb dX10_counts_1 (by decide) ?_
  refine lv_aload_n hx hb dX10_counts_3 rfl (lv_at hl 0 rfl) ?_
  refine tg_0 hx hb hts hown hs hm (hts _ q1674) dX10_counts_4 ?_
  refine lv_bipush (v := (51 : Int32)) hx hb dX10_counts_7 (by decide) ?_
  refine tl_0 hx hb hs hm (vi 51 (by decide) (by decide)) dX10_counts_9 ?_
  refine k_calli (va_runV (As := [.int ((58 : Int32)), .int ((t0 v ((51 : Int32)).toNatClampNeg))]) (rest := []) ⟨hx, hb, hml, hown, hts⟩ (tm_sum l E h v ((58 : Int32)) ((t0 v ((51 : Int32)).toNatClampNeg)) 58 7 rfl hw.mem (by decide)) (cwV 2 hts (lw_V q1978 q1980 qs45 q80 q1981) rfl rfl rfl (by decide +kernel) ⟨Nat.le_of_ble_eq_true rfl, Nat.le_of_ble_eq_true rfl⟩) (k_preVt hs hm hS) rfl rfl hl.1 rfl (lv_room (Nat.le_of_ble_eq_true rfl)) dX10_counts_10 ⟨Nat.le_of_ble_eq_true rfl, Nat.le_of_ble_eq_true rfl⟩) hS (fun r_1 u_1 H9 locs hw_1 hm_1 hS => ?_)
  obtain ⟨hr_1, hu_1⟩ := hw_1
  replace hu_1 := hu_1.symm
  subst hu_1
  have hm := hm_1
  refine k_join (fun (x3 : Int32) H locs ls => x3 = (if r_1 ≤ 0 then (0 : Int32) else (1 : Int32)) ∧ tW E h (v) H ∧ va_S (eA E) s.heap H locs ∧ lv_has ls 5 [(0, .ref (h))]) (fun (x3 : Int32) ls => F0 m 21 ls [.int (x3)]) (fun x3 H locs ls hJ => ?_) (fun J3 => ?_)
  · obtain ⟨hX3, hm, hS, hl⟩ := hJ
    refine lv_istore_n (lv' := [(1, _), (0, _)]) hx hb dX10_counts_21 rfl hl (by decide) rfl (fun ls hl => ?_)
    refine lv_iconst (v := (0 : Int32)) hx hb dX10_counts_22 (by decide) ?_
    refine lv_istore_n (lv' := [(2, _), (1, _), (0, _)]) hx hb dX10_counts_23 rfl hl (by decide) rfl (fun ls hl => ?_)
    refine lv_iconst (v := (0 : Int32)) hx hb dX10_counts_24 (by decide) ?_
    refine lv_istore_n (lv' := [(3, _), (2, _), (1, _), (0, _)]) hx hb dX10_counts_25 rfl hl (by decide) rfl (fun ls hl => ?_)
    refine k_join (fun (_ : Unit) H locs ls => tW E h ((u0 v (trapG (t0 v) x3 12))) H ∧ va_S (eA E) s.heap H locs ∧ lv_has ls 5 [(2, .int ((trapN (t0 v) x3 12))), (1, .int (x3)), (0, .ref (h))]) (fun (_ : Unit) ls => F0 m 103 ls []) (fun _ H locs ls hJ => ?_) (fun J4 => ?_)
    · obtain ⟨hm, hS, hl⟩ := hJ
      have h51 : ix 7 (trapG (t0 v) x3 12 ((51 : Int32)).toNatClampNeg) := by rw [trap_off (by decide) 12 (by decide)]; exact hw.mem
      refine lv_iconst (v := (0 : Int32)) hx hb dX10_counts_103 (by decide) ?_
      refine lv_istore_n (lv' := [(3, _), (2, _), (1, _), (0, _)]) hx hb dX10_counts_104 rfl hl (by decide) rfl (fun ls hl => ?_)
      refine k_loop (fun k => (trapG (t0 v) x3 12 ((51 : Int32)).toNatClampNeg).toNatClampNeg - k) (fun (k : Nat) H locs ls => (k ≤ (trapG (t0 v) x3 12 ((51 : Int32)).toNatClampNeg).toNatClampNeg) ∧ tW E h ((u0 v (zeroV (trapG (t0 v) x3 12) k))) H ∧ va_S (eA E) s.heap H locs ∧ lv_has ls 5 [(3, .int (nI k)), (2, .int ((trapN (t0 v) x3 12))), (1, .int (x3)), (0, .ref (h))]) (fun (k : Nat) ls => F0 m 105 ls []) (fun k => (0, 0)) (fun k ih_5 H locs ls hP => ?_) (0) ⟨(Nat.zero_le _), (by rw [zero_0]; exact hm), hS, lv_sub hl [0, 1, 2, 3] rfl⟩
      obtain ⟨hI_5, hm, hS, hl⟩ := hP
      refine lv_iload_n hx hb dX10_counts_105 rfl (lv_at hl 0 rfl) ?_
      refine lv_aload_n hx hb dX10_counts_106 rfl (lv_at hl 3 rfl) ?_
      refine tg_0 hx hb hts hown hs hm (hts _ q1674) dX10_counts_107 ?_
      refine lv_bipush (v := (51 : Int32)) hx hb dX10_counts_110 (by decide) ?_
      refine tl_0 hx hb hs hm (vi 51 (by decide) (by decide)) dX10_counts_112 ?_
      refine lv_icmp_ge (tgt := 132) hx hb dX10_counts_113 (by decide) (fun c_6 => ?_) (fun c_6 => ?_)
      · have hkN : k = (trapG (t0 v) x3 12 ((51 : Int32)).toNatClampNeg).toNatClampNeg := lp_geI h51 (by decide) hI_5 (zero_le c_6)
        replace hkN := hkN.symm
        subst hkN
        refine lv_aload_n hx hb dX10_counts_132 rfl (lv_at hl 3 rfl) ?_
        refine tg_0 hx hb hts hown hs hm (hts _ q1674) dX10_counts_133 ?_
        refine lv_bipush (v := (95 : Int32)) hx hb dX10_counts_136 (by decide) ?_
        refine lv_dup2_11 hx hb dX10_counts_138 rfl rfl ?_
        refine tl_0 hx hb hs hm (vi 95 (by decide) (by decide)) dX10_counts_139 ?_
        refine lv_iload_n hx hb dX10_counts_140 rfl (lv_at hl 1 rfl) ?_
        refine lv_iadd hx hb dX10_counts_141 ?_
        refine ts_0 hx hb hs hm hS (vi 95 (by decide) (by decide)) dX10_counts_142 (fun H locs hm hS => ?_)
        have hm : tW E h (u0 v (upd (zeroV (trapG (t0 v) x3 12) ((trapG (t0 v) x3 12 ((51 : Int32)).toNatClampNeg).toNatClampNeg)) ((95 : Int32)).toNatClampNeg (((zeroV (trapG (t0 v) x3 12) ((trapG (t0 v) x3 12 ((51 : Int32)).toNatClampNeg).toNatClampNeg)) ((95 : Int32)).toNatClampNeg) + (trapN (t0 v) x3 12)))) H := hm
        refine lv_aload_n hx hb dX10_counts_143 rfl (lv_at hl 3 rfl) ?_
        refine lv_iload_n hx hb dX10_counts_144 rfl (lv_at hl 1 rfl) ?_
        refine k_calli (va_runV (As := [.int ((trapN (t0 v) x3 12))]) (rest := []) ⟨hx, hb, hml, hown, hts⟩ (tm_done l E h (u0 v (upd (zeroV (trapG (t0 v) x3 12) ((trapG (t0 v) x3 12 ((51 : Int32)).toNatClampNeg).toNatClampNeg)) ((95 : Int32)).toNatClampNeg (((zeroV (trapG (t0 v) x3 12) ((trapG (t0 v) x3 12 ((51 : Int32)).toNatClampNeg).toNatClampNeg)) ((95 : Int32)).toNatClampNeg) + (trapN (t0 v) x3 12)))) ((trapN (t0 v) x3 12)) ) (cwV 1 hts (lw_V q1770 q1772 qs24 q80 q1773) rfl rfl rfl (by decide +kernel) ⟨Nat.le_of_ble_eq_true rfl, Nat.le_of_ble_eq_true rfl⟩) (k_preVt hs hm hS) rfl rfl hl.1 rfl (lv_room (Nat.le_of_ble_eq_true rfl)) dX10_counts_145 ⟨Nat.le_of_ble_eq_true rfl, Nat.le_of_ble_eq_true rfl⟩) hS (fun r_7 u_7 H9 locs hw_7 hm_7 hS => ?_)
        replace hw_7 : r_7 = (trapN (t0 v) x3 12) ∧ u_7 = (u18 (u0 v (upd (zeroV (trapG (t0 v) x3 12) ((trapG (t0 v) x3 12 ((51 : Int32)).toNatClampNeg).toNatClampNeg)) ((95 : Int32)).toNatClampNeg (((zeroV (trapG (t0 v) x3 12) ((trapG (t0 v) x3 12 ((51 : Int32)).toNatClampNeg).toNatClampNeg)) ((95 : Int32)).toNatClampNeg) + (trapN (t0 v) x3 12)))) (0 : Int32)) := hw_7
        obtain ⟨hr_7, hw_7⟩ := hw_7
        replace hr_7 := hr_7.symm
        subst hr_7
        replace hw_7 := hw_7.symm
        subst hw_7
        have hm := hm_7
        subst hX3
        subst hr_1
        exact W.iret (v := _) hx hb hr (fun t9 ht9 _ => ⟨⟨_, _, rfl, pp (rfl), hb9 ht9 hm⟩, hS.F ht9⟩) hS.2.2 dX10_counts_148
      · have hk : k < (trapG (t0 v) x3 12 ((51 : Int32)).toNatClampNeg).toNatClampNeg := lp_ltI h51 (by decide) hI_5 (zero_nle c_6)
        have hk7 := (h51.nat (by decide)).1
        refine lv_aload_n hx hb dX10_counts_116 rfl (lv_at hl 3 rfl) ?_
        refine tg_0 hx hb hts hown hs hm (hts _ q1674) dX10_counts_117 ?_
        refine lv_bipush (v := (58 : Int32)) hx hb dX10_counts_120 (by decide) ?_
        refine lv_iload_n hx hb dX10_counts_122 rfl (lv_at hl 0 rfl) ?_
        refine lv_iadd hx hb dX10_counts_123 ?_
        refine lv_iconst (v := (0 : Int32)) hx hb dX10_counts_124 (by decide) ?_
        refine ts_0 hx hb hs hm hS (ix.add 58 112 (⟨k, (by omega : k < 6), rfl⟩) (by decide) (by decide)) dX10_counts_125 (fun H locs hm hS => ?_)
        have hm : tW E h (u0 v (upd (zeroV (trapG (t0 v) x3 12) k) (((58 : Int32) + nI k)).toNatClampNeg (0 : Int32))) H := hm
        refine lv_iinc (v := nI (k + 1)) (lv' := [(3, _), (2, _), (1, _), (0, _)]) hx hb dX10_counts_126 hl (k := 0) rfl (nI_succ k).symm (by decide) rfl (fun ls hl => ?_)
        refine lv_goto (tgt := 105) hx hb dX10_counts_129 (by decide) ?_
        exact ih_5 (k + 1) (by omega) _ _ _ ⟨(by omega), (by rw [zero_s _ k (by have := (h51.nat (by decide)).1; omega)]; exact hm), hS, lv_sub hl [0, 1, 2, 3] rfl⟩
    · refine k_loop (fun k => 12 - k) (fun (k : Nat) H locs ls => (k ≤ 12) ∧ tW E h ((u0 v (trapG (t0 v) x3 k))) H ∧ va_S (eA E) s.heap H locs ∧ lv_has ls 5 [(3, .int (nI k)), (2, .int ((trapN (t0 v) x3 k))), (1, .int (x3)), (0, .ref (h))]) (fun (k : Nat) ls => F0 m 26 ls []) (fun k => (0, 0)) (fun k ih_8 H locs ls hP => ?_) (0) ⟨(Nat.zero_le _), hm, hS, lv_sub hl [0, 1, 2, 3] rfl⟩
      obtain ⟨hI_8, hm, hS, hl⟩ := hP
      refine lv_iload_n hx hb dX10_counts_26 rfl (lv_at hl 0 rfl) ?_
      refine lv_bipush (v := (12 : Int32)) hx hb dX10_counts_27 (by decide) ?_
      refine lv_icmp_ge (tgt := 103) hx hb dX10_counts_29 (by decide) (fun c_9 => ?_) (fun c_9 => ?_)
      · have hT := trap_e (g := t0 v) (t := x3) hI_8 (by first | exact Or.inl c_9 | exact Or.inr c_9)
        exact J4 () _ _ _ ⟨(by rw [hT.1]; exact hm), hS, (by rw [hT.2]; exact lv_sub hl [1, 2, 3] rfl)⟩
      · have hk : k < 12 := lp_lt (by decide) hI_8 c_9
        refine lv_iload_n hx hb dX10_counts_32 rfl (lv_at hl 2 rfl) ?_
        refine lv_if_eq (tgt := 103) hx hb dX10_counts_33 (by decide) (fun c_10 => ?_) (fun c_10 => ?_)
        · have hT := trap_e (g := t0 v) (t := x3) hI_8 (by first | exact Or.inl c_10 | exact Or.inr c_10)
          exact J4 () _ _ _ ⟨(by rw [hT.1]; exact hm), hS, (by rw [hT.2]; exact lv_sub hl [1, 2, 3] rfl)⟩
        · refine lv_aload_n hx hb dX10_counts_36 rfl (lv_at hl 3 rfl) ?_
          refine tg_0 hx hb hts hown hs hm (hts _ q1674) dX10_counts_37 ?_
          refine lv_bipush (v := (15 : Int32)) hx hb dX10_counts_40 (by decide) ?_
          refine lv_iload_n hx hb dX10_counts_42 rfl (lv_at hl 0 rfl) ?_
          refine lv_iadd hx hb dX10_counts_43 ?_
          refine tl_0 hx hb hs hm (ix.add 15 112 (⟨k, (by omega : k < 12), rfl⟩) (by decide) (by decide)) dX10_counts_44 ?_
          refine lv_iconst (v := (-1 : Int32)) hx hb dX10_counts_45 (by decide) ?_
          refine k_join (fun (x12 : Int32) H locs ls => x12 = (if (trapG (t0 v) x3 k (((15 : Int32) + nI k)).toNatClampNeg) = (-1 : Int32) then (0 : Int32) else if (2 : Int32) ≤ (trapG (t0 v) x3 k (((3 : Int32) + nI k)).toNatClampNeg) then (2 : Int32) else (trapG (t0 v) x3 k (((3 : Int32) + nI k)).toNatClampNeg)) ∧ tW E h ((u0 v (trapG (t0 v) x3 k))) H ∧ va_S (eA E) s.heap H locs ∧ lv_has ls 5 [(3, .int (nI k)), (2, .int ((trapN (t0 v) x3 k))), (1, .int (x3)), (0, .ref (h))]) (fun (x12 : Int32) ls => F0 m 77 ls [.int (x12)]) (fun x12 H locs ls hJ => ?_) (fun J12 => ?_)
          · obtain ⟨hX12, hm, hS, hl⟩ := hJ
            refine lv_istore (lv' := [(4, _), (3, _), (2, _), (1, _), (0, _)]) hx hb dX10_counts_77 hl (by decide) rfl (fun ls hl => ?_)
            refine lv_aload_n hx hb dX10_counts_79 rfl (lv_at hl 4 rfl) ?_
            refine tg_0 hx hb hts hown hs hm (hts _ q1674) dX10_counts_80 ?_
            refine lv_iconst (v := (3 : Int32)) hx hb dX10_counts_83 (by decide) ?_
            refine lv_iload_n hx hb dX10_counts_84 rfl (lv_at hl 1 rfl) ?_
            refine lv_iadd hx hb dX10_counts_85 ?_
            refine lv_dup2_11 hx hb dX10_counts_86 rfl rfl ?_
            refine tl_0 hx hb hs hm (ix.add 3 112 (⟨k, (by omega : k < 12), rfl⟩) (by decide) (by decide)) dX10_counts_87 ?_
            refine lv_iload hx hb dX10_counts_88 (lv_at hl 0 rfl) ?_
            refine lv_isub hx hb dX10_counts_90 ?_
            refine ts_0 hx hb hs hm hS (ix.add 3 112 (⟨k, (by omega : k < 12), rfl⟩) (by decide) (by decide)) dX10_counts_91 (fun H locs hm hS => ?_)
            have hm : tW E h (u0 v (upd (trapG (t0 v) x3 k) (((3 : Int32) + nI k)).toNatClampNeg ((trapG (t0 v) x3 k (((3 : Int32) + nI k)).toNatClampNeg) - x12))) H := hm
            refine lv_iload_n hx hb dX10_counts_92 rfl (lv_at hl 2 rfl) ?_
            refine lv_iload hx hb dX10_counts_93 (lv_at hl 0 rfl) ?_
            refine lv_iadd hx hb dX10_counts_95 ?_
            refine lv_istore_n (lv' := [(2, _), (4, _), (3, _), (1, _), (0, _)]) hx hb dX10_counts_96 rfl hl (by decide) rfl (fun ls hl => ?_)
            refine lv_iinc (v := nI (k + 1)) (lv' := [(3, _), (2, _), (4, _), (1, _), (0, _)]) hx hb dX10_counts_97 hl (k := 2) rfl (nI_succ k).symm (by decide) rfl (fun ls hl => ?_)
            refine lv_goto (tgt := 26) hx hb dX10_counts_100 (by decide) ?_
            exact ih_8 (k + 1) (by omega) _ _ _ ⟨(by omega), (by rw [show trapG (t0 v) x3 (k + 1) = upd (trapG (t0 v) x3 k) (((3 : Int32) + nI k)).toNatClampNeg (trapG (t0 v) x3 k (((3 : Int32) + nI k)).toNatClampNeg - x12) from by rw [hX12]; exact if_neg c_10]; exact hm), hS, (by rw [show trapN (t0 v) x3 (k + 1) = (trapN (t0 v) x3 k + x12) from by rw [hX12]; exact if_neg c_10]; exact lv_sub hl [0, 1, 3, 4] rfl)⟩
          · refine lv_icmp_ne (tgt := 53) hx hb dX10_counts_46 (by decide) (fun c_11 => ?_) (fun c_11 => ?_)
            · refine lv_aload_n hx hb dX10_counts_53 rfl (lv_at hl 3 rfl) ?_
              refine tg_0 hx hb hts hown hs hm (hts _ q1674) dX10_counts_54 ?_
              refine lv_iconst (v := (3 : Int32)) hx hb dX10_counts_57 (by decide) ?_
              refine lv_iload_n hx hb dX10_counts_58 rfl (lv_at hl 0 rfl) ?_
              refine lv_iadd hx hb dX10_counts_59 ?_
              refine tl_0 hx hb hs hm (ix.add 3 112 (⟨k, (by omega : k < 12), rfl⟩) (by decide) (by decide)) dX10_counts_60 ?_
              refine lv_iconst (v := (2 : Int32)) hx hb dX10_counts_61 (by decide) ?_
              refine lv_icmp_ge (tgt := 76) hx hb dX10_counts_62 (by decide) (fun c_13 => ?_) (fun c_13 => ?_)
              · refine lv_iconst (v := (2 : Int32)) hx hb dX10_counts_76 (by decide) ?_
                exact J12 ((2 : Int32)) _ _ _ ⟨((if_neg c_11).trans ((if_pos c_13).trans (rfl))).symm, hm, hS, lv_sub hl [0, 1, 2, 3] rfl⟩
              · refine lv_aload_n hx hb dX10_counts_65 rfl (lv_at hl 3 rfl) ?_
                refine tg_0 hx hb hts hown hs hm (hts _ q1674) dX10_counts_66 ?_
                refine lv_iconst (v := (3 : Int32)) hx hb dX10_counts_69 (by decide) ?_
                refine lv_iload_n hx hb dX10_counts_70 rfl (lv_at hl 0 rfl) ?_
                refine lv_iadd hx hb dX10_counts_71 ?_
                refine tl_0 hx hb hs hm (ix.add 3 112 (⟨k, (by omega : k < 12), rfl⟩) (by decide) (by decide)) dX10_counts_72 ?_
                refine lv_goto (tgt := 77) hx hb dX10_counts_73 (by decide) ?_
                exact J12 ((trapG (t0 v) x3 k (((3 : Int32) + nI k)).toNatClampNeg)) _ _ _ ⟨((if_neg c_11).trans ((if_neg c_13).trans (rfl))).symm, hm, hS, lv_sub hl [0, 1, 2, 3] rfl⟩
            · refine lv_iconst (v := (0 : Int32)) hx hb dX10_counts_49 (by decide) ?_
              refine lv_goto (tgt := 77) hx hb dX10_counts_50 (by decide) ?_
              exact J12 ((0 : Int32)) _ _ _ ⟨((if_pos c_11).trans (rfl)).symm, hm, hS, lv_sub hl [0, 1, 2, 3] rfl⟩
  · refine lv_if_le (tgt := 20) hx hb dX10_counts_13 (by decide) (fun c_2 => ?_) (fun c_2 => ?_)
    · refine lv_iconst (v := (0 : Int32)) hx hb dX10_counts_20 (by decide) ?_
      exact J3 ((0 : Int32)) _ _ _ ⟨((if_pos c_2).trans (rfl)).symm, hm, hS, lv_sub hl [0] rfl⟩
    · refine lv_iconst (v := (1 : Int32)) hx hb dX10_counts_16 (by decide) ?_
      refine lv_goto (tgt := 21) hx hb dX10_counts_17 (by decide) ?_
      exact J3 ((1 : Int32)) _ _ _ ⟨((if_neg c_2).trans (rfl)).symm, hm, hS, lv_sub hl [0] rfl⟩
theorem lt_of_ne {B : Nat} {x : Int32} (h : ix (B + 1) x) (c : ¬ x = nI B) : ix B x := by
  obtain ⟨k, h1, rfl⟩ := h
  refine ⟨k, ?_, rfl⟩
  rcases Nat.lt_or_ge k B with h2 | h2
  · exact h2
  · exact absurd (by rw [show k = B by omega]) c
theorem mem_lt {v : tw} (hw : wf (t0 v) (t1 v)) (c : ¬ t0 v ((51 : Int32)).toNatClampNeg = (6 : Int32)) : ix 6 (t0 v ((51 : Int32)).toNatClampNeg) := lt_of_ne hw.mem c
theorem shed_lt {v : tw} (hw : wf (t0 v) (t1 v)) (c : ¬ t0 v ((80 : Int32)).toNatClampNeg = (4 : Int32)) : ix 4 (t0 v ((80 : Int32)).toNatClampNeg) := lt_of_ne hw.shd c
def T_shed (v : tw) (x : Int32) : Int32 × tw :=
  let r_1 := T_isPlot (x);
  if r_1 = 0 then
    ((0 : Int32), (T_fails v (1 : Int32)).2)
  else
    if (t0 v ((80 : Int32)).toNatClampNeg) = (4 : Int32) then
      ((0 : Int32), (T_refused v (1 : Int32) (4 : Int32) (2 : Int32)).2)
    else
      let r_4 := T_shedOn v (x);
      if r_4 = (-1 : Int32) then
        let r_8 := (T_kept (u18 (u0 (T_looksBack v) (upd (upd (upd (t0 v) (((81 : Int32) + (t0 v ((80 : Int32)).toNatClampNeg))).toNatClampNeg x) (((89 : Int32) + (t0 v ((80 : Int32)).toNatClampNeg))).toNatClampNeg (1 : Int32)) ((80 : Int32)).toNatClampNeg (((upd (upd (t0 v) (((81 : Int32) + (t0 v ((80 : Int32)).toNatClampNeg))).toNatClampNeg x) (((89 : Int32) + (t0 v ((80 : Int32)).toNatClampNeg))).toNatClampNeg (1 : Int32)) ((80 : Int32)).toNatClampNeg) + (1 : Int32)))) (0 : Int32)) ((t0 v ((80 : Int32)).toNatClampNeg))).1;
        let u_8 := (T_kept (u18 (u0 (T_looksBack v) (upd (upd (upd (t0 v) (((81 : Int32) + (t0 v ((80 : Int32)).toNatClampNeg))).toNatClampNeg x) (((89 : Int32) + (t0 v ((80 : Int32)).toNatClampNeg))).toNatClampNeg (1 : Int32)) ((80 : Int32)).toNatClampNeg (((upd (upd (t0 v) (((81 : Int32) + (t0 v ((80 : Int32)).toNatClampNeg))).toNatClampNeg x) (((89 : Int32) + (t0 v ((80 : Int32)).toNatClampNeg))).toNatClampNeg (1 : Int32)) ((80 : Int32)).toNatClampNeg) + (1 : Int32)))) (0 : Int32)) ((t0 v ((80 : Int32)).toNatClampNeg))).2;
        (r_8, u_8)
      else
        let r_9 := T_shedOn v (x);
        ((0 : Int32), (T_refused v (9 : Int32) r_9 (2 : Int32)).2)
set_option maxHeartbeats 4000000 in
theorem tm_shed (l : Launch) (E : mE) (h : Nat) (v : tw) (x : Int32) (hw : wf (t0 v) (t1 v)) (h9 : ix 9 (t6 v)) : Met l yX10_shed (ws_ yX10_shed cX10_shed 3 (some .int)) ({ frames := 2, cells := 0, slots := 0, locals := 46 }) (va_Pc [.ref h, .int x] (tP E h v)) (va_Qi (fun (r : Int32) (u : tw) => r = (T_shed v x).1 ∧ u = (T_shed v x).2) (fun u U => tW E h u U.heap) (eA E)) 0 0 (eA E) := by
  refine Met.ofW (cc := cX10_shed) (maxL := 3) (ret := (some .int)) (by decide) rfl ?_
  intro p e s m args below meth c s₁ B hml hv
  obtain ⟨rfl, hs, hm⟩ := hv
  have hx := B.exec
  have hb := B.bytes
  have hr := B.returns
  have hts := atoms_spec (ws := ws_ yX10_shed cX10_shed 3 (some .int)) B.pre
  have hts : ∀ w ∈ lw_all, w.before _ s = true := fun w h => hts w (List.mem_cons_of_mem _ h)
  have hown : s.vm.findClass RX10 = some m.cls := findClass_of_methodNamed B.named
  have hlocks := B.notSynchronized
  have hS : va_S (eA E) s.heap s.heap [] := va_S.rf
  have hl := lv_entry ([.ref h, .int x]) (n := 3) (Nat.le_of_ble_eq_true rfl)
  rw [lg_entry_eq]
  generalize (lg_sl ([.ref h, .int x]) ++ List.replicate (3 - (lg_sl ([.ref h, .int x])).length) Slot.unset).toArray = ls at hl ⊢
  have hl : lv_has ls 3 [(0, .ref (h)), (1, .int (x))] := hl
  refine lv_iload_n hx hb dX10_shed_0 rfl (lv_at hl 1 rfl) ?_
  refine k_calli (va_runS (As := [.int (x)]) (rest := []) ⟨hx, hb, hml, hown, hts⟩ (tm_isPlot l E (x) _) (va_cwS 1 hts (lw_S q1806 q1807 q80 q1808) rfl rfl rfl (by decide +kernel) ⟨Nat.le_of_ble_eq_true rfl, Nat.le_of_ble_eq_true rfl⟩) (k_pure hs hS) rfl rfl hl.1 rfl (lv_room (Nat.le_of_ble_eq_true rfl)) dX10_shed_1 ⟨Nat.le_of_ble_eq_true rfl, Nat.le_of_ble_eq_true rfl⟩) hS (fun r_1 u_1 H9 locs hw_1 hm_1 hS => ?_)
  replace hm_1 : _ = H9 := Eq.symm hm_1
  subst hm_1
  have hr_1 := hw_1
  refine lv_if_ne (tgt := 13) hx hb dX10_shed_4 (by decide) (fun c_2 => ?_) (fun c_2 => ?_)
  · have hx12 := plot_ix hr_1 c_2
    refine lv_aload_n hx hb dX10_shed_13 rfl (lv_at hl 0 rfl) ?_
    refine tg_0 hx hb hts hown hs hm (hts _ q1674) dX10_shed_14 ?_
    refine lv_bipush (v := (80 : Int32)) hx hb dX10_shed_17 (by decide) ?_
    refine tl_0 hx hb hs hm (vi 80 (by decide) (by decide)) dX10_shed_19 ?_
    refine lv_istore_n (lv' := [(2, _), (0, _), (1, _)]) hx hb dX10_shed_20 rfl hl (by decide) rfl (fun ls hl => ?_)
    refine lv_iload_n hx hb dX10_shed_21 rfl (lv_at hl 0 rfl) ?_
    refine lv_iconst (v := (4 : Int32)) hx hb dX10_shed_22 (by decide) ?_
    refine lv_icmp_ne (tgt := 34) hx hb dX10_shed_23 (by decide) (fun c_3 => ?_) (fun c_3 => ?_)
    · have h4 := shed_lt hw c_3
      refine lv_aload_n hx hb dX10_shed_34 rfl (lv_at hl 1 rfl) ?_
      refine lv_iload_n hx hb dX10_shed_35 rfl (lv_at hl 2 rfl) ?_
      refine k_calli (va_runV (As := [.int (x)]) (rest := []) ⟨hx, hb, hml, hown, hts⟩ (tm_shedOn l E h v (x) hw) (cwV 1 hts (lw_V q1829 q1831 qs32 q80 q1832) rfl rfl rfl (by decide +kernel) ⟨Nat.le_of_ble_eq_true rfl, Nat.le_of_ble_eq_true rfl⟩) (k_preVt hs hm hS) rfl rfl hl.1 rfl (lv_room (Nat.le_of_ble_eq_true rfl)) dX10_shed_36 ⟨Nat.le_of_ble_eq_true rfl, Nat.le_of_ble_eq_true rfl⟩) hS (fun r_4 u_4 H9 locs hw_4 hm_4 hS => ?_)
      obtain ⟨hr_4, hu_4⟩ := hw_4
      replace hu_4 := hu_4.symm
      subst hu_4
      have hm := hm_4
      refine lv_iconst (v := (-1 : Int32)) hx hb dX10_shed_39 (by decide) ?_
      refine lv_icmp_eq (tgt := 56) hx hb dX10_shed_40 (by decide) (fun c_5 => ?_) (fun c_5 => ?_)
      · refine lv_aload_n hx hb dX10_shed_56 rfl (lv_at hl 1 rfl) ?_
        refine k_callv (va_runV (As := []) (rest := []) ⟨hx, hb, hml, hown, hts⟩ (tm_looksBack l E h v  ) (cwV 0 hts (lw_V q1749 q1751 qs21 q80 q1752) rfl rfl rfl (by decide +kernel) ⟨Nat.le_of_ble_eq_true rfl, Nat.le_of_ble_eq_true rfl⟩) (k_preVt hs hm hS) rfl rfl hl.1 rfl (lv_room (Nat.le_of_ble_eq_true rfl)) dX10_shed_57 ⟨Nat.le_of_ble_eq_true rfl, Nat.le_of_ble_eq_true rfl⟩) hS (fun u_6 H9 locs hw_6 hm_6 hS => ?_)
        replace hw_6 : u_6 = (T_looksBack v) := hw_6
        replace hw_6 := hw_6.symm
        subst hw_6
        have hm := hm_6
        refine lv_aload_n hx hb dX10_shed_60 rfl (lv_at hl 1 rfl) ?_
        refine tg_0 hx hb hts hown hs hm (hts _ q1674) dX10_shed_61 ?_
        refine lv_bipush (v := (81 : Int32)) hx hb dX10_shed_64 (by decide) ?_
        refine lv_iload_n hx hb dX10_shed_66 rfl (lv_at hl 0 rfl) ?_
        refine lv_iadd hx hb dX10_shed_67 ?_
        refine lv_iload_n hx hb dX10_shed_68 rfl (lv_at hl 2 rfl) ?_
        refine ts_0 hx hb hs hm hS (ix.add 81 112 (h4) (by decide) (by decide)) dX10_shed_69 (fun H locs hm hS => ?_)
        have hm : tW E h (u0 (T_looksBack v) (upd (t0 v) (((81 : Int32) + (t0 v ((80 : Int32)).toNatClampNeg))).toNatClampNeg x)) H := hm
        refine lv_aload_n hx hb dX10_shed_70 rfl (lv_at hl 1 rfl) ?_
        refine tg_0 hx hb hts hown hs hm (hts _ q1674) dX10_shed_71 ?_
        refine lv_bipush (v := (89 : Int32)) hx hb dX10_shed_74 (by decide) ?_
        refine lv_iload_n hx hb dX10_shed_76 rfl (lv_at hl 0 rfl) ?_
        refine lv_iadd hx hb dX10_shed_77 ?_
        refine lv_iconst (v := (1 : Int32)) hx hb dX10_shed_78 (by decide) ?_
        refine ts_0 hx hb hs hm hS (ix.add 89 112 (h4) (by decide) (by decide)) dX10_shed_79 (fun H locs hm hS => ?_)
        have hm : tW E h (u0 (T_looksBack v) (upd (upd (t0 v) (((81 : Int32) + (t0 v ((80 : Int32)).toNatClampNeg))).toNatClampNeg x) (((89 : Int32) + (t0 v ((80 : Int32)).toNatClampNeg))).toNatClampNeg (1 : Int32))) H := hm
        refine lv_aload_n hx hb dX10_shed_80 rfl (lv_at hl 1 rfl) ?_
        refine tg_0 hx hb hts hown hs hm (hts _ q1674) dX10_shed_81 ?_
        refine lv_bipush (v := (80 : Int32)) hx hb dX10_shed_84 (by decide) ?_
        refine lv_dup2_11 hx hb dX10_shed_86 rfl rfl ?_
        refine tl_0 hx hb hs hm (vi 80 (by decide) (by decide)) dX10_shed_87 ?_
        refine lv_iconst (v := (1 : Int32)) hx hb dX10_shed_88 (by decide) ?_
        refine lv_iadd hx hb dX10_shed_89 ?_
        refine ts_0 hx hb hs hm hS (vi 80 (by decide) (by decide)) dX10_shed_90 (fun H locs hm hS => ?_)
        have hm : tW E h (u0 (T_looksBack v) (upd (upd (upd (t0 v) (((81 : Int32) + (t0 v ((80 : Int32)).toNatClampNeg))).toNatClampNeg x) (((89 : Int32) + (t0 v ((80 : Int32)).toNatClampNeg))).toNatClampNeg (1 : Int32)) ((80 : Int32)).toNatClampNeg (((upd (upd (t0 v) (((81 : Int32) + (t0 v ((80 : Int32)).toNatClampNeg))).toNatClampNeg x) (((89 : Int32) + (t0 v ((80 : Int32)).toNatClampNeg))).toNatClampNeg (1 : Int32)) ((80 : Int32)).toNatClampNeg) + (1 : Int32)))) H := hm
        refine lv_aload_n hx hb dX10_shed_91 rfl (lv_at hl 1 rfl) ?_
        refine lv_aload_n hx hb dX10_shed_92 rfl (lv_at hl 1 rfl) ?_
        refine lv_iload_n hx hb dX10_shed_93 rfl (lv_at hl 0 rfl) ?_
        refine k_calli (va_runV (As := [.int ((t0 v ((80 : Int32)).toNatClampNeg))]) (rest := [.ref (h)]) ⟨hx, hb, hml, hown, hts⟩ (tm_done l E h (u0 (T_looksBack v) (upd (upd (upd (t0 v) (((81 : Int32) + (t0 v ((80 : Int32)).toNatClampNeg))).toNatClampNeg x) (((89 : Int32) + (t0 v ((80 : Int32)).toNatClampNeg))).toNatClampNeg (1 : Int32)) ((80 : Int32)).toNatClampNeg (((upd (upd (t0 v) (((81 : Int32) + (t0 v ((80 : Int32)).toNatClampNeg))).toNatClampNeg x) (((89 : Int32) + (t0 v ((80 : Int32)).toNatClampNeg))).toNatClampNeg (1 : Int32)) ((80 : Int32)).toNatClampNeg) + (1 : Int32)))) ((t0 v ((80 : Int32)).toNatClampNeg)) ) (cwV 1 hts (lw_V q1770 q1772 qs24 q80 q1773) rfl rfl rfl (by decide +kernel) ⟨Nat.le_of_ble_eq_true rfl, Nat.le_of_ble_eq_true rfl⟩) (k_preVt hs hm hS) rfl rfl hl.1 rfl (lv_room (Nat.le_of_ble_eq_true rfl)) dX10_shed_94 ⟨Nat.le_of_ble_eq_true rfl, Nat.le_of_ble_eq_true rfl⟩) hS (fun r_7 u_7 H9 locs hw_7 hm_7 hS => ?_)
        replace hw_7 : r_7 = (t0 v ((80 : Int32)).toNatClampNeg) ∧ u_7 = (u18 (u0 (T_looksBack v) (upd (upd (upd (t0 v) (((81 : Int32) + (t0 v ((80 : Int32)).toNatClampNeg))).toNatClampNeg x) (((89 : Int32) + (t0 v ((80 : Int32)).toNatClampNeg))).toNatClampNeg (1 : Int32)) ((80 : Int32)).toNatClampNeg (((upd (upd (t0 v) (((81 : Int32) + (t0 v ((80 : Int32)).toNatClampNeg))).toNatClampNeg x) (((89 : Int32) + (t0 v ((80 : Int32)).toNatClampNeg))).toNatClampNeg (1 : Int32)) ((80 : Int32)).toNatClampNeg) + (1 : Int32)))) (0 : Int32)) := hw_7
        obtain ⟨hr_7, hw_7⟩ := hw_7
        replace hr_7 := hr_7.symm
        subst hr_7
        replace hw_7 := hw_7.symm
        subst hw_7
        have hm := hm_7
        refine k_calli (va_runV (As := [.int ((t0 v ((80 : Int32)).toNatClampNeg))]) (rest := []) ⟨hx, hb, hml, hown, hts⟩ (tm_kept l E h (u18 (u0 (T_looksBack v) (upd (upd (upd (t0 v) (((81 : Int32) + (t0 v ((80 : Int32)).toNatClampNeg))).toNatClampNeg x) (((89 : Int32) + (t0 v ((80 : Int32)).toNatClampNeg))).toNatClampNeg (1 : Int32)) ((80 : Int32)).toNatClampNeg (((upd (upd (t0 v) (((81 : Int32) + (t0 v ((80 : Int32)).toNatClampNeg))).toNatClampNeg x) (((89 : Int32) + (t0 v ((80 : Int32)).toNatClampNeg))).toNatClampNeg (1 : Int32)) ((80 : Int32)).toNatClampNeg) + (1 : Int32)))) (0 : Int32)) ((t0 v ((80 : Int32)).toNatClampNeg)) (i9_u18 (i9_u0 (i9_looksBack h9)))) (cwV 1 hts (lw_V q1774 q1776 qs25 q80 q1777) rfl rfl rfl (by decide +kernel) ⟨Nat.le_of_ble_eq_true rfl, Nat.le_of_ble_eq_true rfl⟩) (k_preVt hs hm hS) rfl rfl hl.1 rfl (lv_room (Nat.le_of_ble_eq_true rfl)) dX10_shed_97 ⟨Nat.le_of_ble_eq_true rfl, Nat.le_of_ble_eq_true rfl⟩) hS (fun r_8 u_8 H9 locs hw_8 hm_8 hS => ?_)
        obtain ⟨hr_8, hu_8⟩ := hw_8
        have hm := hm_8
        subst hu_8
        subst hr_8
        subst hr_4
        subst hr_1
        exact W.iret (v := _) hx hb hr (fun t9 ht9 _ => ⟨⟨_, _, rfl, pp ((if_neg c_2).trans ((if_neg c_3).trans ((if_pos c_5).trans (rfl)))), hb9 ht9 hm⟩, hS.F ht9⟩) hS.2.2 dX10_shed_100
      · refine lv_aload_n hx hb dX10_shed_43 rfl (lv_at hl 1 rfl) ?_
        refine lv_bipush (v := (9 : Int32)) hx hb dX10_shed_44 (by decide) ?_
        refine lv_aload_n hx hb dX10_shed_46 rfl (lv_at hl 1 rfl) ?_
        refine lv_iload_n hx hb dX10_shed_47 rfl (lv_at hl 2 rfl) ?_
        refine k_calli (va_runV (As := [.int (x)]) (rest := [.int ((9 : Int32)), .ref (h)]) ⟨hx, hb, hml, hown, hts⟩ (tm_shedOn l E h v (x) hw) (cwV 1 hts (lw_V q1829 q1831 qs32 q80 q1832) rfl rfl rfl (by decide +kernel) ⟨Nat.le_of_ble_eq_true rfl, Nat.le_of_ble_eq_true rfl⟩) (k_preVt hs hm hS) rfl rfl hl.1 rfl (lv_room (Nat.le_of_ble_eq_true rfl)) dX10_shed_48 ⟨Nat.le_of_ble_eq_true rfl, Nat.le_of_ble_eq_true rfl⟩) hS (fun r_9 u_9 H9 locs hw_9 hm_9 hS => ?_)
        obtain ⟨hr_9, hu_9⟩ := hw_9
        replace hu_9 := hu_9.symm
        subst hu_9
        have hm := hm_9
        refine lv_iconst (v := (2 : Int32)) hx hb dX10_shed_51 (by decide) ?_
        refine k_calli (va_runV (As := [.int ((9 : Int32)), .int (r_9), .int ((2 : Int32))]) (rest := []) ⟨hx, hb, hml, hown, hts⟩ (tm_refused l E h v ((9 : Int32)) (r_9) ((2 : Int32)) ) (cwV 3 hts (lw_V q1790 q1792 qs27 q80 q1793) rfl rfl rfl (by decide +kernel) ⟨Nat.le_of_ble_eq_true rfl, Nat.le_of_ble_eq_true rfl⟩) (k_preVt hs hm hS) rfl rfl hl.1 rfl (lv_room (Nat.le_of_ble_eq_true rfl)) dX10_shed_52 ⟨Nat.le_of_ble_eq_true rfl, Nat.le_of_ble_eq_true rfl⟩) hS (fun r_10 u_10 H9 locs hw_10 hm_10 hS => ?_)
        replace hw_10 : r_10 = (0 : Int32) ∧ u_10 = (T_refused v (9 : Int32) r_9 (2 : Int32)).2 := hw_10
        obtain ⟨hr_10, hw_10⟩ := hw_10
        replace hr_10 := hr_10.symm
        subst hr_10
        replace hw_10 := hw_10.symm
        subst hw_10
        have hm := hm_10
        subst hr_9
        subst hr_4
        subst hr_1
        exact W.iret (v := _) hx hb hr (fun t9 ht9 _ => ⟨⟨_, _, rfl, pp ((if_neg c_2).trans ((if_neg c_3).trans ((if_neg c_5).trans (rfl)))), hb9 ht9 hm⟩, hS.F ht9⟩) hS.2.2 dX10_shed_55
    · refine lv_aload_n hx hb dX10_shed_26 rfl (lv_at hl 1 rfl) ?_
      refine lv_iconst (v := (1 : Int32)) hx hb dX10_shed_27 (by decide) ?_
      refine lv_iconst (v := (4 : Int32)) hx hb dX10_shed_28 (by decide) ?_
      refine lv_iconst (v := (2 : Int32)) hx hb dX10_shed_29 (by decide) ?_
      refine k_calli (va_runV (As := [.int ((1 : Int32)), .int ((4 : Int32)), .int ((2 : Int32))]) (rest := []) ⟨hx, hb, hml, hown, hts⟩ (tm_refused l E h v ((1 : Int32)) ((4 : Int32)) ((2 : Int32)) ) (cwV 3 hts (lw_V q1790 q1792 qs27 q80 q1793) rfl rfl rfl (by decide +kernel) ⟨Nat.le_of_ble_eq_true rfl, Nat.le_of_ble_eq_true rfl⟩) (k_preVt hs hm hS) rfl rfl hl.1 rfl (lv_room (Nat.le_of_ble_eq_true rfl)) dX10_shed_30 ⟨Nat.le_of_ble_eq_true rfl, Nat.le_of_ble_eq_true rfl⟩) hS (fun r_11 u_11 H9 locs hw_11 hm_11 hS => ?_)
      replace hw_11 : r_11 = (0 : Int32) ∧ u_11 = (T_refused v (1 : Int32) (4 : Int32) (2 : Int32)).2 := hw_11
      obtain ⟨hr_11, hw_11⟩ := hw_11
      replace hr_11 := hr_11.symm
      subst hr_11
      replace hw_11 := hw_11.symm
      subst hw_11
      have hm := hm_11
      subst hr_1
      exact W.iret (v := _) hx hb hr (fun t9 ht9 _ => ⟨⟨_, _, rfl, pp ((if_neg c_2).trans ((if_pos c_3).trans (rfl))), hb9 ht9 hm⟩, hS.F ht9⟩) hS.2.2 dX10_shed_33
  · refine lv_aload_n hx hb dX10_shed_7 rfl (lv_at hl 0 rfl) ?_
    refine lv_iconst (v := (1 : Int32)) hx hb dX10_shed_8 (by decide) ?_
    refine k_calli (va_runV (As := [.int ((1 : Int32))]) (rest := []) ⟨hx, hb, hml, hown, hts⟩ (tm_fails l E h v ((1 : Int32)) ) (cwV 1 hts (lw_V q1766 q1768 qs23 q80 q1769) rfl rfl rfl (by decide +kernel) ⟨Nat.le_of_ble_eq_true rfl, Nat.le_of_ble_eq_true rfl⟩) (k_preVt hs hm hS) rfl rfl hl.1 rfl (lv_room (Nat.le_of_ble_eq_true rfl)) dX10_shed_9 ⟨Nat.le_of_ble_eq_true rfl, Nat.le_of_ble_eq_true rfl⟩) hS (fun r_12 u_12 H9 locs hw_12 hm_12 hS => ?_)
    replace hw_12 : r_12 = (0 : Int32) ∧ u_12 = (T_fails v (1 : Int32)).2 := hw_12
    obtain ⟨hr_12, hw_12⟩ := hw_12
    replace hr_12 := hr_12.symm
    subst hr_12
    replace hw_12 := hw_12.symm
    subst hw_12
    have hm := hm_12
    subst hr_1
    exact W.iret (v := _) hx hb hr (fun t9 ht9 _ => ⟨⟨_, _, rfl, pp ((if_pos c_2).trans (rfl)), hb9 ht9 hm⟩, hS.F ht9⟩) hS.2.2 dX10_shed_12
def T_rope (v : tw) (x : Int32) : Int32 × tw :=
  let r_1 := T_isShed v (x);
  if r_1 = 0 then
    ((0 : Int32), (T_fails v (1 : Int32)).2)
  else
    if (t0 v (((89 : Int32) + x)).toNatClampNeg) = 0 then
      ((0 : Int32), (T_refused v (10 : Int32) x (2 : Int32)).2)
    else
      if (t0 v (((85 : Int32) + x)).toNatClampNeg) = (6 : Int32) then
        ((0 : Int32), (T_refused v (1 : Int32) (6 : Int32) (2 : Int32)).2)
      else
        let r_7 := (T_kept (u18 (u0 (T_looksBack v) (upd (t0 v) (((85 : Int32) + x)).toNatClampNeg ((t0 v (((85 : Int32) + x)).toNatClampNeg) + (1 : Int32)))) (0 : Int32)) (((upd (t0 v) (((85 : Int32) + x)).toNatClampNeg ((t0 v (((85 : Int32) + x)).toNatClampNeg) + (1 : Int32))) (((85 : Int32) + x)).toNatClampNeg))).1;
        let u_7 := (T_kept (u18 (u0 (T_looksBack v) (upd (t0 v) (((85 : Int32) + x)).toNatClampNeg ((t0 v (((85 : Int32) + x)).toNatClampNeg) + (1 : Int32)))) (0 : Int32)) (((upd (t0 v) (((85 : Int32) + x)).toNatClampNeg ((t0 v (((85 : Int32) + x)).toNatClampNeg) + (1 : Int32))) (((85 : Int32) + x)).toNatClampNeg))).2;
        (r_7, u_7)
set_option maxHeartbeats 4000000 in
theorem tm_rope (l : Launch) (E : mE) (h : Nat) (v : tw) (x : Int32) (hw : wf (t0 v) (t1 v)) (h9 : ix 9 (t6 v)) : Met l yX10_rope (ws_ yX10_rope cX10_rope 2 (some .int)) ({ frames := 2, cells := 0, slots := 0, locals := 46 }) (va_Pc [.ref h, .int x] (tP E h v)) (va_Qi (fun (r : Int32) (u : tw) => r = (T_rope v x).1 ∧ u = (T_rope v x).2) (fun u U => tW E h u U.heap) (eA E)) 0 0 (eA E) := by
  refine Met.ofW (cc := cX10_rope) (maxL := 2) (ret := (some .int)) (by decide) rfl ?_
  intro p e s m args below meth c s₁ B hml hv
  obtain ⟨rfl, hs, hm⟩ := hv
  have hx := B.exec
  have hb := B.bytes
  have hr := B.returns
  have hts := atoms_spec (ws := ws_ yX10_rope cX10_rope 2 (some .int)) B.pre
  have hts : ∀ w ∈ lw_all, w.before _ s = true := fun w h => hts w (List.mem_cons_of_mem _ h)
  have hown : s.vm.findClass RX10 = some m.cls := findClass_of_methodNamed B.named
  have hlocks := B.notSynchronized
  have hS : va_S (eA E) s.heap s.heap [] := va_S.rf
  have hl := lv_entry ([.ref h, .int x]) (n := 2) (Nat.le_of_ble_eq_true rfl)
  rw [lg_entry_eq]
  generalize (lg_sl ([.ref h, .int x]) ++ List.replicate (2 - (lg_sl ([.ref h, .int x])).length) Slot.unset).toArray = ls at hl ⊢
  have hl : lv_has ls 2 [(0, .ref (h)), (1, .int (x))] := hl
  refine lv_aload_n hx hb dX10_rope_0 rfl (lv_at hl 0 rfl) ?_
  refine lv_iload_n hx hb dX10_rope_1 rfl (lv_at hl 1 rfl) ?_
  refine k_calli (va_runV (As := [.int (x)]) (rest := []) ⟨hx, hb, hml, hown, hts⟩ (tm_isShed l E h v (x) ) (cwV 1 hts (lw_V q1946 q1948 qs42 q80 q1949) rfl rfl rfl (by decide +kernel) ⟨Nat.le_of_ble_eq_true rfl, Nat.le_of_ble_eq_true rfl⟩) (k_preVt hs hm hS) rfl rfl hl.1 rfl (lv_room (Nat.le_of_ble_eq_true rfl)) dX10_rope_2 ⟨Nat.le_of_ble_eq_true rfl, Nat.le_of_ble_eq_true rfl⟩) hS (fun r_1 u_1 H9 locs hw_1 hm_1 hS => ?_)
  obtain ⟨hr_1, hu_1⟩ := hw_1
  replace hu_1 := hu_1.symm
  subst hu_1
  have hm := hm_1
  refine lv_if_ne (tgt := 14) hx hb dX10_rope_5 (by decide) (fun c_2 => ?_) (fun c_2 => ?_)
  · have hx4 := shed_ix hr_1 c_2 hw
    refine lv_aload_n hx hb dX10_rope_14 rfl (lv_at hl 0 rfl) ?_
    refine tg_0 hx hb hts hown hs hm (hts _ q1674) dX10_rope_15 ?_
    refine lv_bipush (v := (89 : Int32)) hx hb dX10_rope_18 (by decide) ?_
    refine lv_iload_n hx hb dX10_rope_20 rfl (lv_at hl 1 rfl) ?_
    refine lv_iadd hx hb dX10_rope_21 ?_
    refine tl_0 hx hb hs hm (ix.add 89 112 (hx4) (by decide) (by decide)) dX10_rope_22 ?_
    refine lv_if_ne (tgt := 35) hx hb dX10_rope_23 (by decide) (fun c_3 => ?_) (fun c_3 => ?_)
    · refine lv_aload_n hx hb dX10_rope_35 rfl (lv_at hl 0 rfl) ?_
      refine tg_0 hx hb hts hown hs hm (hts _ q1674) dX10_rope_36 ?_
      refine lv_bipush (v := (85 : Int32)) hx hb dX10_rope_39 (by decide) ?_
      refine lv_iload_n hx hb dX10_rope_41 rfl (lv_at hl 1 rfl) ?_
      refine lv_iadd hx hb dX10_rope_42 ?_
      refine tl_0 hx hb hs hm (ix.add 85 112 (hx4) (by decide) (by decide)) dX10_rope_43 ?_
      refine lv_bipush (v := (6 : Int32)) hx hb dX10_rope_44 (by decide) ?_
      refine lv_icmp_ne (tgt := 58) hx hb dX10_rope_46 (by decide) (fun c_4 => ?_) (fun c_4 => ?_)
      · refine lv_aload_n hx hb dX10_rope_58 rfl (lv_at hl 0 rfl) ?_
        refine k_callv (va_runV (As := []) (rest := []) ⟨hx, hb, hml, hown, hts⟩ (tm_looksBack l E h v  ) (cwV 0 hts (lw_V q1749 q1751 qs21 q80 q1752) rfl rfl rfl (by decide +kernel) ⟨Nat.le_of_ble_eq_true rfl, Nat.le_of_ble_eq_true rfl⟩) (k_preVt hs hm hS) rfl rfl hl.1 rfl (lv_room (Nat.le_of_ble_eq_true rfl)) dX10_rope_59 ⟨Nat.le_of_ble_eq_true rfl, Nat.le_of_ble_eq_true rfl⟩) hS (fun u_5 H9 locs hw_5 hm_5 hS => ?_)
        replace hw_5 : u_5 = (T_looksBack v) := hw_5
        replace hw_5 := hw_5.symm
        subst hw_5
        have hm := hm_5
        refine lv_aload_n hx hb dX10_rope_62 rfl (lv_at hl 0 rfl) ?_
        refine tg_0 hx hb hts hown hs hm (hts _ q1674) dX10_rope_63 ?_
        refine lv_bipush (v := (85 : Int32)) hx hb dX10_rope_66 (by decide) ?_
        refine lv_iload_n hx hb dX10_rope_68 rfl (lv_at hl 1 rfl) ?_
        refine lv_iadd hx hb dX10_rope_69 ?_
        refine lv_dup2_11 hx hb dX10_rope_70 rfl rfl ?_
        refine tl_0 hx hb hs hm (ix.add 85 112 (hx4) (by decide) (by decide)) dX10_rope_71 ?_
        refine lv_iconst (v := (1 : Int32)) hx hb dX10_rope_72 (by decide) ?_
        refine lv_iadd hx hb dX10_rope_73 ?_
        refine ts_0 hx hb hs hm hS (ix.add 85 112 (hx4) (by decide) (by decide)) dX10_rope_74 (fun H locs hm hS => ?_)
        have hm : tW E h (u0 (T_looksBack v) (upd (t0 v) (((85 : Int32) + x)).toNatClampNeg ((t0 v (((85 : Int32) + x)).toNatClampNeg) + (1 : Int32)))) H := hm
        refine lv_aload_n hx hb dX10_rope_75 rfl (lv_at hl 0 rfl) ?_
        refine lv_aload_n hx hb dX10_rope_76 rfl (lv_at hl 0 rfl) ?_
        refine lv_aload_n hx hb dX10_rope_77 rfl (lv_at hl 0 rfl) ?_
        refine tg_0 hx hb hts hown hs hm (hts _ q1674) dX10_rope_78 ?_
        refine lv_bipush (v := (85 : Int32)) hx hb dX10_rope_81 (by decide) ?_
        refine lv_iload_n hx hb dX10_rope_83 rfl (lv_at hl 1 rfl) ?_
        refine lv_iadd hx hb dX10_rope_84 ?_
        refine tl_0 hx hb hs hm (ix.add 85 112 (hx4) (by decide) (by decide)) dX10_rope_85 ?_
        refine k_calli (va_runV (As := [.int (((upd (t0 v) (((85 : Int32) + x)).toNatClampNeg ((t0 v (((85 : Int32) + x)).toNatClampNeg) + (1 : Int32))) (((85 : Int32) + x)).toNatClampNeg))]) (rest := [.ref (h)]) ⟨hx, hb, hml, hown, hts⟩ (tm_done l E h (u0 (T_looksBack v) (upd (t0 v) (((85 : Int32) + x)).toNatClampNeg ((t0 v (((85 : Int32) + x)).toNatClampNeg) + (1 : Int32)))) (((upd (t0 v) (((85 : Int32) + x)).toNatClampNeg ((t0 v (((85 : Int32) + x)).toNatClampNeg) + (1 : Int32))) (((85 : Int32) + x)).toNatClampNeg)) ) (cwV 1 hts (lw_V q1770 q1772 qs24 q80 q1773) rfl rfl rfl (by decide +kernel) ⟨Nat.le_of_ble_eq_true rfl, Nat.le_of_ble_eq_true rfl⟩) (k_preVt hs hm hS) rfl rfl hl.1 rfl (lv_room (Nat.le_of_ble_eq_true rfl)) dX10_rope_86 ⟨Nat.le_of_ble_eq_true rfl, Nat.le_of_ble_eq_true rfl⟩) hS (fun r_6 u_6 H9 locs hw_6 hm_6 hS => ?_)
        replace hw_6 : r_6 = ((upd (t0 v) (((85 : Int32) + x)).toNatClampNeg ((t0 v (((85 : Int32) + x)).toNatClampNeg) + (1 : Int32))) (((85 : Int32) + x)).toNatClampNeg) ∧ u_6 = (u18 (u0 (T_looksBack v) (upd (t0 v) (((85 : Int32) + x)).toNatClampNeg ((t0 v (((85 : Int32) + x)).toNatClampNeg) + (1 : Int32)))) (0 : Int32)) := hw_6
        obtain ⟨hr_6, hw_6⟩ := hw_6
        replace hr_6 := hr_6.symm
        subst hr_6
        replace hw_6 := hw_6.symm
        subst hw_6
        have hm := hm_6
        refine k_calli (va_runV (As := [.int (((upd (t0 v) (((85 : Int32) + x)).toNatClampNeg ((t0 v (((85 : Int32) + x)).toNatClampNeg) + (1 : Int32))) (((85 : Int32) + x)).toNatClampNeg))]) (rest := []) ⟨hx, hb, hml, hown, hts⟩ (tm_kept l E h (u18 (u0 (T_looksBack v) (upd (t0 v) (((85 : Int32) + x)).toNatClampNeg ((t0 v (((85 : Int32) + x)).toNatClampNeg) + (1 : Int32)))) (0 : Int32)) (((upd (t0 v) (((85 : Int32) + x)).toNatClampNeg ((t0 v (((85 : Int32) + x)).toNatClampNeg) + (1 : Int32))) (((85 : Int32) + x)).toNatClampNeg)) (i9_u18 (i9_u0 (i9_looksBack h9)))) (cwV 1 hts (lw_V q1774 q1776 qs25 q80 q1777) rfl rfl rfl (by decide +kernel) ⟨Nat.le_of_ble_eq_true rfl, Nat.le_of_ble_eq_true rfl⟩) (k_preVt hs hm hS) rfl rfl hl.1 rfl (lv_room (Nat.le_of_ble_eq_true rfl)) dX10_rope_89 ⟨Nat.le_of_ble_eq_true rfl, Nat.le_of_ble_eq_true rfl⟩) hS (fun r_7 u_7 H9 locs hw_7 hm_7 hS => ?_)
        obtain ⟨hr_7, hu_7⟩ := hw_7
        have hm := hm_7
        subst hu_7
        subst hr_7
        subst hr_1
        exact W.iret (v := _) hx hb hr (fun t9 ht9 _ => ⟨⟨_, _, rfl, pp ((if_neg c_2).trans ((if_neg c_3).trans ((if_neg c_4).trans (rfl)))), hb9 ht9 hm⟩, hS.F ht9⟩) hS.2.2 dX10_rope_92
      · refine lv_aload_n hx hb dX10_rope_49 rfl (lv_at hl 0 rfl) ?_
        refine lv_iconst (v := (1 : Int32)) hx hb dX10_rope_50 (by decide) ?_
        refine lv_bipush (v := (6 : Int32)) hx hb dX10_rope_51 (by decide) ?_
        refine lv_iconst (v := (2 : Int32)) hx hb dX10_rope_53 (by decide) ?_
        refine k_calli (va_runV (As := [.int ((1 : Int32)), .int ((6 : Int32)), .int ((2 : Int32))]) (rest := []) ⟨hx, hb, hml, hown, hts⟩ (tm_refused l E h v ((1 : Int32)) ((6 : Int32)) ((2 : Int32)) ) (cwV 3 hts (lw_V q1790 q1792 qs27 q80 q1793) rfl rfl rfl (by decide +kernel) ⟨Nat.le_of_ble_eq_true rfl, Nat.le_of_ble_eq_true rfl⟩) (k_preVt hs hm hS) rfl rfl hl.1 rfl (lv_room (Nat.le_of_ble_eq_true rfl)) dX10_rope_54 ⟨Nat.le_of_ble_eq_true rfl, Nat.le_of_ble_eq_true rfl⟩) hS (fun r_8 u_8 H9 locs hw_8 hm_8 hS => ?_)
        replace hw_8 : r_8 = (0 : Int32) ∧ u_8 = (T_refused v (1 : Int32) (6 : Int32) (2 : Int32)).2 := hw_8
        obtain ⟨hr_8, hw_8⟩ := hw_8
        replace hr_8 := hr_8.symm
        subst hr_8
        replace hw_8 := hw_8.symm
        subst hw_8
        have hm := hm_8
        subst hr_1
        exact W.iret (v := _) hx hb hr (fun t9 ht9 _ => ⟨⟨_, _, rfl, pp ((if_neg c_2).trans ((if_neg c_3).trans ((if_pos c_4).trans (rfl)))), hb9 ht9 hm⟩, hS.F ht9⟩) hS.2.2 dX10_rope_57
    · refine lv_aload_n hx hb dX10_rope_26 rfl (lv_at hl 0 rfl) ?_
      refine lv_bipush (v := (10 : Int32)) hx hb dX10_rope_27 (by decide) ?_
      refine lv_iload_n hx hb dX10_rope_29 rfl (lv_at hl 1 rfl) ?_
      refine lv_iconst (v := (2 : Int32)) hx hb dX10_rope_30 (by decide) ?_
      refine k_calli (va_runV (As := [.int ((10 : Int32)), .int (x), .int ((2 : Int32))]) (rest := []) ⟨hx, hb, hml, hown, hts⟩ (tm_refused l E h v ((10 : Int32)) (x) ((2 : Int32)) ) (cwV 3 hts (lw_V q1790 q1792 qs27 q80 q1793) rfl rfl rfl (by decide +kernel) ⟨Nat.le_of_ble_eq_true rfl, Nat.le_of_ble_eq_true rfl⟩) (k_preVt hs hm hS) rfl rfl hl.1 rfl (lv_room (Nat.le_of_ble_eq_true rfl)) dX10_rope_31 ⟨Nat.le_of_ble_eq_true rfl, Nat.le_of_ble_eq_true rfl⟩) hS (fun r_9 u_9 H9 locs hw_9 hm_9 hS => ?_)
      replace hw_9 : r_9 = (0 : Int32) ∧ u_9 = (T_refused v (10 : Int32) x (2 : Int32)).2 := hw_9
      obtain ⟨hr_9, hw_9⟩ := hw_9
      replace hr_9 := hr_9.symm
      subst hr_9
      replace hw_9 := hw_9.symm
      subst hw_9
      have hm := hm_9
      subst hr_1
      exact W.iret (v := _) hx hb hr (fun t9 ht9 _ => ⟨⟨_, _, rfl, pp ((if_neg c_2).trans ((if_pos c_3).trans (rfl))), hb9 ht9 hm⟩, hS.F ht9⟩) hS.2.2 dX10_rope_34
  · refine lv_aload_n hx hb dX10_rope_8 rfl (lv_at hl 0 rfl) ?_
    refine lv_iconst (v := (1 : Int32)) hx hb dX10_rope_9 (by decide) ?_
    refine k_calli (va_runV (As := [.int ((1 : Int32))]) (rest := []) ⟨hx, hb, hml, hown, hts⟩ (tm_fails l E h v ((1 : Int32)) ) (cwV 1 hts (lw_V q1766 q1768 qs23 q80 q1769) rfl rfl rfl (by decide +kernel) ⟨Nat.le_of_ble_eq_true rfl, Nat.le_of_ble_eq_true rfl⟩) (k_preVt hs hm hS) rfl rfl hl.1 rfl (lv_room (Nat.le_of_ble_eq_true rfl)) dX10_rope_10 ⟨Nat.le_of_ble_eq_true rfl, Nat.le_of_ble_eq_true rfl⟩) hS (fun r_10 u_10 H9 locs hw_10 hm_10 hS => ?_)
    replace hw_10 : r_10 = (0 : Int32) ∧ u_10 = (T_fails v (1 : Int32)).2 := hw_10
    obtain ⟨hr_10, hw_10⟩ := hw_10
    replace hr_10 := hr_10.symm
    subst hr_10
    replace hw_10 := hw_10.symm
    subst hw_10
    have hm := hm_10
    subst hr_1
    exact W.iret (v := _) hx hb hr (fun t9 ht9 _ => ⟨⟨_, _, rfl, pp ((if_pos c_2).trans (rfl)), hb9 ht9 hm⟩, hS.F ht9⟩) hS.2.2 dX10_rope_13
def T_moles (v : tw) (x : Int32) (y : Int32) : Int32 × tw :=
  let r_1 := T_isPlot (x);
  if r_1 = 0 then
    ((0 : Int32), (T_fails v (1 : Int32)).2)
  else
    let r_3 := T_in (y) ((0 : Int32)) ((9 : Int32));
    if r_3 = 0 then
      ((0 : Int32), (T_fails v (2 : Int32)).2)
    else
      let r_7 := (T_kept (u18 (u0 (T_looksBack v) (upd (t0 v) (((3 : Int32) + x)).toNatClampNeg y)) (0 : Int32)) ((t0 v (((3 : Int32) + x)).toNatClampNeg))).1;
      let u_7 := (T_kept (u18 (u0 (T_looksBack v) (upd (t0 v) (((3 : Int32) + x)).toNatClampNeg y)) (0 : Int32)) ((t0 v (((3 : Int32) + x)).toNatClampNeg))).2;
      (r_7, u_7)
set_option maxHeartbeats 4000000 in
theorem tm_moles (l : Launch) (E : mE) (h : Nat) (v : tw) (x : Int32) (y : Int32) (hw : wf (t0 v) (t1 v)) (h9 : ix 9 (t6 v)) : Met l yX10_moles (ws_ yX10_moles cX10_moles 4 (some .int)) ({ frames := 2, cells := 0, slots := 0, locals := 46 }) (va_Pc [.ref h, .int x, .int y] (tP E h v)) (va_Qi (fun (r : Int32) (u : tw) => r = (T_moles v x y).1 ∧ u = (T_moles v x y).2) (fun u U => tW E h u U.heap) (eA E)) 0 0 (eA E) := by
  refine Met.ofW (cc := cX10_moles) (maxL := 4) (ret := (some .int)) (by decide) rfl ?_
  intro p e s m args below meth c s₁ B hml hv
  obtain ⟨rfl, hs, hm⟩ := hv
  have hx := B.exec
  have hb := B.bytes
  have hr := B.returns
  have hts := atoms_spec (ws := ws_ yX10_moles cX10_moles 4 (some .int)) B.pre
  have hts : ∀ w ∈ lw_all, w.before _ s = true := fun w h => hts w (List.mem_cons_of_mem _ h)
  have hown : s.vm.findClass RX10 = some m.cls := findClass_of_methodNamed B.named
  have hlocks := B.notSynchronized
  have hS : va_S (eA E) s.heap s.heap [] := va_S.rf
  have hl := lv_entry ([.ref h, .int x, .int y]) (n := 4) (Nat.le_of_ble_eq_true rfl)
  rw [lg_entry_eq]
  generalize (lg_sl ([.ref h, .int x, .int y]) ++ List.replicate (4 - (lg_sl ([.ref h, .int x, .int y])).length) Slot.unset).toArray = ls at hl ⊢
  have hl : lv_has ls 4 [(0, .ref (h)), (1, .int (x)), (2, .int (y))] := hl
  refine lv_iload_n hx hb dX10_moles_0 rfl (lv_at hl 1 rfl) ?_
  refine k_calli (va_runS (As := [.int (x)]) (rest := []) ⟨hx, hb, hml, hown, hts⟩ (tm_isPlot l E (x) _) (va_cwS 1 hts (lw_S q1806 q1807 q80 q1808) rfl rfl rfl (by decide +kernel) ⟨Nat.le_of_ble_eq_true rfl, Nat.le_of_ble_eq_true rfl⟩) (k_pure hs hS) rfl rfl hl.1 rfl (lv_room (Nat.le_of_ble_eq_true rfl)) dX10_moles_1 ⟨Nat.le_of_ble_eq_true rfl, Nat.le_of_ble_eq_true rfl⟩) hS (fun r_1 u_1 H9 locs hw_1 hm_1 hS => ?_)
  replace hm_1 : _ = H9 := Eq.symm hm_1
  subst hm_1
  have hr_1 := hw_1
  refine lv_if_ne (tgt := 13) hx hb dX10_moles_4 (by decide) (fun c_2 => ?_) (fun c_2 => ?_)
  · have hx12 := plot_ix hr_1 c_2
    refine lv_iload_n hx hb dX10_moles_13 rfl (lv_at hl 2 rfl) ?_
    refine lv_iconst (v := (0 : Int32)) hx hb dX10_moles_14 (by decide) ?_
    refine lv_bipush (v := (9 : Int32)) hx hb dX10_moles_15 (by decide) ?_
    refine k_calli (va_runS (As := [.int (y), .int ((0 : Int32)), .int ((9 : Int32))]) (rest := []) ⟨hx, hb, hml, hown, hts⟩ (tm_in l E (y) ((0 : Int32)) ((9 : Int32)) _) (va_cwS 3 hts (lw_S q1763 q1764 q80 q1765) rfl rfl rfl (by decide +kernel) ⟨Nat.le_of_ble_eq_true rfl, Nat.le_of_ble_eq_true rfl⟩) (k_pure hs hS) rfl rfl hl.1 rfl (lv_room (Nat.le_of_ble_eq_true rfl)) dX10_moles_17 ⟨Nat.le_of_ble_eq_true rfl, Nat.le_of_ble_eq_true rfl⟩) hS (fun r_3 u_3 H9 locs hw_3 hm_3 hS => ?_)
    replace hm_3 : _ = H9 := Eq.symm hm_3
    subst hm_3
    have hr_3 := hw_3
    refine lv_if_ne (tgt := 29) hx hb dX10_moles_20 (by decide) (fun c_4 => ?_) (fun c_4 => ?_)
    · refine lv_aload_n hx hb dX10_moles_29 rfl (lv_at hl 0 rfl) ?_
      refine k_callv (va_runV (As := []) (rest := []) ⟨hx, hb, hml, hown, hts⟩ (tm_looksBack l E h v  ) (cwV 0 hts (lw_V q1749 q1751 qs21 q80 q1752) rfl rfl rfl (by decide +kernel) ⟨Nat.le_of_ble_eq_true rfl, Nat.le_of_ble_eq_true rfl⟩) (k_preVt hs hm hS) rfl rfl hl.1 rfl (lv_room (Nat.le_of_ble_eq_true rfl)) dX10_moles_30 ⟨Nat.le_of_ble_eq_true rfl, Nat.le_of_ble_eq_true rfl⟩) hS (fun u_5 H9 locs hw_5 hm_5 hS => ?_)
      replace hw_5 : u_5 = (T_looksBack v) := hw_5
      replace hw_5 := hw_5.symm
      subst hw_5
      have hm := hm_5
      refine lv_aload_n hx hb dX10_moles_33 rfl (lv_at hl 0 rfl) ?_
      refine tg_0 hx hb hts hown hs hm (hts _ q1674) dX10_moles_34 ?_
      refine lv_iconst (v := (3 : Int32)) hx hb dX10_moles_37 (by decide) ?_
      refine lv_iload_n hx hb dX10_moles_38 rfl (lv_at hl 1 rfl) ?_
      refine lv_iadd hx hb dX10_moles_39 ?_
      refine tl_0 hx hb hs hm (ix.add 3 112 (hx12) (by decide) (by decide)) dX10_moles_40 ?_
      refine lv_istore_n (lv' := [(3, _), (0, _), (1, _), (2, _)]) hx hb dX10_moles_41 rfl hl (by decide) rfl (fun ls hl => ?_)
      refine lv_aload_n hx hb dX10_moles_42 rfl (lv_at hl 1 rfl) ?_
      refine tg_0 hx hb hts hown hs hm (hts _ q1674) dX10_moles_43 ?_
      refine lv_iconst (v := (3 : Int32)) hx hb dX10_moles_46 (by decide) ?_
      refine lv_iload_n hx hb dX10_moles_47 rfl (lv_at hl 2 rfl) ?_
      refine lv_iadd hx hb dX10_moles_48 ?_
      refine lv_iload_n hx hb dX10_moles_49 rfl (lv_at hl 3 rfl) ?_
      refine ts_0 hx hb hs hm hS (ix.add 3 112 (hx12) (by decide) (by decide)) dX10_moles_50 (fun H locs hm hS => ?_)
      have hm : tW E h (u0 (T_looksBack v) (upd (t0 v) (((3 : Int32) + x)).toNatClampNeg y)) H := hm
      refine lv_aload_n hx hb dX10_moles_51 rfl (lv_at hl 1 rfl) ?_
      refine lv_aload_n hx hb dX10_moles_52 rfl (lv_at hl 1 rfl) ?_
      refine lv_iload_n hx hb dX10_moles_53 rfl (lv_at hl 0 rfl) ?_
      refine k_calli (va_runV (As := [.int ((t0 v (((3 : Int32) + x)).toNatClampNeg))]) (rest := [.ref (h)]) ⟨hx, hb, hml, hown, hts⟩ (tm_done l E h (u0 (T_looksBack v) (upd (t0 v) (((3 : Int32) + x)).toNatClampNeg y)) ((t0 v (((3 : Int32) + x)).toNatClampNeg)) ) (cwV 1 hts (lw_V q1770 q1772 qs24 q80 q1773) rfl rfl rfl (by decide +kernel) ⟨Nat.le_of_ble_eq_true rfl, Nat.le_of_ble_eq_true rfl⟩) (k_preVt hs hm hS) rfl rfl hl.1 rfl (lv_room (Nat.le_of_ble_eq_true rfl)) dX10_moles_54 ⟨Nat.le_of_ble_eq_true rfl, Nat.le_of_ble_eq_true rfl⟩) hS (fun r_6 u_6 H9 locs hw_6 hm_6 hS => ?_)
      replace hw_6 : r_6 = (t0 v (((3 : Int32) + x)).toNatClampNeg) ∧ u_6 = (u18 (u0 (T_looksBack v) (upd (t0 v) (((3 : Int32) + x)).toNatClampNeg y)) (0 : Int32)) := hw_6
      obtain ⟨hr_6, hw_6⟩ := hw_6
      replace hr_6 := hr_6.symm
      subst hr_6
      replace hw_6 := hw_6.symm
      subst hw_6
      have hm := hm_6
      refine k_calli (va_runV (As := [.int ((t0 v (((3 : Int32) + x)).toNatClampNeg))]) (rest := []) ⟨hx, hb, hml, hown, hts⟩ (tm_kept l E h (u18 (u0 (T_looksBack v) (upd (t0 v) (((3 : Int32) + x)).toNatClampNeg y)) (0 : Int32)) ((t0 v (((3 : Int32) + x)).toNatClampNeg)) (i9_u18 (i9_u0 (i9_looksBack h9)))) (cwV 1 hts (lw_V q1774 q1776 qs25 q80 q1777) rfl rfl rfl (by decide +kernel) ⟨Nat.le_of_ble_eq_true rfl, Nat.le_of_ble_eq_true rfl⟩) (k_preVt hs hm hS) rfl rfl hl.1 rfl (lv_room (Nat.le_of_ble_eq_true rfl)) dX10_moles_57 ⟨Nat.le_of_ble_eq_true rfl, Nat.le_of_ble_eq_true rfl⟩) hS (fun r_7 u_7 H9 locs hw_7 hm_7 hS => ?_)
      obtain ⟨hr_7, hu_7⟩ := hw_7
      have hm := hm_7
      subst hu_7
      subst hr_7
      subst hr_3
      subst hr_1
      exact W.iret (v := _) hx hb hr (fun t9 ht9 _ => ⟨⟨_, _, rfl, pp ((if_neg c_2).trans ((if_neg c_4).trans (rfl))), hb9 ht9 hm⟩, hS.F ht9⟩) hS.2.2 dX10_moles_60
    · refine lv_aload_n hx hb dX10_moles_23 rfl (lv_at hl 0 rfl) ?_
      refine lv_iconst (v := (2 : Int32)) hx hb dX10_moles_24 (by decide) ?_
      refine k_calli (va_runV (As := [.int ((2 : Int32))]) (rest := []) ⟨hx, hb, hml, hown, hts⟩ (tm_fails l E h v ((2 : Int32)) ) (cwV 1 hts (lw_V q1766 q1768 qs23 q80 q1769) rfl rfl rfl (by decide +kernel) ⟨Nat.le_of_ble_eq_true rfl, Nat.le_of_ble_eq_true rfl⟩) (k_preVt hs hm hS) rfl rfl hl.1 rfl (lv_room (Nat.le_of_ble_eq_true rfl)) dX10_moles_25 ⟨Nat.le_of_ble_eq_true rfl, Nat.le_of_ble_eq_true rfl⟩) hS (fun r_8 u_8 H9 locs hw_8 hm_8 hS => ?_)
      replace hw_8 : r_8 = (0 : Int32) ∧ u_8 = (T_fails v (2 : Int32)).2 := hw_8
      obtain ⟨hr_8, hw_8⟩ := hw_8
      replace hr_8 := hr_8.symm
      subst hr_8
      replace hw_8 := hw_8.symm
      subst hw_8
      have hm := hm_8
      subst hr_3
      subst hr_1
      exact W.iret (v := _) hx hb hr (fun t9 ht9 _ => ⟨⟨_, _, rfl, pp ((if_neg c_2).trans ((if_pos c_4).trans (rfl))), hb9 ht9 hm⟩, hS.F ht9⟩) hS.2.2 dX10_moles_28
  · refine lv_aload_n hx hb dX10_moles_7 rfl (lv_at hl 0 rfl) ?_
    refine lv_iconst (v := (1 : Int32)) hx hb dX10_moles_8 (by decide) ?_
    refine k_calli (va_runV (As := [.int ((1 : Int32))]) (rest := []) ⟨hx, hb, hml, hown, hts⟩ (tm_fails l E h v ((1 : Int32)) ) (cwV 1 hts (lw_V q1766 q1768 qs23 q80 q1769) rfl rfl rfl (by decide +kernel) ⟨Nat.le_of_ble_eq_true rfl, Nat.le_of_ble_eq_true rfl⟩) (k_preVt hs hm hS) rfl rfl hl.1 rfl (lv_room (Nat.le_of_ble_eq_true rfl)) dX10_moles_9 ⟨Nat.le_of_ble_eq_true rfl, Nat.le_of_ble_eq_true rfl⟩) hS (fun r_9 u_9 H9 locs hw_9 hm_9 hS => ?_)
    replace hw_9 : r_9 = (0 : Int32) ∧ u_9 = (T_fails v (1 : Int32)).2 := hw_9
    obtain ⟨hr_9, hw_9⟩ := hw_9
    replace hr_9 := hr_9.symm
    subst hr_9
    replace hw_9 := hw_9.symm
    subst hw_9
    have hm := hm_9
    subst hr_1
    exact W.iret (v := _) hx hb hr (fun t9 ht9 _ => ⟨⟨_, _, rfl, pp ((if_pos c_2).trans (rfl)), hb9 ht9 hm⟩, hS.F ht9⟩) hS.2.2 dX10_moles_12
def T_member (v : tw)  : Int32 × tw :=
  if (t0 v ((51 : Int32)).toNatClampNeg) = (6 : Int32) then
    ((0 : Int32), (T_refused v (1 : Int32) (6 : Int32) (1 : Int32)).2)
  else
    let r_4 := (T_kept (u18 (u0 (T_looksBack v) (upd (upd (t0 v) (((52 : Int32) + (t0 v ((51 : Int32)).toNatClampNeg))).toNatClampNeg (-1 : Int32)) ((51 : Int32)).toNatClampNeg (((upd (t0 v) (((52 : Int32) + (t0 v ((51 : Int32)).toNatClampNeg))).toNatClampNeg (-1 : Int32)) ((51 : Int32)).toNatClampNeg) + (1 : Int32)))) (0 : Int32)) ((t0 v ((51 : Int32)).toNatClampNeg))).1;
    let u_4 := (T_kept (u18 (u0 (T_looksBack v) (upd (upd (t0 v) (((52 : Int32) + (t0 v ((51 : Int32)).toNatClampNeg))).toNatClampNeg (-1 : Int32)) ((51 : Int32)).toNatClampNeg (((upd (t0 v) (((52 : Int32) + (t0 v ((51 : Int32)).toNatClampNeg))).toNatClampNeg (-1 : Int32)) ((51 : Int32)).toNatClampNeg) + (1 : Int32)))) (0 : Int32)) ((t0 v ((51 : Int32)).toNatClampNeg))).2;
    (r_4, u_4)
set_option maxHeartbeats 4000000 in
theorem tm_member (l : Launch) (E : mE) (h : Nat) (v : tw)  (hw : wf (t0 v) (t1 v)) (h9 : ix 9 (t6 v)) : Met l yX10_member (ws_ yX10_member cX10_member 2 (some .int)) ({ frames := 2, cells := 0, slots := 0, locals := 46 }) (va_Pc [.ref h] (tP E h v)) (va_Qi (fun (r : Int32) (u : tw) => r = (T_member v ).1 ∧ u = (T_member v ).2) (fun u U => tW E h u U.heap) (eA E)) 0 0 (eA E) := by
  refine Met.ofW (cc := cX10_member) (maxL := 2) (ret := (some .int)) (by decide) rfl ?_
  intro p e s m args below meth c s₁ B hml hv
  obtain ⟨rfl, hs, hm⟩ := hv
  have hx := B.exec
  have hb := B.bytes
  have hr := B.returns
  have hts := atoms_spec (ws := ws_ yX10_member cX10_member 2 (some .int)) B.pre
  have hts : ∀ w ∈ lw_all, w.before _ s = true := fun w h => hts w (List.mem_cons_of_mem _ h)
  have hown : s.vm.findClass RX10 = some m.cls := findClass_of_methodNamed B.named
  have hlocks := B.notSynchronized
  have hS : va_S (eA E) s.heap s.heap [] := va_S.rf
  have hl := lv_entry ([.ref h]) (n := 2) (Nat.le_of_ble_eq_true rfl)
  rw [lg_entry_eq]
  generalize (lg_sl ([.ref h]) ++ List.replicate (2 - (lg_sl ([.ref h])).length) Slot.unset).toArray = ls at hl ⊢
  have hl : lv_has ls 2 [(0, .ref (h))] := hl
  refine lv_aload_n hx hb dX10_member_0 rfl (lv_at hl 0 rfl) ?_
  refine tg_0 hx hb hts hown hs hm (hts _ q1674) dX10_member_1 ?_
  refine lv_bipush (v := (51 : Int32)) hx hb dX10_member_4 (by decide) ?_
  refine tl_0 hx hb hs hm (vi 51 (by decide) (by decide)) dX10_member_6 ?_
  refine lv_istore_n (lv' := [(1, _), (0, _)]) hx hb dX10_member_7 rfl hl (by decide) rfl (fun ls hl => ?_)
  refine lv_iload_n hx hb dX10_member_8 rfl (lv_at hl 0 rfl) ?_
  refine lv_bipush (v := (6 : Int32)) hx hb dX10_member_9 (by decide) ?_
  refine lv_icmp_ne (tgt := 23) hx hb dX10_member_11 (by decide) (fun c_1 => ?_) (fun c_1 => ?_)
  · have h6 := mem_lt hw c_1
    refine lv_aload_n hx hb dX10_member_23 rfl (lv_at hl 1 rfl) ?_
    refine k_callv (va_runV (As := []) (rest := []) ⟨hx, hb, hml, hown, hts⟩ (tm_looksBack l E h v  ) (cwV 0 hts (lw_V q1749 q1751 qs21 q80 q1752) rfl rfl rfl (by decide +kernel) ⟨Nat.le_of_ble_eq_true rfl, Nat.le_of_ble_eq_true rfl⟩) (k_preVt hs hm hS) rfl rfl hl.1 rfl (lv_room (Nat.le_of_ble_eq_true rfl)) dX10_member_24 ⟨Nat.le_of_ble_eq_true rfl, Nat.le_of_ble_eq_true rfl⟩) hS (fun u_2 H9 locs hw_2 hm_2 hS => ?_)
    replace hw_2 : u_2 = (T_looksBack v) := hw_2
    replace hw_2 := hw_2.symm
    subst hw_2
    have hm := hm_2
    refine lv_aload_n hx hb dX10_member_27 rfl (lv_at hl 1 rfl) ?_
    refine tg_0 hx hb hts hown hs hm (hts _ q1674) dX10_member_28 ?_
    refine lv_bipush (v := (52 : Int32)) hx hb dX10_member_31 (by decide) ?_
    refine lv_iload_n hx hb dX10_member_33 rfl (lv_at hl 0 rfl) ?_
    refine lv_iadd hx hb dX10_member_34 ?_
    refine lv_iconst (v := (-1 : Int32)) hx hb dX10_member_35 (by decide) ?_
    refine ts_0 hx hb hs hm hS (ix.add 52 112 (h6) (by decide) (by decide)) dX10_member_36 (fun H locs hm hS => ?_)
    have hm : tW E h (u0 (T_looksBack v) (upd (t0 v) (((52 : Int32) + (t0 v ((51 : Int32)).toNatClampNeg))).toNatClampNeg (-1 : Int32))) H := hm
    refine lv_aload_n hx hb dX10_member_37 rfl (lv_at hl 1 rfl) ?_
    refine tg_0 hx hb hts hown hs hm (hts _ q1674) dX10_member_38 ?_
    refine lv_bipush (v := (51 : Int32)) hx hb dX10_member_41 (by decide) ?_
    refine lv_dup2_11 hx hb dX10_member_43 rfl rfl ?_
    refine tl_0 hx hb hs hm (vi 51 (by decide) (by decide)) dX10_member_44 ?_
    refine lv_iconst (v := (1 : Int32)) hx hb dX10_member_45 (by decide) ?_
    refine lv_iadd hx hb dX10_member_46 ?_
    refine ts_0 hx hb hs hm hS (vi 51 (by decide) (by decide)) dX10_member_47 (fun H locs hm hS => ?_)
    have hm : tW E h (u0 (T_looksBack v) (upd (upd (t0 v) (((52 : Int32) + (t0 v ((51 : Int32)).toNatClampNeg))).toNatClampNeg (-1 : Int32)) ((51 : Int32)).toNatClampNeg (((upd (t0 v) (((52 : Int32) + (t0 v ((51 : Int32)).toNatClampNeg))).toNatClampNeg (-1 : Int32)) ((51 : Int32)).toNatClampNeg) + (1 : Int32)))) H := hm
    refine lv_aload_n hx hb dX10_member_48 rfl (lv_at hl 1 rfl) ?_
    refine lv_aload_n hx hb dX10_member_49 rfl (lv_at hl 1 rfl) ?_
    refine lv_iload_n hx hb dX10_member_50 rfl (lv_at hl 0 rfl) ?_
    refine k_calli (va_runV (As := [.int ((t0 v ((51 : Int32)).toNatClampNeg))]) (rest := [.ref (h)]) ⟨hx, hb, hml, hown, hts⟩ (tm_done l E h (u0 (T_looksBack v) (upd (upd (t0 v) (((52 : Int32) + (t0 v ((51 : Int32)).toNatClampNeg))).toNatClampNeg (-1 : Int32)) ((51 : Int32)).toNatClampNeg (((upd (t0 v) (((52 : Int32) + (t0 v ((51 : Int32)).toNatClampNeg))).toNatClampNeg (-1 : Int32)) ((51 : Int32)).toNatClampNeg) + (1 : Int32)))) ((t0 v ((51 : Int32)).toNatClampNeg)) ) (cwV 1 hts (lw_V q1770 q1772 qs24 q80 q1773) rfl rfl rfl (by decide +kernel) ⟨Nat.le_of_ble_eq_true rfl, Nat.le_of_ble_eq_true rfl⟩) (k_preVt hs hm hS) rfl rfl hl.1 rfl (lv_room (Nat.le_of_ble_eq_true rfl)) dX10_member_51 ⟨Nat.le_of_ble_eq_true rfl, Nat.le_of_ble_eq_true rfl⟩) hS (fun r_3 u_3 H9 locs hw_3 hm_3 hS => ?_)
    replace hw_3 : r_3 = (t0 v ((51 : Int32)).toNatClampNeg) ∧ u_3 = (u18 (u0 (T_looksBack v) (upd (upd (t0 v) (((52 : Int32) + (t0 v ((51 : Int32)).toNatClampNeg))).toNatClampNeg (-1 : Int32)) ((51 : Int32)).toNatClampNeg (((upd (t0 v) (((52 : Int32) + (t0 v ((51 : Int32)).toNatClampNeg))).toNatClampNeg (-1 : Int32)) ((51 : Int32)).toNatClampNeg) + (1 : Int32)))) (0 : Int32)) := hw_3
    obtain ⟨hr_3, hw_3⟩ := hw_3
    replace hr_3 := hr_3.symm
    subst hr_3
    replace hw_3 := hw_3.symm
    subst hw_3
    have hm := hm_3
    refine k_calli (va_runV (As := [.int ((t0 v ((51 : Int32)).toNatClampNeg))]) (rest := []) ⟨hx, hb, hml, hown, hts⟩ (tm_kept l E h (u18 (u0 (T_looksBack v) (upd (upd (t0 v) (((52 : Int32) + (t0 v ((51 : Int32)).toNatClampNeg))).toNatClampNeg (-1 : Int32)) ((51 : Int32)).toNatClampNeg (((upd (t0 v) (((52 : Int32) + (t0 v ((51 : Int32)).toNatClampNeg))).toNatClampNeg (-1 : Int32)) ((51 : Int32)).toNatClampNeg) + (1 : Int32)))) (0 : Int32)) ((t0 v ((51 : Int32)).toNatClampNeg)) (i9_u18 (i9_u0 (i9_looksBack h9)))) (cwV 1 hts (lw_V q1774 q1776 qs25 q80 q1777) rfl rfl rfl (by decide +kernel) ⟨Nat.le_of_ble_eq_true rfl, Nat.le_of_ble_eq_true rfl⟩) (k_preVt hs hm hS) rfl rfl hl.1 rfl (lv_room (Nat.le_of_ble_eq_true rfl)) dX10_member_54 ⟨Nat.le_of_ble_eq_true rfl, Nat.le_of_ble_eq_true rfl⟩) hS (fun r_4 u_4 H9 locs hw_4 hm_4 hS => ?_)
    obtain ⟨hr_4, hu_4⟩ := hw_4
    have hm := hm_4
    subst hu_4
    subst hr_4
    exact W.iret (v := _) hx hb hr (fun t9 ht9 _ => ⟨⟨_, _, rfl, pp ((if_neg c_1).trans (rfl)), hb9 ht9 hm⟩, hS.F ht9⟩) hS.2.2 dX10_member_57
  · refine lv_aload_n hx hb dX10_member_14 rfl (lv_at hl 1 rfl) ?_
    refine lv_iconst (v := (1 : Int32)) hx hb dX10_member_15 (by decide) ?_
    refine lv_bipush (v := (6 : Int32)) hx hb dX10_member_16 (by decide) ?_
    refine lv_iconst (v := (1 : Int32)) hx hb dX10_member_18 (by decide) ?_
    refine k_calli (va_runV (As := [.int ((1 : Int32)), .int ((6 : Int32)), .int ((1 : Int32))]) (rest := []) ⟨hx, hb, hml, hown, hts⟩ (tm_refused l E h v ((1 : Int32)) ((6 : Int32)) ((1 : Int32)) ) (cwV 3 hts (lw_V q1790 q1792 qs27 q80 q1793) rfl rfl rfl (by decide +kernel) ⟨Nat.le_of_ble_eq_true rfl, Nat.le_of_ble_eq_true rfl⟩) (k_preVt hs hm hS) rfl rfl hl.1 rfl (lv_room (Nat.le_of_ble_eq_true rfl)) dX10_member_19 ⟨Nat.le_of_ble_eq_true rfl, Nat.le_of_ble_eq_true rfl⟩) hS (fun r_5 u_5 H9 locs hw_5 hm_5 hS => ?_)
    replace hw_5 : r_5 = (0 : Int32) ∧ u_5 = (T_refused v (1 : Int32) (6 : Int32) (1 : Int32)).2 := hw_5
    obtain ⟨hr_5, hw_5⟩ := hw_5
    replace hr_5 := hr_5.symm
    subst hr_5
    replace hw_5 := hw_5.symm
    subst hw_5
    have hm := hm_5
    exact W.iret (v := _) hx hb hr (fun t9 ht9 _ => ⟨⟨_, _, rfl, pp ((if_pos c_1).trans (rfl)), hb9 ht9 hm⟩, hS.F ht9⟩) hS.2.2 dX10_member_22
