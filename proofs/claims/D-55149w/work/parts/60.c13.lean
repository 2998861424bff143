set_option maxRecDepth 100000
/-! the class: crops and sheds, what may be refused -/
section KR9
variable {p : Program} {l : Launch} {e : Env} {R : Room} {s : State} {m : MethodId} {args : Array Value} {below : List Frame} {meth : Method} {c : Code} {H : Heap} {locs : List Loc} {cells slots : Nat} {Q : State → Prop}
variable {cc : ByteArray} {pc : Nat} {ls : Array Slot} {rest : List Value} {a : Nat} {E : mE} {t : mt} {M : mm} {r : Option Nat}
theorem k_aastN2 (hexec : p.tables.exec = Jvm.exec) (hb : c.code = cc) (hs : sP E s) (hm : mw E t M H) (hS : va_S (eA E) s.heap H locs) (ht : t a = (25, 5) ∨ t a = (26, 5)) {i : Int32} (hin : vp_in i 5) (hdg : decode cc pc = .ok (.aastore, 1))
    (kk : ∀ (H1 : Heap) (locs1 : List Loc), mw E t (wR M a (va_up (aR M a) i.toNatClampNeg none)) H1 → va_S (eA E) s.heap H1 locs1 → W p l e R s m args below meth c H1 locs1 cells slots Q (F0 m (pc + 1) ls rest)) : W p l e R s m args below meth c H locs cells slots Q (F0 m pc ls (.null :: .int i :: .ref a :: rest)) := by
  rcases ht with ht | ht
  · exact k_aastN (j := 5) hexec hb hs hm hS ht (by decide) (fun _ => rfl) rfl hin hdg kk
  · exact k_aastN (j := 6) hexec hb hs hm hS ht (by decide) (fun _ => rfl) rfl hin hdg kk
end KR9
theorem five_ix {n : Int32} (h : ix 5 n) (c : ¬ n = 4) : ix 4 n := by
  obtain ⟨k, hk, rfl⟩ := h
  refine ⟨k, ?_, rfl⟩
  rcases Nat.lt_or_ge k 4 with h9 | h9
  · exact h9
  · exact absurd (by rw [show k = 4 by omega]; rfl) c
theorem plO.some {t : mt} {p : Nat} (h : isP t p) : plO t (some p) := fun q hq => by cases hq; exact h
def C2_shed (t : mt) (M : mm) (c : Nat) (x : Int32) : Int32 × Int32 × Int32 × mm :=
  let x2 := if (gI M 212 c) = (4 : Int32) then (1 : Int32) else (0 : Int32);
  let r_4 := C2_shedOn t M (c) (x);
  if x2 = 0 then
    let r_4 := C2_shedOn t M (c) (x);
    let x6 := if r_4 = (-1 : Int32) then (0 : Int32) else (1 : Int32);
    let u_8 := C7_begins t M ((c + 54 + ((gI M 212 c)).toNatClampNeg)) (x);
    if x6 = 0 then
      let u_8 := C7_begins t M ((c + 54 + ((gI M 212 c)).toNatClampNeg)) (x);
      ((0 : Int32), (0 : Int32), (((gI u_8 212 c) + (1 : Int32)) - (1 : Int32)), (sI u_8 212 c ((gI u_8 212 c) + (1 : Int32))))
    else
      ((9 : Int32), r_4, (0 : Int32), M)
  else
    ((1 : Int32), (4 : Int32), (0 : Int32), M)
set_option maxHeartbeats 4000000 in
theorem cm2_shed (l : Launch) (E : mE) (hl9 : l.stackTraces = false) (t : mt) (M : mm) (c : Nat) (x : Int32) (hL : lay t c) (hn : ix 5 (gI M 212 c)) : vx_Met l yX2_shed (ws_ yX2_shed cX2_shed 3 (some .int)) ({ frames := 9, cells := 2, slots := 16, locals := 182 }) (va_Pc [.ref c, .int x] (wP E t M)) (va_Qi (fun (r : Int32) (u : mm) => (C2_shed t M c x).1 = 0 ∧ r = (C2_shed t M c x).2.2.1 ∧ u = (C2_shed t M c x).2.2.2) (fun u U => mw E t u U.heap) (eA E)) (vx_X (fun (u : mm) => ¬ (C2_shed t M c x).1 = 0 ∧ u = (C2_shed t M c x).2.2.2) (fun En q u U => XR E t (C2_shed t M c x).1 (C2_shed t M c x).2.1 En q u U.heap) (eA E)) 2 16 (eA E) := by
  refine vx_ofW (cc := cX2_shed) (maxL := 3) (ret := (some .int)) (by decide) rfl ?_
  intro p e s m args below meth c0 s₁ B hml hno hv
  obtain ⟨rfl, hs, hm⟩ := hv
  have hx := B.exec
  have hb := B.bytes
  have hr := B.returns
  have hts := atoms_spec (ws := ws_ yX2_shed cX2_shed 3 (some .int)) B.pre
  have hts : ∀ w ∈ lw_all, w.before _ s = true := fun w h => hts w (List.mem_cons_of_mem _ h)
  have hown : s.vm.findClass RX2 = some m.cls := findClass_of_methodNamed B.named
  have hlocks := B.notSynchronized
  have hout : ∀ pc : Nat, ∀ x ∈ c0.exceptionTable.toList, covers x pc = false := fun _ x h => (hno x h).elim
  have hS : va_S (eA E) s.heap s.heap [] := va_S.rf
  have hl := lv_entry ([.ref c, .int x]) (n := 3) (Nat.le_of_ble_eq_true rfl)
  rw [lg_entry_eq]
  generalize (lg_sl ([.ref c, .int x]) ++ List.replicate (3 - (lg_sl ([.ref c, .int x])).length) Slot.unset).toArray = ls at hl ⊢
  have hl : lv_has ls 3 [(0, .ref (c)), (1, .int (x))] := hl
  refine lv_aload_n hx hb dX2_shed_0 rfl (lv_at hl 0 rfl) ?_
  refine gf_212 hx hb hts hown hs hm (lay.z hL) (hts _ q247) dX2_shed_1 ?_
  refine lv_iconst (v := (4 : Int32)) hx hb dX2_shed_4 (by decide) ?_
  refine k_join (fun (x2 : Int32) H locs ls => x2 = (if (gI M 212 c) = (4 : Int32) then (1 : Int32) else (0 : Int32)) ∧ mw E t (M) H ∧ va_S (eA E) s.heap H locs ∧ lv_has ls 3 [(0, .ref (c)), (1, .int (x))]) (fun (x2 : Int32) ls => F0 m 13 ls [.int (x2)]) (fun x2 H locs ls hJ => ?_) (fun J2 => ?_)
  · obtain ⟨hX2, hm, hS, hl⟩ := hJ
    refine lv_iconst (v := (1 : Int32)) hx hb dX2_shed_13 (by decide) ?_
    refine lv_iconst (v := (4 : Int32)) hx hb dX2_shed_14 (by decide) ?_
    refine kx_callv (BX := fun En q u H => XR E t ((1 : Int32)) ((4 : Int32)) En q u H) (vx_runSN (As := [.int (x2), .int ((1 : Int32)), .int ((4 : Int32))]) (rest := []) ⟨hx, hb, hml, hown, hts⟩ (cm1_refuse l E hl9 t M  (x2) ((1 : Int32)) ((4 : Int32)) ) (⟨va_cnB 3 hts (lw_meth q752) rfl rfl rfl (hs.2.2.1 _ q750 rfl) (hts _ q58) (by decide +kernel) ⟨Nat.le_of_ble_eq_true rfl, Nat.le_of_ble_eq_true rfl⟩, hts _ q751, trivial⟩) (k_preS hs hm hS) rfl rfl hl.1 rfl (lv_room (Nat.le_of_ble_eq_true rfl)) dX2_shed_15 ⟨Nat.le_of_ble_eq_true rfl, Nat.le_of_ble_eq_true rfl⟩) hS (fun En_3 ce_3 q_3 u9_3 H locs hp_3 hB_3 hS h1_3 h2_3 h3_3 => ?_) (fun u_3 H locs hw_3 hm_3 hS => ?_)
    · obtain ⟨c_3, hu9_3⟩ := hp_3
      replace hu9_3 := hu9_3.symm
      subst hu9_3
      subst hX2
      have e9 : C2_shed t M c x = _ := (if_neg c_3).trans (rfl)
      exact kx_out (BX := fun En q u H => XR E t (C2_shed t M c x).1 (C2_shed t M c x).2.1 En q u H) (u := _) (fun x h => (hno x h).elim) hlocks (xr_leaf e9 (by decide) hB_3).1 (xr_leaf e9 (by decide) hB_3).2 hS h1_3 h2_3 h3_3 (Nat.le_of_ble_eq_true rfl) (Nat.le_of_ble_eq_true rfl)
    · obtain ⟨c_3, hu_3⟩ := hw_3
      replace hu_3 := hu_3.symm
      subst hu_3
      have hm := hm_3
      refine lv_aload_n hx hb dX2_shed_18 rfl (lv_at hl 0 rfl) ?_
      refine lv_iload_n hx hb dX2_shed_19 rfl (lv_at hl 1 rfl) ?_
      refine k_calli (va_runV (As := [.int (x)]) (rest := []) ⟨hx, hb, hml, hown, hts⟩ (cm2_shedOn l E t M  (c) (x) hL hn) (cwV 1 hts (lw_V q1151 q891 q892 q59 q893) rfl rfl rfl (by decide +kernel) ⟨Nat.le_of_ble_eq_true rfl, Nat.le_of_ble_eq_true rfl⟩) (k_preV hs hm hS (mw.recv hs hm (mt_ne (lay.z hL) (by decide)) (ct2 (lay.z hL)) rfl)) rfl rfl hl.1 rfl (lv_room (Nat.le_of_ble_eq_true rfl)) dX2_shed_20 ⟨Nat.le_of_ble_eq_true rfl, Nat.le_of_ble_eq_true rfl⟩) hS (fun r_4 u_4 H locs hw_4 hm_4 hS => ?_)
      obtain ⟨hr_4, hu_4⟩ := hw_4
      replace hu_4 := hu_4.symm
      subst hu_4
      have hm := hm_4
      refine lv_istore_n (lv' := [(2, _), (0, _), (1, _)]) hx hb dX2_shed_23 rfl hl (by decide) rfl (fun ls hl => ?_)
      refine lv_iload_n hx hb dX2_shed_24 rfl (lv_at hl 0 rfl) ?_
      refine lv_iconst (v := (-1 : Int32)) hx hb dX2_shed_25 (by decide) ?_
      refine k_join (fun (x6 : Int32) H locs ls => x6 = (if r_4 = (-1 : Int32) then (0 : Int32) else (1 : Int32)) ∧ mw E t (M) H ∧ va_S (eA E) s.heap H locs ∧ lv_has ls 3 [(2, .int (r_4)), (0, .ref (c)), (1, .int (x))]) (fun (x6 : Int32) ls => F0 m 34 ls [.int (x6)]) (fun x6 H locs ls hJ => ?_) (fun J6 => ?_)
      · obtain ⟨hX6, hm, hS, hl⟩ := hJ
        refine lv_bipush (v := (9 : Int32)) hx hb dX2_shed_34 (by decide) ?_
        refine lv_iload_n hx hb dX2_shed_36 rfl (lv_at hl 0 rfl) ?_
        refine kx_callv (BX := fun En q u H => XR E t ((9 : Int32)) (r_4) En q u H) (vx_runSN (As := [.int (x6), .int ((9 : Int32)), .int (r_4)]) (rest := []) ⟨hx, hb, hml, hown, hts⟩ (cm1_refuse l E hl9 t M  (x6) ((9 : Int32)) (r_4) ) (⟨va_cnB 3 hts (lw_meth q752) rfl rfl rfl (hs.2.2.1 _ q750 rfl) (hts _ q58) (by decide +kernel) ⟨Nat.le_of_ble_eq_true rfl, Nat.le_of_ble_eq_true rfl⟩, hts _ q751, trivial⟩) (k_preS hs hm hS) rfl rfl hl.1 rfl (lv_room (Nat.le_of_ble_eq_true rfl)) dX2_shed_37 ⟨Nat.le_of_ble_eq_true rfl, Nat.le_of_ble_eq_true rfl⟩) hS (fun En_7 ce_7 q_7 u9_7 H locs hp_7 hB_7 hS h1_7 h2_7 h3_7 => ?_) (fun u_7 H locs hw_7 hm_7 hS => ?_)
        · obtain ⟨c_7, hu9_7⟩ := hp_7
          replace hu9_7 := hu9_7.symm
          subst hu9_7
          subst hX6
          subst hr_4
          subst hX2
          have e9 : C2_shed t M c x = _ := (if_pos c_3).trans ((if_neg c_7).trans (rfl))
          exact kx_out (BX := fun En q u H => XR E t (C2_shed t M c x).1 (C2_shed t M c x).2.1 En q u H) (u := _) (fun x h => (hno x h).elim) hlocks (xr_leaf e9 (by decide) hB_7).1 (xr_leaf e9 (by decide) hB_7).2 hS h1_7 h2_7 h3_7 (Nat.le_of_ble_eq_true rfl) (Nat.le_of_ble_eq_true rfl)
        · obtain ⟨c_7, hu_7⟩ := hw_7
          replace hu_7 := hu_7.symm
          subst hu_7
          have hm := hm_7
          refine lv_aload_n hx hb dX2_shed_40 rfl (lv_at hl 1 rfl) ?_
          refine gf_209 hx hb hts hown hs hm (lay.z hL) (hts _ q241) dX2_shed_41 ?_
          refine lv_aload_n hx hb dX2_shed_44 rfl (lv_at hl 1 rfl) ?_
          refine gf_212 hx hb hts hown hs hm (lay.z hL) (hts _ q247) dX2_shed_45 ?_
          refine k_shd hx hb hs hm (lay.a10 hL) (k := ((gI M 212 c)).toNatClampNeg) rfl (ix.at (B := 4) (((five_ix hn (b01 hX2 c_3))).mono (by decide)) (by decide)) dX2_shed_48 ?_
          refine lv_iload_n hx hb dX2_shed_49 rfl (lv_at hl 2 rfl) ?_
          refine k_callv (va_runV (As := [.int (x)]) (rest := []) ⟨hx, hb, hml, hown, hts⟩ (cm7_begins l E t M  ((c + 54 + ((gI M 212 c)).toNatClampNeg)) (x) (lay.shd hL (ix.nlt (((five_ix hn (b01 hX2 c_3))).mono (by decide)))) ) (cwV 1 hts (lw_V q1152 q1153 q1154 q64 q1155) rfl rfl rfl (by decide +kernel) ⟨Nat.le_of_ble_eq_true rfl, Nat.le_of_ble_eq_true rfl⟩) (k_preV hs hm hS (mw.recv hs hm (mt_ne (lay.shd hL (ix.nlt (((five_ix hn (b01 hX2 c_3))).mono (by decide)))) (by decide)) (ct6 (lay.shd hL (ix.nlt (((five_ix hn (b01 hX2 c_3))).mono (by decide))))) rfl)) rfl rfl hl.1 rfl (lv_room (Nat.le_of_ble_eq_true rfl)) dX2_shed_50 ⟨Nat.le_of_ble_eq_true rfl, Nat.le_of_ble_eq_true rfl⟩) hS (fun u_8 H locs hw_8 hm_8 hS => ?_)
          have hu_8 := hw_8
          have hm := hm_8
          refine lv_aload_n hx hb dX2_shed_53 rfl (lv_at hl 1 rfl) ?_
          refine lv_dup hx hb dX2_shed_54 rfl ?_
          refine gf_212 hx hb hts hown hs hm (lay.z hL) (hts _ q247) dX2_shed_55 ?_
          refine lv_iconst (v := (1 : Int32)) hx hb dX2_shed_58 (by decide) ?_
          refine lv_iadd hx hb dX2_shed_59 ?_
          refine pf_212 hx hb hts hown hs hm hS (lay.z hL) (hts _ q247) dX2_shed_60 (fun H locs hm hS => ?_)
          have hm : mw E t ((sI u_8 212 c ((gI u_8 212 c) + (1 : Int32)))) H := hm
          refine lv_aload_n hx hb dX2_shed_63 rfl (lv_at hl 1 rfl) ?_
          refine gf_212 hx hb hts hown hs hm (lay.z hL) (hts _ q247) dX2_shed_64 ?_
          rw [show gI (sI u_8 212 c ((gI u_8 212 c) + (1 : Int32))) 212 c = ((gI u_8 212 c) + (1 : Int32)) from (show gI (sI u_8 212 c ((gI u_8 212 c) + (1 : Int32))) 212 c = ((gI u_8 212 c) + (1 : Int32)) from m2_at _ _ _ _)]
          refine lv_iconst (v := (1 : Int32)) hx hb dX2_shed_67 (by decide) ?_
          refine lv_isub hx hb dX2_shed_68 ?_
          subst hu_8
          subst hX6
          subst hr_4
          subst hX2
          refine vx_ret ?_
          refine W.widen (k := 2) (n := 16) (Nat.le_of_ble_eq_true rfl) (Nat.le_of_ble_eq_true rfl) ?_
          exact W.iret (v := _) hx hb hr (fun t9 ht9 _ => ⟨⟨_, _, rfl, pp4 ((if_pos c_3).trans ((if_pos c_7).trans (rfl))), hb9 ht9 hm⟩, hS.F ht9⟩) hS.2.2 dX2_shed_69
      · refine lv_icmp_eq (tgt := 33) hx hb dX2_shed_26 (by decide) (fun c_5 => ?_) (fun c_5 => ?_)
        · refine lv_iconst (v := (0 : Int32)) hx hb dX2_shed_33 (by decide) ?_
          exact J6 ((0 : Int32)) _ _ _ ⟨((if_pos c_5).trans (rfl)).symm, hm, hS, lv_sub hl [0, 1, 2] rfl⟩
        · refine lv_iconst (v := (1 : Int32)) hx hb dX2_shed_29 (by decide) ?_
          refine lv_goto (tgt := 34) hx hb dX2_shed_30 (by decide) ?_
          exact J6 ((1 : Int32)) _ _ _ ⟨((if_neg c_5).trans (rfl)).symm, hm, hS, lv_sub hl [0, 1, 2] rfl⟩
  · refine lv_icmp_ne (tgt := 12) hx hb dX2_shed_5 (by decide) (fun c_1 => ?_) (fun c_1 => ?_)
    · refine lv_iconst (v := (0 : Int32)) hx hb dX2_shed_12 (by decide) ?_
      exact J2 ((0 : Int32)) _ _ _ ⟨((if_neg c_1).trans (rfl)).symm, hm, hS, lv_sub hl [0, 1] rfl⟩
    · refine lv_iconst (v := (1 : Int32)) hx hb dX2_shed_8 (by decide) ?_
      refine lv_goto (tgt := 13) hx hb dX2_shed_9 (by decide) ?_
      exact J2 ((1 : Int32)) _ _ _ ⟨((if_pos c_1).trans (rfl)).symm, hm, hS, lv_sub hl [0, 1] rfl⟩
def C2_rope (t : mt) (M : mm) (c : Nat) (x : Int32) : Int32 × Int32 × Int32 × mm :=
  let x2 := if (gI M 602 (c + 54 + (x).toNatClampNeg)) = 0 then (1 : Int32) else (0 : Int32);
  if x2 = 0 then
    let x5 := if (gI M 601 (c + 54 + (x).toNatClampNeg)) = (6 : Int32) then (1 : Int32) else (0 : Int32);
    if x5 = 0 then
      ((0 : Int32), (0 : Int32), ((gI M 601 (c + 54 + (x).toNatClampNeg)) + (1 : Int32)), (sI M 601 (c + 54 + (x).toNatClampNeg) ((gI M 601 (c + 54 + (x).toNatClampNeg)) + (1 : Int32))))
    else
      ((1 : Int32), (6 : Int32), (0 : Int32), M)
  else
    ((10 : Int32), x, (0 : Int32), M)
set_option maxHeartbeats 4000000 in
theorem cm2_rope (l : Launch) (E : mE) (hl9 : l.stackTraces = false) (t : mt) (M : mm) (c : Nat) (x : Int32) (hL : lay t c) (hx1 : ix 4 x) : vx_Met l yX2_rope (ws_ yX2_rope cX2_rope 3 (some .int)) ({ frames := 9, cells := 2, slots := 16, locals := 182 }) (va_Pc [.ref c, .int x] (wP E t M)) (va_Qi (fun (r : Int32) (u : mm) => (C2_rope t M c x).1 = 0 ∧ r = (C2_rope t M c x).2.2.1 ∧ u = (C2_rope t M c x).2.2.2) (fun u U => mw E t u U.heap) (eA E)) (vx_X (fun (u : mm) => ¬ (C2_rope t M c x).1 = 0 ∧ u = (C2_rope t M c x).2.2.2) (fun En q u U => XR E t (C2_rope t M c x).1 (C2_rope t M c x).2.1 En q u U.heap) (eA E)) 2 16 (eA E) := by
  refine vx_ofW (cc := cX2_rope) (maxL := 3) (ret := (some .int)) (by decide) rfl ?_
  intro p e s m args below meth c0 s₁ B hml hno hv
  obtain ⟨rfl, hs, hm⟩ := hv
  have hx := B.exec
  have hb := B.bytes
  have hr := B.returns
  have hts := atoms_spec (ws := ws_ yX2_rope cX2_rope 3 (some .int)) B.pre
  have hts : ∀ w ∈ lw_all, w.before _ s = true := fun w h => hts w (List.mem_cons_of_mem _ h)
  have hown : s.vm.findClass RX2 = some m.cls := findClass_of_methodNamed B.named
  have hlocks := B.notSynchronized
  have hout : ∀ pc : Nat, ∀ x ∈ c0.exceptionTable.toList, covers x pc = false := fun _ x h => (hno x h).elim
  have hS : va_S (eA E) s.heap s.heap [] := va_S.rf
  have hl := lv_entry ([.ref c, .int x]) (n := 3) (Nat.le_of_ble_eq_true rfl)
  rw [lg_entry_eq]
  generalize (lg_sl ([.ref c, .int x]) ++ List.replicate (3 - (lg_sl ([.ref c, .int x])).length) Slot.unset).toArray = ls at hl ⊢
  have hl : lv_has ls 3 [(0, .ref (c)), (1, .int (x))] := hl
  refine lv_aload_n hx hb dX2_rope_0 rfl (lv_at hl 0 rfl) ?_
  refine gf_209 hx hb hts hown hs hm (lay.z hL) (hts _ q241) dX2_rope_1 ?_
  refine lv_iload_n hx hb dX2_rope_4 rfl (lv_at hl 1 rfl) ?_
  refine k_shd hx hb hs hm (lay.a10 hL) (k := (x).toNatClampNeg) rfl (ix.at (B := 4) ((hx1).mono (by decide)) (by decide)) dX2_rope_5 ?_
  refine lv_astore_n (lv' := [(2, _), (0, _), (1, _)]) hx hb dX2_rope_6 rfl hl (by decide) rfl (fun ls hl => ?_)
  refine lv_aload_n hx hb dX2_rope_7 rfl (lv_at hl 0 rfl) ?_
  refine gfN_602 hx hb hts hown hs hm (lay.shd hL (ix.nlt ((hx1).mono (by decide)))) q190 dX2_rope_8 ?_
  refine k_join (fun (x2 : Int32) H locs ls => x2 = (if (gI M 602 (c + 54 + (x).toNatClampNeg)) = 0 then (1 : Int32) else (0 : Int32)) ∧ mw E t (M) H ∧ va_S (eA E) s.heap H locs ∧ lv_has ls 3 [(2, .ref ((c + 54 + (x).toNatClampNeg))), (0, .ref (c)), (1, .int (x))]) (fun (x2 : Int32) ls => F0 m 19 ls [.int (x2)]) (fun x2 H locs ls hJ => ?_) (fun J2 => ?_)
  · obtain ⟨hX2, hm, hS, hl⟩ := hJ
    refine lv_bipush (v := (10 : Int32)) hx hb dX2_rope_19 (by decide) ?_
    refine lv_iload_n hx hb dX2_rope_21 rfl (lv_at hl 2 rfl) ?_
    refine kx_callv (BX := fun En q u H => XR E t ((10 : Int32)) (x) En q u H) (vx_runSN (As := [.int (x2), .int ((10 : Int32)), .int (x)]) (rest := []) ⟨hx, hb, hml, hown, hts⟩ (cm1_refuse l E hl9 t M  (x2) ((10 : Int32)) (x) ) (⟨va_cnB 3 hts (lw_meth q752) rfl rfl rfl (hs.2.2.1 _ q750 rfl) (hts _ q58) (by decide +kernel) ⟨Nat.le_of_ble_eq_true rfl, Nat.le_of_ble_eq_true rfl⟩, hts _ q751, trivial⟩) (k_preS hs hm hS) rfl rfl hl.1 rfl (lv_room (Nat.le_of_ble_eq_true rfl)) dX2_rope_22 ⟨Nat.le_of_ble_eq_true rfl, Nat.le_of_ble_eq_true rfl⟩) hS (fun En_3 ce_3 q_3 u9_3 H locs hp_3 hB_3 hS h1_3 h2_3 h3_3 => ?_) (fun u_3 H locs hw_3 hm_3 hS => ?_)
    · obtain ⟨c_3, hu9_3⟩ := hp_3
      replace hu9_3 := hu9_3.symm
      subst hu9_3
      subst hX2
      have e9 : C2_rope t M c x = _ := (if_neg c_3).trans (rfl)
      exact kx_out (BX := fun En q u H => XR E t (C2_rope t M c x).1 (C2_rope t M c x).2.1 En q u H) (u := _) (fun x h => (hno x h).elim) hlocks (xr_leaf e9 (by decide) hB_3).1 (xr_leaf e9 (by decide) hB_3).2 hS h1_3 h2_3 h3_3 (Nat.le_of_ble_eq_true rfl) (Nat.le_of_ble_eq_true rfl)
    · obtain ⟨c_3, hu_3⟩ := hw_3
      replace hu_3 := hu_3.symm
      subst hu_3
      have hm := hm_3
      refine lv_aload_n hx hb dX2_rope_25 rfl (lv_at hl 0 rfl) ?_
      refine gfN_601 hx hb hts hown hs hm (lay.shd hL (ix.nlt ((hx1).mono (by decide)))) q187 dX2_rope_26 ?_
      refine lv_bipush (v := (6 : Int32)) hx hb dX2_rope_29 (by decide) ?_
      refine k_join (fun (x5 : Int32) H locs ls => x5 = (if (gI M 601 (c + 54 + (x).toNatClampNeg)) = (6 : Int32) then (1 : Int32) else (0 : Int32)) ∧ mw E t (M) H ∧ va_S (eA E) s.heap H locs ∧ lv_has ls 3 [(2, .ref ((c + 54 + (x).toNatClampNeg))), (0, .ref (c)), (1, .int (x))]) (fun (x5 : Int32) ls => F0 m 39 ls [.int (x5)]) (fun x5 H locs ls hJ => ?_) (fun J5 => ?_)
      · obtain ⟨hX5, hm, hS, hl⟩ := hJ
        refine lv_iconst (v := (1 : Int32)) hx hb dX2_rope_39 (by decide) ?_
        refine lv_bipush (v := (6 : Int32)) hx hb dX2_rope_40 (by decide) ?_
        refine kx_callv (BX := fun En q u H => XR E t ((1 : Int32)) ((6 : Int32)) En q u H) (vx_runSN (As := [.int (x5), .int ((1 : Int32)), .int ((6 : Int32))]) (rest := []) ⟨hx, hb, hml, hown, hts⟩ (cm1_refuse l E hl9 t M  (x5) ((1 : Int32)) ((6 : Int32)) ) (⟨va_cnB 3 hts (lw_meth q752) rfl rfl rfl (hs.2.2.1 _ q750 rfl) (hts _ q58) (by decide +kernel) ⟨Nat.le_of_ble_eq_true rfl, Nat.le_of_ble_eq_true rfl⟩, hts _ q751, trivial⟩) (k_preS hs hm hS) rfl rfl hl.1 rfl (lv_room (Nat.le_of_ble_eq_true rfl)) dX2_rope_42 ⟨Nat.le_of_ble_eq_true rfl, Nat.le_of_ble_eq_true rfl⟩) hS (fun En_6 ce_6 q_6 u9_6 H locs hp_6 hB_6 hS h1_6 h2_6 h3_6 => ?_) (fun u_6 H locs hw_6 hm_6 hS => ?_)
        · obtain ⟨c_6, hu9_6⟩ := hp_6
          replace hu9_6 := hu9_6.symm
          subst hu9_6
          subst hX5
          subst hX2
          have e9 : C2_rope t M c x = _ := (if_pos c_3).trans ((if_neg c_6).trans (rfl))
          exact kx_out (BX := fun En q u H => XR E t (C2_rope t M c x).1 (C2_rope t M c x).2.1 En q u H) (u := _) (fun x h => (hno x h).elim) hlocks (xr_leaf e9 (by decide) hB_6).1 (xr_leaf e9 (by decide) hB_6).2 hS h1_6 h2_6 h3_6 (Nat.le_of_ble_eq_true rfl) (Nat.le_of_ble_eq_true rfl)
        · obtain ⟨c_6, hu_6⟩ := hw_6
          replace hu_6 := hu_6.symm
          subst hu_6
          have hm := hm_6
          refine lv_aload_n hx hb dX2_rope_45 rfl (lv_at hl 0 rfl) ?_
          refine lv_dup hx hb dX2_rope_46 rfl ?_
          refine gfN_601 hx hb hts hown hs hm (lay.shd hL (ix.nlt ((hx1).mono (by decide)))) q187 dX2_rope_47 ?_
          refine lv_iconst (v := (1 : Int32)) hx hb dX2_rope_50 (by decide) ?_
          refine lv_iadd hx hb dX2_rope_51 ?_
          refine pfN_601 hx hb hts hown hs hm hS (lay.shd hL (ix.nlt ((hx1).mono (by decide)))) q187 dX2_rope_52 (fun H locs hm hS => ?_)
          have hm : mw E t ((sI M 601 (c + 54 + (x).toNatClampNeg) ((gI M 601 (c + 54 + (x).toNatClampNeg)) + (1 : Int32)))) H := hm
          refine lv_aload_n hx hb dX2_rope_55 rfl (lv_at hl 0 rfl) ?_
          refine gfN_601 hx hb hts hown hs hm (lay.shd hL (ix.nlt ((hx1).mono (by decide)))) q187 dX2_rope_56 ?_
          rw [show gI (sI M 601 (c + 54 + (x).toNatClampNeg) ((gI M 601 (c + 54 + (x).toNatClampNeg)) + (1 : Int32))) 601 (c + 54 + (x).toNatClampNeg) = ((gI M 601 (c + 54 + (x).toNatClampNeg)) + (1 : Int32)) from (show gI (sI M 601 (c + 54 + (x).toNatClampNeg) ((gI M 601 (c + 54 + (x).toNatClampNeg)) + (1 : Int32))) 601 (c + 54 + (x).toNatClampNeg) = ((gI M 601 (c + 54 + (x).toNatClampNeg)) + (1 : Int32)) from m2_at _ _ _ _)]
          subst hX5
          subst hX2
          refine vx_ret ?_
          refine W.widen (k := 2) (n := 16) (Nat.le_of_ble_eq_true rfl) (Nat.le_of_ble_eq_true rfl) ?_
          exact W.iret (v := _) hx hb hr (fun t9 ht9 _ => ⟨⟨_, _, rfl, pp4 ((if_pos c_3).trans ((if_pos c_6).trans (rfl))), hb9 ht9 hm⟩, hS.F ht9⟩) hS.2.2 dX2_rope_59
      · refine lv_icmp_ne (tgt := 38) hx hb dX2_rope_31 (by decide) (fun c_4 => ?_) (fun c_4 => ?_)
        · refine lv_iconst (v := (0 : Int32)) hx hb dX2_rope_38 (by decide) ?_
          exact J5 ((0 : Int32)) _ _ _ ⟨((if_neg c_4).trans (rfl)).symm, hm, hS, lv_sub hl [0, 1, 2] rfl⟩
        · refine lv_iconst (v := (1 : Int32)) hx hb dX2_rope_34 (by decide) ?_
          refine lv_goto (tgt := 39) hx hb dX2_rope_35 (by decide) ?_
          exact J5 ((1 : Int32)) _ _ _ ⟨((if_pos c_4).trans (rfl)).symm, hm, hS, lv_sub hl [0, 1, 2] rfl⟩
  · refine lv_if_ne (tgt := 18) hx hb dX2_rope_11 (by decide) (fun c_1 => ?_) (fun c_1 => ?_)
    · refine lv_iconst (v := (0 : Int32)) hx hb dX2_rope_18 (by decide) ?_
      exact J2 ((0 : Int32)) _ _ _ ⟨((if_neg c_1).trans (rfl)).symm, hm, hS, lv_sub hl [0, 1, 2] rfl⟩
    · refine lv_iconst (v := (1 : Int32)) hx hb dX2_rope_14 (by decide) ?_
      refine lv_goto (tgt := 19) hx hb dX2_rope_15 (by decide) ?_
      exact J2 ((1 : Int32)) _ _ _ ⟨((if_pos c_1).trans (rfl)).symm, hm, hS, lv_sub hl [0, 1, 2] rfl⟩
def C2_pour (t : mt) (M : mm) (c : Nat) (x : Int32) (y : Int32) (z : Int32) : Int32 × Int32 × UInt32 × mm :=
  let x2 := if (gI M 602 (c + 54 + (x).toNatClampNeg)) = 0 then (1 : Int32) else (0 : Int32);
  if x2 = 0 then
    let x5 := if 0 ≤ (Op.cmpValue (FP.fcmp (gF M 603 (c + 54 + (x).toNatClampNeg)) (FP.i2f z)) .g) then (0 : Int32) else (1 : Int32);
    if x5 = 0 then
      ((0 : Int32), (0 : Int32), ((vf_upd (aF M (c + 1)) (y).toNatClampNeg (T_most (FP.fadd (aF M (c + 1) (y).toNatClampNeg) (FP.fmul (1056964608 : UInt32) (FP.i2f z))) (1120403456 : UInt32))) (y).toNatClampNeg), (wF (sF M 603 (c + 54 + (x).toNatClampNeg) (FP.fsub (gF M 603 (c + 54 + (x).toNatClampNeg)) (FP.i2f z))) (c + 1) (vf_upd (aF M (c + 1)) (y).toNatClampNeg (T_most (FP.fadd (aF M (c + 1) (y).toNatClampNeg) (FP.fmul (1056964608 : UInt32) (FP.i2f z))) (1120403456 : UInt32)))))
    else
      ((11 : Int32), (FP.f2i (gF M 603 (c + 54 + (x).toNatClampNeg))), (0 : UInt32), M)
  else
    ((10 : Int32), x, (0 : UInt32), M)
set_option maxHeartbeats 4000000 in
theorem cm2_pour (l : Launch) (E : mE) (hl9 : l.stackTraces = false) (t : mt) (M : mm) (c : Nat) (x : Int32) (y : Int32) (z : Int32) (hL : lay t c) (hx1 : ix 4 x) (hy1 : ix 12 y) (hz1 : ix 91 z) (hli : kd false 7 (gF M 603 (c + 54 + (x).toNatClampNeg))) (hwa : ∀ k, k < 12 → kd false 12 (aF M (c + 1) k)) : vx_Met l yX2_pour (ws_ yX2_pour cX2_pour 5 (some .float)) ({ frames := 9, cells := 2, slots := 16, locals := 182 }) (va_Pc [.ref c, .int x, .int y, .int z] (wP E t M)) (va_Qf (fun (r : UInt32) (u : mm) => (C2_pour t M c x y z).1 = 0 ∧ r = (C2_pour t M c x y z).2.2.1 ∧ u = (C2_pour t M c x y z).2.2.2) (fun u U => mw E t u U.heap) (eA E)) (vx_X (fun (u : mm) => ¬ (C2_pour t M c x y z).1 = 0 ∧ u = (C2_pour t M c x y z).2.2.2) (fun En q u U => XR E t (C2_pour t M c x y z).1 (C2_pour t M c x y z).2.1 En q u U.heap) (eA E)) 2 16 (eA E) := by
  refine vx_ofW (cc := cX2_pour) (maxL := 5) (ret := (some .float)) (by decide) rfl ?_
  intro p e s m args below meth c0 s₁ B hml hno hv
  obtain ⟨rfl, hs, hm⟩ := hv
  have hx := B.exec
  have hb := B.bytes
  have hr := B.returns
  have hts := atoms_spec (ws := ws_ yX2_pour cX2_pour 5 (some .float)) B.pre
  have hts : ∀ w ∈ lw_all, w.before _ s = true := fun w h => hts w (List.mem_cons_of_mem _ h)
  have hown : s.vm.findClass RX2 = some m.cls := findClass_of_methodNamed B.named
  have hlocks := B.notSynchronized
  have hout : ∀ pc : Nat, ∀ x ∈ c0.exceptionTable.toList, covers x pc = false := fun _ x h => (hno x h).elim
  have hS : va_S (eA E) s.heap s.heap [] := va_S.rf
  have hl := lv_entry ([.ref c, .int x, .int y, .int z]) (n := 5) (Nat.le_of_ble_eq_true rfl)
  rw [lg_entry_eq]
  generalize (lg_sl ([.ref c, .int x, .int y, .int z]) ++ List.replicate (5 - (lg_sl ([.ref c, .int x, .int y, .int z])).length) Slot.unset).toArray = ls at hl ⊢
  have hl : lv_has ls 5 [(0, .ref (c)), (1, .int (x)), (2, .int (y)), (3, .int (z))] := hl
  refine lv_aload_n hx hb dX2_pour_0 rfl (lv_at hl 0 rfl) ?_
  refine gf_209 hx hb hts hown hs hm (lay.z hL) (hts _ q241) dX2_pour_1 ?_
  refine lv_iload_n hx hb dX2_pour_4 rfl (lv_at hl 1 rfl) ?_
  refine k_shd hx hb hs hm (lay.a10 hL) (k := (x).toNatClampNeg) rfl (ix.at (B := 4) ((hx1).mono (by decide)) (by decide)) dX2_pour_5 ?_
  refine lv_astore (lv' := [(4, _), (0, _), (1, _), (2, _), (3, _)]) hx hb dX2_pour_6 hl (by decide) rfl (fun ls hl => ?_)
  refine lv_aload hx hb dX2_pour_8 (lv_at hl 0 rfl) ?_
  refine gfN_602 hx hb hts hown hs hm (lay.shd hL (ix.nlt ((hx1).mono (by decide)))) q190 dX2_pour_10 ?_
  refine k_join (fun (x2 : Int32) H locs ls => x2 = (if (gI M 602 (c + 54 + (x).toNatClampNeg)) = 0 then (1 : Int32) else (0 : Int32)) ∧ mw E t (M) H ∧ va_S (eA E) s.heap H locs ∧ lv_has ls 5 [(4, .ref ((c + 54 + (x).toNatClampNeg))), (0, .ref (c)), (1, .int (x)), (2, .int (y)), (3, .int (z))]) (fun (x2 : Int32) ls => F0 m 21 ls [.int (x2)]) (fun x2 H locs ls hJ => ?_) (fun J2 => ?_)
  · obtain ⟨hX2, hm, hS, hl⟩ := hJ
    refine lv_bipush (v := (10 : Int32)) hx hb dX2_pour_21 (by decide) ?_
    refine lv_iload_n hx hb dX2_pour_23 rfl (lv_at hl 2 rfl) ?_
    refine kx_callv (BX := fun En q u H => XR E t ((10 : Int32)) (x) En q u H) (vx_runSN (As := [.int (x2), .int ((10 : Int32)), .int (x)]) (rest := []) ⟨hx, hb, hml, hown, hts⟩ (cm1_refuse l E hl9 t M  (x2) ((10 : Int32)) (x) ) (⟨va_cnB 3 hts (lw_meth q752) rfl rfl rfl (hs.2.2.1 _ q750 rfl) (hts _ q58) (by decide +kernel) ⟨Nat.le_of_ble_eq_true rfl, Nat.le_of_ble_eq_true rfl⟩, hts _ q751, trivial⟩) (k_preS hs hm hS) rfl rfl hl.1 rfl (lv_room (Nat.le_of_ble_eq_true rfl)) dX2_pour_24 ⟨Nat.le_of_ble_eq_true rfl, Nat.le_of_ble_eq_true rfl⟩) hS (fun En_3 ce_3 q_3 u9_3 H locs hp_3 hB_3 hS h1_3 h2_3 h3_3 => ?_) (fun u_3 H locs hw_3 hm_3 hS => ?_)
    · obtain ⟨c_3, hu9_3⟩ := hp_3
      replace hu9_3 := hu9_3.symm
      subst hu9_3
      subst hX2
      have e9 : C2_pour t M c x y z = _ := (if_neg c_3).trans (rfl)
      exact kx_out (BX := fun En q u H => XR E t (C2_pour t M c x y z).1 (C2_pour t M c x y z).2.1 En q u H) (u := _) (fun x h => (hno x h).elim) hlocks (xr_leaf e9 (by decide) hB_3).1 (xr_leaf e9 (by decide) hB_3).2 hS h1_3 h2_3 h3_3 (Nat.le_of_ble_eq_true rfl) (Nat.le_of_ble_eq_true rfl)
    · obtain ⟨c_3, hu_3⟩ := hw_3
      replace hu_3 := hu_3.symm
      subst hu_3
      have hm := hm_3
      refine lv_aload hx hb dX2_pour_27 (lv_at hl 0 rfl) ?_
      refine gfN_603 hx hb hts hown hs hm (lay.shd hL (ix.nlt ((hx1).mono (by decide)))) q193 dX2_pour_29 ?_
      refine lv_iload_n hx hb dX2_pour_32 rfl (lv_at hl 4 rfl) ?_
      refine lv_i2f hx hb dX2_pour_33 ?_
      refine lv_fcmp hx hb dX2_pour_34 ?_
      refine k_join (fun (x5 : Int32) H locs ls => x5 = (if 0 ≤ (Op.cmpValue (FP.fcmp (gF M 603 (c + 54 + (x).toNatClampNeg)) (FP.i2f z)) .g) then (0 : Int32) else (1 : Int32)) ∧ mw E t (M) H ∧ va_S (eA E) s.heap H locs ∧ lv_has ls 5 [(4, .ref ((c + 54 + (x).toNatClampNeg))), (0, .ref (c)), (1, .int (x)), (2, .int (y)), (3, .int (z))]) (fun (x5 : Int32) ls => F0 m 43 ls [.int (x5)]) (fun x5 H locs ls hJ => ?_) (fun J5 => ?_)
      · obtain ⟨hX5, hm, hS, hl⟩ := hJ
        refine lv_bipush (v := (11 : Int32)) hx hb dX2_pour_43 (by decide) ?_
        refine lv_aload hx hb dX2_pour_45 (lv_at hl 0 rfl) ?_
        refine gfN_603 hx hb hts hown hs hm (lay.shd hL (ix.nlt ((hx1).mono (by decide)))) q193 dX2_pour_47 ?_
        refine lv_f2i hx hb dX2_pour_50 ?_
        refine kx_callv (BX := fun En q u H => XR E t ((11 : Int32)) ((FP.f2i (gF M 603 (c + 54 + (x).toNatClampNeg)))) En q u H) (vx_runSN (As := [.int (x5), .int ((11 : Int32)), .int ((FP.f2i (gF M 603 (c + 54 + (x).toNatClampNeg))))]) (rest := []) ⟨hx, hb, hml, hown, hts⟩ (cm1_refuse l E hl9 t M  (x5) ((11 : Int32)) ((FP.f2i (gF M 603 (c + 54 + (x).toNatClampNeg)))) ) (⟨va_cnB 3 hts (lw_meth q752) rfl rfl rfl (hs.2.2.1 _ q750 rfl) (hts _ q58) (by decide +kernel) ⟨Nat.le_of_ble_eq_true rfl, Nat.le_of_ble_eq_true rfl⟩, hts _ q751, trivial⟩) (k_preS hs hm hS) rfl rfl hl.1 rfl (lv_room (Nat.le_of_ble_eq_true rfl)) dX2_pour_51 ⟨Nat.le_of_ble_eq_true rfl, Nat.le_of_ble_eq_true rfl⟩) hS (fun En_6 ce_6 q_6 u9_6 H locs hp_6 hB_6 hS h1_6 h2_6 h3_6 => ?_) (fun u_6 H locs hw_6 hm_6 hS => ?_)
        · obtain ⟨c_6, hu9_6⟩ := hp_6
          replace hu9_6 := hu9_6.symm
          subst hu9_6
          subst hX5
          subst hX2
          have e9 : C2_pour t M c x y z = _ := (if_pos c_3).trans ((if_neg c_6).trans (rfl))
          exact kx_out (BX := fun En q u H => XR E t (C2_pour t M c x y z).1 (C2_pour t M c x y z).2.1 En q u H) (u := _) (fun x h => (hno x h).elim) hlocks (xr_leaf e9 (by decide) hB_6).1 (xr_leaf e9 (by decide) hB_6).2 hS h1_6 h2_6 h3_6 (Nat.le_of_ble_eq_true rfl) (Nat.le_of_ble_eq_true rfl)
        · obtain ⟨c_6, hu_6⟩ := hw_6
          replace hu_6 := hu_6.symm
          subst hu_6
          have hm := hm_6
          refine lv_aload hx hb dX2_pour_54 (lv_at hl 0 rfl) ?_
          refine lv_dup hx hb dX2_pour_56 rfl ?_
          refine gfN_603 hx hb hts hown hs hm (lay.shd hL (ix.nlt ((hx1).mono (by decide)))) q193 dX2_pour_57 ?_
          refine lv_iload_n hx hb dX2_pour_60 rfl (lv_at hl 4 rfl) ?_
          refine lv_i2f hx hb dX2_pour_61 ?_
          refine lv_fsub hx hb dX2_pour_62 (((kd.subG (n := 7) ((hli).up (by decide)) (((kd_i2f ((hz1).mono (by decide)))).up (by decide)))).elim (fun _ h => h.nan)) ?_
          refine pfN_603 hx hb hts hown hs hm hS (lay.shd hL (ix.nlt ((hx1).mono (by decide)))) q193 dX2_pour_63 (fun H locs hm hS => ?_)
          have hm : mw E t ((sF M 603 (c + 54 + (x).toNatClampNeg) (FP.fsub (gF M 603 (c + 54 + (x).toNatClampNeg)) (FP.i2f z)))) H := hm
          refine lv_aload_n hx hb dX2_pour_66 rfl (lv_at hl 1 rfl) ?_
          refine gf_200 hx hb hts hown hs hm (lay.z hL) (hts _ q227) dX2_pour_67 ?_
          refine lv_iload_n hx hb dX2_pour_70 rfl (lv_at hl 3 rfl) ?_
          refine lv_ldcf (v := 1120403456) hx hb hown (hts _ q662) dX2_pour_71 ?_
          refine lv_aload_n hx hb dX2_pour_73 rfl (lv_at hl 1 rfl) ?_
          refine gf_200 hx hb hts hown hs hm (lay.z hL) (hts _ q227) dX2_pour_74 ?_
          refine lv_iload_n hx hb dX2_pour_77 rfl (lv_at hl 3 rfl) ?_
          refine k_fald hx hb hs hm (lay.a1 hL) (ix.at (B := 12) ((hy1).mono (by decide)) (by decide)) dX2_pour_78 ?_
          refine lv_ldcf (v := 1056964608) hx hb hown (hts _ q925) dX2_pour_79 ?_
          refine lv_iload_n hx hb dX2_pour_81 rfl (lv_at hl 4 rfl) ?_
          refine lv_i2f hx hb dX2_pour_82 ?_
          refine lv_fmul hx hb dX2_pour_83 ((kd.mul (kd_05) ((kd_i2f ((hz1).mono (by decide)))))).nan ?_
          refine lv_fadd hx hb dX2_pour_84 ((kd.add (n := 12) (((hwa _ (ix.nlt hy1))).up (by decide)) (((kd.mul (kd_05) ((kd_i2f ((hz1).mono (by decide)))))).up (by decide)))).nan ?_
          refine k_fpick false (x := (1120403456 : UInt32)) (y := (FP.fadd (aF M (c + 1) (y).toNatClampNeg) (FP.fmul (1056964608 : UInt32) (FP.i2f z)))) hx hb (hml.trans hl.1.symm) hown (hts _ q917) (hts _ q918) (hts _ q78) (hts _ q919) (kd.nn (kd_100)) ((kd.nn ((kd.add (n := 12) (((hwa _ (ix.nlt hy1))).up (by decide)) (((kd.mul (kd_05) ((kd_i2f ((hz1).mono (by decide)))))).up (by decide)))))) (Nat.le_of_ble_eq_true rfl) (Nat.le_of_ble_eq_true rfl) (Nat.le_of_ble_eq_true rfl) (Nat.le_of_ble_eq_true rfl) dX2_pour_85 ?_
          rw [pq_most ((kd.nn ((kd.add (n := 12) (((hwa _ (ix.nlt hy1))).up (by decide)) (((kd.mul (kd_05) ((kd_i2f ((hz1).mono (by decide)))))).up (by decide)))))) (kd.nn (kd_100)) (by decide)]
          refine k_fast hx hb hs hm hS (lay.a1 hL) (ix.at (B := 12) ((hy1).mono (by decide)) (by decide)) dX2_pour_88 (fun H locs hm hS => ?_)
          have hm : mw E t ((wF (sF M 603 (c + 54 + (x).toNatClampNeg) (FP.fsub (gF M 603 (c + 54 + (x).toNatClampNeg)) (FP.i2f z))) (c + 1) (vf_upd (aF M (c + 1)) (y).toNatClampNeg (T_most (FP.fadd (aF M (c + 1) (y).toNatClampNeg) (FP.fmul (1056964608 : UInt32) (FP.i2f z))) (1120403456 : UInt32))))) H := hm
          refine lv_aload_n hx hb dX2_pour_89 rfl (lv_at hl 1 rfl) ?_
          refine gf_200 hx hb hts hown hs hm (lay.z hL) (hts _ q227) dX2_pour_90 ?_
          refine lv_iload_n hx hb dX2_pour_93 rfl (lv_at hl 3 rfl) ?_
          refine k_fald hx hb hs hm (lay.a1 hL) (ix.at (B := 12) ((hy1).mono (by decide)) (by decide)) dX2_pour_94 ?_
          rw [show aF (wF (sF M 603 (c + 54 + (x).toNatClampNeg) (FP.fsub (gF M 603 (c + 54 + (x).toNatClampNeg)) (FP.i2f z))) (c + 1) (vf_upd (aF M (c + 1)) (y).toNatClampNeg (T_most (FP.fadd (aF M (c + 1) (y).toNatClampNeg) (FP.fmul (1056964608 : UInt32) (FP.i2f z))) (1120403456 : UInt32)))) (c + 1) = (vf_upd (aF M (c + 1)) (y).toNatClampNeg (T_most (FP.fadd (aF M (c + 1) (y).toNatClampNeg) (FP.fmul (1056964608 : UInt32) (FP.i2f z))) (1120403456 : UInt32))) from (show aF (wF (sF M 603 (c + 54 + (x).toNatClampNeg) (FP.fsub (gF M 603 (c + 54 + (x).toNatClampNeg)) (FP.i2f z))) (c + 1) (vf_upd (aF M (c + 1)) (y).toNatClampNeg (T_most (FP.fadd (aF M (c + 1) (y).toNatClampNeg) (FP.fmul (1056964608 : UInt32) (FP.i2f z))) (1120403456 : UInt32)))) (c + 1) = (vf_upd (aF M (c + 1)) (y).toNatClampNeg (T_most (FP.fadd (aF M (c + 1) (y).toNatClampNeg) (FP.fmul (1056964608 : UInt32) (FP.i2f z))) (1120403456 : UInt32))) from m1_at _ _ _)]
          subst hX5
          subst hX2
          refine vx_ret ?_
          refine W.widen (k := 2) (n := 16) (Nat.le_of_ble_eq_true rfl) (Nat.le_of_ble_eq_true rfl) ?_
          exact W.fret (v := _) hx hb hr (fun t9 ht9 _ => ⟨⟨_, _, rfl, pp4 ((if_pos c_3).trans ((if_pos c_6).trans (rfl))), hb9 ht9 hm⟩, hS.F ht9⟩) hS.2.2 dX2_pour_95
      · refine lv_if_ge (tgt := 42) hx hb dX2_pour_35 (by decide) (fun c_4 => ?_) (fun c_4 => ?_)
        · refine lv_iconst (v := (0 : Int32)) hx hb dX2_pour_42 (by decide) ?_
          exact J5 ((0 : Int32)) _ _ _ ⟨((if_pos c_4).trans (rfl)).symm, hm, hS, lv_sub hl [0, 1, 2, 3, 4] rfl⟩
        · refine lv_iconst (v := (1 : Int32)) hx hb dX2_pour_38 (by decide) ?_
          refine lv_goto (tgt := 43) hx hb dX2_pour_39 (by decide) ?_
          exact J5 ((1 : Int32)) _ _ _ ⟨((if_neg c_4).trans (rfl)).symm, hm, hS, lv_sub hl [0, 1, 2, 3, 4] rfl⟩
  · refine lv_if_ne (tgt := 20) hx hb dX2_pour_13 (by decide) (fun c_1 => ?_) (fun c_1 => ?_)
    · refine lv_iconst (v := (0 : Int32)) hx hb dX2_pour_20 (by decide) ?_
      exact J2 ((0 : Int32)) _ _ _ ⟨((if_neg c_1).trans (rfl)).symm, hm, hS, lv_sub hl [0, 1, 2, 3, 4] rfl⟩
    · refine lv_iconst (v := (1 : Int32)) hx hb dX2_pour_16 (by decide) ?_
      refine lv_goto (tgt := 21) hx hb dX2_pour_17 (by decide) ?_
      exact J2 ((1 : Int32)) _ _ _ ⟨((if_pos c_1).trans (rfl)).symm, hm, hS, lv_sub hl [0, 1, 2, 3, 4] rfl⟩
def C2_harvest (t : mt) (M : mm) (c : Nat) (x : Int32) : Int32 × Int32 × UInt32 × mm :=
  let x2 := if (gI M 500 (c + 48 + (x).toNatClampNeg)) = (-1 : Int32) then (1 : Int32) else (0 : Int32);
  if x2 = 0 then
    let x5 := if (aR M (c + 4) ((gI M 500 (c + 48 + (x).toNatClampNeg))).toNatClampNeg) = none then (1 : Int32) else (0 : Int32);
    let u_8 := C2_lists t (sI (sI (sI (wR M (c + 4) (va_up (aR M (c + 4)) ((gI M 500 (c + 48 + (x).toNatClampNeg))).toNatClampNeg none)) 302 ((aR M (c + 4) ((gI M 500 (c + 48 + (x).toNatClampNeg))).toNatClampNeg).getD 0) (0 : Int32)) 502 (c + 48 + (x).toNatClampNeg) ((gI M 502 (c + 48 + (x).toNatClampNeg)) + (1 : Int32))) 218 c ((gI M 218 c) + (1 : Int32))) (c) ((kd4 t ((aR M (c + 4) ((gI M 500 (c + 48 + (x).toNatClampNeg))).toNatClampNeg).getD 0))) (x) ((gF M 301 ((aR M (c + 4) ((gI M 500 (c + 48 + (x).toNatClampNeg))).toNatClampNeg).getD 0)));
    if x5 = 0 then
      let u_8 := C2_lists t (sI (sI (sI (wR M (c + 4) (va_up (aR M (c + 4)) ((gI M 500 (c + 48 + (x).toNatClampNeg))).toNatClampNeg none)) 302 ((aR M (c + 4) ((gI M 500 (c + 48 + (x).toNatClampNeg))).toNatClampNeg).getD 0) (0 : Int32)) 502 (c + 48 + (x).toNatClampNeg) ((gI M 502 (c + 48 + (x).toNatClampNeg)) + (1 : Int32))) 218 c ((gI M 218 c) + (1 : Int32))) (c) ((kd4 t ((aR M (c + 4) ((gI M 500 (c + 48 + (x).toNatClampNeg))).toNatClampNeg).getD 0))) (x) ((gF M 301 ((aR M (c + 4) ((gI M 500 (c + 48 + (x).toNatClampNeg))).toNatClampNeg).getD 0)));
      ((0 : Int32), (0 : Int32), (gF u_8 301 ((aR M (c + 4) ((gI M 500 (c + 48 + (x).toNatClampNeg))).toNatClampNeg).getD 0)), u_8)
    else
      ((8 : Int32), (gI M 500 (c + 48 + (x).toNatClampNeg)), (0 : UInt32), M)
  else
    ((4 : Int32), x, (0 : UInt32), M)
set_option maxHeartbeats 4000000 in
theorem cm2_harvest (l : Launch) (E : mE) (hl9 : l.stackTraces = false) (t : mt) (M : mm) (c : Nat) (x : Int32) (hL : lay t c) (hx1 : ix 6 x) (hmp : (gI M 500 (c + 48 + (x).toNatClampNeg)) = -1 ∨ ix 12 (gI M 500 (c + 48 + (x).toNatClampNeg))) (hcr : ∀ k, k < 12 → plO t (aR M (c + 4) k)) (hn6 : ix 6 (gI M 213 c)) (hp6 : ∀ k, k < 6 → przO t (aR M (c + 11) k)) : vx_Met l yX2_harvest (ws_ yX2_harvest cX2_harvest 5 (some .float)) ({ frames := 9, cells := 2, slots := 16, locals := 182 }) (va_Pc [.ref c, .int x] (wP E t M)) (va_Qf (fun (r : UInt32) (u : mm) => (C2_harvest t M c x).1 = 0 ∧ r = (C2_harvest t M c x).2.2.1 ∧ u = (C2_harvest t M c x).2.2.2) (fun u U => mw E t u U.heap) (eA E)) (vx_X (fun (u : mm) => ¬ (C2_harvest t M c x).1 = 0 ∧ u = (C2_harvest t M c x).2.2.2) (fun En q u U => XR E t (C2_harvest t M c x).1 (C2_harvest t M c x).2.1 En q u U.heap) (eA E)) 2 16 (eA E) := by
  refine vx_ofW (cc := cX2_harvest) (maxL := 5) (ret := (some .float)) (by decide) rfl ?_
  intro p e s m args below meth c0 s₁ B hml hno hv
  obtain ⟨rfl, hs, hm⟩ := hv
  have hx := B.exec
  have hb := B.bytes
  have hr := B.returns
  have hts := atoms_spec (ws := ws_ yX2_harvest cX2_harvest 5 (some .float)) B.pre
  have hts : ∀ w ∈ lw_all, w.before _ s = true := fun w h => hts w (List.mem_cons_of_mem _ h)
  have hown : s.vm.findClass RX2 = some m.cls := findClass_of_methodNamed B.named
  have hlocks := B.notSynchronized
  have hout : ∀ pc : Nat, ∀ x ∈ c0.exceptionTable.toList, covers x pc = false := fun _ x h => (hno x h).elim
  have hS : va_S (eA E) s.heap s.heap [] := va_S.rf
  have hl := lv_entry ([.ref c, .int x]) (n := 5) (Nat.le_of_ble_eq_true rfl)
  rw [lg_entry_eq]
  generalize (lg_sl ([.ref c, .int x]) ++ List.replicate (5 - (lg_sl ([.ref c, .int x])).length) Slot.unset).toArray = ls at hl ⊢
  have hl : lv_has ls 5 [(0, .ref (c)), (1, .int (x))] := hl
  refine lv_aload_n hx hb dX2_harvest_0 rfl (lv_at hl 0 rfl) ?_
  refine gf_208 hx hb hts hown hs hm (lay.z hL) (hts _ q239) dX2_harvest_1 ?_
  refine lv_iload_n hx hb dX2_harvest_4 rfl (lv_at hl 1 rfl) ?_
  refine k_mem hx hb hs hm (lay.a9 hL) (k := (x).toNatClampNeg) rfl (ix.at (B := 6) ((hx1).mono (by decide)) (by decide)) dX2_harvest_5 ?_
  refine lv_astore_n (lv' := [(2, _), (0, _), (1, _)]) hx hb dX2_harvest_6 rfl hl (by decide) rfl (fun ls hl => ?_)
  refine lv_aload_n hx hb dX2_harvest_7 rfl (lv_at hl 0 rfl) ?_
  refine gfN_500 hx hb hts hown hs hm (lay.mem hL (ix.nlt ((hx1).mono (by decide)))) q163 dX2_harvest_8 ?_
  refine lv_iconst (v := (-1 : Int32)) hx hb dX2_harvest_11 (by decide) ?_
  refine k_join (fun (x2 : Int32) H locs ls => x2 = (if (gI M 500 (c + 48 + (x).toNatClampNeg)) = (-1 : Int32) then (1 : Int32) else (0 : Int32)) ∧ mw E t (M) H ∧ va_S (eA E) s.heap H locs ∧ lv_has ls 5 [(2, .ref ((c + 48 + (x).toNatClampNeg))), (0, .ref (c)), (1, .int (x))]) (fun (x2 : Int32) ls => F0 m 20 ls [.int (x2)]) (fun x2 H locs ls hJ => ?_) (fun J2 => ?_)
  · obtain ⟨hX2, hm, hS, hl⟩ := hJ
    refine lv_iconst (v := (4 : Int32)) hx hb dX2_harvest_20 (by decide) ?_
    refine lv_iload_n hx hb dX2_harvest_21 rfl (lv_at hl 2 rfl) ?_
    refine kx_callv (BX := fun En q u H => XR E t ((4 : Int32)) (x) En q u H) (vx_runSN (As := [.int (x2), .int ((4 : Int32)), .int (x)]) (rest := []) ⟨hx, hb, hml, hown, hts⟩ (cm1_refuse l E hl9 t M  (x2) ((4 : Int32)) (x) ) (⟨va_cnB 3 hts (lw_meth q752) rfl rfl rfl (hs.2.2.1 _ q750 rfl) (hts _ q58) (by decide +kernel) ⟨Nat.le_of_ble_eq_true rfl, Nat.le_of_ble_eq_true rfl⟩, hts _ q751, trivial⟩) (k_preS hs hm hS) rfl rfl hl.1 rfl (lv_room (Nat.le_of_ble_eq_true rfl)) dX2_harvest_22 ⟨Nat.le_of_ble_eq_true rfl, Nat.le_of_ble_eq_true rfl⟩) hS (fun En_3 ce_3 q_3 u9_3 H locs hp_3 hB_3 hS h1_3 h2_3 h3_3 => ?_) (fun u_3 H locs hw_3 hm_3 hS => ?_)
    · obtain ⟨c_3, hu9_3⟩ := hp_3
      replace hu9_3 := hu9_3.symm
      subst hu9_3
      subst hX2
      have e9 : C2_harvest t M c x = _ := (if_neg c_3).trans (rfl)
      exact kx_out (BX := fun En q u H => XR E t (C2_harvest t M c x).1 (C2_harvest t M c x).2.1 En q u H) (u := _) (fun x h => (hno x h).elim) hlocks (xr_leaf e9 (by decide) hB_3).1 (xr_leaf e9 (by decide) hB_3).2 hS h1_3 h2_3 h3_3 (Nat.le_of_ble_eq_true rfl) (Nat.le_of_ble_eq_true rfl)
    · obtain ⟨c_3, hu_3⟩ := hw_3
      replace hu_3 := hu_3.symm
      subst hu_3
      have hm := hm_3
      have hpl := hmp.resolve_left (b01 hX2 c_3)
      refine lv_aload_n hx hb dX2_harvest_25 rfl (lv_at hl 0 rfl) ?_
      refine gfN_500 hx hb hts hown hs hm (lay.mem hL (ix.nlt ((hx1).mono (by decide)))) q163 dX2_harvest_26 ?_
      refine lv_istore_n (lv' := [(3, _), (2, _), (0, _), (1, _)]) hx hb dX2_harvest_29 rfl hl (by decide) rfl (fun ls hl => ?_)
      refine lv_aload_n hx hb dX2_harvest_30 rfl (lv_at hl 2 rfl) ?_
      refine gf_203 hx hb hts hown hs hm (lay.z hL) (hts _ q233) dX2_harvest_31 ?_
      refine lv_iload_n hx hb dX2_harvest_34 rfl (lv_at hl 0 rfl) ?_
      refine k_aald24 hx hb hs hm (lay.a4 hL) (ix.at (B := 12) ((hpl).mono (by decide)) (by decide)) dX2_harvest_35 ?_
      refine k_join (fun (x5 : Int32) H locs ls => x5 = (if (aR M (c + 4) ((gI M 500 (c + 48 + (x).toNatClampNeg))).toNatClampNeg) = none then (1 : Int32) else (0 : Int32)) ∧ mw E t (M) H ∧ va_S (eA E) s.heap H locs ∧ lv_has ls 5 [(3, .int ((gI M 500 (c + 48 + (x).toNatClampNeg)))), (2, .ref ((c + 48 + (x).toNatClampNeg))), (0, .ref (c)), (1, .int (x))]) (fun (x5 : Int32) ls => F0 m 44 ls [.int (x5)]) (fun x5 H locs ls hJ => ?_) (fun J5 => ?_)
      · obtain ⟨hX5, hm, hS, hl⟩ := hJ
        refine lv_bipush (v := (8 : Int32)) hx hb dX2_harvest_44 (by decide) ?_
        refine lv_iload_n hx hb dX2_harvest_46 rfl (lv_at hl 0 rfl) ?_
        refine kx_callv (BX := fun En q u H => XR E t ((8 : Int32)) ((gI M 500 (c + 48 + (x).toNatClampNeg))) En q u H) (vx_runSN (As := [.int (x5), .int ((8 : Int32)), .int ((gI M 500 (c + 48 + (x).toNatClampNeg)))]) (rest := []) ⟨hx, hb, hml, hown, hts⟩ (cm1_refuse l E hl9 t M  (x5) ((8 : Int32)) ((gI M 500 (c + 48 + (x).toNatClampNeg))) ) (⟨va_cnB 3 hts (lw_meth q752) rfl rfl rfl (hs.2.2.1 _ q750 rfl) (hts _ q58) (by decide +kernel) ⟨Nat.le_of_ble_eq_true rfl, Nat.le_of_ble_eq_true rfl⟩, hts _ q751, trivial⟩) (k_preS hs hm hS) rfl rfl hl.1 rfl (lv_room (Nat.le_of_ble_eq_true rfl)) dX2_harvest_47 ⟨Nat.le_of_ble_eq_true rfl, Nat.le_of_ble_eq_true rfl⟩) hS (fun En_6 ce_6 q_6 u9_6 H locs hp_6 hB_6 hS h1_6 h2_6 h3_6 => ?_) (fun u_6 H locs hw_6 hm_6 hS => ?_)
        · obtain ⟨c_6, hu9_6⟩ := hp_6
          replace hu9_6 := hu9_6.symm
          subst hu9_6
          subst hX5
          subst hX2
          have e9 : C2_harvest t M c x = _ := (if_pos c_3).trans ((if_neg c_6).trans (rfl))
          exact kx_out (BX := fun En q u H => XR E t (C2_harvest t M c x).1 (C2_harvest t M c x).2.1 En q u H) (u := _) (fun x h => (hno x h).elim) hlocks (xr_leaf e9 (by decide) hB_6).1 (xr_leaf e9 (by decide) hB_6).2 hS h1_6 h2_6 h3_6 (Nat.le_of_ble_eq_true rfl) (Nat.le_of_ble_eq_true rfl)
        · obtain ⟨c_6, hu_6⟩ := hw_6
          replace hu_6 := hu_6.symm
          subst hu_6
          have hm := hm_6
          have hne := b01 hX5 c_6
          refine lv_aload_n hx hb dX2_harvest_50 rfl (lv_at hl 2 rfl) ?_
          refine gf_203 hx hb hts hown hs hm (lay.z hL) (hts _ q233) dX2_harvest_51 ?_
          refine lv_iload_n hx hb dX2_harvest_54 rfl (lv_at hl 0 rfl) ?_
          refine k_aald24 hx hb hs hm (lay.a4 hL) (ix.at (B := 12) ((hpl).mono (by decide)) (by decide)) dX2_harvest_55 ?_
          refine k_nn hne ?_
          refine lv_astore (lv' := [(4, _), (3, _), (2, _), (0, _), (1, _)]) hx hb dX2_harvest_56 hl (by decide) rfl (fun ls hl => ?_)
          refine lv_aload_n hx hb dX2_harvest_58 rfl (lv_at hl 3 rfl) ?_
          refine gf_203 hx hb hts hown hs hm (lay.z hL) (hts _ q233) dX2_harvest_59 ?_
          refine lv_iload_n hx hb dX2_harvest_62 rfl (lv_at hl 1 rfl) ?_
          refine lv_null hx hb dX2_harvest_63 ?_
          refine k_aastN (j := 4) hx hb hs hm hS (lay.a4 hL) (by decide) (fun _ => rfl) rfl (ix.at (B := 12) ((hpl).mono (by decide)) (by decide)) dX2_harvest_64 (fun H locs hm hS => ?_)
          have hm : mw E t ((wR M (c + 4) (va_up (aR M (c + 4)) ((gI M 500 (c + 48 + (x).toNatClampNeg))).toNatClampNeg none))) H := hm
          refine lv_aload hx hb dX2_harvest_65 (lv_at hl 0 rfl) ?_
          refine lv_iconst (v := (0 : Int32)) hx hb dX2_harvest_67 (by decide) ?_
          refine pfN_302 hx hb hts hown hs hm hS ((hcr _ (ix.nlt hpl)).get hne) q137 rfl rfl dX2_harvest_68 (fun H locs hm hS => ?_)
          have hm : mw E t ((sI (wR M (c + 4) (va_up (aR M (c + 4)) ((gI M 500 (c + 48 + (x).toNatClampNeg))).toNatClampNeg none)) 302 ((aR M (c + 4) ((gI M 500 (c + 48 + (x).toNatClampNeg))).toNatClampNeg).getD 0) (0 : Int32))) H := hm
          refine lv_aload_n hx hb dX2_harvest_71 rfl (lv_at hl 2 rfl) ?_
          refine lv_dup hx hb dX2_harvest_72 rfl ?_
          refine gfN_502 hx hb hts hown hs hm (lay.mem hL (ix.nlt ((hx1).mono (by decide)))) q169 dX2_harvest_73 ?_
          refine lv_iconst (v := (1 : Int32)) hx hb dX2_harvest_76 (by decide) ?_
          refine lv_iadd hx hb dX2_harvest_77 ?_
          refine pfN_502 hx hb hts hown hs hm hS (lay.mem hL (ix.nlt ((hx1).mono (by decide)))) q169 dX2_harvest_78 (fun H locs hm hS => ?_)
          have hm : mw E t ((sI (sI (wR M (c + 4) (va_up (aR M (c + 4)) ((gI M 500 (c + 48 + (x).toNatClampNeg))).toNatClampNeg none)) 302 ((aR M (c + 4) ((gI M 500 (c + 48 + (x).toNatClampNeg))).toNatClampNeg).getD 0) (0 : Int32)) 502 (c + 48 + (x).toNatClampNeg) ((gI M 502 (c + 48 + (x).toNatClampNeg)) + (1 : Int32)))) H := hm
          refine lv_aload_n hx hb dX2_harvest_81 rfl (lv_at hl 3 rfl) ?_
          refine lv_dup hx hb dX2_harvest_82 rfl ?_
          refine gf_218 hx hb hts hown hs hm (lay.z hL) (hts _ q261) dX2_harvest_83 ?_
          refine lv_iconst (v := (1 : Int32)) hx hb dX2_harvest_86 (by decide) ?_
          refine lv_iadd hx hb dX2_harvest_87 ?_
          refine pf_218 hx hb hts hown hs hm hS (lay.z hL) (hts _ q261) dX2_harvest_88 (fun H locs hm hS => ?_)
          have hm : mw E t ((sI (sI (sI (wR M (c + 4) (va_up (aR M (c + 4)) ((gI M 500 (c + 48 + (x).toNatClampNeg))).toNatClampNeg none)) 302 ((aR M (c + 4) ((gI M 500 (c + 48 + (x).toNatClampNeg))).toNatClampNeg).getD 0) (0 : Int32)) 502 (c + 48 + (x).toNatClampNeg) ((gI M 502 (c + 48 + (x).toNatClampNeg)) + (1 : Int32))) 218 c ((gI M 218 c) + (1 : Int32)))) H := hm
          refine lv_aload_n hx hb dX2_harvest_91 rfl (lv_at hl 3 rfl) ?_
          refine lv_aload hx hb dX2_harvest_92 (lv_at hl 0 rfl) ?_
          refine k_calli (((hcr _ (ix.nlt hpl)).get hne).elim (fun h9 => va_runU (As := []) (rest := [.ref (c)]) ⟨hx, hb, hml, hown, hts⟩ (cm4_kind l E t (sI (sI (sI (wR M (c + 4) (va_up (aR M (c + 4)) ((gI M 500 (c + 48 + (x).toNatClampNeg))).toNatClampNeg none)) 302 ((aR M (c + 4) ((gI M 500 (c + 48 + (x).toNatClampNeg))).toNatClampNeg).getD 0) (0 : Int32)) 502 (c + 48 + (x).toNatClampNeg) ((gI M 502 (c + 48 + (x).toNatClampNeg)) + (1 : Int32))) 218 c ((gI M 218 c) + (1 : Int32))) (((aR M (c + 4) ((gI M 500 (c + 48 + (x).toNatClampNeg))).toNatClampNeg).getD 0)) h9) (va_cwA 0 hts (lw_U q589 q591 q595 q596 q61 q597) rfl rfl rfl (hs.2.2.1 _ q590 rfl) (by decide +kernel) ⟨Nat.le_of_ble_eq_true rfl, Nat.le_of_ble_eq_true rfl⟩) (k_preV hs hm hS (mw.recv hs hm (mt_ne h9 (by decide)) (ct3 h9) rfl)) rfl rfl hl.1 rfl (lv_room (Nat.le_of_ble_eq_true rfl)) dX2_harvest_94 ⟨Nat.le_of_ble_eq_true rfl, Nat.le_of_ble_eq_true rfl⟩) (fun h9 => va_runU (As := []) (rest := [.ref (c)]) ⟨hx, hb, hml, hown, hts⟩ (cm5_kind l E t (sI (sI (sI (wR M (c + 4) (va_up (aR M (c + 4)) ((gI M 500 (c + 48 + (x).toNatClampNeg))).toNatClampNeg none)) 302 ((aR M (c + 4) ((gI M 500 (c + 48 + (x).toNatClampNeg))).toNatClampNeg).getD 0) (0 : Int32)) 502 (c + 48 + (x).toNatClampNeg) ((gI M 502 (c + 48 + (x).toNatClampNeg)) + (1 : Int32))) 218 c ((gI M 218 c) + (1 : Int32))) (((aR M (c + 4) ((gI M 500 (c + 48 + (x).toNatClampNeg))).toNatClampNeg).getD 0)) h9) (va_cwA 0 hts (lw_U q589 q591 q592 q593 q62 q594) rfl rfl rfl (hs.2.2.1 _ q590 rfl) (by decide +kernel) ⟨Nat.le_of_ble_eq_true rfl, Nat.le_of_ble_eq_true rfl⟩) (k_preV hs hm hS (mw.recv hs hm (mt_ne h9 (by decide)) (ct4 h9) rfl)) rfl rfl hl.1 rfl (lv_room (Nat.le_of_ble_eq_true rfl)) dX2_harvest_94 ⟨Nat.le_of_ble_eq_true rfl, Nat.le_of_ble_eq_true rfl⟩)) hS (fun r_7 u_7 H locs hw_7 hm_7 hS => ?_)
          obtain ⟨hr_7, hu_7⟩ := hw_7
          subst hr_7
          replace hu_7 := hu_7.symm
          subst hu_7
          have hm : mw E t ((sI (sI (sI (wR M (c + 4) (va_up (aR M (c + 4)) ((gI M 500 (c + 48 + (x).toNatClampNeg))).toNatClampNeg none)) 302 ((aR M (c + 4) ((gI M 500 (c + 48 + (x).toNatClampNeg))).toNatClampNeg).getD 0) (0 : Int32)) 502 (c + 48 + (x).toNatClampNeg) ((gI M 502 (c + 48 + (x).toNatClampNeg)) + (1 : Int32))) 218 c ((gI M 218 c) + (1 : Int32)))) H := hm_7
          refine lv_iload_n hx hb dX2_harvest_97 rfl (lv_at hl 4 rfl) ?_
          refine lv_aload hx hb dX2_harvest_98 (lv_at hl 0 rfl) ?_
          refine gfN_301 hx hb hts hown hs hm ((hcr _ (ix.nlt hpl)).get hne) q135 dX2_harvest_100 ?_
          refine k_callv (va_runV (As := [.int ((kd4 t ((aR M (c + 4) ((gI M 500 (c + 48 + (x).toNatClampNeg))).toNatClampNeg).getD 0))), .int (x), .float ((gF M 301 ((aR M (c + 4) ((gI M 500 (c + 48 + (x).toNatClampNeg))).toNatClampNeg).getD 0)))]) (rest := []) ⟨hx, hb, hml, hown, hts⟩ (cm2_lists l E t (sI (sI (sI (wR M (c + 4) (va_up (aR M (c + 4)) ((gI M 500 (c + 48 + (x).toNatClampNeg))).toNatClampNeg none)) 302 ((aR M (c + 4) ((gI M 500 (c + 48 + (x).toNatClampNeg))).toNatClampNeg).getD 0) (0 : Int32)) 502 (c + 48 + (x).toNatClampNeg) ((gI M 502 (c + 48 + (x).toNatClampNeg)) + (1 : Int32))) 218 c ((gI M 218 c) + (1 : Int32)))  (c) ((kd4 t ((aR M (c + 4) ((gI M 500 (c + 48 + (x).toNatClampNeg))).toNatClampNeg).getD 0))) (x) ((gF M 301 ((aR M (c + 4) ((gI M 500 (c + 48 + (x).toNatClampNeg))).toNatClampNeg).getD 0))) hL hn6 (fun k hk => by rw [show aR (sI (sI (sI (wR M (c + 4) (va_up (aR M (c + 4)) ((gI M 500 (c + 48 + (x).toNatClampNeg))).toNatClampNeg none)) 302 ((aR M (c + 4) ((gI M 500 (c + 48 + (x).toNatClampNeg))).toNatClampNeg).getD 0) (0 : Int32)) 502 (c + 48 + (x).toNatClampNeg) ((gI M 502 (c + 48 + (x).toNatClampNeg)) + (1 : Int32))) 218 c ((gI M 218 c) + (1 : Int32))) (c + 11) = aR M (c + 11) from m1_ne _ _ (by omega)]; exact hp6 k hk)) (cwV 3 hts (lw_V q1128 q1130 qs13 q59 q1131) rfl rfl rfl (by decide +kernel) ⟨Nat.le_of_ble_eq_true rfl, Nat.le_of_ble_eq_true rfl⟩) (k_preV hs hm hS (mw.recv hs hm (mt_ne (lay.z hL) (by decide)) (ct2 (lay.z hL)) rfl)) rfl rfl hl.1 rfl (lv_room (Nat.le_of_ble_eq_true rfl)) dX2_harvest_103 ⟨Nat.le_of_ble_eq_true rfl, Nat.le_of_ble_eq_true rfl⟩) hS (fun u_8 H locs hw_8 hm_8 hS => ?_)
          have hu_8 := hw_8
          have hm := hm_8
          refine lv_aload hx hb dX2_harvest_106 (lv_at hl 0 rfl) ?_
          refine gfN_301 hx hb hts hown hs hm ((hcr _ (ix.nlt hpl)).get hne) q135 dX2_harvest_108 ?_
          subst hu_8
          subst hX5
          subst hX2
          refine vx_ret ?_
          refine W.widen (k := 2) (n := 16) (Nat.le_of_ble_eq_true rfl) (Nat.le_of_ble_eq_true rfl) ?_
          exact W.fret (v := _) hx hb hr (fun t9 ht9 _ => ⟨⟨_, _, rfl, pp4 ((if_pos c_3).trans ((if_pos c_6).trans (rfl))), hb9 ht9 hm⟩, hS.F ht9⟩) hS.2.2 dX2_harvest_111
      · refine lv_ifnonnullQ (tgt := 43) hx hb dX2_harvest_36 (by decide) (fun c_4 => ?_) (fun c_4 => ?_)
        · refine lv_iconst (v := (0 : Int32)) hx hb dX2_harvest_43 (by decide) ?_
          exact J5 ((0 : Int32)) _ _ _ ⟨((if_neg c_4).trans (rfl)).symm, hm, hS, lv_sub hl [0, 1, 2, 3] rfl⟩
        · refine lv_iconst (v := (1 : Int32)) hx hb dX2_harvest_39 (by decide) ?_
          refine lv_goto (tgt := 44) hx hb dX2_harvest_40 (by decide) ?_
          exact J5 ((1 : Int32)) _ _ _ ⟨((if_pos c_4).trans (rfl)).symm, hm, hS, lv_sub hl [0, 1, 2, 3] rfl⟩
  · refine lv_icmp_ne (tgt := 19) hx hb dX2_harvest_12 (by decide) (fun c_1 => ?_) (fun c_1 => ?_)
    · refine lv_iconst (v := (0 : Int32)) hx hb dX2_harvest_19 (by decide) ?_
      exact J2 ((0 : Int32)) _ _ _ ⟨((if_neg c_1).trans (rfl)).symm, hm, hS, lv_sub hl [0, 1, 2] rfl⟩
    · refine lv_iconst (v := (1 : Int32)) hx hb dX2_harvest_15 (by decide) ?_
      refine lv_goto (tgt := 20) hx hb dX2_harvest_16 (by decide) ?_
      exact J2 ((1 : Int32)) _ _ _ ⟨((if_pos c_1).trans (rfl)).symm, hm, hS, lv_sub hl [0, 1, 2] rfl⟩
def C2_plant (t : mt) (M : mm) (c : Nat) (x : Int32) (y : Int32) (z : Int32) : Int32 × Int32 × Int32 × mm :=
  let x2 := if (gI M 500 (c + 48 + (x).toNatClampNeg)) = (-1 : Int32) then (1 : Int32) else (0 : Int32);
  if x2 = 0 then
    let x5 := if (aR M (c + 4) ((if (0 : Int32) < (gI M 500 (c + 48 + (x).toNatClampNeg)) then (gI M 500 (c + 48 + (x).toNatClampNeg)) else (0 : Int32))).toNatClampNeg) = none then (0 : Int32) else (1 : Int32);
    let x7 := if (aR M (c + 4) ((if (0 : Int32) < (gI M 500 (c + 48 + (x).toNatClampNeg)) then (gI M 500 (c + 48 + (x).toNatClampNeg)) else (0 : Int32))).toNatClampNeg) = none then (0 : Int32) else (kd4 t ((aR M (c + 4) ((gI M 500 (c + 48 + (x).toNatClampNeg))).toNatClampNeg).getD 0));
    let n_9 := C2_bench t M (c) (y);
    let n_10 := C2_bench t M (c) (y);
    let u_11 := C3_isPlanted t (wR M n_10 (va_up (aR M n_10) (z).toNatClampNeg none)) (((aR M n_9 (z).toNatClampNeg).getD 0)) ((gI M 216 c));
    if x5 = 0 then
      let n_9 := C2_bench t M (c) (y);
      let n_10 := C2_bench t M (c) (y);
      let u_11 := C3_isPlanted t (wR M n_10 (va_up (aR M n_10) (z).toNatClampNeg none)) (((aR M n_9 (z).toNatClampNeg).getD 0)) ((gI M 216 c));
      ((0 : Int32), (0 : Int32), (gI M 500 (c + 48 + (x).toNatClampNeg)), (wR u_11 (c + 4) (va_up (aR u_11 (c + 4)) ((gI M 500 (c + 48 + (x).toNatClampNeg))).toNatClampNeg (some ((aR M n_9 (z).toNatClampNeg).getD 0)))))
    else
      ((7 : Int32), x7, (0 : Int32), M)
  else
    ((4 : Int32), x, (0 : Int32), M)
set_option maxHeartbeats 4000000 in
theorem cm2_plant (l : Launch) (E : mE) (hl9 : l.stackTraces = false) (t : mt) (M : mm) (c : Nat) (x : Int32) (y : Int32) (z : Int32) (hL : lay t c) (hx1 : ix 6 x) (hz1 : ix 5 z) (hmp : (gI M 500 (c + 48 + (x).toNatClampNeg)) = -1 ∨ ix 12 (gI M 500 (c + 48 + (x).toNatClampNeg))) (hcr : ∀ k, k < 12 → plO t (aR M (c + 4) k)) (hbn : ¬ (aR M (C2_bench t M c y) (z).toNatClampNeg) = none) (hbk : plO t (aR M (C2_bench t M c y) (z).toNatClampNeg)) : vx_Met l yX2_plant (ws_ yX2_plant cX2_plant 6 (some .int)) ({ frames := 9, cells := 2, slots := 16, locals := 182 }) (va_Pc [.ref c, .int x, .int y, .int z] (wP E t M)) (va_Qi (fun (r : Int32) (u : mm) => (C2_plant t M c x y z).1 = 0 ∧ r = (C2_plant t M c x y z).2.2.1 ∧ u = (C2_plant t M c x y z).2.2.2) (fun u U => mw E t u U.heap) (eA E)) (vx_X (fun (u : mm) => ¬ (C2_plant t M c x y z).1 = 0 ∧ u = (C2_plant t M c x y z).2.2.2) (fun En q u U => XR E t (C2_plant t M c x y z).1 (C2_plant t M c x y z).2.1 En q u U.heap) (eA E)) 2 16 (eA E) := by
  refine vx_ofW (cc := cX2_plant) (maxL := 6) (ret := (some .int)) (by decide) rfl ?_
  intro p e s m args below meth c0 s₁ B hml hno hv
  obtain ⟨rfl, hs, hm⟩ := hv
  have hx := B.exec
  have hb := B.bytes
  have hr := B.returns
  have hts := atoms_spec (ws := ws_ yX2_plant cX2_plant 6 (some .int)) B.pre
  have hts : ∀ w ∈ lw_all, w.before _ s = true := fun w h => hts w (List.mem_cons_of_mem _ h)
  have hown : s.vm.findClass RX2 = some m.cls := findClass_of_methodNamed B.named
  have hlocks := B.notSynchronized
  have hout : ∀ pc : Nat, ∀ x ∈ c0.exceptionTable.toList, covers x pc = false := fun _ x h => (hno x h).elim
  have hS : va_S (eA E) s.heap s.heap [] := va_S.rf
  have hl := lv_entry ([.ref c, .int x, .int y, .int z]) (n := 6) (Nat.le_of_ble_eq_true rfl)
  rw [lg_entry_eq]
  generalize (lg_sl ([.ref c, .int x, .int y, .int z]) ++ List.replicate (6 - (lg_sl ([.ref c, .int x, .int y, .int z])).length) Slot.unset).toArray = ls at hl ⊢
  have hl : lv_has ls 6 [(0, .ref (c)), (1, .int (x)), (2, .int (y)), (3, .int (z))] := hl
  refine lv_aload_n hx hb dX2_plant_0 rfl (lv_at hl 0 rfl) ?_
  refine gf_208 hx hb hts hown hs hm (lay.z hL) (hts _ q239) dX2_plant_1 ?_
  refine lv_iload_n hx hb dX2_plant_4 rfl (lv_at hl 1 rfl) ?_
  refine k_mem hx hb hs hm (lay.a9 hL) (k := (x).toNatClampNeg) rfl (ix.at (B := 6) ((hx1).mono (by decide)) (by decide)) dX2_plant_5 ?_
  refine gfN_500 hx hb hts hown hs hm (lay.mem hL (ix.nlt ((hx1).mono (by decide)))) q163 dX2_plant_6 ?_
  refine lv_istore (lv' := [(4, _), (0, _), (1, _), (2, _), (3, _)]) hx hb dX2_plant_9 hl (by decide) rfl (fun ls hl => ?_)
  refine lv_iload hx hb dX2_plant_11 (lv_at hl 0 rfl) ?_
  refine lv_iconst (v := (-1 : Int32)) hx hb dX2_plant_13 (by decide) ?_
  refine k_join (fun (x2 : Int32) H locs ls => x2 = (if (gI M 500 (c + 48 + (x).toNatClampNeg)) = (-1 : Int32) then (1 : Int32) else (0 : Int32)) ∧ mw E t (M) H ∧ va_S (eA E) s.heap H locs ∧ lv_has ls 6 [(4, .int ((gI M 500 (c + 48 + (x).toNatClampNeg)))), (0, .ref (c)), (1, .int (x)), (2, .int (y)), (3, .int (z))]) (fun (x2 : Int32) ls => F0 m 22 ls [.int (x2)]) (fun x2 H locs ls hJ => ?_) (fun J2 => ?_)
  · obtain ⟨hX2, hm, hS, hl⟩ := hJ
    refine lv_iconst (v := (4 : Int32)) hx hb dX2_plant_22 (by decide) ?_
    refine lv_iload_n hx hb dX2_plant_23 rfl (lv_at hl 2 rfl) ?_
    refine kx_callv (BX := fun En q u H => XR E t ((4 : Int32)) (x) En q u H) (vx_runSN (As := [.int (x2), .int ((4 : Int32)), .int (x)]) (rest := []) ⟨hx, hb, hml, hown, hts⟩ (cm1_refuse l E hl9 t M  (x2) ((4 : Int32)) (x) ) (⟨va_cnB 3 hts (lw_meth q752) rfl rfl rfl (hs.2.2.1 _ q750 rfl) (hts _ q58) (by decide +kernel) ⟨Nat.le_of_ble_eq_true rfl, Nat.le_of_ble_eq_true rfl⟩, hts _ q751, trivial⟩) (k_preS hs hm hS) rfl rfl hl.1 rfl (lv_room (Nat.le_of_ble_eq_true rfl)) dX2_plant_24 ⟨Nat.le_of_ble_eq_true rfl, Nat.le_of_ble_eq_true rfl⟩) hS (fun En_3 ce_3 q_3 u9_3 H locs hp_3 hB_3 hS h1_3 h2_3 h3_3 => ?_) (fun u_3 H locs hw_3 hm_3 hS => ?_)
    · obtain ⟨c_3, hu9_3⟩ := hp_3
      replace hu9_3 := hu9_3.symm
      subst hu9_3
      subst hX2
      have e9 : C2_plant t M c x y z = _ := (if_neg c_3).trans (rfl)
      exact kx_out (BX := fun En q u H => XR E t (C2_plant t M c x y z).1 (C2_plant t M c x y z).2.1 En q u H) (u := _) (fun x h => (hno x h).elim) hlocks (xr_leaf e9 (by decide) hB_3).1 (xr_leaf e9 (by decide) hB_3).2 hS h1_3 h2_3 h3_3 (Nat.le_of_ble_eq_true rfl) (Nat.le_of_ble_eq_true rfl)
    · obtain ⟨c_3, hu_3⟩ := hw_3
      replace hu_3 := hu_3.symm
      subst hu_3
      have hm := hm_3
      have hpl := hmp.resolve_left (b01 hX2 c_3)
      obtain ⟨j, hj, hjB⟩ := id hpl
      have hmx := mx0_ix hj hjB
      refine lv_aload_n hx hb dX2_plant_27 rfl (lv_at hl 1 rfl) ?_
      refine gf_203 hx hb hts hown hs hm (lay.z hL) (hts _ q233) dX2_plant_28 ?_
      refine lv_iconst (v := (0 : Int32)) hx hb dX2_plant_31 (by decide) ?_
      refine lv_iload hx hb dX2_plant_32 (lv_at hl 0 rfl) ?_
      refine va_mmax hx hb (hml.trans hl.1.symm) hown (hts _ q659) (hts _ q660) (hts _ q78) (hts _ q661) (Nat.le_of_ble_eq_true rfl) (Nat.le_of_ble_eq_true rfl) (Nat.le_of_ble_eq_true rfl) (Nat.le_of_ble_eq_true rfl) dX2_plant_34 ?_
      refine k_aald24 hx hb hs hm (lay.a4 hL) (ix.at (B := 12) ((hmx).mono (by decide)) (by decide)) dX2_plant_37 ?_
      refine k_join (fun (x5 : Int32) H locs ls => x5 = (if (aR M (c + 4) ((if (0 : Int32) < (gI M 500 (c + 48 + (x).toNatClampNeg)) then (gI M 500 (c + 48 + (x).toNatClampNeg)) else (0 : Int32))).toNatClampNeg) = none then (0 : Int32) else (1 : Int32)) ∧ mw E t (M) H ∧ va_S (eA E) s.heap H locs ∧ lv_has ls 6 [(4, .int ((gI M 500 (c + 48 + (x).toNatClampNeg)))), (0, .ref (c)), (1, .int (x)), (2, .int (y)), (3, .int (z))]) (fun (x5 : Int32) ls => F0 m 46 ls [.int (x5)]) (fun x5 H locs ls hJ => ?_) (fun J5 => ?_)
      · obtain ⟨hX5, hm, hS, hl⟩ := hJ
        refine lv_bipush (v := (7 : Int32)) hx hb dX2_plant_46 (by decide) ?_
        refine lv_aload_n hx hb dX2_plant_48 rfl (lv_at hl 1 rfl) ?_
        refine gf_203 hx hb hts hown hs hm (lay.z hL) (hts _ q233) dX2_plant_49 ?_
        refine lv_iconst (v := (0 : Int32)) hx hb dX2_plant_52 (by decide) ?_
        refine lv_iload hx hb dX2_plant_53 (lv_at hl 0 rfl) ?_
        refine va_mmax hx hb (hml.trans hl.1.symm) hown (hts _ q659) (hts _ q660) (hts _ q78) (hts _ q661) (Nat.le_of_ble_eq_true rfl) (Nat.le_of_ble_eq_true rfl) (Nat.le_of_ble_eq_true rfl) (Nat.le_of_ble_eq_true rfl) dX2_plant_55 ?_
        refine k_aald24 hx hb hs hm (lay.a4 hL) (ix.at (B := 12) ((hmx).mono (by decide)) (by decide)) dX2_plant_58 ?_
        refine k_join (fun (x7 : Int32) H locs ls => x7 = (if (aR M (c + 4) ((if (0 : Int32) < (gI M 500 (c + 48 + (x).toNatClampNeg)) then (gI M 500 (c + 48 + (x).toNatClampNeg)) else (0 : Int32))).toNatClampNeg) = none then (0 : Int32) else (kd4 t ((aR M (c + 4) ((gI M 500 (c + 48 + (x).toNatClampNeg))).toNatClampNeg).getD 0))) ∧ mw E t (M) H ∧ va_S (eA E) s.heap H locs ∧ lv_has ls 6 [(4, .int ((gI M 500 (c + 48 + (x).toNatClampNeg)))), (0, .ref (c)), (1, .int (x)), (2, .int (y)), (3, .int (z))]) (fun (x7 : Int32) ls => F0 m 76 ls [.int (x7), .int ((7 : Int32)), .int (x5)]) (fun x7 H locs ls hJ => ?_) (fun J7 => ?_)
        · obtain ⟨hX7, hm, hS, hl⟩ := hJ
          refine kx_callv (BX := fun En q u H => XR E t ((7 : Int32)) (x7) En q u H) (vx_runSN (As := [.int (x5), .int ((7 : Int32)), .int (x7)]) (rest := []) ⟨hx, hb, hml, hown, hts⟩ (cm1_refuse l E hl9 t M  (x5) ((7 : Int32)) (x7) ) (⟨va_cnB 3 hts (lw_meth q752) rfl rfl rfl (hs.2.2.1 _ q750 rfl) (hts _ q58) (by decide +kernel) ⟨Nat.le_of_ble_eq_true rfl, Nat.le_of_ble_eq_true rfl⟩, hts _ q751, trivial⟩) (k_preS hs hm hS) rfl rfl hl.1 rfl (lv_room (Nat.le_of_ble_eq_true rfl)) dX2_plant_76 ⟨Nat.le_of_ble_eq_true rfl, Nat.le_of_ble_eq_true rfl⟩) hS (fun En_8 ce_8 q_8 u9_8 H locs hp_8 hB_8 hS h1_8 h2_8 h3_8 => ?_) (fun u_8 H locs hw_8 hm_8 hS => ?_)
          · obtain ⟨c_8, hu9_8⟩ := hp_8
            replace hu9_8 := hu9_8.symm
            subst hu9_8
            subst hX7
            subst hX5
            subst hX2
            have e9 : C2_plant t M c x y z = _ := (if_pos c_3).trans ((if_neg c_8).trans (rfl))
            exact kx_out (BX := fun En q u H => XR E t (C2_plant t M c x y z).1 (C2_plant t M c x y z).2.1 En q u H) (u := _) (fun x h => (hno x h).elim) hlocks (xr_leaf e9 (by decide) hB_8).1 (xr_leaf e9 (by decide) hB_8).2 hS h1_8 h2_8 h3_8 (Nat.le_of_ble_eq_true rfl) (Nat.le_of_ble_eq_true rfl)
          · obtain ⟨c_8, hu_8⟩ := hw_8
            replace hu_8 := hu_8.symm
            subst hu_8
            have hm := hm_8
            refine lv_aload_n hx hb dX2_plant_79 rfl (lv_at hl 1 rfl) ?_
            refine lv_iload_n hx hb dX2_plant_80 rfl (lv_at hl 3 rfl) ?_
            refine k_callq (va_runV (As := [.int (y)]) (rest := []) ⟨hx, hb, hml, hown, hts⟩ (cm2_bench l E t M  (c) (y) hL ) (cwV 1 hts (lw_V q581 q582 q583 q59 q584) rfl rfl rfl (by decide +kernel) ⟨Nat.le_of_ble_eq_true rfl, Nat.le_of_ble_eq_true rfl⟩) (k_preV hs hm hS (mw.recv hs hm (mt_ne (lay.z hL) (by decide)) (ct2 (lay.z hL)) rfl)) rfl rfl hl.1 rfl (lv_room (Nat.le_of_ble_eq_true rfl)) dX2_plant_81 ⟨Nat.le_of_ble_eq_true rfl, Nat.le_of_ble_eq_true rfl⟩) hS (fun r_9 u_9 H locs hw_9 hm_9 hS => ?_)
            obtain ⟨hr_9, hu_9⟩ := hw_9
            replace hu_9 := hu_9.symm
            subst hu_9
            have hm := hm_9
            obtain ⟨n_9, hn_9⟩ : ∃ n, n = C2_bench t M (c) (y) := ⟨_, rfl⟩
            rw [← hn_9] at hr_9
            subst hr_9
            have hr_9 := hn_9
            clear hn_9
            refine lv_iload_n hx hb dX2_plant_84 rfl (lv_at hl 4 rfl) ?_
            refine k_aald2 hx hb hs hm (bench_k hL hr_9) (ix.at (B := 5) ((hz1).mono (by decide)) (by decide)) dX2_plant_85 ?_
            refine k_nn (by rw [hr_9]; exact hbn) ?_
            refine lv_astore (lv' := [(5, _), (4, _), (0, _), (1, _), (2, _), (3, _)]) hx hb dX2_plant_86 hl (by decide) rfl (fun ls hl => ?_)
            refine lv_aload_n hx hb dX2_plant_88 rfl (lv_at hl 2 rfl) ?_
            refine lv_iload_n hx hb dX2_plant_89 rfl (lv_at hl 4 rfl) ?_
            refine k_callq (va_runV (As := [.int (y)]) (rest := []) ⟨hx, hb, hml, hown, hts⟩ (cm2_bench l E t M  (c) (y) hL ) (cwV 1 hts (lw_V q581 q582 q583 q59 q584) rfl rfl rfl (by decide +kernel) ⟨Nat.le_of_ble_eq_true rfl, Nat.le_of_ble_eq_true rfl⟩) (k_preV hs hm hS (mw.recv hs hm (mt_ne (lay.z hL) (by decide)) (ct2 (lay.z hL)) rfl)) rfl rfl hl.1 rfl (lv_room (Nat.le_of_ble_eq_true rfl)) dX2_plant_90 ⟨Nat.le_of_ble_eq_true rfl, Nat.le_of_ble_eq_true rfl⟩) hS (fun r_10 u_10 H locs hw_10 hm_10 hS => ?_)
            obtain ⟨hr_10, hu_10⟩ := hw_10
            replace hu_10 := hu_10.symm
            subst hu_10
            have hm := hm_10
            obtain ⟨n_10, hn_10⟩ : ∃ n, n = C2_bench t M (c) (y) := ⟨_, rfl⟩
            rw [← hn_10] at hr_10
            subst hr_10
            have hr_10 := hn_10
            clear hn_10
            refine lv_iload_n hx hb dX2_plant_93 rfl (lv_at hl 5 rfl) ?_
            refine lv_null hx hb dX2_plant_94 ?_
            refine k_aastN2 hx hb hs hm hS (bench_k hL hr_10) (ix.at (B := 5) ((hz1).mono (by decide)) (by decide)) dX2_plant_95 (fun H locs hm hS => ?_)
            have hm : mw E t ((wR M n_10 (va_up (aR M n_10) (z).toNatClampNeg none))) H := hm
            refine lv_aload hx hb dX2_plant_96 (lv_at hl 0 rfl) ?_
            refine lv_aload_n hx hb dX2_plant_98 rfl (lv_at hl 2 rfl) ?_
            refine gf_216 hx hb hts hown hs hm (lay.z hL) (hts _ q257) dX2_plant_99 ?_
            refine k_callv (((show plO t (aR M n_9 (z).toNatClampNeg) from by rw [hr_9]; exact hbk).get (by rw [hr_9]; exact hbn)).elim (fun h9 => va_runU (As := [.int ((gI M 216 c))]) (rest := []) ⟨hx, hb, hml, hown, hts⟩ (cm3_isPlanted l E t (wR M n_10 (va_up (aR M n_10) (z).toNatClampNeg none))  (((aR M n_9 (z).toNatClampNeg).getD 0)) ((gI M 216 c)) ((show plO t (aR M n_9 (z).toNatClampNeg) from by rw [hr_9]; exact hbk).get (by rw [hr_9]; exact hbn)) ) (va_cwU 1 hts (lw_U q1072 q1074 q1076 q1073 q60 q1077) rfl rfl rfl rfl (by decide +kernel) ⟨Nat.le_of_ble_eq_true rfl, Nat.le_of_ble_eq_true rfl⟩) (k_preV hs hm hS (mw.recv hs hm (mt_ne h9 (by decide)) (ct3 h9) rfl)) rfl rfl hl.1 rfl (lv_room (Nat.le_of_ble_eq_true rfl)) dX2_plant_102 ⟨Nat.le_of_ble_eq_true rfl, Nat.le_of_ble_eq_true rfl⟩) (fun h9 => va_runU (As := [.int ((gI M 216 c))]) (rest := []) ⟨hx, hb, hml, hown, hts⟩ (cm3_isPlanted l E t (wR M n_10 (va_up (aR M n_10) (z).toNatClampNeg none))  (((aR M n_9 (z).toNatClampNeg).getD 0)) ((gI M 216 c)) ((show plO t (aR M n_9 (z).toNatClampNeg) from by rw [hr_9]; exact hbk).get (by rw [hr_9]; exact hbn)) ) (va_cwU 1 hts (lw_U q1072 q1074 q1075 q1073 q60 q1077) rfl rfl rfl rfl (by decide +kernel) ⟨Nat.le_of_ble_eq_true rfl, Nat.le_of_ble_eq_true rfl⟩) (k_preV hs hm hS (mw.recv hs hm (mt_ne h9 (by decide)) (ct4 h9) rfl)) rfl rfl hl.1 rfl (lv_room (Nat.le_of_ble_eq_true rfl)) dX2_plant_102 ⟨Nat.le_of_ble_eq_true rfl, Nat.le_of_ble_eq_true rfl⟩)) hS (fun u_11 H locs hw_11 hm_11 hS => ?_)
            have hu_11 := hw_11
            have hm := hm_11
            refine lv_aload_n hx hb dX2_plant_105 rfl (lv_at hl 2 rfl) ?_
            refine gf_203 hx hb hts hown hs hm (lay.z hL) (hts _ q233) dX2_plant_106 ?_
            refine lv_iload hx hb dX2_plant_109 (lv_at hl 1 rfl) ?_
            refine lv_aload hx hb dX2_plant_111 (lv_at hl 0 rfl) ?_
            refine k_aastQ24 (r := some _) hx hb hs hm hS (lay.a4 hL) (plO.some ((show plO t (aR M n_9 (z).toNatClampNeg) from by rw [hr_9]; exact hbk).get (by rw [hr_9]; exact hbn))) (ix.at (B := 12) ((hpl).mono (by decide)) (by decide)) dX2_plant_113 (fun H locs hm hS => ?_)
            have hm : mw E t ((wR u_11 (c + 4) (va_up (aR u_11 (c + 4)) ((gI M 500 (c + 48 + (x).toNatClampNeg))).toNatClampNeg (some ((aR M n_9 (z).toNatClampNeg).getD 0))))) H := hm
            refine lv_iload hx hb dX2_plant_114 (lv_at hl 1 rfl) ?_
            subst hu_11
            subst hr_10
            subst hr_9
            subst hX7
            subst hX5
            subst hX2
            refine vx_ret ?_
            refine W.widen (k := 2) (n := 16) (Nat.le_of_ble_eq_true rfl) (Nat.le_of_ble_eq_true rfl) ?_
            exact W.iret (v := _) hx hb hr (fun t9 ht9 _ => ⟨⟨_, _, rfl, pp4 ((if_pos c_3).trans ((if_pos c_8).trans (rfl))), hb9 ht9 hm⟩, hS.F ht9⟩) hS.2.2 dX2_plant_116
        · refine lv_ifnonnullQ (tgt := 66) hx hb dX2_plant_59 (by decide) (fun c_6 => ?_) (fun c_6 => ?_)
          · have hne2 : ¬ aR M (c + 4) ((gI M 500 (c + 48 + (x).toNatClampNeg))).toNatClampNeg = none := by have h9 := c_6; rw [mx0_nat hj hjB] at h9; rw [hjB, cl_nI (by omega)]; exact h9
            refine lv_aload_n hx hb dX2_plant_66 rfl (lv_at hl 1 rfl) ?_
            refine gf_203 hx hb hts hown hs hm (lay.z hL) (hts _ q233) dX2_plant_67 ?_
            refine lv_iload hx hb dX2_plant_70 (lv_at hl 0 rfl) ?_
            refine k_aald24 hx hb hs hm (lay.a4 hL) (ix.at (B := 12) ((hpl).mono (by decide)) (by decide)) dX2_plant_72 ?_
            refine k_nn hne2 ?_
            refine k_calli (((hcr _ (ix.nlt hpl)).get hne2).elim (fun h9 => va_runU (As := []) (rest := [.int ((7 : Int32)), .int (x5)]) ⟨hx, hb, hml, hown, hts⟩ (cm4_kind l E t M (((aR M (c + 4) ((gI M 500 (c + 48 + (x).toNatClampNeg))).toNatClampNeg).getD 0)) h9) (va_cwA 0 hts (lw_U q589 q591 q595 q596 q61 q597) rfl rfl rfl (hs.2.2.1 _ q590 rfl) (by decide +kernel) ⟨Nat.le_of_ble_eq_true rfl, Nat.le_of_ble_eq_true rfl⟩) (k_preV hs hm hS (mw.recv hs hm (mt_ne h9 (by decide)) (ct3 h9) rfl)) rfl rfl hl.1 rfl (lv_room (Nat.le_of_ble_eq_true rfl)) dX2_plant_73 ⟨Nat.le_of_ble_eq_true rfl, Nat.le_of_ble_eq_true rfl⟩) (fun h9 => va_runU (As := []) (rest := [.int ((7 : Int32)), .int (x5)]) ⟨hx, hb, hml, hown, hts⟩ (cm5_kind l E t M (((aR M (c + 4) ((gI M 500 (c + 48 + (x).toNatClampNeg))).toNatClampNeg).getD 0)) h9) (va_cwA 0 hts (lw_U q589 q591 q592 q593 q62 q594) rfl rfl rfl (hs.2.2.1 _ q590 rfl) (by decide +kernel) ⟨Nat.le_of_ble_eq_true rfl, Nat.le_of_ble_eq_true rfl⟩) (k_preV hs hm hS (mw.recv hs hm (mt_ne h9 (by decide)) (ct4 h9) rfl)) rfl rfl hl.1 rfl (lv_room (Nat.le_of_ble_eq_true rfl)) dX2_plant_73 ⟨Nat.le_of_ble_eq_true rfl, Nat.le_of_ble_eq_true rfl⟩)) hS (fun r_12 u_12 H locs hw_12 hm_12 hS => ?_)
            obtain ⟨hr_12, hu_12⟩ := hw_12
            subst hr_12
            replace hu_12 := hu_12.symm
            subst hu_12
            have hm : mw E t (M) H := hm_12
            exact J7 ((kd4 t ((aR M (c + 4) ((gI M 500 (c + 48 + (x).toNatClampNeg))).toNatClampNeg).getD 0))) _ _ _ ⟨((if_neg c_6).trans (rfl)).symm, hm, hS, lv_sub hl [0, 1, 2, 3, 4] rfl⟩
          · refine lv_iconst (v := (0 : Int32)) hx hb dX2_plant_62 (by decide) ?_
            refine lv_goto (tgt := 76) hx hb dX2_plant_63 (by decide) ?_
            exact J7 ((0 : Int32)) _ _ _ ⟨((if_pos c_6).trans (rfl)).symm, hm, hS, lv_sub hl [0, 1, 2, 3, 4] rfl⟩
      · refine lv_ifnullQ (tgt := 45) hx hb dX2_plant_38 (by decide) (fun c_4 => ?_) (fun c_4 => ?_)
        · refine lv_iconst (v := (0 : Int32)) hx hb dX2_plant_45 (by decide) ?_
          exact J5 ((0 : Int32)) _ _ _ ⟨((if_pos c_4).trans (rfl)).symm, hm, hS, lv_sub hl [0, 1, 2, 3, 4] rfl⟩
        · refine lv_iconst (v := (1 : Int32)) hx hb dX2_plant_41 (by decide) ?_
          refine lv_goto (tgt := 46) hx hb dX2_plant_42 (by decide) ?_
          exact J5 ((1 : Int32)) _ _ _ ⟨((if_neg c_4).trans (rfl)).symm, hm, hS, lv_sub hl [0, 1, 2, 3, 4] rfl⟩
  · refine lv_icmp_ne (tgt := 21) hx hb dX2_plant_14 (by decide) (fun c_1 => ?_) (fun c_1 => ?_)
    · refine lv_iconst (v := (0 : Int32)) hx hb dX2_plant_21 (by decide) ?_
      exact J2 ((0 : Int32)) _ _ _ ⟨((if_neg c_1).trans (rfl)).symm, hm, hS, lv_sub hl [0, 1, 2, 3, 4] rfl⟩
    · refine lv_iconst (v := (1 : Int32)) hx hb dX2_plant_17 (by decide) ?_
      refine lv_goto (tgt := 22) hx hb dX2_plant_18 (by decide) ?_
      exact J2 ((1 : Int32)) _ _ _ ⟨((if_pos c_1).trans (rfl)).symm, hm, hS, lv_sub hl [0, 1, 2, 3, 4] rfl⟩
