set_option maxRecDepth 100000
/-! the class: what may be refused -/
theorem xr_leaf {E : mE} {t : mt} {α : Type} {X : Int32 × Int32 × α × mm} {rs dt : Int32} {d : α} {u : mm} {En : String} {q : Addr} {H : Heap} (e : X = (rs, dt, d, u)) (hne : ¬ rs = 0) (h : XR E t rs dt En q u H) : (¬ X.1 = 0 ∧ u = X.2.2.2) ∧ XR E t X.1 X.2.1 En q u H := by
  subst e
  exact ⟨⟨hne, rfl⟩, h⟩
theorem xs_leaf {E : mE} {t : mt} {α : Type} {X : Int32 × α × mm} {k : Int32} {d : α} {u : mm} {En : String} {q : Addr} {H : Heap} (e : X = (k, d, u)) (hne : ¬ k = 0) (h : XS E t k En q u H) : (¬ X.1 = 0 ∧ u = X.2.2) ∧ XS E t X.1 En q u H := by
  subst e
  exact ⟨⟨hne, rfl⟩, h⟩
theorem six_ix {n : Int32} (h : ix 7 n) (c : ¬ n = 6) : ix 6 n := by
  obtain ⟨k, hk, rfl⟩ := h
  refine ⟨k, ?_, rfl⟩
  rcases Nat.lt_or_ge k 6 with h9 | h9
  · exact h9
  · exact absurd (by rw [show k = 6 by omega]; rfl) c
theorem b01 {p : Prop} [Decidable p] {x : Int32} (h : x = if p then 1 else 0) (c : x = 0) : ¬ p := by
  intro hp
  rw [if_pos hp] at h
  rw [h] at c
  exact absurd c (by decide)
theorem b10 {p : Prop} [Decidable p] {x : Int32} (h : x = if p then 0 else 1) (c : x = 0) : p := by
  by_cases hp : p
  · exact hp
  · rw [if_neg hp] at h
    rw [h] at c
    exact absurd c (by decide)
def C2_member (t : mt) (M : mm) (c : Nat)  : Int32 × Int32 × Int32 × mm :=
  let x2 := if (gI M 211 c) = (6 : Int32) then (1 : Int32) else (0 : Int32);
  let u_4 := C6_begins t M ((c + 48 + ((gI M 211 c)).toNatClampNeg)) ;
  if x2 = 0 then
    let u_4 := C6_begins t M ((c + 48 + ((gI M 211 c)).toNatClampNeg)) ;
    ((0 : Int32), (0 : Int32), (((gI u_4 211 c) + (1 : Int32)) - (1 : Int32)), (sI u_4 211 c ((gI u_4 211 c) + (1 : Int32))))
  else
    ((1 : Int32), (6 : Int32), (0 : Int32), M)
set_option maxHeartbeats 4000000 in
theorem cm2_member (l : Launch) (E : mE) (hl9 : l.stackTraces = false) (t : mt) (M : mm) (c : Nat)  (hL : lay t c) (hn : ix 7 (gI M 211 c)) : vx_Met l yX2_member (ws_ yX2_member cX2_member 1 (some .int)) ({ frames := 9, cells := 1, slots := 8, locals := 182 }) (va_Pc [.ref c] (wP E t M)) (va_Qi (fun (r : Int32) (u : mm) => (C2_member t M c ).1 = 0 ∧ r = (C2_member t M c ).2.2.1 ∧ u = (C2_member t M c ).2.2.2) (fun u U => mw E t u U.heap) (eA E)) (vx_X (fun (u : mm) => ¬ (C2_member t M c ).1 = 0 ∧ u = (C2_member t M c ).2.2.2) (fun En q u U => XR E t (C2_member t M c ).1 (C2_member t M c ).2.1 En q u U.heap) (eA E)) 1 8 (eA E) := by
  refine vx_ofW (cc := cX2_member) (maxL := 1) (ret := (some .int)) (by decide) rfl ?_
  intro p e s m args below meth c0 s₁ B hml hno hv
  obtain ⟨rfl, hs, hm⟩ := hv
  have hx := B.exec
  have hb := B.bytes
  have hr := B.returns
  have hts := atoms_spec (ws := ws_ yX2_member cX2_member 1 (some .int)) B.pre
  have hts : ∀ w ∈ lw_all, w.before _ s = true := fun w h => hts w (List.mem_cons_of_mem _ h)
  have hown : s.vm.findClass RX2 = some m.cls := findClass_of_methodNamed B.named
  have hlocks := B.notSynchronized
  have hout : ∀ pc : Nat, ∀ x ∈ c0.exceptionTable.toList, covers x pc = false := fun _ x h => (hno x h).elim
  have hS : va_S (eA E) s.heap s.heap [] := va_S.rf
  have hl := lv_entry ([.ref c]) (n := 1) (Nat.le_of_ble_eq_true rfl)
  rw [lg_entry_eq]
  generalize (lg_sl ([.ref c]) ++ List.replicate (1 - (lg_sl ([.ref c])).length) Slot.unset).toArray = ls at hl ⊢
  have hl : lv_has ls 1 [(0, .ref (c))] := hl
  refine lv_aload_n hx hb dX2_member_0 rfl (lv_at hl 0 rfl) ?_
  refine gf_211 hx hb hts hown hs hm (lay.z hL) (hts _ q245) dX2_member_1 ?_
  refine lv_bipush (v := (6 : Int32)) hx hb dX2_member_4 (by decide) ?_
  refine k_join (fun (x2 : Int32) H locs ls => x2 = (if (gI M 211 c) = (6 : Int32) then (1 : Int32) else (0 : Int32)) ∧ mw E t (M) H ∧ va_S (eA E) s.heap H locs ∧ lv_has ls 1 [(0, .ref (c))]) (fun (x2 : Int32) ls => F0 m 14 ls [.int (x2)]) (fun x2 H locs ls hJ => ?_) (fun J2 => ?_)
  · obtain ⟨hX2, hm, hS, hl⟩ := hJ
    refine lv_iconst (v := (1 : Int32)) hx hb dX2_member_14 (by decide) ?_
    refine lv_bipush (v := (6 : Int32)) hx hb dX2_member_15 (by decide) ?_
    refine kx_callv (BX := fun En q u H => XR E t ((1 : Int32)) ((6 : Int32)) En q u H) (vx_runSN (As := [.int (x2), .int ((1 : Int32)), .int ((6 : Int32))]) (rest := []) ⟨hx, hb, hml, hown, hts⟩ (cm1_refuse l E hl9 t M  (x2) ((1 : Int32)) ((6 : Int32)) ) (⟨va_cnB 3 hts (lw_meth q752) rfl rfl rfl (hs.2.2.1 _ q750 rfl) (hts _ q58) (by decide +kernel) ⟨Nat.le_of_ble_eq_true rfl, Nat.le_of_ble_eq_true rfl⟩, hts _ q751, trivial⟩) (k_preS hs hm hS) rfl rfl hl.1 rfl (lv_room (Nat.le_of_ble_eq_true rfl)) dX2_member_17 ⟨Nat.le_of_ble_eq_true rfl, Nat.le_of_ble_eq_true rfl⟩) hS (fun En_3 ce_3 q_3 u9_3 H locs hp_3 hB_3 hS h1_3 h2_3 h3_3 => ?_) (fun u_3 H locs hw_3 hm_3 hS => ?_)
    · obtain ⟨c_3, hu9_3⟩ := hp_3
      replace hu9_3 := hu9_3.symm
      subst hu9_3
      subst hX2
      have e9 : C2_member t M c  = _ := (if_neg c_3).trans (rfl)
      exact kx_out (BX := fun En q u H => XR E t (C2_member t M c ).1 (C2_member t M c ).2.1 En q u H) (u := _) (fun x h => (hno x h).elim) hlocks (xr_leaf e9 (by decide) hB_3).1 (xr_leaf e9 (by decide) hB_3).2 hS h1_3 h2_3 h3_3 (Nat.le_of_ble_eq_true rfl) (Nat.le_of_ble_eq_true rfl)
    · obtain ⟨c_3, hu_3⟩ := hw_3
      replace hu_3 := hu_3.symm
      subst hu_3
      have hm := hm_3
      refine lv_aload_n hx hb dX2_member_20 rfl (lv_at hl 0 rfl) ?_
      refine gf_208 hx hb hts hown hs hm (lay.z hL) (hts _ q239) dX2_member_21 ?_
      have h6 : ix 6 (gI M 211 c) := six_ix hn (b01 hX2 c_3)
      refine lv_aload_n hx hb dX2_member_24 rfl (lv_at hl 0 rfl) ?_
      refine gf_211 hx hb hts hown hs hm (lay.z hL) (hts _ q245) dX2_member_25 ?_
      refine k_mem hx hb hs hm (lay.a9 hL) (k := ((gI M 211 c)).toNatClampNeg) rfl (ix.at (B := 6) ((h6).mono (by decide)) (by decide)) dX2_member_28 ?_
      refine k_callv (va_runV (As := []) (rest := []) ⟨hx, hb, hml, hown, hts⟩ (cm6_begins l E t M  ((c + 48 + ((gI M 211 c)).toNatClampNeg))  (lay.mem hL (ix.nlt ((h6).mono (by decide)))) ) (cwV 0 hts (lw_V q775 q776 q777 q63 q778) rfl rfl rfl (by decide +kernel) ⟨Nat.le_of_ble_eq_true rfl, Nat.le_of_ble_eq_true rfl⟩) (k_preV hs hm hS (mw.recv hs hm (mt_ne (lay.mem hL (ix.nlt ((h6).mono (by decide)))) (by decide)) (ct5 (lay.mem hL (ix.nlt ((h6).mono (by decide))))) rfl)) rfl rfl hl.1 rfl (lv_room (Nat.le_of_ble_eq_true rfl)) dX2_member_29 ⟨Nat.le_of_ble_eq_true rfl, Nat.le_of_ble_eq_true rfl⟩) hS (fun u_4 H locs hw_4 hm_4 hS => ?_)
      have hu_4 := hw_4
      have hm := hm_4
      refine lv_aload_n hx hb dX2_member_32 rfl (lv_at hl 0 rfl) ?_
      refine lv_dup hx hb dX2_member_33 rfl ?_
      refine gf_211 hx hb hts hown hs hm (lay.z hL) (hts _ q245) dX2_member_34 ?_
      refine lv_iconst (v := (1 : Int32)) hx hb dX2_member_37 (by decide) ?_
      refine lv_iadd hx hb dX2_member_38 ?_
      refine pf_211 hx hb hts hown hs hm hS (lay.z hL) (hts _ q245) dX2_member_39 (fun H locs hm hS => ?_)
      have hm : mw E t ((sI u_4 211 c ((gI u_4 211 c) + (1 : Int32)))) H := hm
      refine lv_aload_n hx hb dX2_member_42 rfl (lv_at hl 0 rfl) ?_
      refine gf_211 hx hb hts hown hs hm (lay.z hL) (hts _ q245) dX2_member_43 ?_
      rw [show gI (sI u_4 211 c ((gI u_4 211 c) + (1 : Int32))) 211 c = ((gI u_4 211 c) + (1 : Int32)) from (show gI (sI u_4 211 c ((gI u_4 211 c) + (1 : Int32))) 211 c = ((gI u_4 211 c) + (1 : Int32)) from m2_at _ _ _ _)]
      refine lv_iconst (v := (1 : Int32)) hx hb dX2_member_46 (by decide) ?_
      refine lv_isub hx hb dX2_member_47 ?_
      subst hu_4
      subst hX2
      refine vx_ret ?_
      refine W.widen (k := 1) (n := 8) (Nat.le_of_ble_eq_true rfl) (Nat.le_of_ble_eq_true rfl) ?_
      exact W.iret (v := _) hx hb hr (fun t9 ht9 _ => ⟨⟨_, _, rfl, pp4 ((if_pos c_3).trans (rfl)), hb9 ht9 hm⟩, hS.F ht9⟩) hS.2.2 dX2_member_48
  · refine lv_icmp_ne (tgt := 13) hx hb dX2_member_6 (by decide) (fun c_1 => ?_) (fun c_1 => ?_)
    · refine lv_iconst (v := (0 : Int32)) hx hb dX2_member_13 (by decide) ?_
      exact J2 ((0 : Int32)) _ _ _ ⟨((if_neg c_1).trans (rfl)).symm, hm, hS, lv_sub hl [0] rfl⟩
    · refine lv_iconst (v := (1 : Int32)) hx hb dX2_member_9 (by decide) ?_
      refine lv_goto (tgt := 14) hx hb dX2_member_10 (by decide) ?_
      exact J2 ((1 : Int32)) _ _ _ ⟨((if_pos c_1).trans (rfl)).symm, hm, hS, lv_sub hl [0] rfl⟩
def C2_dig (t : mt) (M : mm) (c : Nat) (x : Int32) (y : Int32) : Int32 × Int32 × Int32 × mm :=
  let x2 := if (gI M 500 (c + 48 + (x).toNatClampNeg)) = (-1 : Int32) then (0 : Int32) else (1 : Int32);
  if x2 = 0 then
    let x5 := if (aI M (c + 3) (y).toNatClampNeg) = (-1 : Int32) then (0 : Int32) else (1 : Int32);
    let r_7 := C2_dug t (wI (sI M 500 (c + 48 + (x).toNatClampNeg) y) (c + 3) (upd (aI M (c + 3)) (y).toNatClampNeg x)) (c) ;
    if x5 = 0 then
      let r_7 := C2_dug t (wI (sI M 500 (c + 48 + (x).toNatClampNeg) y) (c + 3) (upd (aI M (c + 3)) (y).toNatClampNeg x)) (c) ;
      ((0 : Int32), (0 : Int32), r_7, (wI (sI M 500 (c + 48 + (x).toNatClampNeg) y) (c + 3) (upd (aI M (c + 3)) (y).toNatClampNeg x)))
    else
      ((3 : Int32), (aI M (c + 3) (y).toNatClampNeg), (0 : Int32), M)
  else
    ((2 : Int32), (gI M 500 (c + 48 + (x).toNatClampNeg)), (0 : Int32), M)
set_option maxHeartbeats 4000000 in
theorem cm2_dig (l : Launch) (E : mE) (hl9 : l.stackTraces = false) (t : mt) (M : mm) (c : Nat) (x : Int32) (y : Int32) (hL : lay t c) (hx1 : ix 6 x) (hy1 : ix 12 y) : vx_Met l yX2_dig (ws_ yX2_dig cX2_dig 4 (some .int)) ({ frames := 9, cells := 2, slots := 16, locals := 182 }) (va_Pc [.ref c, .int x, .int y] (wP E t M)) (va_Qi (fun (r : Int32) (u : mm) => (C2_dig t M c x y).1 = 0 ∧ r = (C2_dig t M c x y).2.2.1 ∧ u = (C2_dig t M c x y).2.2.2) (fun u U => mw E t u U.heap) (eA E)) (vx_X (fun (u : mm) => ¬ (C2_dig t M c x y).1 = 0 ∧ u = (C2_dig t M c x y).2.2.2) (fun En q u U => XR E t (C2_dig t M c x y).1 (C2_dig t M c x y).2.1 En q u U.heap) (eA E)) 2 16 (eA E) := by
  refine vx_ofW (cc := cX2_dig) (maxL := 4) (ret := (some .int)) (by decide) rfl ?_
  intro p e s m args below meth c0 s₁ B hml hno hv
  obtain ⟨rfl, hs, hm⟩ := hv
  have hx := B.exec
  have hb := B.bytes
  have hr := B.returns
  have hts := atoms_spec (ws := ws_ yX2_dig cX2_dig 4 (some .int)) B.pre
  have hts : ∀ w ∈ lw_all, w.before _ s = true := fun w h => hts w (List.mem_cons_of_mem _ h)
  have hown : s.vm.findClass RX2 = some m.cls := findClass_of_methodNamed B.named
  have hlocks := B.notSynchronized
  have hout : ∀ pc : Nat, ∀ x ∈ c0.exceptionTable.toList, covers x pc = false := fun _ x h => (hno x h).elim
  have hS : va_S (eA E) s.heap s.heap [] := va_S.rf
  have hl := lv_entry ([.ref c, .int x, .int y]) (n := 4) (Nat.le_of_ble_eq_true rfl)
  rw [lg_entry_eq]
  generalize (lg_sl ([.ref c, .int x, .int y]) ++ List.replicate (4 - (lg_sl ([.ref c, .int x, .int y])).length) Slot.unset).toArray = ls at hl ⊢
  have hl : lv_has ls 4 [(0, .ref (c)), (1, .int (x)), (2, .int (y))] := hl
  refine lv_aload_n hx hb dX2_dig_0 rfl (lv_at hl 0 rfl) ?_
  refine gf_208 hx hb hts hown hs hm (lay.z hL) (hts _ q239) dX2_dig_1 ?_
  refine lv_iload_n hx hb dX2_dig_4 rfl (lv_at hl 1 rfl) ?_
  refine k_mem hx hb hs hm (lay.a9 hL) (k := (x).toNatClampNeg) rfl (ix.at (B := 6) ((hx1).mono (by decide)) (by decide)) dX2_dig_5 ?_
  refine lv_astore_n (lv' := [(3, _), (0, _), (1, _), (2, _)]) hx hb dX2_dig_6 rfl hl (by decide) rfl (fun ls hl => ?_)
  refine lv_aload_n hx hb dX2_dig_7 rfl (lv_at hl 0 rfl) ?_
  refine gfN_500 hx hb hts hown hs hm (lay.mem hL (ix.nlt ((hx1).mono (by decide)))) q163 dX2_dig_8 ?_
  refine lv_iconst (v := (-1 : Int32)) hx hb dX2_dig_11 (by decide) ?_
  refine k_join (fun (x2 : Int32) H locs ls => x2 = (if (gI M 500 (c + 48 + (x).toNatClampNeg)) = (-1 : Int32) then (0 : Int32) else (1 : Int32)) ∧ mw E t (M) H ∧ va_S (eA E) s.heap H locs ∧ lv_has ls 4 [(3, .ref ((c + 48 + (x).toNatClampNeg))), (0, .ref (c)), (1, .int (x)), (2, .int (y))]) (fun (x2 : Int32) ls => F0 m 20 ls [.int (x2)]) (fun x2 H locs ls hJ => ?_) (fun J2 => ?_)
  · obtain ⟨hX2, hm, hS, hl⟩ := hJ
    refine lv_iconst (v := (2 : Int32)) hx hb dX2_dig_20 (by decide) ?_
    refine lv_aload_n hx hb dX2_dig_21 rfl (lv_at hl 0 rfl) ?_
    refine gfN_500 hx hb hts hown hs hm (lay.mem hL (ix.nlt ((hx1).mono (by decide)))) q163 dX2_dig_22 ?_
    refine kx_callv (BX := fun En q u H => XR E t ((2 : Int32)) ((gI M 500 (c + 48 + (x).toNatClampNeg))) En q u H) (vx_runSN (As := [.int (x2), .int ((2 : Int32)), .int ((gI M 500 (c + 48 + (x).toNatClampNeg)))]) (rest := []) ⟨hx, hb, hml, hown, hts⟩ (cm1_refuse l E hl9 t M  (x2) ((2 : Int32)) ((gI M 500 (c + 48 + (x).toNatClampNeg))) ) (⟨va_cnB 3 hts (lw_meth q752) rfl rfl rfl (hs.2.2.1 _ q750 rfl) (hts _ q58) (by decide +kernel) ⟨Nat.le_of_ble_eq_true rfl, Nat.le_of_ble_eq_true rfl⟩, hts _ q751, trivial⟩) (k_preS hs hm hS) rfl rfl hl.1 rfl (lv_room (Nat.le_of_ble_eq_true rfl)) dX2_dig_25 ⟨Nat.le_of_ble_eq_true rfl, Nat.le_of_ble_eq_true rfl⟩) hS (fun En_3 ce_3 q_3 u9_3 H locs hp_3 hB_3 hS h1_3 h2_3 h3_3 => ?_) (fun u_3 H locs hw_3 hm_3 hS => ?_)
    · obtain ⟨c_3, hu9_3⟩ := hp_3
      replace hu9_3 := hu9_3.symm
      subst hu9_3
      subst hX2
      have e9 : C2_dig t M c x y = _ := (if_neg c_3).trans (rfl)
      exact kx_out (BX := fun En q u H => XR E t (C2_dig t M c x y).1 (C2_dig t M c x y).2.1 En q u H) (u := _) (fun x h => (hno x h).elim) hlocks (xr_leaf e9 (by decide) hB_3).1 (xr_leaf e9 (by decide) hB_3).2 hS h1_3 h2_3 h3_3 (Nat.le_of_ble_eq_true rfl) (Nat.le_of_ble_eq_true rfl)
    · obtain ⟨c_3, hu_3⟩ := hw_3
      replace hu_3 := hu_3.symm
      subst hu_3
      have hm := hm_3
      refine lv_aload_n hx hb dX2_dig_28 rfl (lv_at hl 1 rfl) ?_
      refine gf_202 hx hb hts hown hs hm (lay.z hL) (hts _ q231) dX2_dig_29 ?_
      refine lv_iload_n hx hb dX2_dig_32 rfl (lv_at hl 3 rfl) ?_
      refine k_iald hx hb hs hm (lay.a3 hL) (ix.at (B := 12) ((hy1).mono (by decide)) (by decide)) dX2_dig_33 ?_
      refine lv_iconst (v := (-1 : Int32)) hx hb dX2_dig_34 (by decide) ?_
      refine k_join (fun (x5 : Int32) H locs ls => x5 = (if (aI M (c + 3) (y).toNatClampNeg) = (-1 : Int32) then (0 : Int32) else (1 : Int32)) ∧ mw E t (M) H ∧ va_S (eA E) s.heap H locs ∧ lv_has ls 4 [(3, .ref ((c + 48 + (x).toNatClampNeg))), (0, .ref (c)), (1, .int (x)), (2, .int (y))]) (fun (x5 : Int32) ls => F0 m 43 ls [.int (x5)]) (fun x5 H locs ls hJ => ?_) (fun J5 => ?_)
      · obtain ⟨hX5, hm, hS, hl⟩ := hJ
        refine lv_iconst (v := (3 : Int32)) hx hb dX2_dig_43 (by decide) ?_
        refine lv_aload_n hx hb dX2_dig_44 rfl (lv_at hl 1 rfl) ?_
        refine gf_202 hx hb hts hown hs hm (lay.z hL) (hts _ q231) dX2_dig_45 ?_
        refine lv_iload_n hx hb dX2_dig_48 rfl (lv_at hl 3 rfl) ?_
        refine k_iald hx hb hs hm (lay.a3 hL) (ix.at (B := 12) ((hy1).mono (by decide)) (by decide)) dX2_dig_49 ?_
        refine kx_callv (BX := fun En q u H => XR E t ((3 : Int32)) ((aI M (c + 3) (y).toNatClampNeg)) En q u H) (vx_runSN (As := [.int (x5), .int ((3 : Int32)), .int ((aI M (c + 3) (y).toNatClampNeg))]) (rest := []) ⟨hx, hb, hml, hown, hts⟩ (cm1_refuse l E hl9 t M  (x5) ((3 : Int32)) ((aI M (c + 3) (y).toNatClampNeg)) ) (⟨va_cnB 3 hts (lw_meth q752) rfl rfl rfl (hs.2.2.1 _ q750 rfl) (hts _ q58) (by decide +kernel) ⟨Nat.le_of_ble_eq_true rfl, Nat.le_of_ble_eq_true rfl⟩, hts _ q751, trivial⟩) (k_preS hs hm hS) rfl rfl hl.1 rfl (lv_room (Nat.le_of_ble_eq_true rfl)) dX2_dig_50 ⟨Nat.le_of_ble_eq_true rfl, Nat.le_of_ble_eq_true rfl⟩) hS (fun En_6 ce_6 q_6 u9_6 H locs hp_6 hB_6 hS h1_6 h2_6 h3_6 => ?_) (fun u_6 H locs hw_6 hm_6 hS => ?_)
        · obtain ⟨c_6, hu9_6⟩ := hp_6
          replace hu9_6 := hu9_6.symm
          subst hu9_6
          subst hX5
          subst hX2
          have e9 : C2_dig t M c x y = _ := (if_pos c_3).trans ((if_neg c_6).trans (rfl))
          exact kx_out (BX := fun En q u H => XR E t (C2_dig t M c x y).1 (C2_dig t M c x y).2.1 En q u H) (u := _) (fun x h => (hno x h).elim) hlocks (xr_leaf e9 (by decide) hB_6).1 (xr_leaf e9 (by decide) hB_6).2 hS h1_6 h2_6 h3_6 (Nat.le_of_ble_eq_true rfl) (Nat.le_of_ble_eq_true rfl)
        · obtain ⟨c_6, hu_6⟩ := hw_6
          replace hu_6 := hu_6.symm
          subst hu_6
          have hm := hm_6
          refine lv_aload_n hx hb dX2_dig_53 rfl (lv_at hl 0 rfl) ?_
          refine lv_iload_n hx hb dX2_dig_54 rfl (lv_at hl 3 rfl) ?_
          refine pfN_500 hx hb hts hown hs hm hS (lay.mem hL (ix.nlt ((hx1).mono (by decide)))) q163 dX2_dig_55 (fun H locs hm hS => ?_)
          have hm : mw E t ((sI M 500 (c + 48 + (x).toNatClampNeg) y)) H := hm
          refine lv_aload_n hx hb dX2_dig_58 rfl (lv_at hl 1 rfl) ?_
          refine gf_202 hx hb hts hown hs hm (lay.z hL) (hts _ q231) dX2_dig_59 ?_
          refine lv_iload_n hx hb dX2_dig_62 rfl (lv_at hl 3 rfl) ?_
          refine lv_iload_n hx hb dX2_dig_63 rfl (lv_at hl 2 rfl) ?_
          refine k_iast hx hb hs hm hS (lay.a3 hL) (ix.at (B := 12) ((hy1).mono (by decide)) (by decide)) dX2_dig_64 (fun H locs hm hS => ?_)
          have hm : mw E t ((wI (sI M 500 (c + 48 + (x).toNatClampNeg) y) (c + 3) (upd (aI M (c + 3)) (y).toNatClampNeg x))) H := hm
          refine lv_aload_n hx hb dX2_dig_65 rfl (lv_at hl 1 rfl) ?_
          refine k_calli (va_runV (As := []) (rest := []) ⟨hx, hb, hml, hown, hts⟩ (cm2_dug l E t (wI (sI M 500 (c + 48 + (x).toNatClampNeg) y) (c + 3) (upd (aI M (c + 3)) (y).toNatClampNeg x))  (c)  hL ) (cwV 0 hts (lw_V q863 q683 q684 q59 q685) rfl rfl rfl (by decide +kernel) ⟨Nat.le_of_ble_eq_true rfl, Nat.le_of_ble_eq_true rfl⟩) (k_preV hs hm hS (mw.recv hs hm (mt_ne (lay.z hL) (by decide)) (ct2 (lay.z hL)) rfl)) rfl rfl hl.1 rfl (lv_room (Nat.le_of_ble_eq_true rfl)) dX2_dig_66 ⟨Nat.le_of_ble_eq_true rfl, Nat.le_of_ble_eq_true rfl⟩) hS (fun r_7 u_7 H locs hw_7 hm_7 hS => ?_)
          obtain ⟨hr_7, hu_7⟩ := hw_7
          replace hu_7 := hu_7.symm
          subst hu_7
          have hm := hm_7
          subst hr_7
          subst hX5
          subst hX2
          refine vx_ret ?_
          refine W.widen (k := 2) (n := 16) (Nat.le_of_ble_eq_true rfl) (Nat.le_of_ble_eq_true rfl) ?_
          exact W.iret (v := _) hx hb hr (fun t9 ht9 _ => ⟨⟨_, _, rfl, pp4 ((if_pos c_3).trans ((if_pos c_6).trans (rfl))), hb9 ht9 hm⟩, hS.F ht9⟩) hS.2.2 dX2_dig_69
      · refine lv_icmp_eq (tgt := 42) hx hb dX2_dig_35 (by decide) (fun c_4 => ?_) (fun c_4 => ?_)
        · refine lv_iconst (v := (0 : Int32)) hx hb dX2_dig_42 (by decide) ?_
          exact J5 ((0 : Int32)) _ _ _ ⟨((if_pos c_4).trans (rfl)).symm, hm, hS, lv_sub hl [0, 1, 2, 3] rfl⟩
        · refine lv_iconst (v := (1 : Int32)) hx hb dX2_dig_38 (by decide) ?_
          refine lv_goto (tgt := 43) hx hb dX2_dig_39 (by decide) ?_
          exact J5 ((1 : Int32)) _ _ _ ⟨((if_neg c_4).trans (rfl)).symm, hm, hS, lv_sub hl [0, 1, 2, 3] rfl⟩
  · refine lv_icmp_eq (tgt := 19) hx hb dX2_dig_12 (by decide) (fun c_1 => ?_) (fun c_1 => ?_)
    · refine lv_iconst (v := (0 : Int32)) hx hb dX2_dig_19 (by decide) ?_
      exact J2 ((0 : Int32)) _ _ _ ⟨((if_pos c_1).trans (rfl)).symm, hm, hS, lv_sub hl [0, 1, 2, 3] rfl⟩
    · refine lv_iconst (v := (1 : Int32)) hx hb dX2_dig_15 (by decide) ?_
      refine lv_goto (tgt := 20) hx hb dX2_dig_16 (by decide) ?_
      exact J2 ((1 : Int32)) _ _ _ ⟨((if_neg c_1).trans (rfl)).symm, hm, hS, lv_sub hl [0, 1, 2, 3] rfl⟩
def C2_rest (t : mt) (M : mm) (c : Nat) (x : Int32) : Int32 × Int32 × Int32 × mm :=
  let x2 := if (gI M 500 (c + 48 + (x).toNatClampNeg)) = (-1 : Int32) then (1 : Int32) else (0 : Int32);
  if x2 = 0 then
    ((0 : Int32), (0 : Int32), (gI M 500 (c + 48 + (x).toNatClampNeg)), (sI (wI M (c + 3) (upd (aI M (c + 3)) ((gI M 500 (c + 48 + (x).toNatClampNeg))).toNatClampNeg (-1 : Int32))) 500 (c + 48 + (x).toNatClampNeg) (-1 : Int32)))
  else
    ((4 : Int32), x, (0 : Int32), M)
set_option maxHeartbeats 4000000 in
theorem cm2_rest (l : Launch) (E : mE) (hl9 : l.stackTraces = false) (t : mt) (M : mm) (c : Nat) (x : Int32) (hL : lay t c) (hx1 : ix 6 x) (hmp : (gI M 500 (c + 48 + (x).toNatClampNeg)) = -1 ∨ ix 12 (gI M 500 (c + 48 + (x).toNatClampNeg))) : vx_Met l yX2_rest (ws_ yX2_rest cX2_rest 4 (some .int)) ({ frames := 9, cells := 1, slots := 8, locals := 182 }) (va_Pc [.ref c, .int x] (wP E t M)) (va_Qi (fun (r : Int32) (u : mm) => (C2_rest t M c x).1 = 0 ∧ r = (C2_rest t M c x).2.2.1 ∧ u = (C2_rest t M c x).2.2.2) (fun u U => mw E t u U.heap) (eA E)) (vx_X (fun (u : mm) => ¬ (C2_rest t M c x).1 = 0 ∧ u = (C2_rest t M c x).2.2.2) (fun En q u U => XR E t (C2_rest t M c x).1 (C2_rest t M c x).2.1 En q u U.heap) (eA E)) 1 8 (eA E) := by
  refine vx_ofW (cc := cX2_rest) (maxL := 4) (ret := (some .int)) (by decide) rfl ?_
  intro p e s m args below meth c0 s₁ B hml hno hv
  obtain ⟨rfl, hs, hm⟩ := hv
  have hx := B.exec
  have hb := B.bytes
  have hr := B.returns
  have hts := atoms_spec (ws := ws_ yX2_rest cX2_rest 4 (some .int)) B.pre
  have hts : ∀ w ∈ lw_all, w.before _ s = true := fun w h => hts w (List.mem_cons_of_mem _ h)
  have hown : s.vm.findClass RX2 = some m.cls := findClass_of_methodNamed B.named
  have hlocks := B.notSynchronized
  have hout : ∀ pc : Nat, ∀ x ∈ c0.exceptionTable.toList, covers x pc = false := fun _ x h => (hno x h).elim
  have hS : va_S (eA E) s.heap s.heap [] := va_S.rf
  have hl := lv_entry ([.ref c, .int x]) (n := 4) (Nat.le_of_ble_eq_true rfl)
  rw [lg_entry_eq]
  generalize (lg_sl ([.ref c, .int x]) ++ List.replicate (4 - (lg_sl ([.ref c, .int x])).length) Slot.unset).toArray = ls at hl ⊢
  have hl : lv_has ls 4 [(0, .ref (c)), (1, .int (x))] := hl
  refine lv_aload_n hx hb dX2_rest_0 rfl (lv_at hl 0 rfl) ?_
  refine gf_208 hx hb hts hown hs hm (lay.z hL) (hts _ q239) dX2_rest_1 ?_
  refine lv_iload_n hx hb dX2_rest_4 rfl (lv_at hl 1 rfl) ?_
  refine k_mem hx hb hs hm (lay.a9 hL) (k := (x).toNatClampNeg) rfl (ix.at (B := 6) ((hx1).mono (by decide)) (by decide)) dX2_rest_5 ?_
  refine lv_astore_n (lv' := [(2, _), (0, _), (1, _)]) hx hb dX2_rest_6 rfl hl (by decide) rfl (fun ls hl => ?_)
  refine lv_aload_n hx hb dX2_rest_7 rfl (lv_at hl 0 rfl) ?_
  refine gfN_500 hx hb hts hown hs hm (lay.mem hL (ix.nlt ((hx1).mono (by decide)))) q163 dX2_rest_8 ?_
  refine lv_iconst (v := (-1 : Int32)) hx hb dX2_rest_11 (by decide) ?_
  refine k_join (fun (x2 : Int32) H locs ls => x2 = (if (gI M 500 (c + 48 + (x).toNatClampNeg)) = (-1 : Int32) then (1 : Int32) else (0 : Int32)) ∧ mw E t (M) H ∧ va_S (eA E) s.heap H locs ∧ lv_has ls 4 [(2, .ref ((c + 48 + (x).toNatClampNeg))), (0, .ref (c)), (1, .int (x))]) (fun (x2 : Int32) ls => F0 m 20 ls [.int (x2)]) (fun x2 H locs ls hJ => ?_) (fun J2 => ?_)
  · obtain ⟨hX2, hm, hS, hl⟩ := hJ
    refine lv_iconst (v := (4 : Int32)) hx hb dX2_rest_20 (by decide) ?_
    refine lv_iload_n hx hb dX2_rest_21 rfl (lv_at hl 2 rfl) ?_
    refine kx_callv (BX := fun En q u H => XR E t ((4 : Int32)) (x) En q u H) (vx_runSN (As := [.int (x2), .int ((4 : Int32)), .int (x)]) (rest := []) ⟨hx, hb, hml, hown, hts⟩ (cm1_refuse l E hl9 t M  (x2) ((4 : Int32)) (x) ) (⟨va_cnB 3 hts (lw_meth q752) rfl rfl rfl (hs.2.2.1 _ q750 rfl) (hts _ q58) (by decide +kernel) ⟨Nat.le_of_ble_eq_true rfl, Nat.le_of_ble_eq_true rfl⟩, hts _ q751, trivial⟩) (k_preS hs hm hS) rfl rfl hl.1 rfl (lv_room (Nat.le_of_ble_eq_true rfl)) dX2_rest_22 ⟨Nat.le_of_ble_eq_true rfl, Nat.le_of_ble_eq_true rfl⟩) hS (fun En_3 ce_3 q_3 u9_3 H locs hp_3 hB_3 hS h1_3 h2_3 h3_3 => ?_) (fun u_3 H locs hw_3 hm_3 hS => ?_)
    · obtain ⟨c_3, hu9_3⟩ := hp_3
      replace hu9_3 := hu9_3.symm
      subst hu9_3
      subst hX2
      have e9 : C2_rest t M c x = _ := (if_neg c_3).trans (rfl)
      exact kx_out (BX := fun En q u H => XR E t (C2_rest t M c x).1 (C2_rest t M c x).2.1 En q u H) (u := _) (fun x h => (hno x h).elim) hlocks (xr_leaf e9 (by decide) hB_3).1 (xr_leaf e9 (by decide) hB_3).2 hS h1_3 h2_3 h3_3 (Nat.le_of_ble_eq_true rfl) (Nat.le_of_ble_eq_true rfl)
    · obtain ⟨c_3, hu_3⟩ := hw_3
      replace hu_3 := hu_3.symm
      subst hu_3
      have hm := hm_3
      refine lv_aload_n hx hb dX2_rest_25 rfl (lv_at hl 0 rfl) ?_
      refine gfN_500 hx hb hts hown hs hm (lay.mem hL (ix.nlt ((hx1).mono (by decide)))) q163 dX2_rest_26 ?_
      refine lv_istore_n (lv' := [(3, _), (2, _), (0, _), (1, _)]) hx hb dX2_rest_29 rfl hl (by decide) rfl (fun ls hl => ?_)
      refine lv_aload_n hx hb dX2_rest_30 rfl (lv_at hl 2 rfl) ?_
      refine gf_202 hx hb hts hown hs hm (lay.z hL) (hts _ q231) dX2_rest_31 ?_
      refine lv_iload_n hx hb dX2_rest_34 rfl (lv_at hl 0 rfl) ?_
      refine lv_iconst (v := (-1 : Int32)) hx hb dX2_rest_35 (by decide) ?_
      refine k_iast hx hb hs hm hS (lay.a3 hL) (ix.at (B := 12) (((hmp.resolve_left (b01 hX2 c_3))).mono (by decide)) (by decide)) dX2_rest_36 (fun H locs hm hS => ?_)
      have hm : mw E t ((wI M (c + 3) (upd (aI M (c + 3)) ((gI M 500 (c + 48 + (x).toNatClampNeg))).toNatClampNeg (-1 : Int32)))) H := hm
      refine lv_aload_n hx hb dX2_rest_37 rfl (lv_at hl 1 rfl) ?_
      refine lv_iconst (v := (-1 : Int32)) hx hb dX2_rest_38 (by decide) ?_
      refine pfN_500 hx hb hts hown hs hm hS (lay.mem hL (ix.nlt ((hx1).mono (by decide)))) q163 dX2_rest_39 (fun H locs hm hS => ?_)
      have hm : mw E t ((sI (wI M (c + 3) (upd (aI M (c + 3)) ((gI M 500 (c + 48 + (x).toNatClampNeg))).toNatClampNeg (-1 : Int32))) 500 (c + 48 + (x).toNatClampNeg) (-1 : Int32))) H := hm
      refine lv_iload_n hx hb dX2_rest_42 rfl (lv_at hl 0 rfl) ?_
      subst hX2
      refine vx_ret ?_
      refine W.widen (k := 1) (n := 8) (Nat.le_of_ble_eq_true rfl) (Nat.le_of_ble_eq_true rfl) ?_
      exact W.iret (v := _) hx hb hr (fun t9 ht9 _ => ⟨⟨_, _, rfl, pp4 ((if_pos c_3).trans (rfl)), hb9 ht9 hm⟩, hS.F ht9⟩) hS.2.2 dX2_rest_43
  · refine lv_icmp_ne (tgt := 19) hx hb dX2_rest_12 (by decide) (fun c_1 => ?_) (fun c_1 => ?_)
    · refine lv_iconst (v := (0 : Int32)) hx hb dX2_rest_19 (by decide) ?_
      exact J2 ((0 : Int32)) _ _ _ ⟨((if_neg c_1).trans (rfl)).symm, hm, hS, lv_sub hl [0, 1, 2] rfl⟩
    · refine lv_iconst (v := (1 : Int32)) hx hb dX2_rest_15 (by decide) ?_
      refine lv_goto (tgt := 20) hx hb dX2_rest_16 (by decide) ?_
      exact J2 ((1 : Int32)) _ _ _ ⟨((if_pos c_1).trans (rfl)).symm, hm, hS, lv_sub hl [0, 1, 2] rfl⟩
