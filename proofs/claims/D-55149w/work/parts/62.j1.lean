set_option maxRecDepth 100000
/-! ArrayDeque, of 17 cells, never full -/
def layQ (t : mt) (d : Nat) : Prop := t d = (10, 0) ∧ t (d + 1) = (30, 17)
theorem layQ.z {t : mt} {d : Nat} (h : layQ t d) : t d = (10, 0) := h.1
theorem layQ.el {t : mt} {d : Nat} (h : layQ t d) : t (d + 1) = (30, 17) := h.2
section KAL
variable {p : Program} {l : Launch} {e : Env} {R : Room} {s : State} {m : MethodId} {args : Array Value} {below : List Frame} {meth : Method} {c : Code} {H : Heap} {locs : List Loc} {cells slots : Nat} {Q : State → Prop}
variable {cc : ByteArray} {pc : Nat} {ls : Array Slot} {rest : List Value} {a : Nat} {E : mE} {t : mt} {M : mm}
theorem k_alen {j n k : Nat} {ty : FieldType} {y} (hexec : p.tables.exec = Jvm.exec) (hb : c.code = cc) (hs : sP E s) (hm : mw E t M H) (ht : t a = (k, n)) (hk : k ≠ 0) (hc : ct E (fun _ => (k, n)) M a = .inl (E.2.1 j, n, y)) (hj : (tyA E.2.1)[j]? = some (E.2.1 j, ty)) {v : Int32} (hv : Int32.ofNat n = v) (hdg : decode cc pc = .ok (.arraylength, 1))
    (kk : W p l e R s m args below meth c H locs cells slots Q (F0 m (pc + 1) ls (.int v :: rest))) : W p l e R s m args below meth c H locs cells slots Q (F0 m pc ls (.ref a :: rest)) := by
  obtain ⟨L, hL, hP, hD⟩ := hm
  obtain ⟨q0, hq⟩ := mw.at (E := E) (t := t) (M := M) (hL a (mt_ne ht hk))
  rw [show ct E t M a = .inl (E.2.1 j, n, y) from (ct_k ht).trans hc] at hq
  exact va_alen hexec hb hs.2.1 hP q0 j hq hj hv hdg kk
end KAL
theorem ix_inc {x : Int32} (h : ix 17 x) : ix 17 (T_inc x 17) := by
  obtain ⟨k, hk, rfl⟩ := h
  have key : ∀ k, k < 17 → ∃ j, j < 17 ∧ T_inc (nI k) 17 = nI j := by decide +kernel
  exact key k hk
theorem ix_dec {x : Int32} (h : ix 17 x) : ix 17 (T_dec x 17) := by
  obtain ⟨k, hk, rfl⟩ := h
  have key : ∀ k, k < 17 → ∃ j, j < 17 ∧ T_dec (nI k) 17 = nI j := by decide +kernel
  exact key k hk
def CJ1_isEmpty (t : mt) (M : mm) (c : Nat)  : Int32 :=
  if (gI M 1001 c) = (gI M 1002 c) then
    (1 : Int32)
  else
    (0 : Int32)
set_option maxHeartbeats 4000000 in
theorem cmJ1_isEmpty (l : Launch) (E : mE) (t : mt) (M : mm) (c : Nat)  (hQ : layQ t c)  : Met l yJ1_isEmpty (ws_ yJ1_isEmpty cJ1_isEmpty 1 (some .boolean)) ({ frames := 0, cells := 0, slots := 0, locals := 0 }) (va_Pc [.ref c] (wP E t M)) (va_Qi (fun (r : Int32) (u : mm) => r = (CJ1_isEmpty t M c ) ∧ u = M) (fun u U => mw E t u U.heap) (eA E)) 0 0 (eA E) := by
  refine Met.ofW (cc := cJ1_isEmpty) (maxL := 1) (ret := (some .boolean)) (by decide) rfl ?_
  intro p e s m args below meth c0 s₁ B hml hv
  obtain ⟨rfl, hs, hm⟩ := hv
  have hx := B.exec
  have hb := B.bytes
  have hr := B.returns
  have hts := atoms_spec (ws := ws_ yJ1_isEmpty cJ1_isEmpty 1 (some .boolean)) B.pre
  have hts : ∀ w ∈ lw_all, w.before _ s = true := fun w h => hts w (List.mem_cons_of_mem _ h)
  have hown : s.vm.findClass RJ1 = some m.cls := findClass_of_methodNamed B.named
  have hlocks := B.notSynchronized
  have hS : va_S (eA E) s.heap s.heap [] := va_S.rf
  have hl := lv_entry ([.ref c]) (n := 1) (Nat.le_of_ble_eq_true rfl)
  rw [lg_entry_eq]
  generalize (lg_sl ([.ref c]) ++ List.replicate (1 - (lg_sl ([.ref c])).length) Slot.unset).toArray = ls at hl ⊢
  have hl : lv_has ls 1 [(0, .ref (c))] := hl
  refine lv_aload_n hx hb dJ1_isEmpty_0 rfl (lv_at hl 0 rfl) ?_
  refine gf_1001 hx hb hts hown hs hm hQ.z (hts _ q318) dJ1_isEmpty_1 ?_
  refine lv_aload_n hx hb dJ1_isEmpty_4 rfl (lv_at hl 0 rfl) ?_
  refine gf_1002 hx hb hts hown hs hm hQ.z (hts _ q319) dJ1_isEmpty_5 ?_
  refine lv_icmp_ne (tgt := 15) hx hb dJ1_isEmpty_8 (by decide) (fun c_1 => ?_) (fun c_1 => ?_)
  · refine lv_iconst (v := (0 : Int32)) hx hb dJ1_isEmpty_15 (by decide) ?_
    exact W.zret (v := _) hx hb hr rfl (fun t9 ht9 _ => ⟨⟨_, _, rfl, ⟨((if_neg c_1).trans (rfl)).symm, rfl⟩, hb9 ht9 hm⟩, hS.F ht9⟩) hS.2.2 dJ1_isEmpty_16
  · refine lv_iconst (v := (1 : Int32)) hx hb dJ1_isEmpty_11 (by decide) ?_
    refine lv_goto (tgt := 16) hx hb dJ1_isEmpty_12 (by decide) ?_
    exact W.zret (v := _) hx hb hr rfl (fun t9 ht9 _ => ⟨⟨_, _, rfl, ⟨((if_pos c_1).trans (rfl)).symm, rfl⟩, hb9 ht9 hm⟩, hS.F ht9⟩) hS.2.2 dJ1_isEmpty_16
theorem Tz_CJ1_isEmpty (t : mt) (M : mm) (c : Nat)  : narrow .boolean (.int (CJ1_isEmpty t M c )) = .int (CJ1_isEmpty t M c ) := by
  unfold CJ1_isEmpty
  try dsimp only
  (repeat' split) <;> rfl
def CJ1_elementAt (t : mt) (M : mm) (a : Nat) (x : Int32) : Option Nat :=
  (aR M a (x).toNatClampNeg)
set_option maxHeartbeats 4000000 in
theorem cmJ1_elementAt (l : Launch) (E : mE) (t : mt) (M : mm) (a : Nat) (x : Int32) (ha : t a = (30, 17)) (hx1 : ix 17 x) : Met l yJ1_elementAt (ws_ yJ1_elementAt cJ1_elementAt 2 (some (.object "java/lang/Object"))) ({ frames := 0, cells := 0, slots := 0, locals := 0 }) (va_Pc [.ref a, .int x] (wP E t M)) (va_Qq (fun (r : Option Nat) (u : mm) => r = (CJ1_elementAt t M a x) ∧ u = M) (fun u U => mw E t u U.heap) (eA E)) 0 0 (eA E) := by
  refine Met.ofW (cc := cJ1_elementAt) (maxL := 2) (ret := (some (.object "java/lang/Object"))) (by decide) rfl ?_
  intro p e s m args below meth c0 s₁ B hml hv
  obtain ⟨rfl, hs, hm⟩ := hv
  have hx := B.exec
  have hb := B.bytes
  have hr := B.returns
  have hts := atoms_spec (ws := ws_ yJ1_elementAt cJ1_elementAt 2 (some (.object "java/lang/Object"))) B.pre
  have hts : ∀ w ∈ lw_all, w.before _ s = true := fun w h => hts w (List.mem_cons_of_mem _ h)
  have hown : s.vm.findClass RJ1 = some m.cls := findClass_of_methodNamed B.named
  have hlocks := B.notSynchronized
  have hS : va_S (eA E) s.heap s.heap [] := va_S.rf
  have hl := lv_entry ([.ref a, .int x]) (n := 2) (Nat.le_of_ble_eq_true rfl)
  rw [lg_entry_eq]
  generalize (lg_sl ([.ref a, .int x]) ++ List.replicate (2 - (lg_sl ([.ref a, .int x])).length) Slot.unset).toArray = ls at hl ⊢
  have hl : lv_has ls 2 [(0, .ref (a)), (1, .int (x))] := hl
  refine lv_aload_n hx hb dJ1_elementAt_0 rfl (lv_at hl 0 rfl) ?_
  refine lv_iload_n hx hb dJ1_elementAt_1 rfl (lv_at hl 1 rfl) ?_
  refine k_aald30 hx hb hs hm ha (ix.at (B := 17) ((hx1).mono (by decide)) (by decide)) dJ1_elementAt_2 ?_
  exact W.aret (v := _) hx hb hr (Or.inl ⟨_, rfl⟩) (rf_or _) (fun t9 ht9 _ => ⟨⟨_, _, rfl, ⟨(rfl).symm, rfl⟩, hb9 ht9 hm⟩, hS.F ht9⟩) hS.2.2 dJ1_elementAt_3
def CJ1_size (t : mt) (M : mm) (c : Nat)  : Int32 :=
  let r_1 := T_sub ((gI M 1002 c)) ((gI M 1001 c)) ((17 : Int32));
  r_1
set_option maxHeartbeats 4000000 in
theorem cmJ1_size (l : Launch) (E : mE) (t : mt) (M : mm) (c : Nat)  (hQ : layQ t c)  : Met l yJ1_size (ws_ yJ1_size cJ1_size 1 (some .int)) ({ frames := 1, cells := 0, slots := 0, locals := 22 }) (va_Pc [.ref c] (wP E t M)) (va_Qi (fun (r : Int32) (u : mm) => r = (CJ1_size t M c ) ∧ u = M) (fun u U => mw E t u U.heap) (eA E)) 0 0 (eA E) := by
  refine Met.ofW (cc := cJ1_size) (maxL := 1) (ret := (some .int)) (by decide) rfl ?_
  intro p e s m args below meth c0 s₁ B hml hv
  obtain ⟨rfl, hs, hm⟩ := hv
  have hx := B.exec
  have hb := B.bytes
  have hr := B.returns
  have hts := atoms_spec (ws := ws_ yJ1_size cJ1_size 1 (some .int)) B.pre
  have hts : ∀ w ∈ lw_all, w.before _ s = true := fun w h => hts w (List.mem_cons_of_mem _ h)
  have hown : s.vm.findClass RJ1 = some m.cls := findClass_of_methodNamed B.named
  have hlocks := B.notSynchronized
  have hS : va_S (eA E) s.heap s.heap [] := va_S.rf
  have hl := lv_entry ([.ref c]) (n := 1) (Nat.le_of_ble_eq_true rfl)
  rw [lg_entry_eq]
  generalize (lg_sl ([.ref c]) ++ List.replicate (1 - (lg_sl ([.ref c])).length) Slot.unset).toArray = ls at hl ⊢
  have hl : lv_has ls 1 [(0, .ref (c))] := hl
  refine lv_aload_n hx hb dJ1_size_0 rfl (lv_at hl 0 rfl) ?_
  refine gf_1002 hx hb hts hown hs hm hQ.z (hts _ q319) dJ1_size_1 ?_
  refine lv_aload_n hx hb dJ1_size_4 rfl (lv_at hl 0 rfl) ?_
  refine gf_1001 hx hb hts hown hs hm hQ.z (hts _ q318) dJ1_size_5 ?_
  refine lv_aload_n hx hb dJ1_size_8 rfl (lv_at hl 0 rfl) ?_
  refine gf_1000 hx hb hts hown hs hm hQ.z (hts _ q317) dJ1_size_9 ?_
  refine k_alen (j := 10) (v := (17 : Int32)) hx hb hs hm hQ.el (by decide) rfl rfl rfl dJ1_size_12 ?_
  refine k_calli (va_runS (As := [.int ((gI M 1002 c)), .int ((gI M 1001 c)), .int ((17 : Int32))]) (rest := []) ⟨hx, hb, hml, hown, hts⟩ (jm_J1_sub l E ((gI M 1002 c)) ((gI M 1001 c)) ((17 : Int32)) _) (va_cwS 3 hts (lw_S q1643 q1644 q67 q1645) rfl rfl rfl (by decide +kernel) ⟨Nat.le_of_ble_eq_true rfl, Nat.le_of_ble_eq_true rfl⟩) (k_pure hs hS) rfl rfl hl.1 rfl (lv_room (Nat.le_of_ble_eq_true rfl)) dJ1_size_13 ⟨Nat.le_of_ble_eq_true rfl, Nat.le_of_ble_eq_true rfl⟩) hS (fun r_1 u_1 H9 locs hw_1 hm_1 hS => ?_)
  replace hm_1 : _ = H9 := Eq.symm hm_1
  subst hm_1
  have hr_1 := hw_1
  subst hr_1
  exact W.iret (v := _) hx hb hr (fun t9 ht9 _ => ⟨⟨_, _, rfl, ⟨(rfl).symm, rfl⟩, hb9 ht9 hm⟩, hS.F ht9⟩) hS.2.2 dJ1_size_16
def CJ1_pollFirst (t : mt) (M : mm) (c : Nat)  : Option Nat × mm :=
  let r_1 := CJ1_elementAt t M ((c + 1)) ((gI M 1001 c));
  if r_1 = none then
    (r_1, M)
  else
    let r_3 := T_inc ((gI M 1001 c)) ((17 : Int32));
    ((some (r_1.getD 0)), (sI (wR M (c + 1) (va_up (aR M (c + 1)) ((gI M 1001 c)).toNatClampNeg none)) 1001 c r_3))
set_option maxHeartbeats 4000000 in
theorem cmJ1_pollFirst (l : Launch) (E : mE) (t : mt) (M : mm) (c : Nat)  (hQ : layQ t c) (h1 : ix 17 (gI M 1001 c)) : Met l yJ1_pollFirst (ws_ yJ1_pollFirst cJ1_pollFirst 4 (some (.object "java/lang/Object"))) ({ frames := 1, cells := 0, slots := 0, locals := 21 }) (va_Pc [.ref c] (wP E t M)) (va_Qq (fun (r : Option Nat) (u : mm) => r = ((CJ1_pollFirst t M c ).1) ∧ u = (CJ1_pollFirst t M c ).2) (fun u U => mw E t u U.heap) (eA E)) 0 0 (eA E) := by
  refine Met.ofW (cc := cJ1_pollFirst) (maxL := 4) (ret := (some (.object "java/lang/Object"))) (by decide) rfl ?_
  intro p e s m args below meth c0 s₁ B hml hv
  obtain ⟨rfl, hs, hm⟩ := hv
  have hx := B.exec
  have hb := B.bytes
  have hr := B.returns
  have hts := atoms_spec (ws := ws_ yJ1_pollFirst cJ1_pollFirst 4 (some (.object "java/lang/Object"))) B.pre
  have hts : ∀ w ∈ lw_all, w.before _ s = true := fun w h => hts w (List.mem_cons_of_mem _ h)
  have hown : s.vm.findClass RJ1 = some m.cls := findClass_of_methodNamed B.named
  have hlocks := B.notSynchronized
  have hS : va_S (eA E) s.heap s.heap [] := va_S.rf
  have hl := lv_entry ([.ref c]) (n := 4) (Nat.le_of_ble_eq_true rfl)
  rw [lg_entry_eq]
  generalize (lg_sl ([.ref c]) ++ List.replicate (4 - (lg_sl ([.ref c])).length) Slot.unset).toArray = ls at hl ⊢
  have hl : lv_has ls 4 [(0, .ref (c))] := hl
  refine lv_aload_n hx hb dJ1_pollFirst_0 rfl (lv_at hl 0 rfl) ?_
  refine gf_1000 hx hb hts hown hs hm hQ.z (hts _ q317) dJ1_pollFirst_1 ?_
  refine lv_dup hx hb dJ1_pollFirst_4 rfl ?_
  refine lv_astore_n (lv' := [(1, _), (0, _)]) hx hb dJ1_pollFirst_5 rfl hl (by decide) rfl (fun ls hl => ?_)
  refine lv_aload_n hx hb dJ1_pollFirst_6 rfl (lv_at hl 1 rfl) ?_
  refine gf_1001 hx hb hts hown hs hm hQ.z (hts _ q318) dJ1_pollFirst_7 ?_
  refine lv_dup hx hb dJ1_pollFirst_10 rfl ?_
  refine lv_istore_n (lv' := [(2, _), (1, _), (0, _)]) hx hb dJ1_pollFirst_11 rfl hl (by decide) rfl (fun ls hl => ?_)
  refine k_callq (va_runS (As := [.ref ((c + 1)), .int ((gI M 1001 c))]) (rest := []) ⟨hx, hb, hml, hown, hts⟩ (cmJ1_elementAt l E t M  ((c + 1)) ((gI M 1001 c)) hQ.el h1) (va_cwS 2 hts (lw_S q569 q570 q67 q571) rfl rfl rfl (by decide +kernel) ⟨Nat.le_of_ble_eq_true rfl, Nat.le_of_ble_eq_true rfl⟩) (k_preS hs hm hS) rfl rfl hl.1 rfl (lv_room (Nat.le_of_ble_eq_true rfl)) dJ1_pollFirst_12 ⟨Nat.le_of_ble_eq_true rfl, Nat.le_of_ble_eq_true rfl⟩) hS (fun r_1 u_1 H locs hw_1 hm_1 hS => ?_)
  obtain ⟨hr_1, hu_1⟩ := hw_1
  replace hu_1 := hu_1.symm
  subst hu_1
  have hm := hm_1
  refine lv_astore_nQ (lv' := [(3, _), (2, _), (1, _), (0, _)]) hx hb dJ1_pollFirst_15 rfl hl (by decide) rfl (fun ls hl => ?_)
  refine lv_aload_nQ hx hb dJ1_pollFirst_16 rfl (lv_at hl 0 rfl) ?_
  refine lv_ifnullQ (tgt := 34) hx hb dJ1_pollFirst_17 (by decide) (fun c_2 => ?_) (fun c_2 => ?_)
  · refine lv_aload_nQ hx hb dJ1_pollFirst_34 rfl (lv_at hl 0 rfl) ?_
    subst hr_1
    exact W.aret (v := _) hx hb hr (Or.inl ⟨_, rfl⟩) (rf_or _) (fun t9 ht9 _ => ⟨⟨_, _, rfl, pp ((if_pos c_2).trans (rfl)), hb9 ht9 hm⟩, hS.F ht9⟩) hS.2.2 dJ1_pollFirst_35
  · refine lv_aload_n hx hb dJ1_pollFirst_20 rfl (lv_at hl 2 rfl) ?_
    refine lv_iload_n hx hb dJ1_pollFirst_21 rfl (lv_at hl 1 rfl) ?_
    refine lv_null hx hb dJ1_pollFirst_22 ?_
    refine k_aastN (j := 10) hx hb hs hm hS hQ.el (by decide) (fun _ => rfl) rfl (ix.at (B := 17) ((h1).mono (by decide)) (by decide)) dJ1_pollFirst_23 (fun H locs hm hS => ?_)
    have hm : mw E t ((wR M (c + 1) (va_up (aR M (c + 1)) ((gI M 1001 c)).toNatClampNeg none))) H := hm
    refine lv_aload_n hx hb dJ1_pollFirst_24 rfl (lv_at hl 3 rfl) ?_
    refine lv_iload_n hx hb dJ1_pollFirst_25 rfl (lv_at hl 1 rfl) ?_
    refine lv_aload_n hx hb dJ1_pollFirst_26 rfl (lv_at hl 2 rfl) ?_
    refine k_alen (j := 10) (v := (17 : Int32)) hx hb hs hm hQ.el (by decide) rfl rfl rfl dJ1_pollFirst_27 ?_
    refine k_calli (va_runS (As := [.int ((gI M 1001 c)), .int ((17 : Int32))]) (rest := [.ref (c)]) ⟨hx, hb, hml, hown, hts⟩ (jm_J1_inc l E ((gI M 1001 c)) ((17 : Int32)) _) (va_cwS 2 hts (lw_S q391 q392 q67 q393) rfl rfl rfl (by decide +kernel) ⟨Nat.le_of_ble_eq_true rfl, Nat.le_of_ble_eq_true rfl⟩) (k_pure hs hS) rfl rfl hl.1 rfl (lv_room (Nat.le_of_ble_eq_true rfl)) dJ1_pollFirst_28 ⟨Nat.le_of_ble_eq_true rfl, Nat.le_of_ble_eq_true rfl⟩) hS (fun r_3 u_3 H9 locs hw_3 hm_3 hS => ?_)
    replace hm_3 : _ = H9 := Eq.symm hm_3
    subst hm_3
    have hr_3 := hw_3
    refine pf_1001 hx hb hts hown hs hm hS hQ.z (hts _ q318) dJ1_pollFirst_31 (fun H locs hm hS => ?_)
    have hm : mw E t ((sI (wR M (c + 1) (va_up (aR M (c + 1)) ((gI M 1001 c)).toNatClampNeg none)) 1001 c r_3)) H := hm
    refine lv_aload_nQ hx hb dJ1_pollFirst_34 rfl (lv_at hl 0 rfl) ?_
    refine k_nn c_2 ?_
    subst hr_3
    subst hr_1
    exact W.aret (v := _) hx hb hr (Or.inl ⟨_, rfl⟩) (Or.inr ⟨_, rfl⟩) (fun t9 ht9 _ => ⟨⟨some _, _, rfl, pp ((if_neg c_2).trans (rfl)), hb9 ht9 hm⟩, hS.F ht9⟩) hS.2.2 dJ1_pollFirst_35
def CJ1_pollLast (t : mt) (M : mm) (c : Nat)  : Option Nat × mm :=
  let r_1 := T_dec ((gI M 1002 c)) ((17 : Int32));
  let r_2 := CJ1_elementAt t M ((c + 1)) (r_1);
  if r_2 = none then
    (r_2, M)
  else
    ((some (r_2.getD 0)), (wR (sI M 1002 c r_1) (c + 1) (va_up (aR M (c + 1)) (r_1).toNatClampNeg none)))
set_option maxHeartbeats 4000000 in
theorem cmJ1_pollLast (l : Launch) (E : mE) (t : mt) (M : mm) (c : Nat)  (hQ : layQ t c) (h2 : ix 17 (gI M 1002 c)) : Met l yJ1_pollLast (ws_ yJ1_pollLast cJ1_pollLast 4 (some (.object "java/lang/Object"))) ({ frames := 1, cells := 0, slots := 0, locals := 21 }) (va_Pc [.ref c] (wP E t M)) (va_Qq (fun (r : Option Nat) (u : mm) => r = ((CJ1_pollLast t M c ).1) ∧ u = (CJ1_pollLast t M c ).2) (fun u U => mw E t u U.heap) (eA E)) 0 0 (eA E) := by
  refine Met.ofW (cc := cJ1_pollLast) (maxL := 4) (ret := (some (.object "java/lang/Object"))) (by decide) rfl ?_
  intro p e s m args below meth c0 s₁ B hml hv
  obtain ⟨rfl, hs, hm⟩ := hv
  have hx := B.exec
  have hb := B.bytes
  have hr := B.returns
  have hts := atoms_spec (ws := ws_ yJ1_pollLast cJ1_pollLast 4 (some (.object "java/lang/Object"))) B.pre
  have hts : ∀ w ∈ lw_all, w.before _ s = true := fun w h => hts w (List.mem_cons_of_mem _ h)
  have hown : s.vm.findClass RJ1 = some m.cls := findClass_of_methodNamed B.named
  have hlocks := B.notSynchronized
  have hS : va_S (eA E) s.heap s.heap [] := va_S.rf
  have hl := lv_entry ([.ref c]) (n := 4) (Nat.le_of_ble_eq_true rfl)
  rw [lg_entry_eq]
  generalize (lg_sl ([.ref c]) ++ List.replicate (4 - (lg_sl ([.ref c])).length) Slot.unset).toArray = ls at hl ⊢
  have hl : lv_has ls 4 [(0, .ref (c))] := hl
  refine lv_aload_n hx hb dJ1_pollLast_0 rfl (lv_at hl 0 rfl) ?_
  refine gf_1000 hx hb hts hown hs hm hQ.z (hts _ q317) dJ1_pollLast_1 ?_
  refine lv_dup hx hb dJ1_pollLast_4 rfl ?_
  refine lv_astore_n (lv' := [(1, _), (0, _)]) hx hb dJ1_pollLast_5 rfl hl (by decide) rfl (fun ls hl => ?_)
  refine lv_aload_n hx hb dJ1_pollLast_6 rfl (lv_at hl 1 rfl) ?_
  refine gf_1002 hx hb hts hown hs hm hQ.z (hts _ q319) dJ1_pollLast_7 ?_
  refine lv_aload_n hx hb dJ1_pollLast_10 rfl (lv_at hl 0 rfl) ?_
  refine k_alen (j := 10) (v := (17 : Int32)) hx hb hs hm hQ.el (by decide) rfl rfl rfl dJ1_pollLast_11 ?_
  refine k_calli (va_runS (As := [.int ((gI M 1002 c)), .int ((17 : Int32))]) (rest := [.ref ((c + 1))]) ⟨hx, hb, hml, hown, hts⟩ (jm_J1_dec l E ((gI M 1002 c)) ((17 : Int32)) _) (va_cwS 2 hts (lw_S q1657 q1658 q67 q1659) rfl rfl rfl (by decide +kernel) ⟨Nat.le_of_ble_eq_true rfl, Nat.le_of_ble_eq_true rfl⟩) (k_pure hs hS) rfl rfl hl.1 rfl (lv_room (Nat.le_of_ble_eq_true rfl)) dJ1_pollLast_12 ⟨Nat.le_of_ble_eq_true rfl, Nat.le_of_ble_eq_true rfl⟩) hS (fun r_1 u_1 H9 locs hw_1 hm_1 hS => ?_)
  replace hm_1 : _ = H9 := Eq.symm hm_1
  subst hm_1
  have hr_1 := hw_1
  refine lv_dup hx hb dJ1_pollLast_15 rfl ?_
  refine lv_istore_n (lv' := [(2, _), (1, _), (0, _)]) hx hb dJ1_pollLast_16 rfl hl (by decide) rfl (fun ls hl => ?_)
  refine k_callq (va_runS (As := [.ref ((c + 1)), .int (r_1)]) (rest := []) ⟨hx, hb, hml, hown, hts⟩ (cmJ1_elementAt l E t M  ((c + 1)) (r_1) hQ.el (hr_1 ▸ ix_dec h2)) (va_cwS 2 hts (lw_S q569 q570 q67 q571) rfl rfl rfl (by decide +kernel) ⟨Nat.le_of_ble_eq_true rfl, Nat.le_of_ble_eq_true rfl⟩) (k_preS hs hm hS) rfl rfl hl.1 rfl (lv_room (Nat.le_of_ble_eq_true rfl)) dJ1_pollLast_17 ⟨Nat.le_of_ble_eq_true rfl, Nat.le_of_ble_eq_true rfl⟩) hS (fun r_2 u_2 H locs hw_2 hm_2 hS => ?_)
  obtain ⟨hr_2, hu_2⟩ := hw_2
  replace hu_2 := hu_2.symm
  subst hu_2
  have hm := hm_2
  refine lv_astore_nQ (lv' := [(3, _), (2, _), (1, _), (0, _)]) hx hb dJ1_pollLast_20 rfl hl (by decide) rfl (fun ls hl => ?_)
  refine lv_aload_nQ hx hb dJ1_pollLast_21 rfl (lv_at hl 0 rfl) ?_
  refine lv_ifnullQ (tgt := 34) hx hb dJ1_pollLast_22 (by decide) (fun c_3 => ?_) (fun c_3 => ?_)
  · refine lv_aload_nQ hx hb dJ1_pollLast_34 rfl (lv_at hl 0 rfl) ?_
    subst hr_2
    replace hr_1 := hr_1.symm
    subst hr_1
    exact W.aret (v := _) hx hb hr (Or.inl ⟨_, rfl⟩) (rf_or _) (fun t9 ht9 _ => ⟨⟨_, _, rfl, pp ((if_pos c_3).trans (rfl)), hb9 ht9 hm⟩, hS.F ht9⟩) hS.2.2 dJ1_pollLast_35
  · refine lv_aload_n hx hb dJ1_pollLast_25 rfl (lv_at hl 2 rfl) ?_
    refine lv_aload_n hx hb dJ1_pollLast_26 rfl (lv_at hl 3 rfl) ?_
    refine lv_iload_n hx hb dJ1_pollLast_27 rfl (lv_at hl 1 rfl) ?_
    refine lv_dup_x1 hx hb dJ1_pollLast_28 rfl rfl ?_
    refine pf_1002 hx hb hts hown hs hm hS hQ.z (hts _ q319) dJ1_pollLast_29 (fun H locs hm hS => ?_)
    have hm : mw E t ((sI M 1002 c r_1)) H := hm
    refine lv_null hx hb dJ1_pollLast_32 ?_
    refine k_aastN (j := 10) hx hb hs hm hS hQ.el (by decide) (fun _ => rfl) rfl (ix.at (B := 17) ((hr_1 ▸ ix_dec h2).mono (by decide)) (by decide)) dJ1_pollLast_33 (fun H locs hm hS => ?_)
    have hm : mw E t ((wR (sI M 1002 c r_1) (c + 1) (va_up (aR M (c + 1)) (r_1).toNatClampNeg none))) H := hm
    refine lv_aload_nQ hx hb dJ1_pollLast_34 rfl (lv_at hl 0 rfl) ?_
    refine k_nn c_3 ?_
    subst hr_2
    replace hr_1 := hr_1.symm
    subst hr_1
    exact W.aret (v := _) hx hb hr (Or.inl ⟨_, rfl⟩) (Or.inr ⟨_, rfl⟩) (fun t9 ht9 _ => ⟨⟨some _, _, rfl, pp ((if_neg c_3).trans (rfl)), hb9 ht9 hm⟩, hS.F ht9⟩) hS.2.2 dJ1_pollLast_35
def CJ1_addLast (t : mt) (M : mm) (c : Nat) (q : Nat) : mm :=
  let r_1 := T_inc ((gI M 1002 c)) ((17 : Int32));
  (sI (wR M (c + 1) (va_up (aR M (c + 1)) ((gI M 1002 c)).toNatClampNeg (some q))) 1002 c r_1)
set_option maxHeartbeats 4000000 in
theorem cmJ1_addLast (l : Launch) (E : mE) (t : mt) (M : mm) (c : Nat) (q : Nat) (hQ : layQ t c) (h2 : ix 17 (gI M 1002 c)) (hL : lay t q) (hf : ¬ gI M 1001 c = T_inc (gI M 1002 c) 17) : Met l yJ1_addLast (ws_ yJ1_addLast cJ1_addLast 3 none) ({ frames := 1, cells := 0, slots := 0, locals := 21 }) (va_Pc [.ref c, .ref q] (wP E t M)) (va_Qv (fun (u : mm) => u = CJ1_addLast t M c q) (fun u U => mw E t u U.heap) (eA E)) 0 0 (eA E) := by
  refine Met.ofW (cc := cJ1_addLast) (maxL := 3) (ret := none) (by decide) rfl ?_
  intro p e s m args below meth c0 s₁ B hml hv
  obtain ⟨rfl, hs, hm⟩ := hv
  have hx := B.exec
  have hb := B.bytes
  have hr := B.returns
  have hts := atoms_spec (ws := ws_ yJ1_addLast cJ1_addLast 3 none) B.pre
  have hts : ∀ w ∈ lw_all, w.before _ s = true := fun w h => hts w (List.mem_cons_of_mem _ h)
  have hown : s.vm.findClass RJ1 = some m.cls := findClass_of_methodNamed B.named
  have hlocks := B.notSynchronized
  have hS : va_S (eA E) s.heap s.heap [] := va_S.rf
  have hl := lv_entry ([.ref c, .ref q]) (n := 3) (Nat.le_of_ble_eq_true rfl)
  rw [lg_entry_eq]
  generalize (lg_sl ([.ref c, .ref q]) ++ List.replicate (3 - (lg_sl ([.ref c, .ref q])).length) Slot.unset).toArray = ls at hl ⊢
  have hl : lv_has ls 3 [(0, .ref (c)), (1, .ref (q))] := hl
  refine lv_aload_n hx hb dJ1_addLast_0 rfl (lv_at hl 1 rfl) ?_
  refine lv_ifnonnull (tgt := 12) hx hb dJ1_addLast_1 (by decide) ?_
  refine lv_aload_n hx hb dJ1_addLast_12 rfl (lv_at hl 0 rfl) ?_
  refine gf_1000 hx hb hts hown hs hm hQ.z (hts _ q317) dJ1_addLast_13 ?_
  refine lv_astore_n (lv' := [(2, _), (0, _), (1, _)]) hx hb dJ1_addLast_16 rfl hl (by decide) rfl (fun ls hl => ?_)
  refine lv_aload_n hx hb dJ1_addLast_17 rfl (lv_at hl 0 rfl) ?_
  refine lv_aload_n hx hb dJ1_addLast_18 rfl (lv_at hl 1 rfl) ?_
  refine gf_1002 hx hb hts hown hs hm hQ.z (hts _ q319) dJ1_addLast_19 ?_
  refine lv_aload_n hx hb dJ1_addLast_22 rfl (lv_at hl 2 rfl) ?_
  refine k_aastO (j := 10) (ci := 1) hx hb hs hm hS hQ.el (by decide) (fun _ => rfl) rfl (ct2 (lay.z hL)) (mt_ne (lay.z hL) (by decide)) rfl (hs.2.2.1 _ q2114 rfl) (ix.at (B := 17) ((h2).mono (by decide)) (by decide)) dJ1_addLast_23 (fun H locs hm hS => ?_)
  have hm : mw E t ((wR M (c + 1) (va_up (aR M (c + 1)) ((gI M 1002 c)).toNatClampNeg (some q)))) H := hm
  refine lv_aload_n hx hb dJ1_addLast_24 rfl (lv_at hl 1 rfl) ?_
  refine gf_1001 hx hb hts hown hs hm hQ.z (hts _ q318) dJ1_addLast_25 ?_
  refine lv_aload_n hx hb dJ1_addLast_28 rfl (lv_at hl 1 rfl) ?_
  refine lv_aload_n hx hb dJ1_addLast_29 rfl (lv_at hl 1 rfl) ?_
  refine gf_1002 hx hb hts hown hs hm hQ.z (hts _ q319) dJ1_addLast_30 ?_
  refine lv_aload_n hx hb dJ1_addLast_33 rfl (lv_at hl 0 rfl) ?_
  refine k_alen (j := 10) (v := (17 : Int32)) hx hb hs hm hQ.el (by decide) rfl rfl rfl dJ1_addLast_34 ?_
  refine k_calli (va_runS (As := [.int ((gI M 1002 c)), .int ((17 : Int32))]) (rest := [.ref (c), .int ((gI M 1001 c))]) ⟨hx, hb, hml, hown, hts⟩ (jm_J1_inc l E ((gI M 1002 c)) ((17 : Int32)) _) (va_cwS 2 hts (lw_S q391 q392 q67 q393) rfl rfl rfl (by decide +kernel) ⟨Nat.le_of_ble_eq_true rfl, Nat.le_of_ble_eq_true rfl⟩) (k_pure hs hS) rfl rfl hl.1 rfl (lv_room (Nat.le_of_ble_eq_true rfl)) dJ1_addLast_35 ⟨Nat.le_of_ble_eq_true rfl, Nat.le_of_ble_eq_true rfl⟩) hS (fun r_1 u_1 H9 locs hw_1 hm_1 hS => ?_)
  replace hm_1 : _ = H9 := Eq.symm hm_1
  subst hm_1
  have hr_1 := hw_1
  refine lv_dup_x1 hx hb dJ1_addLast_38 rfl rfl ?_
  refine pf_1002 hx hb hts hown hs hm hS hQ.z (hts _ q319) dJ1_addLast_39 (fun H locs hm hS => ?_)
  have hm : mw E t ((sI (wR M (c + 1) (va_up (aR M (c + 1)) ((gI M 1002 c)).toNatClampNeg (some q))) 1002 c r_1)) H := hm
  refine lv_icmp_ne (tgt := 50) hx hb dJ1_addLast_42 (by decide) (fun c_2 => ?_) (fun c_2 => (hf (c_2.trans hr_1)).elim)
  subst hr_1
  exact W.vret hx hb hr (fun t9 ht9 _ => ⟨⟨_, rfl, (rfl).symm, hb9 ht9 hm⟩, hS.F ht9⟩) hS.2.2 dJ1_addLast_50
