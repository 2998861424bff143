set_option maxRecDepth 100000
/-! refuse, because -/
theorem blank_al {vm vm1 : Vm} (h : vm.Alike vm1) {c : ClassId} {k : Class} (hk : vm.classes[c]? = some k) : ∃ k1 : Class, vm1.classes[c]? = some k1 ∧ blank c k1 = blank c k := by
  obtain ⟨k1, h1, h2⟩ := h.2.2 c k hk
  refine ⟨k1, h1, ?_⟩
  rw [h2]
  rfl
section KXP
variable {p : Program} {l : Launch} {e : Env} {R : Room} {s : State} {m : MethodId} {args : Array Value} {below : List Frame} {meth : Method} {c : Code} {H : Heap} {locs : List Loc} {cells slots : Nat} {Q : State → Prop}
variable {E : mE} {t : mt} {M : mm}
theorem k_preX {q : Nat} {cX : ClassId} {kX : Class} {As : List Value} (hs : sP E s) (hm : mw E t M H) (hS : va_S (eA E) s.heap H locs) (hkX : s.vm.classes[cX]? = some kX) (hbl : H[q]? = some (blank cX kX)) (hq0 : (t q).1 = 0) (hqA : eA E q) : PreS s H (va_Pc As (xP E t M q cX)) As :=
  ⟨xP.blind, fun U hU hW => by
    obtain ⟨k1, h1, h2⟩ := blank_al hW.alike hkX
    exact ⟨rfl, ⟨hs.moved hS hU hW, by rw [hU]; exact hm⟩, hq0, hqA, k1, h1, by rw [hU, h2]; exact hbl⟩⟩
end KXP
set_option maxHeartbeats 4000000 in
theorem cm1_refuse (l : Launch) (E : mE) (hl9 : l.stackTraces = false) (t : mt) (M : mm) (x y z : Int32) : vx_Met l yX1_refuse (ws_ yX1_refuse cX1_refuse 3 none) ({ frames := 8, cells := 1, slots := 8, locals := 160 }) (va_Pc [.int x, .int y, .int z] (wP E t M)) (va_Qv (fun (u : mm) => x = 0 ∧ u = M) (fun u U => mw E t u U.heap) (eA E)) (vx_X (fun (u : mm) => ¬ x = 0 ∧ u = M) (fun En q u U => XR E t y z En q u U.heap) (eA E)) 1 8 (eA E) := by
  refine vx_ofW (cc := cX1_refuse) (maxL := 3) (ret := none) (by decide) rfl ?_
  intro p e s m args below meth c0 s₁ B hml hno hv
  obtain ⟨rfl, hs, hm⟩ := hv
  have hx := B.exec
  have hb := B.bytes
  have hr := B.returns
  have hts := atoms_spec (ws := ws_ yX1_refuse cX1_refuse 3 none) B.pre
  have hts : ∀ w ∈ lw_all, w.before _ s = true := fun w h => hts w (List.mem_cons_of_mem _ h)
  have hown : s.vm.findClass RX1 = some m.cls := findClass_of_methodNamed B.named
  have hlocks := B.notSynchronized
  have hS : va_S (eA E) s.heap s.heap [] := va_S.rf
  have hl := lv_entry ([.int x, .int y, .int z]) (n := 3) (Nat.le_of_ble_eq_true rfl)
  rw [lg_entry_eq]
  generalize (lg_sl ([.int x, .int y, .int z]) ++ List.replicate (3 - (lg_sl ([.int x, .int y, .int z])).length) Slot.unset).toArray = ls at hl ⊢
  have hl : lv_has ls 3 [(0, .int x), (1, .int y), (2, .int z)] := hl
  have hfX : s.vm.findClass RX11 = some (E.1.1 19) := (hs.2.1.1 19 _ rfl).2.1
  refine lv_iload_n hx hb dX1_refuse_0 rfl (lv_at hl 0 rfl) ?_
  refine lv_if_eq (tgt := 14) hx hb dX1_refuse_1 (by decide) (fun c_1 => ?_) (fun c_1 => ?_)
  · refine vx_ret ?_
    refine W.widen (k := 1) (n := 8) (Nat.le_of_ble_eq_true rfl) (Nat.le_of_ble_eq_true rfl) ?_
    exact W.vret hx hb hr (fun t9 ht9 _ => ⟨⟨_, rfl, ⟨c_1, rfl⟩, hb9 ht9 hm⟩, hS.F ht9⟩) hS.2.2 dX1_refuse_14
  · refine k_newX hx hb hown (hts _ q741) (hts _ q753) (hts _ q82) hs hm hS hfX (Nat.le_of_ble_eq_true rfl) (Nat.le_of_ble_eq_true rfl) dX1_refuse_4 (fun q H kX hkX hbl hq0 hqA hm hS => ?_)
    refine lv_dup hx hb dX1_refuse_7 rfl ?_
    refine lv_iload_n hx hb dX1_refuse_8 rfl (lv_at hl 1 rfl) ?_
    refine lv_iload_n hx hb dX1_refuse_9 rfl (lv_at hl 2 rfl) ?_
    refine k_callv (B := fun (u : mm) H => mw E (m1 t q (9, 0)) u H) (va_runI (As := [.int y, .int z]) (rest := [.ref q]) ⟨hx, hb, hml, hown, hts⟩ (cm11_init l E hl9 t M q y z) (cwI 2 hts (lw_meth q763) rfl rfl rfl (hts _ q82) (hts _ q761) (hts _ q762) rfl (by decide +kernel) ⟨Nat.le_of_ble_eq_true rfl, Nat.le_of_ble_eq_true rfl⟩) (k_preX hs hm hS hkX hbl hq0 hqA) rfl rfl hl.1 rfl (lv_room (Nat.le_of_ble_eq_true rfl)) dX1_refuse_10 ⟨Nat.le_of_ble_eq_true rfl, Nat.le_of_ble_eq_true rfl⟩) hS (fun u H locs hu hm hS => ?_)
    subst hu
    refine vx_athrow hx hb dX1_refuse_13 ?_
    have htq : m1 t q (9, 0) q = (9, 0) := m1_at t q (9, 0)
    obtain ⟨ce, h1, h2, h3⟩ := kx_cell hs ((ct9 htq : _) ▸ hm.one (mt_ne htq (by decide))) (show clA[19]? = some (RX11, TXR, 2) from rfl)
    exact kx_out (BX := fun En q u H => XR E t y z En q u H) (u := M) (fun x h => (hno x h).elim) hlocks ⟨c_1, rfl⟩ ⟨rfl, hq0, hm⟩ hS h1 h2 h3 (Nat.le_of_ble_eq_true rfl) (Nat.le_of_ble_eq_true rfl)
/-- the memory behind a refusal: the reason and what belongs to it are kept -/
def refM (M : mm) (c : Nat) (rs dt : Int32) : mm := sI (sI M 109 c rs) 110 c dt
set_option maxHeartbeats 4000000 in
theorem cm1_because (l : Launch) (E : mE) (hl9 : l.stackTraces = false) (t : mt) (M : mm) (c q : Nat) (rs dt : Int32) (hc : t c = (1, 0)) (hq0 : (t q).1 = 0) : Met l yX1_because (ws_ yX1_because cX1_because 2 (some (.object "java/lang/UnsupportedOperationException"))) ({ frames := 6, cells := 1, slots := 6, locals := 120 }) (va_Pc [.ref c, .ref q] (wP E (m1 t q (9, 0)) (sI (sI M 900 q rs) 901 q dt))) (va_Qr (fun (u : mm) => u = refM M c rs dt) (fun u r U => mw E t u U.heap ∧ va_at E.1 clA (r, .inr (14, [])) U.heap) (eA E)) 1 6 (eA E) := by
  refine Met.ofW (cc := cX1_because) (maxL := 2) (ret := (some (.object "java/lang/UnsupportedOperationException"))) (by decide) rfl ?_
  intro p e s m args below meth c0 s₁ B hml hv
  obtain ⟨rfl, hs, hm⟩ := hv
  have hx := B.exec
  have hb := B.bytes
  have hr := B.returns
  have hts := atoms_spec (ws := ws_ yX1_because cX1_because 2 (some (.object "java/lang/UnsupportedOperationException"))) B.pre
  have hts : ∀ w ∈ lw_all, w.before _ s = true := fun w h => hts w (List.mem_cons_of_mem _ h)
  have hown : s.vm.findClass RX1 = some m.cls := findClass_of_methodNamed B.named
  have hlocks := B.notSynchronized
  have hS : va_S (eA E) s.heap s.heap [] := va_S.rf
  have hl := lv_entry ([.ref c, .ref q]) (n := 2) (Nat.le_of_ble_eq_true rfl)
  rw [lg_entry_eq]
  generalize (lg_sl ([.ref c, .ref q]) ++ List.replicate (2 - (lg_sl ([.ref c, .ref q])).length) Slot.unset).toArray = ls at hl ⊢
  have hl : lv_has ls 2 [(0, .ref c), (1, .ref q)] := hl
  have htq : m1 t q (9, 0) q = (9, 0) := m1_at t q (9, 0)
  have htc : m1 t q (9, 0) c = (1, 0) := push_at hq0 hc
  have hcq : c ≠ q := fun e9 => by rw [e9] at hc; rw [hc] at hq0; cases hq0
  refine lv_aload_n hx hb dX1_because_0 rfl (lv_at hl 0 rfl) ?_
  refine lv_aload_n hx hb dX1_because_1 rfl (lv_at hl 1 rfl) ?_
  refine k_getN (C := RX11) (T := TXR) (N := 2) (ci := 19) hx hb hts in_TXR hown hs hm (mt_ne htq (by decide)) (ct9 htq) rfl 0 (by decide) q766 (fun _ h9 => h9) rfl dX1_because_2 ?_
  rw [show gI (sI (sI M 900 q rs) 901 q dt) 900 q = rs from (show gI (sI M 900 q rs) 900 q = rs from m2_at _ _ _ _)]
  refine pf_109 hx hb hts hown hs hm hS htc (hts _ q528) dX1_because_5 (fun H locs hm hS => ?_)
  refine lv_aload_n hx hb dX1_because_8 rfl (lv_at hl 0 rfl) ?_
  refine lv_aload_n hx hb dX1_because_9 rfl (lv_at hl 1 rfl) ?_
  refine k_getN (C := RX11) (T := TXR) (N := 2) (ci := 19) hx hb hts in_TXR hown hs hm (mt_ne htq (by decide)) (ct9 htq) rfl 1 (by decide) q768 (fun _ h9 => h9) rfl dX1_because_10 ?_
  rw [show gI (sI (sI (sI M 900 q rs) 901 q dt) 109 c rs) 901 q = dt from (show gI (sI (sI M 900 q rs) 901 q dt) 901 q = dt from m2_at _ _ _ _)]
  refine pf_110 hx hb hts hown hs hm hS htc (hts _ q529) dX1_because_13 (fun H locs hm hS => ?_)
  have hm1 : mw E t (refM M c rs dt) H := (hm.drop hq0).eqx hq0 (((eqx.rf q M).at.at.stI).stI)
  obtain ⟨L, hL, hP, hD⟩ := id hm1
  refine vx_make0 (A := eA E) (own := RX1) (cls := "java/lang/UnsupportedOperationException") (names := ["java/lang/RuntimeException", "java/lang/Exception"]) (ik := 87) (ic := 89) (ci := 14) hx hb hl9 hown (by decide +kernel) (by decide +kernel) (hts _ q787) (hts _ q83) (at0_UOE hts hs (hts _ q796)) (by decide +kernel) hs.2.2.2.1 hs.2.2.2.2.1 hS (hl.1.trans hml.symm) dX1_because_16 dX1_because_19 dX1_because_20 hs.2.1 hP hD (eA.all hs) rfl (Nat.lt_of_lt_of_le (Nat.le_of_ble_eq_true rfl : 6 ≤ 6) (Nat.le_of_ble_eq_true rfl)) (Nat.le_of_ble_eq_true rfl) (Nat.le_of_ble_eq_true rfl) (Nat.le_of_ble_eq_true rfl) (fun r H1 hP1 hD1 hS1 => ?_)
  have hm2 : mw E t (refM M c rs dt) H1 := ⟨L, hL, fun k x hk => hP1 k x (by rw [List.getElem?_append_left (List.getElem?_eq_some_iff.mp hk).1]; exact hk), hD⟩
  have hat : va_at E.1 clA (r, .inr (14, [])) H1 := hP1 (va_pl L (ct E t (refM M c rs dt))).length _ (by rw [List.getElem?_append_right (Nat.le_refl _)]; simp)
  exact W.aret (v := .ref r) hx hb hr (Or.inl ⟨_, rfl⟩) (Or.inr ⟨_, rfl⟩) (fun t9 ht9 _ => ⟨⟨_, r, rfl, rfl, (show mw E t _ t9.heap ∧ va_at E.1 clA (r, .inr (14, [])) t9.heap from by rw [ht9]; exact ⟨hm2, hat⟩)⟩, hS1.F ht9⟩) hS1.2.2 dX1_because_23
